/-! THE MODEL's PLAITS, word by word -/
set_option maxRecDepth 100000
theorem sumTo_eq {f f' : Nat → Int32} : ∀ n, (∀ i, i < n → f i = f' i) → sumTo f n = sumTo f' n := by
  intro n
  induction n with
  | zero => intro _; rfl
  | succ n ih => intro h; rw [sumTo, sumTo, ih (fun i hi => h i (by omega)), h n (by omega)]
theorem mPl_fuel {N : Nat → Int64} {W t m : Nat} (hW8 : W ≤ 8) : ∀ f s, s < 256 → pop s ≤ f → mPl N W t m (f + 1) s = mPl N W t m f s := by
  intro f
  induction f with
  | zero =>
    intro s hs hp
    have e := pop_0 hs (by omega)
    subst e
    rfl
  | succ f ih =>
    intro s hs8 hp
    rw [mPl, mPl]
    by_cases e : s = 0
    · rw [if_pos e, if_pos e]
    · rw [if_neg e, if_neg e]
      refine sumTo_eq W fun k hk => ?_
      by_cases q : hs (nI s) k = true ∧ mIsNext N t m k s = true
      · rw [if_pos q, if_pos q]
        have hb : s.testBit k = true := by rw [← hs_nI hs8 (by omega)]; exact q.1
        have h1 := pop_lt hs8 (show k < 8 by omega) hb
        have h2 := dif_le s (2 ^ k)
        exact ih _ (by omega) (by omega)
      · rw [if_neg q, if_neg q]
theorem mPl_8 {N : Nat → Int64} {W t m : Nat} (hW8 : W ≤ 8) {f s : Nat} (hs : s < 256) (hp : pop s ≤ f) (hf : f ≤ 8) : mPl N W t m 8 s = mPl N W t m f s := by
  have : ∀ d, mPl N W t m (f + d) s = mPl N W t m f s := by
    intro d
    induction d with
    | zero => rfl
    | succ d ih => rw [← ih]; exact mPl_fuel hW8 (f + d) s hs (by omega)
  rw [← this (8 - f), show f + (8 - f) = 8 by omega]
theorem sumTo_ne {f : Nat → Int32} : ∀ n, sumTo f n ≠ nI 0 → ∃ k, k < n ∧ f k ≠ nI 0 := by
  intro n
  induction n with
  | zero => intro h; exact absurd rfl h
  | succ n ih =>
    intro h
    by_cases e : f n = nI 0
    · have h2 : sumTo f n ≠ nI 0 := fun q => h (by rw [sumTo, q, e]; rfl)
      obtain ⟨k, hk, hf⟩ := ih h2
      exact ⟨k, by omega, hf⟩
    · exact ⟨n, by omega, e⟩
theorem fUp_true {f : Nat → Bool} : ∀ n k, fUp f n = some k → f k = true := by
  intro n
  induction n with
  | zero => intro k h; cases h
  | succ n ih =>
    intro k h
    rw [fUp] at h
    split at h
    · cases h; exact ih _ (by assumption)
    · split at h
      · cases h; assumption
      · cases h
/-- the word that comes next: the first that may, and behind which the rest can lie -/
def plB (N : Nat → Int64) (W t m left k : Nat) : Bool := hs (nI left) k && mIsNext N t m k left && !decide (mPl N W t m 8 (dif left (2 ^ k)) = nI 0)
def plNext (N : Nat → Int64) (W t m left : Nat) : Nat := (fUp (plB N W t m left) W).getD 0
/-- what is left, and the last word found, behind n words -/
def plSeq (N : Nat → Int64) (W t m s : Nat) (n : Nat) : Nat × Nat := itr (fun _ x => (dif x.1 (2 ^ plNext N W t m x.1), plNext N W t m x.1)) n (s, 0)
def oPlaitAt (W : Nat) (M : Nat → Int32) (N : Nat → Int64) (s t n i : Int32) : Int32 × Int32 := if mWhyP W M N s t n = nI 0 then if okN i (pop (ixn s)) = true ∧ ¬ mPl N W (ixn t) (ixn n) 8 (ixn s) = nI 0 then (nI (plSeq N W (ixn t) (ixn n) (ixn s) (ixn i + 1)).2, nI 0) else (-1, nI 8) else (-1, mWhyP W M N s t n)
theorem plNext_ok {N : Nat → Int64} {W t m left : Nat} (hW8 : W ≤ 8) (hl : left < 256) (h0 : ¬ left = 0) (hne : ¬ mPl N W t m 8 left = nI 0) : ∃ k, k < W ∧ fUp (plB N W t m left) W = some k ∧ plB N W t m left k = true := by
  rw [← mPl_fuel hW8 8 left hl pop_le, mPl, if_neg h0] at hne
  obtain ⟨k, hk, hf⟩ := sumTo_ne W hne
  have hB : plB N W t m left k = true := by
    unfold plB
    by_cases q : hs (nI left) k = true ∧ mIsNext N t m k left = true
    · rw [if_pos q] at hf
      rw [q.1, q.2, decide_eq_false hf]
      rfl
    · rw [if_neg q] at hf
      exact absurd rfl hf
  have : ∀ n, k < n → ∃ j, j < n ∧ fUp (plB N W t m left) n = some j ∧ plB N W t m left j = true := by
    intro n
    induction n with
    | zero => intro q; omega
    | succ n ih =>
      intro q
      cases e : fUp (plB N W t m left) n with
      | some j =>
        have hj := fUp_lt _ _ e
        refine ⟨j, by omega, by rw [fUp, e], fUp_true _ _ e⟩
      | none =>
        by_cases hkn : k < n
        · obtain ⟨j, _, hj, _⟩ := ih hkn
          rw [e] at hj; cases hj
        · have : k = n := by omega
          subst this
          exact ⟨k, by omega, by rw [fUp, e]; show (if plB N W t m left k = true then some k else none) = some k; rw [if_pos hB], hB⟩
  exact this W hk
theorem pop_dif {s k : Nat} (hs : s < 256) (hk : k < 8) : pop s ≤ pop (dif s (2 ^ k)) + 1 := by
  have h : ∀ s, s < 256 → ∀ k, k < 8 → pop s ≤ pop (dif s (2 ^ k)) + 1 := by decide +kernel
  exact h s hs k hk
theorem pop_z : pop 0 = 0 := by decide +kernel
theorem fUp_none {f : Nat → Bool} {n k : Nat} (h : fUp f n = some k) : ∀ j, j ≤ k → fUp f j = none := by
  intro j hj
  cases e : fUp f j with
  | none => rfl
  | some i =>
    have h1 := fUp_lt _ _ e
    have h3 := fUp_lt _ _ h
    have h2 := fUp_le e (show j ≤ n by omega)
    rw [h] at h2
    cases h2
    omega
section M19
variable {g : Gx} {l : Launch} {σ : Sg} {h : Nat} {ad : Nat → Nat} {C : Nat → Int32}
theorem o_plaitAt (H : Mo σ h ad) (hC0 : σ.2.1 (ad 20) = C) {W P Dn : Nat} (hw : Wd C W P Dn) {M : Nat → Int32} (hM : σ.2.1 (ad 5) = M) {N : Nat → Int64} (hN : σ.2.2.1 (ad 6) = N) (hm : Wm M) (s t n i : Int32) : Kd g l 11 MX9_plaitAt [.ref h, .int s, .int t, .int n, .int i] σ (some (.int (oPlaitAt W M N s t n i).1)) (mSt σ h (oPlaitAt W M N s t n i).2) := by
  obtain ⟨⟨hW, hW8⟩, ⟨hP, hP6⟩, ⟨hD, hD6⟩, hdn⟩ := id hw
  have H0 := H
  have neh : ad 5 ≠ h := Mo.nh H (i := 5) rfl
  have ne20 : ad 20 ≠ h := Mo.nh H (i := 20) rfl
  have p8 := pw8 hW8
  refine Kt.go (Y := MX9_plaitAt) (ls := [some (.ref h), some (.int s), some (.int t), some (.int n), some (.int i), none, none, none]) (by decide) (Nat.le_of_ble_eq_true rfl) rfl ?_
  first | refine j_aload_n dX9_plaitAt_0 rfl ?_ | refine j_aload_nN dX9_plaitAt_0 rfl ?_
  refine j_iconst (v := nI 0) dX9_plaitAt_1 (by decide +kernel) ?_
  refine j_putI dX9_plaitAt_2 fl_X9_67 rfl (Mo.h H) rfl rfl rfl ?_
  first | refine j_aload_n dX9_plaitAt_5 rfl ?_ | refine j_aload_nN dX9_plaitAt_5 rfl ?_
  first | refine j_aload_n dX9_plaitAt_6 rfl ?_ | refine j_aload_nN dX9_plaitAt_6 rfl ?_
  refine j_iload_n dX9_plaitAt_7 rfl ?_
  refine j_iload_n dX9_plaitAt_8 rfl ?_
  refine j_iload_n dX9_plaitAt_9 rfl ?_
  refine j_dV1 kl_X9_488 (m_whyP (σ := sI σ h 1 (nI 0)) H ((sI_n ne20).trans hC0) hW hW8 ((sI_n neh).trans hM) hN hm s t n) dX9_plaitAt_10 rfl rfl (by decide) (Mo.h H) (Nat.le_of_ble_eq_true rfl) (by first | decide | omega) (by omega) (by omega) ?_
  refine j_putI dX9_plaitAt_13 fl_X9_70 rfl (Mo.h H) rfl rfl rfl ?_
  refine j_eq (σ' := mSt σ h (mWhyP W M N s t n)) rfl rfl rfl ?_
  replace H : Mo (mSt σ h (mWhyP W M N s t n)) h ad := H0
  have hC := mSt_st (σ := σ) (h := h) (w := mWhyP W M N s t n)
  first | refine j_aload_n dX9_plaitAt_16 rfl ?_ | refine j_aload_nN dX9_plaitAt_16 rfl ?_
  refine j_getI dX9_plaitAt_17 fl_X9_70 rfl (Mo.h H) hC ?_
  first | (with_reducible refine j_gC ?_; refine j_if_leC (tgt := 25) dX9_plaitAt_20 (by decide) (fun c_20 => ?_) (fun c_20 => ?_)) | refine j_if_le (tgt := 25) dX9_plaitAt_20 (by decide) (fun c_20 => ?_) (fun c_20 => ?_)
  · have z : mWhyP W M N s t n = nI 0 := mWhyP_nn.resolve_right (Int32.not_lt.mpr c_20)
    obtain ⟨ho, z2⟩ := mWhyP_0 z
    obtain ⟨t, m, m2, ht, rfl, rfl, hm1, hMt, hm2, hle⟩ := mWhy2_0 hm z2
    obtain ⟨s, hs, rfl⟩ := okN_nI ho
    have eo : oPlaitAt W M N (nI s) (nI t) (nI m) i = if okN i (pop s) = true ∧ ¬ mPl N W t m 8 s = nI 0 then (nI (plSeq N W t m s (ixn i + 1)).2, nI 0) else (-1, nI 8) := by rw [oPlaitAt, if_pos z, ixn_nI (by omega), ixn_nI (by omega), ixn_nI (by omega)]
    rw [eo, z]
    rw [z] at H
    have hr := (mSt_row (w := nI 0) H0 (k := 20) ⟨_, _, rfl⟩).trans hC0
    have hp8 := pop_le (s := s)
    refine j_iload dX9_plaitAt_25 rfl ?_
    refine j_i2l dX9_plaitAt_27 ?_
    refine j_lconst (v := 0) dX9_plaitAt_28 (by decide +kernel) ?_
    refine j_iload_n dX9_plaitAt_29 rfl ?_
    refine j_dS1 kl_X9_390 (k_sizeOf _) dX9_plaitAt_30 rfl rfl (Nat.le_of_ble_eq_true rfl) (by first | decide | omega) (by omega) (by omega) ?_
    rw [szOf_nI (by omega)]
    refine j_iconst (v := nI 1) dX9_plaitAt_33 (by decide +kernel) ?_
    refine j_isub dX9_plaitAt_34 ?_
    refine j_i2l dX9_plaitAt_35 ?_
    refine j_dS1 kl_X9_102 (k_inL _ _ _) dX9_plaitAt_36 rfl rfl (Nat.le_of_ble_eq_true rfl) (by first | decide | omega) (by omega) (by omega) ?_
    rw [inL_n (by omega)]
    first | (with_reducible refine j_gB ?_; refine j_if_eqB (tgt := 52) dX9_plaitAt_39 (by decide) (fun c_39 => ?_) (fun c_39 => ?_)) | (with_reducible refine j_gC ?_; refine j_if_eqC (tgt := 52) dX9_plaitAt_39 (by decide) (fun c_39 => ?_) (fun c_39 => ?_)) | (with_reducible refine j_gN ?_; refine j_if_eqN (tgt := 52) dX9_plaitAt_39 (by decide) (by omega) (fun c_39 => ?_) (fun c_39 => ?_)) | refine j_if_eq (tgt := 52) dX9_plaitAt_39 (by decide) (fun c_39 => ?_) (fun c_39 => ?_)
    · first | refine j_aload_n dX9_plaitAt_52 rfl ?_ | refine j_aload_nN dX9_plaitAt_52 rfl ?_
      refine j_bipush (v := nI 8) dX9_plaitAt_53 (by decide +kernel) ?_
      refine j_dV1 kl_X9_325 (m_refuse H _) dX9_plaitAt_55 rfl rfl (by decide) (Mo.h H) (Nat.le_of_ble_eq_true rfl) (by first | decide | omega) (by omega) (by omega) ?_
      refine j_iret dX9_plaitAt_58 ⟨_, rfl, rfl⟩ (by omega) (by omega) ?_
      first
      | (have y : okN i (pop s) = false := c_39
         exact pubX (by rw [if_neg (fun q => by rw [y] at q; exact absurd q.1 (by decide))]))
      | (have y : mPl N W t m 8 s = nI 0 := c_49
         exact pubX (by rw [if_neg (fun q => q.2 y)]))
    · first | refine j_aload_n dX9_plaitAt_42 rfl ?_ | refine j_aload_nN dX9_plaitAt_42 rfl ?_
      refine j_iload_n dX9_plaitAt_43 rfl ?_
      refine j_iload_n dX9_plaitAt_44 rfl ?_
      refine j_iload_n dX9_plaitAt_45 rfl ?_
      refine j_dV1 kl_X9_485 (m_plaitsOf (σ := mSt σ h (nI 0)) hW8 ht (by omega) 8 s (by omega) pop_le H hr hW hN) dX9_plaitAt_46 rfl rfl (by decide) (Mo.h H) (Nat.le_of_ble_eq_true rfl) (by first | decide | omega) (by omega) (by omega) ?_
      first | (with_reducible refine j_gB ?_; refine j_if_neB (tgt := 59) dX9_plaitAt_49 (by decide) (fun c_49 => ?_) (fun c_49 => ?_)) | (with_reducible refine j_gC ?_; refine j_if_neC (tgt := 59) dX9_plaitAt_49 (by decide) (fun c_49 => ?_) (fun c_49 => ?_)) | (with_reducible refine j_gN ?_; refine j_if_neN (tgt := 59) dX9_plaitAt_49 (by decide) (by omega) (fun c_49 => ?_) (fun c_49 => ?_)) | refine j_if_ne (tgt := 59) dX9_plaitAt_49 (by decide) (fun c_49 => ?_) (fun c_49 => ?_)
      · have y : ¬ mPl N W t m 8 s = nI 0 := c_49
        rw [if_pos ⟨c_39, y⟩]
        obtain ⟨i, hi, rfl⟩ := okN_nI c_39
        rw [ixn_nI (by omega)]
        have key : ∀ j, j ≤ i + 1 → ∀ left x6, left = (plSeq N W t m s j).1 → (j ≠ 0 → x6 = nI (plSeq N W t m s j).2) → left < 256 → pop s ≤ pop left + j → ¬ mPl N W t m 8 left = nI 0 → Td g l 11 MX9_plaitAt [.ref h, .int (nI s), .int (nI t), .int (nI m), .int (nI i)] (mSt σ h (nI 0)) (some (.int (nI (plSeq N W t m s (i + 1)).2))) 68 [some (.ref h), some (.int (nI s)), some (.int (nI t)), some (.int (nI m)), some (.int (nI i)), some (.int (nI left)), some (.int x6), some (.int (nI j))] [] (mSt σ h (nI 0)) := by
          refine loop_up fun j hj ih => ?_
          intro left x6 hl hx hl8 hpl hne
          refine j_iload dX9_plaitAt_68 rfl ?_
          refine j_iload dX9_plaitAt_70 rfl ?_
          first | (with_reducible refine j_gNN ?_; refine j_icmp_gtN (tgt := 142) dX9_plaitAt_72 (by decide) (by omega) (by omega) (fun c_72 => ?_) (fun c_72 => ?_)) | refine j_icmp_gt (tgt := 142) dX9_plaitAt_72 (by decide) (fun c_72 => ?_) (fun c_72 => ?_)
          · refine j_iload dX9_plaitAt_142 rfl ?_
            refine j_iret dX9_plaitAt_144 ⟨_, rfl, rfl⟩ (by omega) (by omega) ?_
            exact ⟨by rw [hx (by omega), show j = i + 1 by omega], rfl⟩
          · refine j_iconst (v := nI 0) dX9_plaitAt_75 (by decide +kernel) ?_
            refine j_istore dX9_plaitAt_76 (by decide) ?_
            have hl0 : ¬ left = 0 := fun q => by rw [q, pop_z] at hpl; omega
            obtain ⟨k0, hk0, hf0, hb0⟩ := plNext_ok hW8 hl8 hl0 hne
            have en : plNext N W t m left = k0 := by rw [plNext, hf0]; rfl
            have hbit : left.testBit k0 = true := by
              unfold plB at hb0
              rw [Bool.and_eq_true, Bool.and_eq_true] at hb0
              rw [← hs_nI hl8 (by omega)]
              exact hb0.1.1
            have hd8 := dif_le left (2 ^ k0)
            have hnz : ¬ mPl N W t m 8 (dif left (2 ^ k0)) = nI 0 := by
              unfold plB at hb0
              rw [Bool.and_eq_true, Bool.not_eq_true', decide_eq_false_iff_not] at hb0
              exact hb0.2
            have hpd := pop_dif hl8 (show k0 < 8 by omega)
            have es : plSeq N W t m s (j + 1) = (dif left (2 ^ k0), k0) := by
              rw [plSeq, itr, ← plSeq, ← hl, en]
            have keyK : ∀ k, k ≤ k0 → Td g l 11 MX9_plaitAt [.ref h, .int (nI s), .int (nI t), .int (nI m), .int (nI i)] (mSt σ h (nI 0)) (some (.int (nI (plSeq N W t m s (i + 1)).2))) 78 [some (.ref h), some (.int (nI s)), some (.int (nI t)), some (.int (nI m)), some (.int (nI i)), some (.int (nI left)), some (.int (nI k)), some (.int (nI j))] [] (mSt σ h (nI 0)) := by
              refine loop_up fun k hk ihk => ?_
              have hd8k := dif_le left (2 ^ k)
              have hkk : plB N W t m left k = true → k = k0 := fun q => by
                by_cases e : k = k0
                · exact e
                · have hk1 : k < k0 := by omega
                  have h1 := fUp_none hf0 (k + 1) (by omega)
                  have h2 := fUp_none hf0 k (by omega)
                  rw [fUp, h2] at h1
                  rw [if_pos q] at h1
                  cases h1
              refine j_iload dX9_plaitAt_78 rfl ?_
              refine j_iload dX9_plaitAt_80 rfl ?_
              refine j_dS1 kl_X9_106 (k_has _ _ _ _ k) dX9_plaitAt_82 rfl rfl (Nat.le_of_ble_eq_true rfl) (by first | decide | omega) (by omega) (by omega) ?_
              first | (with_reducible refine j_gB ?_; refine j_if_eqB (tgt := 119) dX9_plaitAt_85 (by decide) (fun c_85 => ?_) (fun c_85 => ?_)) | (with_reducible refine j_gC ?_; refine j_if_eqC (tgt := 119) dX9_plaitAt_85 (by decide) (fun c_85 => ?_) (fun c_85 => ?_)) | (with_reducible refine j_gN ?_; refine j_if_eqN (tgt := 119) dX9_plaitAt_85 (by decide) (by omega) (fun c_85 => ?_) (fun c_85 => ?_)) | refine j_if_eq (tgt := 119) dX9_plaitAt_85 (by decide) (fun c_85 => ?_) (fun c_85 => ?_)
              · first | refine j_iincN dX9_plaitAt_119 rfl (by decide) ?_ | refine j_iinc dX9_plaitAt_119 rfl rfl (by decide) ?_
                refine j_goto (tgt := 78) dX9_plaitAt_122 (by decide) ?_
                refine ihk ?_
                refine Nat.lt_of_le_of_ne hk (fun e => ?_)
                subst e
                unfold plB at hb0
                rw [Bool.and_eq_true, Bool.and_eq_true] at hb0
                first
                | exact absurd (hb0.1.1.symm.trans c_85) (by decide)
                | exact absurd (hb0.1.2.symm.trans c_98) (by decide)
                | (have y2 : mPl N W t m 8 (dif left (2 ^ k)) = nI 0 := c_116
                   exact hnz y2)
              · first | refine j_aload_n dX9_plaitAt_88 rfl ?_ | refine j_aload_nN dX9_plaitAt_88 rfl ?_
                refine j_iload dX9_plaitAt_89 rfl ?_
                refine j_iload dX9_plaitAt_91 rfl ?_
                refine j_iload_n dX9_plaitAt_93 rfl ?_
                refine j_iload_n dX9_plaitAt_94 rfl ?_
                refine j_dV1 kl_X9_481 (m_isNext H hN ht (by omega) k left) dX9_plaitAt_95 rfl rfl (by decide) (Mo.h H) (Nat.le_of_ble_eq_true rfl) (by first | decide | omega) (by omega) (by omega) ?_
                first | (with_reducible refine j_gB ?_; refine j_if_eqB (tgt := 119) dX9_plaitAt_98 (by decide) (fun c_98 => ?_) (fun c_98 => ?_)) | (with_reducible refine j_gC ?_; refine j_if_eqC (tgt := 119) dX9_plaitAt_98 (by decide) (fun c_98 => ?_) (fun c_98 => ?_)) | (with_reducible refine j_gN ?_; refine j_if_eqN (tgt := 119) dX9_plaitAt_98 (by decide) (by omega) (fun c_98 => ?_) (fun c_98 => ?_)) | refine j_if_eq (tgt := 119) dX9_plaitAt_98 (by decide) (fun c_98 => ?_) (fun c_98 => ?_)
                · first | refine j_iincN dX9_plaitAt_119 rfl (by decide) ?_ | refine j_iinc dX9_plaitAt_119 rfl rfl (by decide) ?_
                  refine j_goto (tgt := 78) dX9_plaitAt_122 (by decide) ?_
                  refine ihk ?_
                  refine Nat.lt_of_le_of_ne hk (fun e => ?_)
                  subst e
                  unfold plB at hb0
                  rw [Bool.and_eq_true, Bool.and_eq_true] at hb0
                  first
                  | exact absurd (hb0.1.1.symm.trans c_85) (by decide)
                  | exact absurd (hb0.1.2.symm.trans c_98) (by decide)
                  | (have y2 : mPl N W t m 8 (dif left (2 ^ k)) = nI 0 := c_116
                     exact hnz y2)
                · first | refine j_aload_n dX9_plaitAt_101 rfl ?_ | refine j_aload_nN dX9_plaitAt_101 rfl ?_
                  refine j_iload dX9_plaitAt_102 rfl ?_
                  refine j_iconst (v := nI 1) dX9_plaitAt_104 (by decide +kernel) ?_
                  refine j_iload dX9_plaitAt_105 rfl ?_
                  refine j_ishl dX9_plaitAt_107 ?_
                  refine j_iconst (v := -1) dX9_plaitAt_108 (by decide +kernel) ?_
                  refine j_ixor dX9_plaitAt_109 ?_
                  refine j_iand dX9_plaitAt_110 ?_
                  refine j_top (show nI left &&& (bt k ^^^ (-1)) = nI (dif left (2 ^ k)) by rw [bt_nI (by omega), nI_dif]) ?_
                  refine j_iload_n dX9_plaitAt_111 rfl ?_
                  refine j_iload_n dX9_plaitAt_112 rfl ?_
                  refine j_dV1 kl_X9_485 (m_plaitsOf (σ := mSt σ h (nI 0)) hW8 ht (by omega) 8 (dif left (2 ^ k)) (by omega) pop_le H hr hW hN) dX9_plaitAt_113 rfl rfl (by decide) (Mo.h H) (Nat.le_of_ble_eq_true rfl) (by first | decide | omega) (by omega) (by omega) ?_
                  first | (with_reducible refine j_gB ?_; refine j_if_neB (tgt := 125) dX9_plaitAt_116 (by decide) (fun c_116 => ?_) (fun c_116 => ?_)) | (with_reducible refine j_gC ?_; refine j_if_neC (tgt := 125) dX9_plaitAt_116 (by decide) (fun c_116 => ?_) (fun c_116 => ?_)) | (with_reducible refine j_gN ?_; refine j_if_neN (tgt := 125) dX9_plaitAt_116 (by decide) (by omega) (fun c_116 => ?_) (fun c_116 => ?_)) | refine j_if_ne (tgt := 125) dX9_plaitAt_116 (by decide) (fun c_116 => ?_) (fun c_116 => ?_)
                  · have y2 : ¬ mPl N W t m 8 (dif left (2 ^ k)) = nI 0 := c_116
                    have e := hkk (by unfold plB; rw [c_85, c_98, decide_eq_false y2]; rfl)
                    subst e
                    refine j_iload dX9_plaitAt_125 rfl ?_
                    refine j_iconst (v := nI 1) dX9_plaitAt_127 (by decide +kernel) ?_
                    refine j_iload dX9_plaitAt_128 rfl ?_
                    refine j_ishl dX9_plaitAt_130 ?_
                    refine j_iconst (v := -1) dX9_plaitAt_131 (by decide +kernel) ?_
                    refine j_ixor dX9_plaitAt_132 ?_
                    refine j_iand dX9_plaitAt_133 ?_
                    refine j_top (show nI left &&& (bt k ^^^ (-1)) = nI (dif left (2 ^ k)) by rw [bt_nI (by omega), nI_dif]) ?_
                    refine j_istore dX9_plaitAt_134 (by decide) ?_
                    first | refine j_iincN dX9_plaitAt_136 rfl (by decide) ?_ | refine j_iinc dX9_plaitAt_136 rfl rfl (by decide) ?_
                    refine j_goto (tgt := 68) dX9_plaitAt_139 (by decide) ?_
                    exact ih (by omega) _ _ (by rw [es]) (fun _ => by rw [es]) (by omega) (by omega) y2
                  · first | refine j_iincN dX9_plaitAt_119 rfl (by decide) ?_ | refine j_iinc dX9_plaitAt_119 rfl rfl (by decide) ?_
                    refine j_goto (tgt := 78) dX9_plaitAt_122 (by decide) ?_
                    refine ihk ?_
                    refine Nat.lt_of_le_of_ne hk (fun e => ?_)
                    subst e
                    unfold plB at hb0
                    rw [Bool.and_eq_true, Bool.and_eq_true] at hb0
                    first
                    | exact absurd (hb0.1.1.symm.trans c_85) (by decide)
                    | exact absurd (hb0.1.2.symm.trans c_98) (by decide)
                    | (have y2 : mPl N W t m 8 (dif left (2 ^ k)) = nI 0 := c_116
                       exact hnz y2)
            exact keyK 0 (by omega)
        refine j_iload_n dX9_plaitAt_59 rfl ?_
        refine j_istore dX9_plaitAt_60 (by decide) ?_
        refine j_iconst (v := -1) dX9_plaitAt_62 (by decide +kernel) ?_
        refine j_istore dX9_plaitAt_63 (by decide) ?_
        refine j_iconst (v := nI 0) dX9_plaitAt_65 (by decide +kernel) ?_
        refine j_istore dX9_plaitAt_66 (by decide) ?_
        exact key 0 (by omega) s (-1) rfl (fun q => absurd rfl q) (by omega) (by omega) y
      · first | refine j_aload_n dX9_plaitAt_52 rfl ?_ | refine j_aload_nN dX9_plaitAt_52 rfl ?_
        refine j_bipush (v := nI 8) dX9_plaitAt_53 (by decide +kernel) ?_
        refine j_dV1 kl_X9_325 (m_refuse H _) dX9_plaitAt_55 rfl rfl (by decide) (Mo.h H) (Nat.le_of_ble_eq_true rfl) (by first | decide | omega) (by omega) (by omega) ?_
        refine j_iret dX9_plaitAt_58 ⟨_, rfl, rfl⟩ (by omega) (by omega) ?_
        first
        | (have y : okN i (pop s) = false := c_39
           exact pubX (by rw [if_neg (fun q => by rw [y] at q; exact absurd q.1 (by decide))]))
        | (have y : mPl N W t m 8 s = nI 0 := c_49
           exact pubX (by rw [if_neg (fun q => q.2 y)]))
  · refine j_iconst (v := -1) dX9_plaitAt_23 (by decide +kernel) ?_
    refine j_iret dX9_plaitAt_24 ⟨_, rfl, rfl⟩ (by omega) (by omega) ?_
    have z : ¬ mWhyP W M N s t n = nI 0 := fun q => by rw [q] at c_20; exact absurd c_20 (by decide +kernel)
    exact pubR (by rw [oPlaitAt, if_neg z])
end M19
