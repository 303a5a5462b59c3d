/-! THE MODEL's GAMES, ODDS, DINNERS AHEAD -/
set_option maxRecDepth 100000
theorem orTo_bt {u : Nat → Bool} : ∀ P, P ≤ 8 → ∃ m, m < 2 ^ P ∧ orTo (fun p => if u p = true then bt p else nI 0) P = nI m ∧ ∀ i, m.testBit i = (decide (i < P) && u i) := by
  intro P
  induction P with
  | zero => intro _; exact ⟨0, by decide, rfl, fun i => by simp⟩
  | succ P ih =>
    intro hP
    obtain ⟨m, hm, e, hb⟩ := ih (by omega)
    have hlt : 2 ^ P < 2 ^ (P + 1) := Nat.pow_lt_pow_right (by decide) (by omega)
    cases hu : u P with
    | true =>
      refine ⟨m ||| 2 ^ P, Nat.or_lt_two_pow (by omega) hlt, ?_, fun i => ?_⟩
      · rw [orTo, e, if_pos hu, bt_nI (by omega), nI_or]
      · rw [Nat.testBit_or, hb, Nat.testBit_two_pow]
        by_cases hi : i = P
        · subst hi; simp [hu]
        · by_cases hi2 : i < P
          · simp [hi2, show i < P + 1 by omega, show ¬ P = i by omega]
          · simp [hi2, show ¬ i < P + 1 by omega, show ¬ P = i by omega]
    | false =>
      refine ⟨m, by omega, ?_, fun i => ?_⟩
      · rw [orTo, e, if_neg (by rw [hu]; decide), show nI 0 = nI 0 from rfl, nI_or, Nat.or_zero]
      · rw [hb]
        by_cases hi : i = P
        · subst hi; simp [hu]
        · simp [show (i < P + 1) = (i < P) by rw [eq_iff_iff]; omega]
theorem szOf_nI {m : Nat} (h : m < 256) : szOf (nI m) = nI (pop m) := by
  have : ∀ m, m < 256 → szOf (nI m) = nI (pop m) := by decide +kernel
  exact this m h
theorem pop_6 {m : Nat} (h : m < 64) : pop m ≤ 6 := by
  have : ∀ m, m < 64 → pop m ≤ 6 := by decide +kernel
  exact this m h
theorem mPeopleWith_nI {C : Nat → Int32} {P r k : Nat} (hP : P ≤ 6) : ∃ m, m < 2 ^ P ∧ mPeopleWith C P r k = nI m ∧ ∀ i, m.testBit i = (decide (i < P) && hs (C (r + i)) k) := orTo_bt (u := fun p => hs (C (r + p)) k) P (by omega)
/-- how many keep (know) a word -/
def pw (C : Nat → Int32) (P r k : Nat) : Nat := cntB (fun p => hs (C (r + p)) k) P
theorem cntB_eq {f f' : Nat → Bool} : ∀ n, (∀ i, i < n → f i = f' i) → cntB f n = cntB f' n := by
  intro n
  induction n with
  | zero => intro _; rfl
  | succ n ih => intro h; rw [cntB, cntB, ih (fun i hi => h i (by omega)), h n (by omega)]
theorem cntB_0 {f : Nat → Bool} {n m : Nat} (hnm : n ≤ m) (h : ∀ i, n ≤ i → f i = false) : cntB f m = cntB f n := by
  induction hnm with
  | refl => rfl
  | step q ih => rw [cntB, h _ q, if_neg (by decide)]; exact ih
theorem szOf_pw {C : Nat → Int32} {P r k : Nat} (hP : P ≤ 6) : szOf (mPeopleWith C P r k) = nI (pw C P r k) ∧ pw C P r k ≤ 6 := by
  obtain ⟨m, hm, e, hb⟩ := mPeopleWith_nI (C := C) (r := r) (k := k) hP
  have h64 : 2 ^ P ≤ 64 := pw_le (n := 6) hP
  have ep : pop m = pw C P r k := by
    unfold pop pw
    rw [cntB_0 (f := fun k => m.testBit k) (show P ≤ 8 by omega) (fun i hi => by show m.testBit i = false; rw [hb, decide_eq_false (by omega)]; rfl)]
    exact cntB_eq P (fun i hi => by show m.testBit i = _; rw [hb, decide_eq_true hi]; rfl)
  rw [e, szOf_nI (by omega), ep]
  exact ⟨rfl, by rw [← ep]; exact pop_6 (by omega)⟩
theorem nI_64 {n : Nat} (h : n < 2 ^ 31) : (nI n).toInt64 = lN n := by
  apply Int64.toInt_inj.mp
  rw [Int32.toInt_toInt64, nI_toInt h, lN_to (by omega)]
theorem mSafe_a {C : Nat → Int32} {od times : Nat} (ho : C 5 = nI od) (h16 : od ≤ 16) : ∀ k, k ≤ times → times ≤ 100 → mSafeBy C (nI times) k = lN ((16 - od) ^ k) := by
  intro k
  induction k with
  | zero => intro _ _; rfl
  | succ k ih =>
    intro hk ht
    rw [mSafeBy, ih (by omega) ht, sfP, if_pos ((nI_ltI (by omega) (by omega)).mpr (by omega)), ho, nI_sub h16, nI_64 (by omega), lN_mul', Nat.pow_succ]
theorem mSafe_0 {C : Nat → Int32} : ∀ k, k ≤ 100 → mSafeBy C (nI 0) k = lN (16 ^ k) := by
  intro k
  induction k with
  | zero => intro _; rfl
  | succ k ih =>
    intro hk
    rw [mSafeBy, ih (by omega), sfP, if_neg (fun q => absurd ((nI_ltI (by omega) (by decide)).mp q) (by omega)), show (16 : Int64) = lN 16 from rfl, lN_mul', Nat.pow_succ]
def riskF (C : Nat → Int32) (P k : Nat) : Int64 := mSafeBy C (nI (pw C P 43 k)) 6
def rkF (C : Nat → Int32) (P k : Nat) : Option Nat → Option Nat
  | none => some k
  | some b => if riskF C P k < riskF C P b then some k else some b
def oRiskiest (C : Nat → Int32) (W P : Nat) : Int32 × Int32 := oFound 0 (itr (rkF C P) W none)
/-- whether, status, numerator, denominator -/
def oSafe (C : Nat → Int32) (W P od : Nat) (k n : Int32) : Bool × Int32 × Option (Nat × Nat) := if okN k W then if okN n 3 then (true, nI 0, some ((16 - od) ^ (ixn n * pw C P 43 (ixn k)), 16 ^ (ixn n * pw C P 43 (ixn k)))) else (false, nI 5, none) else (false, nI 2, none)
theorem inL_lt {w low : Int32} {m : Int64} {n : Nat} (hl : 0 ≤ low.toInt) (hm : m.toInt = n) (h : inL w.toInt64 low.toInt64 m = true) : ∃ k, k ≤ n ∧ w = nI k ∧ low.toInt ≤ k := by
  unfold inL at h
  rw [Bool.and_eq_true, Bool.not_eq_true', Bool.not_eq_true', decide_eq_false_iff_not, decide_eq_false_iff_not, Int64.not_lt, Int64.not_lt, Int64.le_iff_toInt_le, Int64.le_iff_toInt_le, Int32.toInt_toInt64, Int32.toInt_toInt64, hm] at h
  have h1 : ¬ w < 0 := fun q => by
    have := Int32.lt_iff_toInt_lt.mp q
    rw [Int32.toInt_zero] at this
    have h2 := h.1
    omega
  obtain ⟨k, hk, rfl⟩ := nI_of h1
  have h3 := h.2
  have h4 := h.1
  rw [nI_toInt hk] at h3 h4
  exact ⟨k, by omega, rfl, h4⟩
theorem mWhyG_0 {P : Nat} {a b t least : Int32} (hl : 0 ≤ least.toInt) (h : mWhyG P a b t least = nI 0) : ∃ p q n, a = nI p ∧ b = nI q ∧ t = nI n ∧ p < P ∧ q < P ∧ p ≠ q ∧ n ≤ 3 ∧ least.toInt ≤ n := by
  unfold mWhyG at h
  split at h
  · rename_i h1
    rw [Bool.and_eq_true] at h1
    split at h
    · rename_i h2
      obtain ⟨p, hp, rfl⟩ := okN_nI h1.1
      obtain ⟨q, hq, rfl⟩ := okN_nI h1.2
      obtain ⟨n, hn, rfl, hn1⟩ := inL_lt hl (show (3 : Int64).toInt = ((3 : Nat) : Int) by decide) h2.2
      exact ⟨p, q, n, rfl, rfl, rfl, hp, hq, fun e => h2.1 (by rw [e]), hn, hn1⟩
    · exact absurd h (by decide +kernel)
  · exact absurd h (by decide +kernel)
/-- a fraction laid down, shortened -/
def frS (σ : Sg) (h : Nat) : Option (Nat × Nat) → Sg
  | none => σ
  | some (n, d) => sL (sL σ h 2 (lN (n / n.gcd d))) h 3 (lN (d / n.gcd d))
section M15
variable {g : Gx} {l : Launch} {σ : Sg} {h : Nat} {ad : Nat → Nat} {C : Nat → Int32}
theorem o_safe (H : Mo σ h ad) (hC : σ.2.1 (ad 20) = C) {W P Dn od : Nat} (hw : Wd C W P Dn) (ho : C 5 = nI od) (h16 : od ≤ 16) (k n : Int32) : Kd g l 4 MX9_safe [.ref h, .int k, .int n] σ (some (.int (bI (oSafe C W P od k n).1))) (frS (mSt σ h (oSafe C W P od k n).2.1) h (oSafe C W P od k n).2.2) := by
  obtain ⟨⟨hW, hW8⟩, ⟨hP, hP6⟩, ⟨hD, hD6⟩, hdn⟩ := id hw
  refine Kt.go (Y := MX9_safe) (ls := [some (.ref h), some (.int k), some (.int n), none]) (by decide) (Nat.le_of_ble_eq_true rfl) rfl ?_
  first | refine j_aload_n dX9_safe_0 rfl ?_ | refine j_aload_nN dX9_safe_0 rfl ?_
  refine j_iconst (v := nI 0) dX9_safe_1 (by decide +kernel) ?_
  refine j_putI dX9_safe_2 fl_X9_67 rfl (Mo.h H) rfl rfl rfl ?_
  first | refine j_aload_n dX9_safe_5 rfl ?_ | refine j_aload_nN dX9_safe_5 rfl ?_
  refine j_iconst (v := nI 0) dX9_safe_6 (by decide +kernel) ?_
  refine j_putI dX9_safe_7 fl_X9_70 rfl (Mo.h H) rfl rfl rfl ?_
  refine j_eq rfl rfl (σ' := mSt σ h (nI 0)) rfl ?_
  have H0 := H
  have hC0 := hC
  replace hC := (mSt_row (w := nI 0) H0 (k := 20) ⟨_, _, rfl⟩).trans hC0
  replace H : Mo (mSt σ h (nI 0)) h ad := H0
  first | refine j_aload_n dX9_safe_10 rfl ?_ | refine j_aload_nN dX9_safe_10 rfl ?_
  refine j_iload_n dX9_safe_11 rfl ?_
  refine j_i2l dX9_safe_12 ?_
  refine j_dV1 kl_X9_334 (m_isWordAt H hC hW hW8 k) dX9_safe_13 rfl rfl (by decide) (Mo.h H) (Nat.le_of_ble_eq_true rfl) (by first | decide | omega) (by omega) (by omega) ?_
  first | (with_reducible refine j_gB ?_; refine j_if_neB (tgt := 25) dX9_safe_16 (by decide) (fun c_16 => ?_) (fun c_16 => ?_)) | (with_reducible refine j_gC ?_; refine j_if_neC (tgt := 25) dX9_safe_16 (by decide) (fun c_16 => ?_) (fun c_16 => ?_)) | (with_reducible refine j_gN ?_; refine j_if_neN (tgt := 25) dX9_safe_16 (by decide) (by omega) (fun c_16 => ?_) (fun c_16 => ?_)) | refine j_if_ne (tgt := 25) dX9_safe_16 (by decide) (fun c_16 => ?_) (fun c_16 => ?_)
  · refine j_iload_n dX9_safe_25 rfl ?_
    refine j_i2l dX9_safe_26 ?_
    refine j_lconst (v := 0) dX9_safe_27 (by decide +kernel) ?_
    refine j_ldc2 (v := 2) dX9_safe_28 q2072 ?_
    refine j_dS1 kl_X9_102 (k_inL _ _ _) dX9_safe_31 rfl rfl (Nat.le_of_ble_eq_true rfl) (by first | decide | omega) (by omega) (by omega) ?_
    rw [inL_ok (n := 3) (by decide +kernel)]
    first | (with_reducible refine j_gB ?_; refine j_if_neB (tgt := 43) dX9_safe_34 (by decide) (fun c_34 => ?_) (fun c_34 => ?_)) | (with_reducible refine j_gC ?_; refine j_if_neC (tgt := 43) dX9_safe_34 (by decide) (fun c_34 => ?_) (fun c_34 => ?_)) | (with_reducible refine j_gN ?_; refine j_if_neN (tgt := 43) dX9_safe_34 (by decide) (by omega) (fun c_34 => ?_) (fun c_34 => ?_)) | refine j_if_ne (tgt := 43) dX9_safe_34 (by decide) (fun c_34 => ?_) (fun c_34 => ?_)
    · obtain ⟨k, hk, rfl⟩ := okN_nI c_16
      obtain ⟨n, hn, rfl⟩ := okN_nI c_34
      have ek : ixn (nI k) = k := ixn_nI (by omega)
      have en : ixn (nI n) = n := ixn_nI (by omega)
      obtain ⟨e1, h6⟩ := szOf_pw (C := C) (r := 43) (k := k) hP6
      have eo : oSafe C W P od (nI k) (nI n) = (true, nI 0, some ((16 - od) ^ (n * pw C P 43 k), 16 ^ (n * pw C P 43 k))) := by rw [oSafe, if_pos c_16, if_pos c_34, ek, en]
      rw [eo]
      have hT : n * pw C P 43 k ≤ 12 := Nat.le_trans (Nat.mul_le_mul (show n ≤ 2 by omega) h6) (by decide)
      have hp1 : (16 - od) ^ (n * pw C P 43 k) ≤ 16 ^ (n * pw C P 43 k) := Nat.pow_le_pow_left (by omega) _
      have hp2 : 16 ^ (n * pw C P 43 k) ≤ 16 ^ 12 := Nat.pow_le_pow_right (by decide) hT
      have hp3 : 1 ≤ 16 ^ (n * pw C P 43 k) := Nat.one_le_pow _ _ (by decide)
      have hp4 : (16 : Nat) ^ 12 < 2 ^ 62 := by decide
      refine j_iload_n dX9_safe_43 rfl ?_
      first | refine j_aload_n dX9_safe_44 rfl ?_ | refine j_aload_nN dX9_safe_44 rfl ?_
      refine j_bipush (v := nI 43) dX9_safe_45 (by decide +kernel) ?_
      refine j_iload_n dX9_safe_47 rfl ?_
      refine j_dV1 kl_X9_339 (m_peopleWith H hC hP hP6 (by decide)) dX9_safe_48 rfl rfl (by decide) (Mo.h H) (Nat.le_of_ble_eq_true rfl) (by first | decide | omega) (by omega) (by omega) ?_
      refine j_dS1 kl_X9_390 (k_sizeOf _) dX9_safe_51 rfl rfl (Nat.le_of_ble_eq_true rfl) (by first | decide | omega) (by omega) (by omega) ?_
      rw [e1]
      first | (with_reducible refine j_gNN ?_; refine j_imulN dX9_safe_54 ?_) | refine j_imul dX9_safe_54 ?_
      refine j_istore_n dX9_safe_55 (by decide) ?_
      first | refine j_aload_n dX9_safe_56 rfl ?_ | refine j_aload_nN dX9_safe_56 rfl ?_
      first | refine j_aload_n dX9_safe_57 rfl ?_ | refine j_aload_nN dX9_safe_57 rfl ?_
      refine j_iload_n dX9_safe_58 rfl ?_
      refine j_iload_n dX9_safe_59 rfl ?_
      refine j_dV1 kl_X9_510 (m_safeBy H hC (nI (n * pw C P 43 k)) (by omega)) dX9_safe_60 rfl rfl (by decide) (Mo.h H) (Nat.le_of_ble_eq_true rfl) (by first | decide | omega) (by omega) (by omega) ?_
      rw [mSafe_a ho h16 _ (Nat.le_refl _) (by omega)]
      first | refine j_aload_n dX9_safe_63 rfl ?_ | refine j_aload_nN dX9_safe_63 rfl ?_
      refine j_iconst (v := nI 0) dX9_safe_64 (by decide +kernel) ?_
      refine j_iload_n dX9_safe_65 rfl ?_
      refine j_dV1 kl_X9_510 (m_safeBy H hC (nI 0) (by omega)) dX9_safe_66 rfl rfl (by decide) (Mo.h H) (Nat.le_of_ble_eq_true rfl) (by first | decide | omega) (by omega) (by omega) ?_
      rw [mSafe_0 _ (by omega)]
      refine j_dV1 kl_X9_513 (m_fraction H (by omega) (by omega) hp3) dX9_safe_69 rfl rfl (by decide) (Mo.h H) (Nat.le_of_ble_eq_true rfl) (by first | decide | omega) (by omega) (by omega) ?_
      refine j_iret dX9_safe_72 ⟨_, rfl, bI_nar _⟩ (by omega) (by omega) ?_
      exact ⟨rfl, rfl⟩
    · first | refine j_aload_n dX9_safe_37 rfl ?_ | refine j_aload_nN dX9_safe_37 rfl ?_
      refine j_iconst (v := nI 5) dX9_safe_38 (by decide +kernel) ?_
      refine j_dV1 kl_X9_82 (k_no H _) dX9_safe_39 rfl rfl (by decide) (Mo.h H) (Nat.le_of_ble_eq_true rfl) (by first | decide | omega) (by omega) (by omega) ?_
      refine j_iret dX9_safe_42 ⟨_, rfl, bI_nar _⟩ (by omega) (by omega) ?_
      exact ⟨by rw [oSafe, c_16, c_34]; rfl, by rw [oSafe, c_16, c_34]; exact mSt_r⟩
  · first | refine j_aload_n dX9_safe_19 rfl ?_ | refine j_aload_nN dX9_safe_19 rfl ?_
    refine j_iconst (v := nI 2) dX9_safe_20 (by decide +kernel) ?_
    refine j_dV1 kl_X9_82 (k_no H _) dX9_safe_21 rfl rfl (by decide) (Mo.h H) (Nat.le_of_ble_eq_true rfl) (by first | decide | omega) (by omega) (by omega) ?_
    refine j_iret dX9_safe_24 ⟨_, rfl, bI_nar _⟩ (by omega) (by omega) ?_
    exact ⟨by rw [oSafe, c_16]; rfl, by rw [oSafe, c_16]; exact mSt_r⟩
theorem o_riskiest (H : Mo σ h ad) (hC : σ.2.1 (ad 20) = C) {W P Dn : Nat} (hw : Wd C W P Dn) : Kd g l 4 MX9_riskiest [.ref h] σ (some (.int (oRiskiest C W P).1)) (mSt σ h (oRiskiest C W P).2) := by
  obtain ⟨⟨hW, hW8⟩, ⟨hP, hP6⟩, ⟨hD, hD6⟩, hdn⟩ := id hw
  refine Kt.go (Y := MX9_riskiest) (ls := [some (.ref h), none, none]) (by decide) (Nat.le_of_ble_eq_true rfl) rfl ?_
  first | refine j_aload_n dX9_riskiest_0 rfl ?_ | refine j_aload_nN dX9_riskiest_0 rfl ?_
  refine j_iconst (v := nI 0) dX9_riskiest_1 (by decide +kernel) ?_
  refine j_putI dX9_riskiest_2 fl_X9_67 rfl (Mo.h H) rfl rfl rfl ?_
  first | refine j_aload_n dX9_riskiest_5 rfl ?_ | refine j_aload_nN dX9_riskiest_5 rfl ?_
  refine j_iconst (v := nI 0) dX9_riskiest_6 (by decide +kernel) ?_
  refine j_putI dX9_riskiest_7 fl_X9_70 rfl (Mo.h H) rfl rfl rfl ?_
  refine j_eq rfl rfl (σ' := mSt σ h (nI 0)) rfl ?_
  have H0 := H
  have hC0 := hC
  replace hC := (mSt_row (w := nI 0) H0 (k := 20) ⟨_, _, rfl⟩).trans hC0
  replace H : Mo (mSt σ h (nI 0)) h ad := H0
  have key : ∀ j, j ≤ W → ∀ o, o = itr (rkF C P) j none → (∀ k, o = some k → k < 100) → Td g l 4 MX9_riskiest [.ref h] (mSt σ h (oRiskiest C W P).2) (some (.int (oRiskiest C W P).1)) 14 [some (.ref h), some (.int (oI o)), some (.int (nI j))] [] (mSt σ h (nI 0)) := by
    refine loop_up fun j hj ih => ?_
    intro o ho hk
    have es : itr (rkF C P) (j + 1) none = rkF C P j o := by rw [itr, ← ho]
    cases o with
    | none =>
      refine j_iload_n dX9_riskiest_14 rfl ?_
      first | refine j_aload_n dX9_riskiest_15 rfl ?_ | refine j_aload_nN dX9_riskiest_15 rfl ?_
      refine j_getR dX9_riskiest_16 fl_X9_35 rfl (Mo.h H) (Mo.R H _ _ _ rfl) ?_
      refine j_iconst (v := nI 0) dX9_riskiest_19 (by decide +kernel) ?_
      refine j_iald dX9_riskiest_20 (Mo.S H _ _ _ rfl) rfl (by omega) (by decide) (by first | assumption | (rewrite [hC]; first | assumption | rfl) | rfl) ?_
      first | (with_reducible refine j_gNN ?_; refine j_icmp_geN (tgt := 72) dX9_riskiest_21 (by decide) (by omega) (by omega) (fun c_21 => ?_) (fun c_21 => ?_)) | refine j_icmp_ge (tgt := 72) dX9_riskiest_21 (by decide) (fun c_21 => ?_) (fun c_21 => ?_)
      · refine j_iload_n dX9_riskiest_72 rfl ?_
        first | (with_reducible refine j_gC ?_; refine j_if_geC (tgt := 85) dX9_riskiest_73 (by decide) (fun c_73 => ?_) (fun c_73 => ?_)) | refine j_if_ge (tgt := 85) dX9_riskiest_73 (by decide) (fun c_73 => ?_) (fun c_73 => ?_)
        · exact absurd c_73 (by decide +kernel)
        · first | refine j_aload_n dX9_riskiest_76 rfl ?_ | refine j_aload_nN dX9_riskiest_76 rfl ?_
          refine j_bipush (v := nI 8) dX9_riskiest_77 (by decide +kernel) ?_
          refine j_dV1 kl_X9_325 (m_refuse H _) dX9_riskiest_79 rfl rfl (by decide) (Mo.h H) (Nat.le_of_ble_eq_true rfl) (by first | decide | omega) (by omega) (by omega) ?_
          refine j_goto (tgt := 86) dX9_riskiest_82 (by decide) ?_
          refine j_iret dX9_riskiest_86 ⟨_, rfl, rfl⟩ (by omega) (by omega) ?_
          exact pubX (by rw [oRiskiest, ← show j = W by omega, ← ho]; rfl)
      · refine j_iload_n dX9_riskiest_24 rfl ?_
        first | (with_reducible refine j_gC ?_; refine j_if_ltC (tgt := 64) dX9_riskiest_25 (by decide) (fun c_25 => ?_) (fun c_25 => ?_)) | refine j_if_lt (tgt := 64) dX9_riskiest_25 (by decide) (fun c_25 => ?_) (fun c_25 => ?_)
        · refine j_iload_n dX9_riskiest_64 rfl ?_
          refine j_istore_n dX9_riskiest_65 (by decide) ?_
          first | refine j_iincN dX9_riskiest_66 rfl (by decide) ?_ | refine j_iinc dX9_riskiest_66 rfl rfl (by decide) ?_
          refine j_goto (tgt := 14) dX9_riskiest_69 (by decide) ?_
          exact ih (by omega) (some j) (by rw [es]; rfl) (fun k q => by cases q; omega)
        · exact absurd (by decide +kernel) c_25
    | some b =>
      have hb := hk b rfl
      obtain ⟨e1, h1⟩ := szOf_pw (C := C) (r := 43) (k := j) hP6
      obtain ⟨e2, h2⟩ := szOf_pw (C := C) (r := 43) (k := b) hP6
      refine j_iload_n dX9_riskiest_14 rfl ?_
      first | refine j_aload_n dX9_riskiest_15 rfl ?_ | refine j_aload_nN dX9_riskiest_15 rfl ?_
      refine j_getR dX9_riskiest_16 fl_X9_35 rfl (Mo.h H) (Mo.R H _ _ _ rfl) ?_
      refine j_iconst (v := nI 0) dX9_riskiest_19 (by decide +kernel) ?_
      refine j_iald dX9_riskiest_20 (Mo.S H _ _ _ rfl) rfl (by omega) (by decide) (by first | assumption | (rewrite [hC]; first | assumption | rfl) | rfl) ?_
      first | (with_reducible refine j_gNN ?_; refine j_icmp_geN (tgt := 72) dX9_riskiest_21 (by decide) (by omega) (by omega) (fun c_21 => ?_) (fun c_21 => ?_)) | refine j_icmp_ge (tgt := 72) dX9_riskiest_21 (by decide) (fun c_21 => ?_) (fun c_21 => ?_)
      · refine j_iload_n dX9_riskiest_72 rfl ?_
        first | (with_reducible refine j_gC ?_; refine j_if_geC (tgt := 85) dX9_riskiest_73 (by decide) (fun c_73 => ?_) (fun c_73 => ?_)) | refine j_if_ge (tgt := 85) dX9_riskiest_73 (by decide) (fun c_73 => ?_) (fun c_73 => ?_)
        · refine j_iload_n dX9_riskiest_85 rfl ?_
          refine j_iret dX9_riskiest_86 ⟨_, rfl, rfl⟩ (by omega) (by omega) ?_
          exact pubR (by rw [oRiskiest, ← show j = W by omega, ← ho]; rfl)
        · exact absurd (Int32.not_lt.mp (nI_pos (show b < 2 ^ 31 by omega))) c_73
      · refine j_iload_n dX9_riskiest_24 rfl ?_
        first | (with_reducible refine j_gC ?_; refine j_if_ltC (tgt := 64) dX9_riskiest_25 (by decide) (fun c_25 => ?_) (fun c_25 => ?_)) | refine j_if_lt (tgt := 64) dX9_riskiest_25 (by decide) (fun c_25 => ?_) (fun c_25 => ?_)
        · exact absurd c_25 (nI_pos (by omega))
        · first | refine j_aload_n dX9_riskiest_28 rfl ?_ | refine j_aload_nN dX9_riskiest_28 rfl ?_
          first | refine j_aload_n dX9_riskiest_29 rfl ?_ | refine j_aload_nN dX9_riskiest_29 rfl ?_
          refine j_bipush (v := nI 43) dX9_riskiest_30 (by decide +kernel) ?_
          refine j_iload_n dX9_riskiest_32 rfl ?_
          refine j_dV1 kl_X9_339 (m_peopleWith H hC hP hP6 (by decide)) dX9_riskiest_33 rfl rfl (by decide) (Mo.h H) (Nat.le_of_ble_eq_true rfl) (by first | decide | omega) (by omega) (by omega) ?_
          refine j_dS1 kl_X9_390 (k_sizeOf _) dX9_riskiest_36 rfl rfl (Nat.le_of_ble_eq_true rfl) (by first | decide | omega) (by omega) (by omega) ?_
          rw [e1]
          refine j_bipush (v := nI 6) dX9_riskiest_39 (by decide +kernel) ?_
          refine j_dV1 kl_X9_510 (m_safeBy H hC (nI (pw C P 43 j)) (by omega)) dX9_riskiest_41 rfl rfl (by decide) (Mo.h H) (Nat.le_of_ble_eq_true rfl) (by first | decide | omega) (by omega) (by omega) ?_
          first | refine j_aload_n dX9_riskiest_44 rfl ?_ | refine j_aload_nN dX9_riskiest_44 rfl ?_
          first | refine j_aload_n dX9_riskiest_45 rfl ?_ | refine j_aload_nN dX9_riskiest_45 rfl ?_
          refine j_bipush (v := nI 43) dX9_riskiest_46 (by decide +kernel) ?_
          refine j_iload_n dX9_riskiest_48 rfl ?_
          refine j_dV1 kl_X9_339 (m_peopleWith H hC hP hP6 (by decide)) dX9_riskiest_49 rfl rfl (by decide) (Mo.h H) (Nat.le_of_ble_eq_true rfl) (by first | decide | omega) (by omega) (by omega) ?_
          refine j_dS1 kl_X9_390 (k_sizeOf _) dX9_riskiest_52 rfl rfl (Nat.le_of_ble_eq_true rfl) (by first | decide | omega) (by omega) (by omega) ?_
          rw [e2]
          refine j_bipush (v := nI 6) dX9_riskiest_55 (by decide +kernel) ?_
          refine j_dV1 kl_X9_510 (m_safeBy H hC (nI (pw C P 43 b)) (by omega)) dX9_riskiest_57 rfl rfl (by decide) (Mo.h H) (Nat.le_of_ble_eq_true rfl) (by first | decide | omega) (by omega) (by omega) ?_
          refine j_lcmp dX9_riskiest_60 ?_
          first | (with_reducible refine j_gC ?_; refine j_if_geC (tgt := 66) dX9_riskiest_61 (by decide) (fun c_61 => ?_) (fun c_61 => ?_)) | refine j_if_ge (tgt := 66) dX9_riskiest_61 (by decide) (fun c_61 => ?_) (fun c_61 => ?_)
          · first | refine j_iincN dX9_riskiest_66 rfl (by decide) ?_ | refine j_iinc dX9_riskiest_66 rfl rfl (by decide) ?_
            refine j_goto (tgt := 14) dX9_riskiest_69 (by decide) ?_
            first
            | (have z : ¬ riskF C P j < riskF C P b := c_61
               exact ih (by omega) (some b) (by rw [es, rkF, if_neg z]) (fun k q => by cases q; omega))
            | (have z : riskF C P j < riskF C P b := c_61
               exact ih (by omega) (some j) (by rw [es, rkF, if_pos z]) (fun k q => by cases q; omega))
          · refine j_iload_n dX9_riskiest_64 rfl ?_
            refine j_istore_n dX9_riskiest_65 (by decide) ?_
            first | refine j_iincN dX9_riskiest_66 rfl (by decide) ?_ | refine j_iinc dX9_riskiest_66 rfl rfl (by decide) ?_
            refine j_goto (tgt := 14) dX9_riskiest_69 (by decide) ?_
            first
            | (have z : ¬ riskF C P j < riskF C P b := c_61
               exact ih (by omega) (some b) (by rw [es, rkF, if_neg z]) (fun k q => by cases q; omega))
            | (have z : riskF C P j < riskF C P b := c_61
               exact ih (by omega) (some j) (by rw [es, rkF, if_pos z]) (fun k q => by cases q; omega))
  refine j_iconst (v := -1) dX9_riskiest_10 (by decide +kernel) ?_
  refine j_istore_n dX9_riskiest_11 (by decide) ?_
  refine j_iconst (v := nI 0) dX9_riskiest_12 (by decide +kernel) ?_
  refine j_istore_n dX9_riskiest_13 (by decide) ?_
  exact key 0 (by omega) none rfl (fun k q => by cases q)
theorem o_game (H : Mo σ h ad) (hC0 : σ.2.1 (ad 20) = C) {W P Dn : Nat} (hw : Wd C W P Dn) (p q t : Int32) : Kq g l h ad 8 MX9_game [.ref h, .int p, .int q, .int t] σ (some (.int (oGame C W P p q t).1)) (mSt σ h (oGame C W P p q t).2) := by
  obtain ⟨⟨hW, hW8⟩, ⟨hP, hP6⟩, ⟨hD, hD6⟩, hdn⟩ := id hw
  have H0 := H
  have ne20 : ad 20 ≠ h := Mo.nh H (i := 20) rfl
  refine Kt.go (Y := MX9_game) (ls := [some (.ref h), some (.int p), some (.int q), some (.int t)]) (by decide) (Nat.le_of_ble_eq_true rfl) rfl ?_
  first | refine j_aload_n dX9_game_0 rfl ?_ | refine j_aload_nN dX9_game_0 rfl ?_
  refine j_iconst (v := nI 0) dX9_game_1 (by decide +kernel) ?_
  refine j_putI dX9_game_2 fl_X9_67 rfl (Mo.h H) rfl rfl rfl ?_
  first | refine j_aload_n dX9_game_5 rfl ?_ | refine j_aload_nN dX9_game_5 rfl ?_
  first | refine j_aload_n dX9_game_6 rfl ?_ | refine j_aload_nN dX9_game_6 rfl ?_
  refine j_iload_n dX9_game_7 rfl ?_
  refine j_iload_n dX9_game_8 rfl ?_
  refine j_iload_n dX9_game_9 rfl ?_
  refine j_iconst (v := nI 0) dX9_game_10 (by decide +kernel) ?_
  refine j_dV1 kl_X9_507 (m_whyNoGame (σ := sI σ h 1 (nI 0)) H ((sI_n ne20).trans hC0) hP hP6 p q t 0) dX9_game_11 rfl rfl (by decide) (Mo.h H) (Nat.le_of_ble_eq_true rfl) (by first | decide | omega) (by omega) (by omega) ?_
  refine j_putI dX9_game_14 fl_X9_70 rfl (Mo.h H) rfl rfl rfl ?_
  refine j_eq (σ' := mSt σ h (mWhyG P p q t 0)) rfl rfl rfl ?_
  replace H : Mo (mSt σ h (mWhyG P p q t 0)) h ad := H0
  have hC := mSt_st (σ := σ) (h := h) (w := mWhyG P p q t 0)
  first | refine j_aload_n dX9_game_17 rfl ?_ | refine j_aload_nN dX9_game_17 rfl ?_
  refine j_getI dX9_game_18 fl_X9_70 rfl (Mo.h H) hC ?_
  first | (with_reducible refine j_gC ?_; refine j_if_leC (tgt := 28) dX9_game_21 (by decide) (fun c_21 => ?_) (fun c_21 => ?_)) | refine j_if_le (tgt := 28) dX9_game_21 (by decide) (fun c_21 => ?_) (fun c_21 => ?_)
  · have z : mWhyG P p q t 0 = nI 0 := mWhyG_nn.resolve_right (Int32.not_lt.mpr c_21)
    obtain ⟨p, q, t, rfl, rfl, rfl, hp, hq, hpq, ht, -⟩ := mWhyG_0 (least := 0) (by decide +kernel) z
    have eo : oGame C W P (nI p) (nI q) (nI t) = ((mPlayS W p q t true C).1, nI 0) := by rw [oGame, if_pos z, ixn_nI (by omega), ixn_nI (by omega), ixn_nI (by omega)]
    rw [eo, z]
    rw [z] at H
    first | refine j_aload_n dX9_game_28 rfl ?_ | refine j_aload_nN dX9_game_28 rfl ?_
    refine j_iload_n dX9_game_29 rfl ?_
    refine j_iload_n dX9_game_30 rfl ?_
    refine j_iconst (v := nI 0) dX9_game_31 (by decide +kernel) ?_
    refine j_iload_n dX9_game_32 rfl ?_
    refine j_callV kl_X9_497 (m_plays (σ := mSt σ h (nI 0)) hW8 (show p < 6 by omega) (show q < 6 by omega) ht t 0 (Nat.zero_add t) H ((mSt_row H0 ⟨_, _, rfl⟩).trans hC0) hW rfl) dX9_game_33 rfl rfl (by decide) (Mo.h H) (Nat.le_of_ble_eq_true rfl) (by first | decide | omega) (by omega) (by omega) (fun v τ hq => ?_) (fun _ _ _ hq => hq.elim)
    obtain ⟨T2, x, rfl, rfl, -, -, -⟩ := hq
    refine j_iret dX9_game_36 ⟨_, rfl, rfl⟩ (by omega) (by omega) ?_
    first
    | exact ⟨rfl, Eqm.rf⟩
    | exact ⟨rfl, Eqm.f (by omega) (Eqm.a (by omega) Eqm.rf)⟩
  · have z : ¬ mWhyG P p q t 0 = nI 0 := fun q => by rw [q] at c_21; exact absurd c_21 (by decide +kernel)
    have eo : oGame C W P p q t = (-1, mWhyG P p q t 0) := by rw [oGame, if_neg z]
    rw [eo]
    refine j_iconst (v := -1) dX9_game_24 (by decide +kernel) ?_
    refine j_goto (tgt := 36) dX9_game_25 (by decide) ?_
    refine j_iret dX9_game_36 ⟨_, rfl, rfl⟩ (by omega) (by omega) ?_
    first
    | exact ⟨rfl, Eqm.rf⟩
    | exact ⟨rfl, Eqm.f (by omega) (Eqm.a (by omega) Eqm.rf)⟩
end M15
