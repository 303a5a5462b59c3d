/-! THE MODEL's PUBLIC QUESTIONS -/
set_option maxRecDepth 100000
theorem inL_ok {w : Int32} {m : Int64} {n : Nat} (hm : m.toInt + 1 = n) : inL w.toInt64 0 m = okN w n := by
  unfold inL okN
  have e0 : (0 : Int64).toInt = 0 := by decide
  rw [Bool.eq_iff_iff, Bool.and_eq_true, Bool.and_eq_true, Bool.not_eq_true', Bool.not_eq_true', decide_eq_false_iff_not, decide_eq_false_iff_not, Int64.not_lt, Int64.not_lt, Int64.le_iff_toInt_le, Int64.le_iff_toInt_le, Int32.toInt_toInt64, e0, decide_eq_true_eq, decide_eq_true_eq]
  omega
/-- the state behind an answer: the status, nothing thrown -/
def mSt (σ : Sg) (h : Nat) (w : Int32) : Sg := sI (sI σ h 1 (nI 0)) h 0 w
theorem mSt_r {σ : Sg} {h : Nat} {v w : Int32} : sI (mSt σ h v) h 0 w = mSt σ h w := sI_I
theorem mSt_row {σ : Sg} {h : Nat} {ad : Nat → Nat} {w : Int32} (H : Mo σ h ad) {k : Nat} (hk : ∃ t n, mf k = some (t, n)) : (mSt σ h w).2.1 (ad k) = σ.2.1 (ad k) := by
  obtain ⟨t, n, hk⟩ := hk
  have ne : ad k ≠ h := Mo.nh H hk
  exact (sI_n ne).trans (sI_n ne)
theorem pubR {σ : Sg} {h : Nat} {o : Int32 × Int32} {v w : Int32} (e : o = (v, w)) : some (Value.int v) = some (Value.int o.1) ∧ mSt σ h w = mSt σ h o.2 := by rw [e]; exact ⟨rfl, rfl⟩
theorem pubX {σ : Sg} {h : Nat} {o : Int32 × Int32} {v u w : Int32} (e : o = (v, w)) : some (Value.int v) = some (Value.int o.1) ∧ sI (mSt σ h u) h 0 w = mSt σ h o.2 := by rw [e, mSt_r]; exact ⟨rfl, rfl⟩
theorem pubB {σ : Sg} {h : Nat} {o : Bool × Int32} {b : Bool} {u w : Int32} (e : o = (b, w)) : some (Value.int (bI b)) = some (Value.int (bI o.1)) ∧ sI (mSt σ h u) h 0 w = mSt σ h o.2 := by rw [e, mSt_r]; exact ⟨rfl, rfl⟩
theorem pubD {σ : Sg} {h a : Nat} {o : Int32 × Int32 × (Nat → Int32)} {v w : Int32} {D : Nat → Int32} (e : o = (v, w, D)) : some (Value.int v) = some (Value.int o.1) ∧ sU (mSt σ h w) a D = sU (mSt σ h o.2.1) a o.2.2 := by rw [e]; exact ⟨rfl, rfl⟩
theorem pubDX {σ : Sg} {h a : Nat} {o : Int32 × Int32 × (Nat → Int32)} {v u w : Int32} {C : Nat → Int32} (hC : σ.2.1 a = C) (ne : a ≠ h) (e : o = (v, w, C)) : some (Value.int v) = some (Value.int o.1) ∧ sI (mSt σ h u) h 0 w = sU (mSt σ h o.2.1) a o.2.2 := by
  rw [e, mSt_r]
  refine ⟨rfl, ?_⟩
  have : (mSt σ h w).2.1 a = C := (sI_n ne).trans ((sI_n ne).trans hC)
  rw [← this]
  exact sU_self.symm
theorem pubBD {σ : Sg} {h a : Nat} {o : Bool × Int32 × (Nat → Int32)} {b : Bool} {w : Int32} {D : Nat → Int32} (e : o = (b, w, D)) : some (Value.int (bI b)) = some (Value.int (bI o.1)) ∧ sU (mSt σ h w) a D = sU (mSt σ h o.2.1) a o.2.2 := by rw [e]; exact ⟨rfl, rfl⟩
theorem pubBDX {σ : Sg} {h a : Nat} {o : Bool × Int32 × (Nat → Int32)} {b : Bool} {u w : Int32} {C : Nat → Int32} (hC : σ.2.1 a = C) (ne : a ≠ h) (e : o = (b, w, C)) : some (Value.int (bI b)) = some (Value.int (bI o.1)) ∧ sI (mSt σ h u) h 0 w = sU (mSt σ h o.2.1) a o.2.2 := by
  rw [e, mSt_r]
  refine ⟨rfl, ?_⟩
  have : (mSt σ h w).2.1 a = C := (sI_n ne).trans ((sI_n ne).trans hC)
  rw [← this]
  exact sU_self.symm
theorem sUh {σ : Sg} {a : Nat} {C : Nat → Int32} (hC : σ.2.1 a = C) : sU σ a C = σ := by subst hC; exact sU_self
def oMany (C : Nat → Int32) (W P : Nat) (w : Int32) : Int32 × Int32 := if okN w 11 then (if ixn w < 7 then C (ixn w) else if ixn w = 7 then mBarbers C P else if ixn w = 10 then mAllHair C W P else C (ixn w - 1), nI 0) else (-1, nI 5)
def oWord (C : Nat → Int32) (W P Hn : Nat) (k w : Int32) : Int32 × Int32 := if okN k W then if okN w 5 then (if ixn w < 2 then C (9 + 8 * ixn w + ixn k) else if ixn w = 2 then mPeopleWith C P 37 (ixn k) else if ixn w = 3 then mPeopleWith C P 43 (ixn k) else mHalvesOf C Hn (nI (ixn k)), nI 0) else (-1, nI 5) else (-1, nI 2)
def oPerson (C : Nat → Int32) (W P : Nat) (p w : Int32) : Int32 × Int32 := if okN p P then if okN w 5 then (if ixn w = 4 then mHair C W (ixn p) else C (25 + 6 * ixn w + ixn p), nI 0) else (-1, nI 5) else (-1, nI 2)
def oStrand (C : Nat → Int32) (W P : Nat) (p k w : Int32) : Int32 × Int32 := if okN p P ∧ okN k W then if okN w 2 then if hs (C (43 + ixn p)) (ixn k) then (C ((if ixn w = 0 then 49 else 97) + 8 * ixn p + ixn k), nI 0) else (-1, nI 8) else (-1, nI 5) else (-1, nI 2)
def oDinner (C : Nat → Int32) (Dn : Nat) (d w : Int32) : Int32 × Int32 := if okN d Dn then if okN w 3 then (C (145 + 6 * ixn w + ixn d), nI 0) else (-1, nI 5) else (-1, nI 2)
def oLongest (C : Nat → Int32) (W P : Nat) (p : Int32) : Int32 × Int32 := if okN p P then match mLongest C W (ixn p) (C (43 + ixn p)) with
  | some k => (nI k, nI 0)
  | none => (-1, nI 8) else (-1, nI 2)
def oHairIn (C : Nat → Int32) (W P Dn : Nat) (p n : Int32) : Int32 × Int32 := if okN p P then if okN n 201 then (mHair (mDays C W P Dn (ixn n)) W (ixn p), nI 0) else (-1, nI 5) else (-1, nI 2)
def oKnownIn (C : Nat → Int32) (W P Dn : Nat) (p n : Int32) : Int32 × Int32 := if okN p P then if okN n 201 then (mDays C W P Dn (ixn n) (37 + ixn p), nI 0) else (-1, nI 5) else (-1, nI 2)
def oLengthOf (C : Nat → Int32) (W : Nat) (set n : Int32) : Int32 × Int32 := if okN set (2 ^ W) ∧ okN n 1000 then (mGrown C W set n, nI 0) else (-1, nI 5)
def oQuiet (C : Nat → Int32) (W P : Nat) (p n : Int32) : Int32 × Int32 := if okN p P then if okN n 201 then (mQuiet C W (ixn p) n (ixn (C (43 + ixn p))), nI 0) else (-1, nI 5) else (-1, nI 2)
def oQuietHair (C : Nat → Int32) (W P : Nat) (p n : Int32) : Int32 × Int32 := if okN p P then if okN n 201 then (mHairBy C W (ixn p) (mQuiet C W (ixn p) n (ixn (C (43 + ixn p)))) n, nI 0) else (-1, nI 5) else (-1, nI 2)
/-- the first below n, going up -/
def fUp (f : Nat → Bool) : Nat → Option Nat
  | 0 => none
  | n + 1 => match fUp f n with
    | some k => some k
    | none => if f n then some n else none
theorem fUp_le {f : Nat → Bool} {j n k : Nat} (h : fUp f j = some k) (hjn : j ≤ n) : fUp f n = some k := by
  induction hjn with
  | refl => exact h
  | step _ ih => rw [fUp, ih]
theorem fUp_lt {f : Nat → Bool} : ∀ n k, fUp f n = some k → k < n := by
  intro n
  induction n with
  | zero => intro k h; cases h
  | succ n ih =>
    intro k h
    rw [fUp] at h
    split at h
    · cases h; have := ih _ (by assumption); omega
    · split at h
      · cases h; omega
      · cases h
def oDaysFor (C : Nat → Int32) (W : Nat) (s n : Int32) : Int32 × Int32 := if okN s (2 ^ W) ∧ okN n 10000 then match fUp (fun t => decide (n ≤ mGrown C W s (nI t))) 100 with
  | some t => (nI t, nI 0)
  | none => (-1, nI 8) else (-1, nI 5)
def oSay (C : Nat → Int32) (W P : Nat) (p k q : Int32) : Int32 × Int32 × (Nat → Int32) := if okN p P ∧ okN k W ∧ okN q P then if mSaysB C (ixn p) (ixn k) (ixn q) then (mHair (mSays C (ixn p) (ixn k) (ixn q)) W (ixn p), nI 0, mSays C (ixn p) (ixn k) (ixn q)) else (-1, nI 9, C) else (-1, nI 2, C)
def oKeep (C : Nat → Int32) (W P : Nat) (p k : Int32) : Int32 × Int32 × (Nat → Int32) := if okN p P ∧ okN k W then if mKeepB C (ixn p) (ixn k) then (szOf (mKeep C (ixn p) (ixn k) (43 + ixn p)), nI 0, mKeep C (ixn p) (ixn k)) else (-1, nI 9, C) else (-1, nI 2, C)
def oLearn (C : Nat → Int32) (W P : Nat) (p k : Int32) : Int32 × Int32 × (Nat → Int32) := if okN p P ∧ okN k W then if hs (C (37 + ixn p)) (ixn k) then (-1, nI 9, C) else (szOf (mPeopleWith (up C (37 + ixn p) (C (37 + ixn p) ||| bt (ixn k))) P 37 (ixn k)), nI 0, up C (37 + ixn p) (C (37 + ixn p) ||| bt (ixn k))) else (-1, nI 2, C)
section M9
variable {g : Gx} {l : Launch} {σ : Sg} {h : Nat} {ad : Nat → Nat} {C : Nat → Int32}
theorem m_peopleWith (H : Mo σ h ad) (hC : σ.2.1 (ad 20) = C) {P r k : Nat} (hP : C 1 = nI P) (hP6 : P ≤ 6) (hr : r ≤ 1000) : Kd g l 1 MX9_peopleWith [.ref h, .int (nI r), .int (nI k)] σ (some (.int (mPeopleWith C P r k))) σ := by subst hC; exact k_mpeopleWith H hP hP6 hr
theorem o_many (H : Mo σ h ad) (hC : σ.2.1 (ad 20) = C) {W P Dn : Nat} (hw : Wd C W P Dn) (w : Int32) : Kd g l 4 MX9_many [.ref h, .int w] σ (some (.int (oMany C W P w).1)) (mSt σ h (oMany C W P w).2) := by
  obtain ⟨⟨hW, hW8⟩, ⟨hP, hP6⟩, ⟨hD, hD6⟩, hdn⟩ := id hw
  refine Kt.go (Y := MX9_many) (ls := [some (.ref h), some (.int w)]) (by decide) (Nat.le_of_ble_eq_true rfl) rfl ?_
  first | refine j_aload_n dX9_many_0 rfl ?_ | refine j_aload_nN dX9_many_0 rfl ?_
  refine j_iconst (v := nI 0) dX9_many_1 (by decide +kernel) ?_
  refine j_putI dX9_many_2 fl_X9_67 rfl (Mo.h H) rfl rfl rfl ?_
  first | refine j_aload_n dX9_many_5 rfl ?_ | refine j_aload_nN dX9_many_5 rfl ?_
  refine j_iconst (v := nI 0) dX9_many_6 (by decide +kernel) ?_
  refine j_putI dX9_many_7 fl_X9_70 rfl (Mo.h H) rfl rfl rfl ?_
  refine j_eq rfl rfl (σ' := mSt σ h (nI 0)) rfl ?_
  have H0 := H
  have hC0 := hC
  replace hC := (mSt_row (w := nI 0) H0 (k := 20) ⟨_, _, rfl⟩).trans hC0
  replace H : Mo (mSt σ h (nI 0)) h ad := H0
  refine j_iload_n dX9_many_10 rfl ?_
  refine j_i2l dX9_many_11 ?_
  refine j_lconst (v := 0) dX9_many_12 (by decide +kernel) ?_
  refine j_ldc2 (v := 10) dX9_many_13 q2014 ?_
  refine j_dS1 kl_X9_102 (k_inL _ _ _) dX9_many_16 rfl rfl (Nat.le_of_ble_eq_true rfl) (by first | decide | omega) (by omega) (by omega) ?_
  rw [inL_ok (n := 11) (by decide +kernel)]
  first | (with_reducible refine j_gB ?_; refine j_if_neB (tgt := 28) dX9_many_19 (by decide) (fun c_19 => ?_) (fun c_19 => ?_)) | (with_reducible refine j_gC ?_; refine j_if_neC (tgt := 28) dX9_many_19 (by decide) (fun c_19 => ?_) (fun c_19 => ?_)) | (with_reducible refine j_gN ?_; refine j_if_neN (tgt := 28) dX9_many_19 (by decide) (by omega) (fun c_19 => ?_) (fun c_19 => ?_)) | refine j_if_ne (tgt := 28) dX9_many_19 (by decide) (fun c_19 => ?_) (fun c_19 => ?_)
  · obtain ⟨k, hk, rfl⟩ := okN_nI c_19
    have ek : ixn (nI k) = k := ixn_nI (by omega)
    refine j_iload_n dX9_many_28 rfl ?_
    refine j_bipush (v := nI 7) dX9_many_29 (by decide +kernel) ?_
    first | (with_reducible refine j_gNN ?_; refine j_icmp_geN (tgt := 41) dX9_many_31 (by decide) (by omega) (by omega) (fun c_31 => ?_) (fun c_31 => ?_)) | refine j_icmp_ge (tgt := 41) dX9_many_31 (by decide) (fun c_31 => ?_) (fun c_31 => ?_)
    · refine j_iload_n dX9_many_41 rfl ?_
      refine j_bipush (v := nI 7) dX9_many_42 (by decide +kernel) ?_
      first | (with_reducible refine j_gNN ?_; refine j_icmp_neN (tgt := 54) dX9_many_44 (by decide) (by omega) (by omega) (fun c_44 => ?_) (fun c_44 => ?_)) | refine j_icmp_ne (tgt := 54) dX9_many_44 (by decide) (fun c_44 => ?_) (fun c_44 => ?_)
      · refine j_iload_n dX9_many_54 rfl ?_
        refine j_bipush (v := nI 10) dX9_many_55 (by decide +kernel) ?_
        first | (with_reducible refine j_gNN ?_; refine j_icmp_neN (tgt := 67) dX9_many_57 (by decide) (by omega) (by omega) (fun c_57 => ?_) (fun c_57 => ?_)) | refine j_icmp_ne (tgt := 67) dX9_many_57 (by decide) (fun c_57 => ?_) (fun c_57 => ?_)
        · first | refine j_aload_n dX9_many_67 rfl ?_ | refine j_aload_nN dX9_many_67 rfl ?_
          refine j_getR dX9_many_68 fl_X9_35 rfl (Mo.h H) (Mo.R H _ _ _ rfl) ?_
          refine j_iload_n dX9_many_71 rfl ?_
          refine j_iconst (v := nI 1) dX9_many_72 (by decide +kernel) ?_
          first | (with_reducible refine j_gNN ?_; refine j_isubN dX9_many_73 (by omega) ?_) | refine j_isub dX9_many_73 ?_
          refine j_iald dX9_many_74 (Mo.S H _ _ _ rfl) rfl (by omega) (by decide) (by first | assumption | (rewrite [hC]; first | assumption | rfl) | rfl) ?_
          refine j_iret dX9_many_75 ⟨_, rfl, rfl⟩ (by omega) (by omega) ?_
          exact pubR (by (unfold oMany; rw [ek]; repeat' split) <;> (first | rfl | omega | contradiction | (exfalso; simp_all; done) | (simp_all; done)))
        · first | refine j_aload_n dX9_many_60 rfl ?_ | refine j_aload_nN dX9_many_60 rfl ?_
          refine j_dV1 kl_X9_331 (k_mallHair H (by rw [hC]; exact hW) hW8 (by rw [hC]; exact hP) hP6) dX9_many_61 rfl rfl (by decide) (Mo.h H) (Nat.le_of_ble_eq_true rfl) (by first | decide | omega) (by omega) (by omega) ?_
          rw [hC]
          refine j_goto (tgt := 75) dX9_many_64 (by decide) ?_
          refine j_iret dX9_many_75 ⟨_, rfl, rfl⟩ (by omega) (by omega) ?_
          exact pubR (by (unfold oMany; rw [ek]; repeat' split) <;> (first | rfl | omega | contradiction | (exfalso; simp_all; done) | (simp_all; done)))
      · first | refine j_aload_n dX9_many_47 rfl ?_ | refine j_aload_nN dX9_many_47 rfl ?_
        refine j_dV1 kl_X9_328 (k_mbarbers H (by rw [hC]; exact hP) hP6) dX9_many_48 rfl rfl (by decide) (Mo.h H) (Nat.le_of_ble_eq_true rfl) (by first | decide | omega) (by omega) (by omega) ?_
        rw [hC]
        refine j_goto (tgt := 75) dX9_many_51 (by decide) ?_
        refine j_iret dX9_many_75 ⟨_, rfl, rfl⟩ (by omega) (by omega) ?_
        exact pubR (by (unfold oMany; rw [ek]; repeat' split) <;> (first | rfl | omega | contradiction | (exfalso; simp_all; done) | (simp_all; done)))
    · first | refine j_aload_n dX9_many_34 rfl ?_ | refine j_aload_nN dX9_many_34 rfl ?_
      refine j_getR dX9_many_35 fl_X9_35 rfl (Mo.h H) (Mo.R H _ _ _ rfl) ?_
      refine j_iload_n dX9_many_38 rfl ?_
      refine j_iald dX9_many_39 (Mo.S H _ _ _ rfl) rfl (by omega) (by decide) (by first | assumption | (rewrite [hC]; first | assumption | rfl) | rfl) ?_
      refine j_iret dX9_many_40 ⟨_, rfl, rfl⟩ (by omega) (by omega) ?_
      exact pubR (by (unfold oMany; rw [ek]; repeat' split) <;> (first | rfl | omega | contradiction | (exfalso; simp_all; done) | (simp_all; done)))
  · first | refine j_aload_n dX9_many_22 rfl ?_ | refine j_aload_nN dX9_many_22 rfl ?_
    refine j_iconst (v := nI 5) dX9_many_23 (by decide +kernel) ?_
    refine j_dV1 kl_X9_325 (m_refuse H _) dX9_many_24 rfl rfl (by decide) (Mo.h H) (Nat.le_of_ble_eq_true rfl) (by first | decide | omega) (by omega) (by omega) ?_
    refine j_iret dX9_many_27 ⟨_, rfl, rfl⟩ (by omega) (by omega) ?_
    exact pubX (by rw [oMany, c_19]; rfl)
theorem o_word (H : Mo σ h ad) (hC : σ.2.1 (ad 20) = C) {W P Dn Hn : Nat} (hw : Wd C W P Dn) (hH : C 3 = nI Hn) (hH6 : Hn ≤ 6) (k w : Int32) : Kd g l 4 MX9_word [.ref h, .int k, .int w] σ (some (.int (oWord C W P Hn k w).1)) (mSt σ h (oWord C W P Hn k w).2) := by
  obtain ⟨⟨hW, hW8⟩, ⟨hP, hP6⟩, ⟨hD, hD6⟩, hdn⟩ := id hw
  refine Kt.go (Y := MX9_word) (ls := [some (.ref h), some (.int k), some (.int w)]) (by decide) (Nat.le_of_ble_eq_true rfl) rfl ?_
  first | refine j_aload_n dX9_word_0 rfl ?_ | refine j_aload_nN dX9_word_0 rfl ?_
  refine j_iconst (v := nI 0) dX9_word_1 (by decide +kernel) ?_
  refine j_putI dX9_word_2 fl_X9_67 rfl (Mo.h H) rfl rfl rfl ?_
  first | refine j_aload_n dX9_word_5 rfl ?_ | refine j_aload_nN dX9_word_5 rfl ?_
  refine j_iconst (v := nI 0) dX9_word_6 (by decide +kernel) ?_
  refine j_putI dX9_word_7 fl_X9_70 rfl (Mo.h H) rfl rfl rfl ?_
  refine j_eq rfl rfl (σ' := mSt σ h (nI 0)) rfl ?_
  have H0 := H
  have hC0 := hC
  replace hC := (mSt_row (w := nI 0) H0 (k := 20) ⟨_, _, rfl⟩).trans hC0
  replace H : Mo (mSt σ h (nI 0)) h ad := H0
  first | refine j_aload_n dX9_word_10 rfl ?_ | refine j_aload_nN dX9_word_10 rfl ?_
  refine j_iload_n dX9_word_11 rfl ?_
  refine j_i2l dX9_word_12 ?_
  refine j_dV1 kl_X9_334 (m_isWordAt H hC hW hW8 k) dX9_word_13 rfl rfl (by decide) (Mo.h H) (Nat.le_of_ble_eq_true rfl) (by first | decide | omega) (by omega) (by omega) ?_
  first | (with_reducible refine j_gB ?_; refine j_if_neB (tgt := 25) dX9_word_16 (by decide) (fun c_16 => ?_) (fun c_16 => ?_)) | (with_reducible refine j_gC ?_; refine j_if_neC (tgt := 25) dX9_word_16 (by decide) (fun c_16 => ?_) (fun c_16 => ?_)) | (with_reducible refine j_gN ?_; refine j_if_neN (tgt := 25) dX9_word_16 (by decide) (by omega) (fun c_16 => ?_) (fun c_16 => ?_)) | refine j_if_ne (tgt := 25) dX9_word_16 (by decide) (fun c_16 => ?_) (fun c_16 => ?_)
  · refine j_iload_n dX9_word_25 rfl ?_
    refine j_i2l dX9_word_26 ?_
    refine j_lconst (v := 0) dX9_word_27 (by decide +kernel) ?_
    refine j_ldc2 (v := 4) dX9_word_28 q2043 ?_
    refine j_dS1 kl_X9_102 (k_inL _ _ _) dX9_word_31 rfl rfl (Nat.le_of_ble_eq_true rfl) (by first | decide | omega) (by omega) (by omega) ?_
    rw [inL_ok (n := 5) (by decide +kernel)]
    first | (with_reducible refine j_gB ?_; refine j_if_neB (tgt := 43) dX9_word_34 (by decide) (fun c_34 => ?_) (fun c_34 => ?_)) | (with_reducible refine j_gC ?_; refine j_if_neC (tgt := 43) dX9_word_34 (by decide) (fun c_34 => ?_) (fun c_34 => ?_)) | (with_reducible refine j_gN ?_; refine j_if_neN (tgt := 43) dX9_word_34 (by decide) (by omega) (fun c_34 => ?_) (fun c_34 => ?_)) | refine j_if_ne (tgt := 43) dX9_word_34 (by decide) (fun c_34 => ?_) (fun c_34 => ?_)
    · obtain ⟨w, hw5, rfl⟩ := okN_nI c_34
      obtain ⟨k, hk, rfl⟩ := okN_nI c_16
      have ew : ixn (nI w) = w := ixn_nI (by omega)
      have ek : ixn (nI k) = k := ixn_nI (by omega)
      refine j_iload_n dX9_word_43 rfl ?_
      refine j_iconst (v := nI 2) dX9_word_44 (by decide +kernel) ?_
      first | (with_reducible refine j_gNN ?_; refine j_icmp_geN (tgt := 63) dX9_word_45 (by decide) (by omega) (by omega) (fun c_45 => ?_) (fun c_45 => ?_)) | refine j_icmp_ge (tgt := 63) dX9_word_45 (by decide) (fun c_45 => ?_) (fun c_45 => ?_)
      · refine j_iload_n dX9_word_63 rfl ?_
        refine j_iconst (v := nI 2) dX9_word_64 (by decide +kernel) ?_
        first | (with_reducible refine j_gNN ?_; refine j_icmp_neN (tgt := 78) dX9_word_65 (by decide) (by omega) (by omega) (fun c_65 => ?_) (fun c_65 => ?_)) | refine j_icmp_ne (tgt := 78) dX9_word_65 (by decide) (fun c_65 => ?_) (fun c_65 => ?_)
        · refine j_iload_n dX9_word_78 rfl ?_
          refine j_iconst (v := nI 3) dX9_word_79 (by decide +kernel) ?_
          first | (with_reducible refine j_gNN ?_; refine j_icmp_neN (tgt := 93) dX9_word_80 (by decide) (by omega) (by omega) (fun c_80 => ?_) (fun c_80 => ?_)) | refine j_icmp_ne (tgt := 93) dX9_word_80 (by decide) (fun c_80 => ?_) (fun c_80 => ?_)
          · first | refine j_aload_n dX9_word_93 rfl ?_ | refine j_aload_nN dX9_word_93 rfl ?_
            refine j_iload_n dX9_word_94 rfl ?_
            refine j_dV1 kl_X9_342 (k_mhalvesOf H (by rw [hC]; exact hH) hH6) dX9_word_95 rfl rfl (by decide) (Mo.h H) (Nat.le_of_ble_eq_true rfl) (by first | decide | omega) (by omega) (by omega) ?_
            rw [hC]
            refine j_iret dX9_word_98 ⟨_, rfl, rfl⟩ (by omega) (by omega) ?_
            exact pubR (by (unfold oWord; rw [ek, ew]; repeat' split) <;> (first | rfl | omega | contradiction | (exfalso; simp_all; done) | (simp_all; done)))
          · first | refine j_aload_n dX9_word_83 rfl ?_ | refine j_aload_nN dX9_word_83 rfl ?_
            refine j_bipush (v := nI 43) dX9_word_84 (by decide +kernel) ?_
            refine j_iload_n dX9_word_86 rfl ?_
            refine j_dV1 kl_X9_339 (k_mpeopleWith H (by rw [hC]; exact hP) hP6 (by decide)) dX9_word_87 rfl rfl (by decide) (Mo.h H) (Nat.le_of_ble_eq_true rfl) (by first | decide | omega) (by omega) (by omega) ?_
            rw [hC]
            refine j_goto (tgt := 98) dX9_word_90 (by decide) ?_
            refine j_iret dX9_word_98 ⟨_, rfl, rfl⟩ (by omega) (by omega) ?_
            exact pubR (by (unfold oWord; rw [ek, ew]; repeat' split) <;> (first | rfl | omega | contradiction | (exfalso; simp_all; done) | (simp_all; done)))
        · first | refine j_aload_n dX9_word_68 rfl ?_ | refine j_aload_nN dX9_word_68 rfl ?_
          refine j_bipush (v := nI 37) dX9_word_69 (by decide +kernel) ?_
          refine j_iload_n dX9_word_71 rfl ?_
          refine j_dV1 kl_X9_339 (k_mpeopleWith H (by rw [hC]; exact hP) hP6 (by decide)) dX9_word_72 rfl rfl (by decide) (Mo.h H) (Nat.le_of_ble_eq_true rfl) (by first | decide | omega) (by omega) (by omega) ?_
          rw [hC]
          refine j_goto (tgt := 98) dX9_word_75 (by decide) ?_
          refine j_iret dX9_word_98 ⟨_, rfl, rfl⟩ (by omega) (by omega) ?_
          exact pubR (by (unfold oWord; rw [ek, ew]; repeat' split) <;> (first | rfl | omega | contradiction | (exfalso; simp_all; done) | (simp_all; done)))
      · first | refine j_aload_n dX9_word_48 rfl ?_ | refine j_aload_nN dX9_word_48 rfl ?_
        refine j_getR dX9_word_49 fl_X9_35 rfl (Mo.h H) (Mo.R H _ _ _ rfl) ?_
        refine j_bipush (v := nI 9) dX9_word_52 (by decide +kernel) ?_
        refine j_bipush (v := nI 8) dX9_word_54 (by decide +kernel) ?_
        refine j_iload_n dX9_word_56 rfl ?_
        first | (with_reducible refine j_gNN ?_; refine j_imulN dX9_word_57 ?_) | refine j_imul dX9_word_57 ?_
        first | (with_reducible refine j_gNN ?_; refine j_iaddN dX9_word_58 ?_) | refine j_iadd dX9_word_58 ?_
        refine j_iload_n dX9_word_59 rfl ?_
        first | (with_reducible refine j_gNN ?_; refine j_iaddN dX9_word_60 ?_) | refine j_iadd dX9_word_60 ?_
        refine j_iald dX9_word_61 (Mo.S H _ _ _ rfl) rfl (by omega) (by decide) (by first | assumption | (rewrite [hC]; first | assumption | rfl) | rfl) ?_
        refine j_iret dX9_word_62 ⟨_, rfl, rfl⟩ (by omega) (by omega) ?_
        exact pubR (by (unfold oWord; rw [ek, ew]; repeat' split) <;> (first | rfl | omega | contradiction | (exfalso; simp_all; done) | (simp_all; done)))
    · first | refine j_aload_n dX9_word_37 rfl ?_ | refine j_aload_nN dX9_word_37 rfl ?_
      refine j_iconst (v := nI 5) dX9_word_38 (by decide +kernel) ?_
      refine j_dV1 kl_X9_325 (m_refuse H _) dX9_word_39 rfl rfl (by decide) (Mo.h H) (Nat.le_of_ble_eq_true rfl) (by first | decide | omega) (by omega) (by omega) ?_
      refine j_iret dX9_word_42 ⟨_, rfl, rfl⟩ (by omega) (by omega) ?_
      exact pubX (by rw [oWord, c_16, c_34]; rfl)
  · first | refine j_aload_n dX9_word_19 rfl ?_ | refine j_aload_nN dX9_word_19 rfl ?_
    refine j_iconst (v := nI 2) dX9_word_20 (by decide +kernel) ?_
    refine j_dV1 kl_X9_325 (m_refuse H _) dX9_word_21 rfl rfl (by decide) (Mo.h H) (Nat.le_of_ble_eq_true rfl) (by first | decide | omega) (by omega) (by omega) ?_
    refine j_iret dX9_word_24 ⟨_, rfl, rfl⟩ (by omega) (by omega) ?_
    exact pubX (by rw [oWord, c_16]; rfl)
theorem o_person (H : Mo σ h ad) (hC : σ.2.1 (ad 20) = C) {W P Dn : Nat} (hw : Wd C W P Dn) (p w : Int32) : Kd g l 4 MX9_person [.ref h, .int p, .int w] σ (some (.int (oPerson C W P p w).1)) (mSt σ h (oPerson C W P p w).2) := by
  obtain ⟨⟨hW, hW8⟩, ⟨hP, hP6⟩, ⟨hD, hD6⟩, hdn⟩ := id hw
  refine Kt.go (Y := MX9_person) (ls := [some (.ref h), some (.int p), some (.int w)]) (by decide) (Nat.le_of_ble_eq_true rfl) rfl ?_
  first | refine j_aload_n dX9_person_0 rfl ?_ | refine j_aload_nN dX9_person_0 rfl ?_
  refine j_iconst (v := nI 0) dX9_person_1 (by decide +kernel) ?_
  refine j_putI dX9_person_2 fl_X9_67 rfl (Mo.h H) rfl rfl rfl ?_
  first | refine j_aload_n dX9_person_5 rfl ?_ | refine j_aload_nN dX9_person_5 rfl ?_
  refine j_iconst (v := nI 0) dX9_person_6 (by decide +kernel) ?_
  refine j_putI dX9_person_7 fl_X9_70 rfl (Mo.h H) rfl rfl rfl ?_
  refine j_eq rfl rfl (σ' := mSt σ h (nI 0)) rfl ?_
  have H0 := H
  have hC0 := hC
  replace hC := (mSt_row (w := nI 0) H0 (k := 20) ⟨_, _, rfl⟩).trans hC0
  replace H : Mo (mSt σ h (nI 0)) h ad := H0
  first | refine j_aload_n dX9_person_10 rfl ?_ | refine j_aload_nN dX9_person_10 rfl ?_
  refine j_iload_n dX9_person_11 rfl ?_
  refine j_dV1 kl_X9_345 (m_isPersonAt H hC hP hP6 p) dX9_person_12 rfl rfl (by decide) (Mo.h H) (Nat.le_of_ble_eq_true rfl) (by first | decide | omega) (by omega) (by omega) ?_
  first | (with_reducible refine j_gB ?_; refine j_if_neB (tgt := 24) dX9_person_15 (by decide) (fun c_15 => ?_) (fun c_15 => ?_)) | (with_reducible refine j_gC ?_; refine j_if_neC (tgt := 24) dX9_person_15 (by decide) (fun c_15 => ?_) (fun c_15 => ?_)) | (with_reducible refine j_gN ?_; refine j_if_neN (tgt := 24) dX9_person_15 (by decide) (by omega) (fun c_15 => ?_) (fun c_15 => ?_)) | refine j_if_ne (tgt := 24) dX9_person_15 (by decide) (fun c_15 => ?_) (fun c_15 => ?_)
  · refine j_iload_n dX9_person_24 rfl ?_
    refine j_i2l dX9_person_25 ?_
    refine j_lconst (v := 0) dX9_person_26 (by decide +kernel) ?_
    refine j_ldc2 (v := 4) dX9_person_27 q2043 ?_
    refine j_dS1 kl_X9_102 (k_inL _ _ _) dX9_person_30 rfl rfl (Nat.le_of_ble_eq_true rfl) (by first | decide | omega) (by omega) (by omega) ?_
    rw [inL_ok (n := 5) (by decide +kernel)]
    first | (with_reducible refine j_gB ?_; refine j_if_neB (tgt := 42) dX9_person_33 (by decide) (fun c_33 => ?_) (fun c_33 => ?_)) | (with_reducible refine j_gC ?_; refine j_if_neC (tgt := 42) dX9_person_33 (by decide) (fun c_33 => ?_) (fun c_33 => ?_)) | (with_reducible refine j_gN ?_; refine j_if_neN (tgt := 42) dX9_person_33 (by decide) (by omega) (fun c_33 => ?_) (fun c_33 => ?_)) | refine j_if_ne (tgt := 42) dX9_person_33 (by decide) (fun c_33 => ?_) (fun c_33 => ?_)
    · obtain ⟨w, hw5, rfl⟩ := okN_nI c_33
      obtain ⟨p, hp, rfl⟩ := okN_nI c_15
      have ew : ixn (nI w) = w := ixn_nI (by omega)
      have ep : ixn (nI p) = p := ixn_nI (by omega)
      refine j_iload_n dX9_person_42 rfl ?_
      refine j_iconst (v := nI 4) dX9_person_43 (by decide +kernel) ?_
      first | (with_reducible refine j_gNN ?_; refine j_icmp_neN (tgt := 55) dX9_person_44 (by decide) (by omega) (by omega) (fun c_44 => ?_) (fun c_44 => ?_)) | refine j_icmp_ne (tgt := 55) dX9_person_44 (by decide) (fun c_44 => ?_) (fun c_44 => ?_)
      · first | refine j_aload_n dX9_person_55 rfl ?_ | refine j_aload_nN dX9_person_55 rfl ?_
        refine j_getR dX9_person_56 fl_X9_35 rfl (Mo.h H) (Mo.R H _ _ _ rfl) ?_
        refine j_bipush (v := nI 25) dX9_person_59 (by decide +kernel) ?_
        refine j_bipush (v := nI 6) dX9_person_61 (by decide +kernel) ?_
        refine j_iload_n dX9_person_63 rfl ?_
        first | (with_reducible refine j_gNN ?_; refine j_imulN dX9_person_64 ?_) | refine j_imul dX9_person_64 ?_
        first | (with_reducible refine j_gNN ?_; refine j_iaddN dX9_person_65 ?_) | refine j_iadd dX9_person_65 ?_
        refine j_iload_n dX9_person_66 rfl ?_
        first | (with_reducible refine j_gNN ?_; refine j_iaddN dX9_person_67 ?_) | refine j_iadd dX9_person_67 ?_
        refine j_iald dX9_person_68 (Mo.S H _ _ _ rfl) rfl (by omega) (by decide) (by first | assumption | (rewrite [hC]; first | assumption | rfl) | rfl) ?_
        refine j_iret dX9_person_69 ⟨_, rfl, rfl⟩ (by omega) (by omega) ?_
        exact pubR (by (unfold oPerson; rw [ep, ew]; repeat' split) <;> (first | rfl | omega | contradiction | (exfalso; simp_all; done) | (simp_all; done)))
      · first | refine j_aload_n dX9_person_47 rfl ?_ | refine j_aload_nN dX9_person_47 rfl ?_
        refine j_iload_n dX9_person_48 rfl ?_
        refine j_dV1 kl_X9_320 (m_hairOf H hC hW hW8 (by omega)) dX9_person_49 rfl rfl (by decide) (Mo.h H) (Nat.le_of_ble_eq_true rfl) (by first | decide | omega) (by omega) (by omega) ?_
        refine j_goto (tgt := 69) dX9_person_52 (by decide) ?_
        refine j_iret dX9_person_69 ⟨_, rfl, rfl⟩ (by omega) (by omega) ?_
        exact pubR (by (unfold oPerson; rw [ep, ew]; repeat' split) <;> (first | rfl | omega | contradiction | (exfalso; simp_all; done) | (simp_all; done)))
    · first | refine j_aload_n dX9_person_36 rfl ?_ | refine j_aload_nN dX9_person_36 rfl ?_
      refine j_iconst (v := nI 5) dX9_person_37 (by decide +kernel) ?_
      refine j_dV1 kl_X9_325 (m_refuse H _) dX9_person_38 rfl rfl (by decide) (Mo.h H) (Nat.le_of_ble_eq_true rfl) (by first | decide | omega) (by omega) (by omega) ?_
      refine j_iret dX9_person_41 ⟨_, rfl, rfl⟩ (by omega) (by omega) ?_
      exact pubX (by rw [oPerson, c_15, c_33]; rfl)
  · first | refine j_aload_n dX9_person_18 rfl ?_ | refine j_aload_nN dX9_person_18 rfl ?_
    refine j_iconst (v := nI 2) dX9_person_19 (by decide +kernel) ?_
    refine j_dV1 kl_X9_325 (m_refuse H _) dX9_person_20 rfl rfl (by decide) (Mo.h H) (Nat.le_of_ble_eq_true rfl) (by first | decide | omega) (by omega) (by omega) ?_
    refine j_iret dX9_person_23 ⟨_, rfl, rfl⟩ (by omega) (by omega) ?_
    exact pubX (by rw [oPerson, c_15]; rfl)
theorem o_strand (H : Mo σ h ad) (hC : σ.2.1 (ad 20) = C) {W P Dn : Nat} (hw : Wd C W P Dn) (p k w : Int32) : Kd g l 4 MX9_strand [.ref h, .int p, .int k, .int w] σ (some (.int (oStrand C W P p k w).1)) (mSt σ h (oStrand C W P p k w).2) := by
  obtain ⟨⟨hW, hW8⟩, ⟨hP, hP6⟩, ⟨hD, hD6⟩, hdn⟩ := id hw
  refine Kt.go (Y := MX9_strand) (ls := [some (.ref h), some (.int p), some (.int k), some (.int w)]) (by decide) (Nat.le_of_ble_eq_true rfl) rfl ?_
  first | refine j_aload_n dX9_strand_0 rfl ?_ | refine j_aload_nN dX9_strand_0 rfl ?_
  refine j_iconst (v := nI 0) dX9_strand_1 (by decide +kernel) ?_
  refine j_putI dX9_strand_2 fl_X9_67 rfl (Mo.h H) rfl rfl rfl ?_
  first | refine j_aload_n dX9_strand_5 rfl ?_ | refine j_aload_nN dX9_strand_5 rfl ?_
  refine j_iconst (v := nI 0) dX9_strand_6 (by decide +kernel) ?_
  refine j_putI dX9_strand_7 fl_X9_70 rfl (Mo.h H) rfl rfl rfl ?_
  refine j_eq rfl rfl (σ' := mSt σ h (nI 0)) rfl ?_
  have H0 := H
  have hC0 := hC
  replace hC := (mSt_row (w := nI 0) H0 (k := 20) ⟨_, _, rfl⟩).trans hC0
  replace H : Mo (mSt σ h (nI 0)) h ad := H0
  first | refine j_aload_n dX9_strand_10 rfl ?_ | refine j_aload_nN dX9_strand_10 rfl ?_
  refine j_iload_n dX9_strand_11 rfl ?_
  refine j_dV1 kl_X9_345 (m_isPersonAt H hC hP hP6 p) dX9_strand_12 rfl rfl (by decide) (Mo.h H) (Nat.le_of_ble_eq_true rfl) (by first | decide | omega) (by omega) (by omega) ?_
  first | (with_reducible refine j_gB ?_; refine j_if_eqB (tgt := 27) dX9_strand_15 (by decide) (fun c_15 => ?_) (fun c_15 => ?_)) | (with_reducible refine j_gC ?_; refine j_if_eqC (tgt := 27) dX9_strand_15 (by decide) (fun c_15 => ?_) (fun c_15 => ?_)) | (with_reducible refine j_gN ?_; refine j_if_eqN (tgt := 27) dX9_strand_15 (by decide) (by omega) (fun c_15 => ?_) (fun c_15 => ?_)) | refine j_if_eq (tgt := 27) dX9_strand_15 (by decide) (fun c_15 => ?_) (fun c_15 => ?_)
  · first | refine j_aload_n dX9_strand_27 rfl ?_ | refine j_aload_nN dX9_strand_27 rfl ?_
    refine j_iconst (v := nI 2) dX9_strand_28 (by decide +kernel) ?_
    refine j_dV1 kl_X9_325 (m_refuse H _) dX9_strand_29 rfl rfl (by decide) (Mo.h H) (Nat.le_of_ble_eq_true rfl) (by first | decide | omega) (by omega) (by omega) ?_
    refine j_iret dX9_strand_32 ⟨_, rfl, rfl⟩ (by omega) (by omega) ?_
    exact pubX (by simp [oStrand, *])
  · first | refine j_aload_n dX9_strand_18 rfl ?_ | refine j_aload_nN dX9_strand_18 rfl ?_
    refine j_iload_n dX9_strand_19 rfl ?_
    refine j_i2l dX9_strand_20 ?_
    refine j_dV1 kl_X9_334 (m_isWordAt H hC hW hW8 k) dX9_strand_21 rfl rfl (by decide) (Mo.h H) (Nat.le_of_ble_eq_true rfl) (by first | decide | omega) (by omega) (by omega) ?_
    first | (with_reducible refine j_gB ?_; refine j_if_neB (tgt := 33) dX9_strand_24 (by decide) (fun c_24 => ?_) (fun c_24 => ?_)) | (with_reducible refine j_gC ?_; refine j_if_neC (tgt := 33) dX9_strand_24 (by decide) (fun c_24 => ?_) (fun c_24 => ?_)) | (with_reducible refine j_gN ?_; refine j_if_neN (tgt := 33) dX9_strand_24 (by decide) (by omega) (fun c_24 => ?_) (fun c_24 => ?_)) | refine j_if_ne (tgt := 33) dX9_strand_24 (by decide) (fun c_24 => ?_) (fun c_24 => ?_)
    · refine j_iload_n dX9_strand_33 rfl ?_
      refine j_i2l dX9_strand_34 ?_
      refine j_lconst (v := 0) dX9_strand_35 (by decide +kernel) ?_
      refine j_lconst (v := 1) dX9_strand_36 (by decide +kernel) ?_
      refine j_dS1 kl_X9_102 (k_inL _ _ _) dX9_strand_37 rfl rfl (Nat.le_of_ble_eq_true rfl) (by first | decide | omega) (by omega) (by omega) ?_
      rw [inL_ok (n := 2) (by decide +kernel)]
      first | (with_reducible refine j_gB ?_; refine j_if_neB (tgt := 49) dX9_strand_40 (by decide) (fun c_40 => ?_) (fun c_40 => ?_)) | (with_reducible refine j_gC ?_; refine j_if_neC (tgt := 49) dX9_strand_40 (by decide) (fun c_40 => ?_) (fun c_40 => ?_)) | (with_reducible refine j_gN ?_; refine j_if_neN (tgt := 49) dX9_strand_40 (by decide) (by omega) (fun c_40 => ?_) (fun c_40 => ?_)) | refine j_if_ne (tgt := 49) dX9_strand_40 (by decide) (fun c_40 => ?_) (fun c_40 => ?_)
      · obtain ⟨w, hw5, rfl⟩ := okN_nI c_40
        obtain ⟨p, hp, rfl⟩ := okN_nI c_15
        obtain ⟨k, hk, rfl⟩ := okN_nI c_24
        have ew : ixn (nI w) = w := ixn_nI (by omega)
        have ep : ixn (nI p) = p := ixn_nI (by omega)
        have ek : ixn (nI k) = k := ixn_nI (by omega)
        first | refine j_aload_n dX9_strand_49 rfl ?_ | refine j_aload_nN dX9_strand_49 rfl ?_
        refine j_iload_n dX9_strand_50 rfl ?_
        refine j_iload_n dX9_strand_51 rfl ?_
        refine j_dV1 kl_X9_317 (m_keeps H hC (by omega)) dX9_strand_52 rfl rfl (by decide) (Mo.h H) (Nat.le_of_ble_eq_true rfl) (by first | decide | omega) (by omega) (by omega) ?_
        first | (with_reducible refine j_gB ?_; refine j_if_eqB (tgt := 84) dX9_strand_55 (by decide) (fun c_55 => ?_) (fun c_55 => ?_)) | (with_reducible refine j_gC ?_; refine j_if_eqC (tgt := 84) dX9_strand_55 (by decide) (fun c_55 => ?_) (fun c_55 => ?_)) | (with_reducible refine j_gN ?_; refine j_if_eqN (tgt := 84) dX9_strand_55 (by decide) (by omega) (fun c_55 => ?_) (fun c_55 => ?_)) | refine j_if_eq (tgt := 84) dX9_strand_55 (by decide) (fun c_55 => ?_) (fun c_55 => ?_)
        · first | refine j_aload_n dX9_strand_84 rfl ?_ | refine j_aload_nN dX9_strand_84 rfl ?_
          refine j_bipush (v := nI 8) dX9_strand_85 (by decide +kernel) ?_
          refine j_dV1 kl_X9_325 (m_refuse H _) dX9_strand_87 rfl rfl (by decide) (Mo.h H) (Nat.le_of_ble_eq_true rfl) (by first | decide | omega) (by omega) (by omega) ?_
          refine j_iret dX9_strand_90 ⟨_, rfl, rfl⟩ (by omega) (by omega) ?_
          first
          | exact pubR (by (unfold oStrand; rw [ep, ek, ew, if_pos ⟨c_15, c_24⟩, if_pos c_40, if_pos c_55]; repeat' split) <;> (first | rfl | omega | contradiction | (exfalso; simp_all; done) | (simp_all; done)))
          | exact pubX (by simp [oStrand, *])
        · first | refine j_aload_n dX9_strand_58 rfl ?_ | refine j_aload_nN dX9_strand_58 rfl ?_
          refine j_getR dX9_strand_59 fl_X9_35 rfl (Mo.h H) (Mo.R H _ _ _ rfl) ?_
          refine j_iload_n dX9_strand_62 rfl ?_
          first | (with_reducible refine j_gB ?_; refine j_if_neB (tgt := 71) dX9_strand_63 (by decide) (fun c_63 => ?_) (fun c_63 => ?_)) | (with_reducible refine j_gC ?_; refine j_if_neC (tgt := 71) dX9_strand_63 (by decide) (fun c_63 => ?_) (fun c_63 => ?_)) | (with_reducible refine j_gN ?_; refine j_if_neN (tgt := 71) dX9_strand_63 (by decide) (by omega) (fun c_63 => ?_) (fun c_63 => ?_)) | refine j_if_ne (tgt := 71) dX9_strand_63 (by decide) (fun c_63 => ?_) (fun c_63 => ?_)
          · refine j_bipush (v := nI 97) dX9_strand_71 (by decide +kernel) ?_
            refine j_bipush (v := nI 8) dX9_strand_73 (by decide +kernel) ?_
            refine j_iload_n dX9_strand_75 rfl ?_
            first | (with_reducible refine j_gNN ?_; refine j_imulN dX9_strand_76 ?_) | refine j_imul dX9_strand_76 ?_
            first | (with_reducible refine j_gNN ?_; refine j_iaddN dX9_strand_77 ?_) | refine j_iadd dX9_strand_77 ?_
            refine j_iload_n dX9_strand_78 rfl ?_
            first | (with_reducible refine j_gNN ?_; refine j_iaddN dX9_strand_79 ?_) | refine j_iadd dX9_strand_79 ?_
            refine j_iald dX9_strand_80 (Mo.S H _ _ _ rfl) rfl (by omega) (by decide) (by first | assumption | (rewrite [hC]; first | assumption | rfl) | rfl) ?_
            refine j_goto (tgt := 90) dX9_strand_81 (by decide) ?_
            refine j_iret dX9_strand_90 ⟨_, rfl, rfl⟩ (by omega) (by omega) ?_
            first
            | exact pubR (by (unfold oStrand; rw [ep, ek, ew, if_pos ⟨c_15, c_24⟩, if_pos c_40, if_pos c_55]; repeat' split) <;> (first | rfl | omega | contradiction | (exfalso; simp_all; done) | (simp_all; done)))
            | exact pubX (by simp [oStrand, *])
          · refine j_bipush (v := nI 49) dX9_strand_66 (by decide +kernel) ?_
            refine j_goto (tgt := 73) dX9_strand_68 (by decide) ?_
            refine j_bipush (v := nI 8) dX9_strand_73 (by decide +kernel) ?_
            refine j_iload_n dX9_strand_75 rfl ?_
            first | (with_reducible refine j_gNN ?_; refine j_imulN dX9_strand_76 ?_) | refine j_imul dX9_strand_76 ?_
            first | (with_reducible refine j_gNN ?_; refine j_iaddN dX9_strand_77 ?_) | refine j_iadd dX9_strand_77 ?_
            refine j_iload_n dX9_strand_78 rfl ?_
            first | (with_reducible refine j_gNN ?_; refine j_iaddN dX9_strand_79 ?_) | refine j_iadd dX9_strand_79 ?_
            refine j_iald dX9_strand_80 (Mo.S H _ _ _ rfl) rfl (by omega) (by decide) (by first | assumption | (rewrite [hC]; first | assumption | rfl) | rfl) ?_
            refine j_goto (tgt := 90) dX9_strand_81 (by decide) ?_
            refine j_iret dX9_strand_90 ⟨_, rfl, rfl⟩ (by omega) (by omega) ?_
            first
            | exact pubR (by (unfold oStrand; rw [ep, ek, ew, if_pos ⟨c_15, c_24⟩, if_pos c_40, if_pos c_55]; repeat' split) <;> (first | rfl | omega | contradiction | (exfalso; simp_all; done) | (simp_all; done)))
            | exact pubX (by simp [oStrand, *])
      · first | refine j_aload_n dX9_strand_43 rfl ?_ | refine j_aload_nN dX9_strand_43 rfl ?_
        refine j_iconst (v := nI 5) dX9_strand_44 (by decide +kernel) ?_
        refine j_dV1 kl_X9_325 (m_refuse H _) dX9_strand_45 rfl rfl (by decide) (Mo.h H) (Nat.le_of_ble_eq_true rfl) (by first | decide | omega) (by omega) (by omega) ?_
        refine j_iret dX9_strand_48 ⟨_, rfl, rfl⟩ (by omega) (by omega) ?_
        exact pubX (by simp [oStrand, *])
    · first | refine j_aload_n dX9_strand_27 rfl ?_ | refine j_aload_nN dX9_strand_27 rfl ?_
      refine j_iconst (v := nI 2) dX9_strand_28 (by decide +kernel) ?_
      refine j_dV1 kl_X9_325 (m_refuse H _) dX9_strand_29 rfl rfl (by decide) (Mo.h H) (Nat.le_of_ble_eq_true rfl) (by first | decide | omega) (by omega) (by omega) ?_
      refine j_iret dX9_strand_32 ⟨_, rfl, rfl⟩ (by omega) (by omega) ?_
      exact pubX (by simp [oStrand, *])
theorem o_dinner (H : Mo σ h ad) (hC : σ.2.1 (ad 20) = C) {W P Dn : Nat} (hw : Wd C W P Dn) (d w : Int32) : Kd g l 4 MX9_dinner [.ref h, .int d, .int w] σ (some (.int (oDinner C Dn d w).1)) (mSt σ h (oDinner C Dn d w).2) := by
  obtain ⟨⟨hW, hW8⟩, ⟨hP, hP6⟩, ⟨hD, hD6⟩, hdn⟩ := id hw
  refine Kt.go (Y := MX9_dinner) (ls := [some (.ref h), some (.int d), some (.int w)]) (by decide) (Nat.le_of_ble_eq_true rfl) rfl ?_
  first | refine j_aload_n dX9_dinner_0 rfl ?_ | refine j_aload_nN dX9_dinner_0 rfl ?_
  refine j_iconst (v := nI 0) dX9_dinner_1 (by decide +kernel) ?_
  refine j_putI dX9_dinner_2 fl_X9_67 rfl (Mo.h H) rfl rfl rfl ?_
  first | refine j_aload_n dX9_dinner_5 rfl ?_ | refine j_aload_nN dX9_dinner_5 rfl ?_
  refine j_iconst (v := nI 0) dX9_dinner_6 (by decide +kernel) ?_
  refine j_putI dX9_dinner_7 fl_X9_70 rfl (Mo.h H) rfl rfl rfl ?_
  refine j_eq rfl rfl (σ' := mSt σ h (nI 0)) rfl ?_
  have H0 := H
  have hC0 := hC
  replace hC := (mSt_row (w := nI 0) H0 (k := 20) ⟨_, _, rfl⟩).trans hC0
  replace H : Mo (mSt σ h (nI 0)) h ad := H0
  first | refine j_aload_n dX9_dinner_10 rfl ?_ | refine j_aload_nN dX9_dinner_10 rfl ?_
  refine j_iload_n dX9_dinner_11 rfl ?_
  refine j_dV1 kl_X9_348 (m_isDinnerAt H hC hD hD6 d) dX9_dinner_12 rfl rfl (by decide) (Mo.h H) (Nat.le_of_ble_eq_true rfl) (by first | decide | omega) (by omega) (by omega) ?_
  first | (with_reducible refine j_gB ?_; refine j_if_neB (tgt := 24) dX9_dinner_15 (by decide) (fun c_15 => ?_) (fun c_15 => ?_)) | (with_reducible refine j_gC ?_; refine j_if_neC (tgt := 24) dX9_dinner_15 (by decide) (fun c_15 => ?_) (fun c_15 => ?_)) | (with_reducible refine j_gN ?_; refine j_if_neN (tgt := 24) dX9_dinner_15 (by decide) (by omega) (fun c_15 => ?_) (fun c_15 => ?_)) | refine j_if_ne (tgt := 24) dX9_dinner_15 (by decide) (fun c_15 => ?_) (fun c_15 => ?_)
  · refine j_iload_n dX9_dinner_24 rfl ?_
    refine j_i2l dX9_dinner_25 ?_
    refine j_lconst (v := 0) dX9_dinner_26 (by decide +kernel) ?_
    refine j_ldc2 (v := 2) dX9_dinner_27 q2072 ?_
    refine j_dS1 kl_X9_102 (k_inL _ _ _) dX9_dinner_30 rfl rfl (Nat.le_of_ble_eq_true rfl) (by first | decide | omega) (by omega) (by omega) ?_
    rw [inL_ok (n := 3) (by decide +kernel)]
    first | (with_reducible refine j_gB ?_; refine j_if_eqB (tgt := 54) dX9_dinner_33 (by decide) (fun c_33 => ?_) (fun c_33 => ?_)) | (with_reducible refine j_gC ?_; refine j_if_eqC (tgt := 54) dX9_dinner_33 (by decide) (fun c_33 => ?_) (fun c_33 => ?_)) | (with_reducible refine j_gN ?_; refine j_if_eqN (tgt := 54) dX9_dinner_33 (by decide) (by omega) (fun c_33 => ?_) (fun c_33 => ?_)) | refine j_if_eq (tgt := 54) dX9_dinner_33 (by decide) (fun c_33 => ?_) (fun c_33 => ?_)
    · first | refine j_aload_n dX9_dinner_54 rfl ?_ | refine j_aload_nN dX9_dinner_54 rfl ?_
      refine j_iconst (v := nI 5) dX9_dinner_55 (by decide +kernel) ?_
      refine j_dV1 kl_X9_325 (m_refuse H _) dX9_dinner_56 rfl rfl (by decide) (Mo.h H) (Nat.le_of_ble_eq_true rfl) (by first | decide | omega) (by omega) (by omega) ?_
      refine j_iret dX9_dinner_59 ⟨_, rfl, rfl⟩ (by omega) (by omega) ?_
      first | exact pubR (by simp [oDinner, *]) | exact pubX (by simp [oDinner, *])
    · obtain ⟨w, hw5, rfl⟩ := okN_nI c_33
      obtain ⟨d, hd, rfl⟩ := okN_nI c_15
      have ew : ixn (nI w) = w := ixn_nI (by omega)
      have ed : ixn (nI d) = d := ixn_nI (by omega)
      first | refine j_aload_n dX9_dinner_36 rfl ?_ | refine j_aload_nN dX9_dinner_36 rfl ?_
      refine j_getR dX9_dinner_37 fl_X9_35 rfl (Mo.h H) (Mo.R H _ _ _ rfl) ?_
      refine j_sipush (v := nI 145) dX9_dinner_40 (by decide +kernel) ?_
      refine j_bipush (v := nI 6) dX9_dinner_43 (by decide +kernel) ?_
      refine j_iload_n dX9_dinner_45 rfl ?_
      first | (with_reducible refine j_gNN ?_; refine j_imulN dX9_dinner_46 ?_) | refine j_imul dX9_dinner_46 ?_
      first | (with_reducible refine j_gNN ?_; refine j_iaddN dX9_dinner_47 ?_) | refine j_iadd dX9_dinner_47 ?_
      refine j_iload_n dX9_dinner_48 rfl ?_
      first | (with_reducible refine j_gNN ?_; refine j_iaddN dX9_dinner_49 ?_) | refine j_iadd dX9_dinner_49 ?_
      refine j_iald dX9_dinner_50 (Mo.S H _ _ _ rfl) rfl (by omega) (by decide) (by first | assumption | (rewrite [hC]; first | assumption | rfl) | rfl) ?_
      refine j_goto (tgt := 59) dX9_dinner_51 (by decide) ?_
      refine j_iret dX9_dinner_59 ⟨_, rfl, rfl⟩ (by omega) (by omega) ?_
      first | exact pubR (by simp [oDinner, *]) | exact pubX (by simp [oDinner, *])
  · first | refine j_aload_n dX9_dinner_18 rfl ?_ | refine j_aload_nN dX9_dinner_18 rfl ?_
    refine j_iconst (v := nI 2) dX9_dinner_19 (by decide +kernel) ?_
    refine j_dV1 kl_X9_325 (m_refuse H _) dX9_dinner_20 rfl rfl (by decide) (Mo.h H) (Nat.le_of_ble_eq_true rfl) (by first | decide | omega) (by omega) (by omega) ?_
    refine j_iret dX9_dinner_23 ⟨_, rfl, rfl⟩ (by omega) (by omega) ?_
    exact pubX (by simp [oDinner, *])
theorem o_longest (H : Mo σ h ad) (hC : σ.2.1 (ad 20) = C) {W P Dn : Nat} (hw : Wd C W P Dn) (p : Int32) : Kd g l 4 MX9_longest [.ref h, .int p] σ (some (.int (oLongest C W P p).1)) (mSt σ h (oLongest C W P p).2) := by
  obtain ⟨⟨hW, hW8⟩, ⟨hP, hP6⟩, ⟨hD, hD6⟩, hdn⟩ := id hw
  refine Kt.go (Y := MX9_longest) (ls := [some (.ref h), some (.int p), none]) (by decide) (Nat.le_of_ble_eq_true rfl) rfl ?_
  first | refine j_aload_n dX9_longest_0 rfl ?_ | refine j_aload_nN dX9_longest_0 rfl ?_
  refine j_iconst (v := nI 0) dX9_longest_1 (by decide +kernel) ?_
  refine j_putI dX9_longest_2 fl_X9_67 rfl (Mo.h H) rfl rfl rfl ?_
  first | refine j_aload_n dX9_longest_5 rfl ?_ | refine j_aload_nN dX9_longest_5 rfl ?_
  refine j_iconst (v := nI 0) dX9_longest_6 (by decide +kernel) ?_
  refine j_putI dX9_longest_7 fl_X9_70 rfl (Mo.h H) rfl rfl rfl ?_
  refine j_eq rfl rfl (σ' := mSt σ h (nI 0)) rfl ?_
  have H0 := H
  have hC0 := hC
  replace hC := (mSt_row (w := nI 0) H0 (k := 20) ⟨_, _, rfl⟩).trans hC0
  replace H : Mo (mSt σ h (nI 0)) h ad := H0
  first | refine j_aload_n dX9_longest_10 rfl ?_ | refine j_aload_nN dX9_longest_10 rfl ?_
  refine j_iload_n dX9_longest_11 rfl ?_
  refine j_dV1 kl_X9_345 (m_isPersonAt H hC hP hP6 p) dX9_longest_12 rfl rfl (by decide) (Mo.h H) (Nat.le_of_ble_eq_true rfl) (by first | decide | omega) (by omega) (by omega) ?_
  first | (with_reducible refine j_gB ?_; refine j_if_neB (tgt := 24) dX9_longest_15 (by decide) (fun c_15 => ?_) (fun c_15 => ?_)) | (with_reducible refine j_gC ?_; refine j_if_neC (tgt := 24) dX9_longest_15 (by decide) (fun c_15 => ?_) (fun c_15 => ?_)) | (with_reducible refine j_gN ?_; refine j_if_neN (tgt := 24) dX9_longest_15 (by decide) (by omega) (fun c_15 => ?_) (fun c_15 => ?_)) | refine j_if_ne (tgt := 24) dX9_longest_15 (by decide) (fun c_15 => ?_) (fun c_15 => ?_)
  · obtain ⟨p, hp, rfl⟩ := okN_nI c_15
    have ep : ixn (nI p) = p := ixn_nI (by omega)
    first | refine j_aload_n dX9_longest_24 rfl ?_ | refine j_aload_nN dX9_longest_24 rfl ?_
    refine j_iload_n dX9_longest_25 rfl ?_
    first | refine j_aload_n dX9_longest_26 rfl ?_ | refine j_aload_nN dX9_longest_26 rfl ?_
    refine j_getR dX9_longest_27 fl_X9_35 rfl (Mo.h H) (Mo.R H _ _ _ rfl) ?_
    refine j_bipush (v := nI 43) dX9_longest_30 (by decide +kernel) ?_
    refine j_iload_n dX9_longest_32 rfl ?_
    first | (with_reducible refine j_gNN ?_; refine j_iaddN dX9_longest_33 ?_) | refine j_iadd dX9_longest_33 ?_
    refine j_iald dX9_longest_34 (Mo.S H _ _ _ rfl) rfl (by omega) (by decide) (by first | assumption | (rewrite [hC]; first | assumption | rfl) | rfl) ?_
    refine j_dV1 kl_X9_353 (m_longestOf H hC hW hW8 (by omega)) dX9_longest_35 rfl rfl (by decide) (Mo.h H) (Nat.le_of_ble_eq_true rfl) (by first | decide | omega) (by omega) (by omega) ?_
    refine j_istore_n dX9_longest_38 (by decide) ?_
    refine j_iload_n dX9_longest_39 rfl ?_
    first | (with_reducible refine j_gC ?_; refine j_if_geC (tgt := 52) dX9_longest_40 (by decide) (fun c_40 => ?_) (fun c_40 => ?_)) | refine j_if_ge (tgt := 52) dX9_longest_40 (by decide) (fun c_40 => ?_) (fun c_40 => ?_)
    · refine j_iload_n dX9_longest_52 rfl ?_
      refine j_iret dX9_longest_53 ⟨_, rfl, rfl⟩ (by omega) (by omega) ?_
      cases e : mLongest C W p (C (43 + p)) with
      | none =>
        rw [e] at c_40
        first
        | exact absurd c_40 (by decide +kernel)
        | exact pubX (by simp [oLongest, *])
      | some k =>
        rw [e] at c_40
        have hk := lgo_lt _ _ e
        first
        | exact absurd (Int32.not_lt.mp (nI_pos (by omega))) c_40
        | exact pubR (o := oLongest C W P (nI p)) (v := nI k) (by unfold oLongest; rw [if_pos c_15, ep, e])
    · first | refine j_aload_n dX9_longest_43 rfl ?_ | refine j_aload_nN dX9_longest_43 rfl ?_
      refine j_bipush (v := nI 8) dX9_longest_44 (by decide +kernel) ?_
      refine j_dV1 kl_X9_325 (m_refuse H _) dX9_longest_46 rfl rfl (by decide) (Mo.h H) (Nat.le_of_ble_eq_true rfl) (by first | decide | omega) (by omega) (by omega) ?_
      refine j_goto (tgt := 53) dX9_longest_49 (by decide) ?_
      refine j_iret dX9_longest_53 ⟨_, rfl, rfl⟩ (by omega) (by omega) ?_
      cases e : mLongest C W p (C (43 + p)) with
      | none =>
        rw [e] at c_40
        first
        | exact absurd c_40 (by decide +kernel)
        | exact pubX (by simp [oLongest, *])
      | some k =>
        rw [e] at c_40
        have hk := lgo_lt _ _ e
        first
        | exact absurd (Int32.not_lt.mp (nI_pos (by omega))) c_40
        | exact pubR (o := oLongest C W P (nI p)) (v := nI k) (by unfold oLongest; rw [if_pos c_15, ep, e])
  · first | refine j_aload_n dX9_longest_18 rfl ?_ | refine j_aload_nN dX9_longest_18 rfl ?_
    refine j_iconst (v := nI 2) dX9_longest_19 (by decide +kernel) ?_
    refine j_dV1 kl_X9_325 (m_refuse H _) dX9_longest_20 rfl rfl (by decide) (Mo.h H) (Nat.le_of_ble_eq_true rfl) (by first | decide | omega) (by omega) (by omega) ?_
    refine j_iret dX9_longest_23 ⟨_, rfl, rfl⟩ (by omega) (by omega) ?_
    exact pubX (by simp [oLongest, *])
theorem o_quiet (H : Mo σ h ad) (hC : σ.2.1 (ad 20) = C) {W P Dn : Nat} (hw : Wd C W P Dn) (hK : ∀ p, p < P → ∃ s, C (43 + p) = nI s ∧ s < 256) (p n : Int32) : Kd g l 4 MX9_quiet [.ref h, .int p, .int n] σ (some (.int (oQuiet C W P p n).1)) (mSt σ h (oQuiet C W P p n).2) := by
  obtain ⟨⟨hW, hW8⟩, ⟨hP, hP6⟩, ⟨hD, hD6⟩, hdn⟩ := id hw
  refine Kt.go (Y := MX9_quiet) (ls := [some (.ref h), some (.int p), some (.int n)]) (by decide) (Nat.le_of_ble_eq_true rfl) rfl ?_
  first | refine j_aload_n dX9_quiet_0 rfl ?_ | refine j_aload_nN dX9_quiet_0 rfl ?_
  refine j_iconst (v := nI 0) dX9_quiet_1 (by decide +kernel) ?_
  refine j_putI dX9_quiet_2 fl_X9_67 rfl (Mo.h H) rfl rfl rfl ?_
  first | refine j_aload_n dX9_quiet_5 rfl ?_ | refine j_aload_nN dX9_quiet_5 rfl ?_
  refine j_iconst (v := nI 0) dX9_quiet_6 (by decide +kernel) ?_
  refine j_putI dX9_quiet_7 fl_X9_70 rfl (Mo.h H) rfl rfl rfl ?_
  refine j_eq rfl rfl (σ' := mSt σ h (nI 0)) rfl ?_
  have H0 := H
  have hC0 := hC
  replace hC := (mSt_row (w := nI 0) H0 (k := 20) ⟨_, _, rfl⟩).trans hC0
  replace H : Mo (mSt σ h (nI 0)) h ad := H0
  first | refine j_aload_n dX9_quiet_10 rfl ?_ | refine j_aload_nN dX9_quiet_10 rfl ?_
  refine j_iload_n dX9_quiet_11 rfl ?_
  refine j_dV1 kl_X9_345 (m_isPersonAt H hC hP hP6 p) dX9_quiet_12 rfl rfl (by decide) (Mo.h H) (Nat.le_of_ble_eq_true rfl) (by first | decide | omega) (by omega) (by omega) ?_
  first | (with_reducible refine j_gB ?_; refine j_if_neB (tgt := 24) dX9_quiet_15 (by decide) (fun c_15 => ?_) (fun c_15 => ?_)) | (with_reducible refine j_gC ?_; refine j_if_neC (tgt := 24) dX9_quiet_15 (by decide) (fun c_15 => ?_) (fun c_15 => ?_)) | (with_reducible refine j_gN ?_; refine j_if_neN (tgt := 24) dX9_quiet_15 (by decide) (by omega) (fun c_15 => ?_) (fun c_15 => ?_)) | refine j_if_ne (tgt := 24) dX9_quiet_15 (by decide) (fun c_15 => ?_) (fun c_15 => ?_)
  · obtain ⟨p, hp, rfl⟩ := okN_nI c_15
    have ep : ixn (nI p) = p := ixn_nI (by omega)
    obtain ⟨s, hs, hs8⟩ := hK p hp
    refine j_iload_n dX9_quiet_24 rfl ?_
    refine j_dS1 kl_X9_409 (m_isAhead n) dX9_quiet_25 rfl rfl (Nat.le_of_ble_eq_true rfl) (by first | decide | omega) (by omega) (by omega) ?_
    rw [inL_ok (n := 201) (by decide +kernel)]
    first | (with_reducible refine j_gB ?_; refine j_if_eqB (tgt := 40) dX9_quiet_28 (by decide) (fun c_28 => ?_) (fun c_28 => ?_)) | (with_reducible refine j_gC ?_; refine j_if_eqC (tgt := 40) dX9_quiet_28 (by decide) (fun c_28 => ?_) (fun c_28 => ?_)) | (with_reducible refine j_gN ?_; refine j_if_eqN (tgt := 40) dX9_quiet_28 (by decide) (by omega) (fun c_28 => ?_) (fun c_28 => ?_)) | refine j_if_eq (tgt := 40) dX9_quiet_28 (by decide) (fun c_28 => ?_) (fun c_28 => ?_)
    · first | refine j_aload_n dX9_quiet_40 rfl ?_ | refine j_aload_nN dX9_quiet_40 rfl ?_
      refine j_iconst (v := nI 5) dX9_quiet_41 (by decide +kernel) ?_
      refine j_dV1 kl_X9_325 (m_refuse H _) dX9_quiet_42 rfl rfl (by decide) (Mo.h H) (Nat.le_of_ble_eq_true rfl) (by first | decide | omega) (by omega) (by omega) ?_
      refine j_iret dX9_quiet_45 ⟨_, rfl, rfl⟩ (by omega) (by omega) ?_
      first
      | exact pubR (by rw [oQuiet, if_pos c_15, if_pos c_28, ep, hs, ixn_nI (by omega)])
      | exact pubX (by simp [oQuiet, *])
    · first | refine j_aload_n dX9_quiet_31 rfl ?_ | refine j_aload_nN dX9_quiet_31 rfl ?_
      refine j_iload_n dX9_quiet_32 rfl ?_
      refine j_iload_n dX9_quiet_33 rfl ?_
      refine j_dV1 kl_X9_428 (m_quietest H hC hW hW8 (by omega) hs hs8 n) dX9_quiet_34 rfl rfl (by decide) (Mo.h H) (Nat.le_of_ble_eq_true rfl) (by first | decide | omega) (by omega) (by omega) ?_
      refine j_goto (tgt := 45) dX9_quiet_37 (by decide) ?_
      refine j_iret dX9_quiet_45 ⟨_, rfl, rfl⟩ (by omega) (by omega) ?_
      first
      | exact pubR (by rw [oQuiet, if_pos c_15, if_pos c_28, ep, hs, ixn_nI (by omega)])
      | exact pubX (by simp [oQuiet, *])
  · first | refine j_aload_n dX9_quiet_18 rfl ?_ | refine j_aload_nN dX9_quiet_18 rfl ?_
    refine j_iconst (v := nI 2) dX9_quiet_19 (by decide +kernel) ?_
    refine j_dV1 kl_X9_325 (m_refuse H _) dX9_quiet_20 rfl rfl (by decide) (Mo.h H) (Nat.le_of_ble_eq_true rfl) (by first | decide | omega) (by omega) (by omega) ?_
    refine j_iret dX9_quiet_23 ⟨_, rfl, rfl⟩ (by omega) (by omega) ?_
    exact pubX (by simp [oQuiet, *])
theorem o_quietHair (H : Mo σ h ad) (hC : σ.2.1 (ad 20) = C) {W P Dn : Nat} (hw : Wd C W P Dn) (hK : ∀ p, p < P → ∃ s, C (43 + p) = nI s ∧ s < 256) (p n : Int32) : Kd g l 4 MX9_quietHair [.ref h, .int p, .int n] σ (some (.int (oQuietHair C W P p n).1)) (mSt σ h (oQuietHair C W P p n).2) := by
  obtain ⟨⟨hW, hW8⟩, ⟨hP, hP6⟩, ⟨hD, hD6⟩, hdn⟩ := id hw
  refine Kt.go (Y := MX9_quietHair) (ls := [some (.ref h), some (.int p), some (.int n)]) (by decide) (Nat.le_of_ble_eq_true rfl) rfl ?_
  first | refine j_aload_n dX9_quietHair_0 rfl ?_ | refine j_aload_nN dX9_quietHair_0 rfl ?_
  refine j_iconst (v := nI 0) dX9_quietHair_1 (by decide +kernel) ?_
  refine j_putI dX9_quietHair_2 fl_X9_67 rfl (Mo.h H) rfl rfl rfl ?_
  first | refine j_aload_n dX9_quietHair_5 rfl ?_ | refine j_aload_nN dX9_quietHair_5 rfl ?_
  refine j_iconst (v := nI 0) dX9_quietHair_6 (by decide +kernel) ?_
  refine j_putI dX9_quietHair_7 fl_X9_70 rfl (Mo.h H) rfl rfl rfl ?_
  refine j_eq rfl rfl (σ' := mSt σ h (nI 0)) rfl ?_
  have H0 := H
  have hC0 := hC
  replace hC := (mSt_row (w := nI 0) H0 (k := 20) ⟨_, _, rfl⟩).trans hC0
  replace H : Mo (mSt σ h (nI 0)) h ad := H0
  first | refine j_aload_n dX9_quietHair_10 rfl ?_ | refine j_aload_nN dX9_quietHair_10 rfl ?_
  refine j_iload_n dX9_quietHair_11 rfl ?_
  refine j_dV1 kl_X9_345 (m_isPersonAt H hC hP hP6 p) dX9_quietHair_12 rfl rfl (by decide) (Mo.h H) (Nat.le_of_ble_eq_true rfl) (by first | decide | omega) (by omega) (by omega) ?_
  first | (with_reducible refine j_gB ?_; refine j_if_neB (tgt := 24) dX9_quietHair_15 (by decide) (fun c_15 => ?_) (fun c_15 => ?_)) | (with_reducible refine j_gC ?_; refine j_if_neC (tgt := 24) dX9_quietHair_15 (by decide) (fun c_15 => ?_) (fun c_15 => ?_)) | (with_reducible refine j_gN ?_; refine j_if_neN (tgt := 24) dX9_quietHair_15 (by decide) (by omega) (fun c_15 => ?_) (fun c_15 => ?_)) | refine j_if_ne (tgt := 24) dX9_quietHair_15 (by decide) (fun c_15 => ?_) (fun c_15 => ?_)
  · obtain ⟨p, hp, rfl⟩ := okN_nI c_15
    have ep : ixn (nI p) = p := ixn_nI (by omega)
    obtain ⟨s, hs, hs8⟩ := hK p hp
    refine j_iload_n dX9_quietHair_24 rfl ?_
    refine j_dS1 kl_X9_409 (m_isAhead n) dX9_quietHair_25 rfl rfl (Nat.le_of_ble_eq_true rfl) (by first | decide | omega) (by omega) (by omega) ?_
    rw [inL_ok (n := 201) (by decide +kernel)]
    first | (with_reducible refine j_gB ?_; refine j_if_eqB (tgt := 46) dX9_quietHair_28 (by decide) (fun c_28 => ?_) (fun c_28 => ?_)) | (with_reducible refine j_gC ?_; refine j_if_eqC (tgt := 46) dX9_quietHair_28 (by decide) (fun c_28 => ?_) (fun c_28 => ?_)) | (with_reducible refine j_gN ?_; refine j_if_eqN (tgt := 46) dX9_quietHair_28 (by decide) (by omega) (fun c_28 => ?_) (fun c_28 => ?_)) | refine j_if_eq (tgt := 46) dX9_quietHair_28 (by decide) (fun c_28 => ?_) (fun c_28 => ?_)
    · first | refine j_aload_n dX9_quietHair_46 rfl ?_ | refine j_aload_nN dX9_quietHair_46 rfl ?_
      refine j_iconst (v := nI 5) dX9_quietHair_47 (by decide +kernel) ?_
      refine j_dV1 kl_X9_325 (m_refuse H _) dX9_quietHair_48 rfl rfl (by decide) (Mo.h H) (Nat.le_of_ble_eq_true rfl) (by first | decide | omega) (by omega) (by omega) ?_
      refine j_iret dX9_quietHair_51 ⟨_, rfl, rfl⟩ (by omega) (by omega) ?_
      first
      | exact pubR (by rw [oQuietHair, if_pos c_15, if_pos c_28, ep, hs, ixn_nI (by omega)])
      | exact pubX (by simp [oQuietHair, *])
    · first | refine j_aload_n dX9_quietHair_31 rfl ?_ | refine j_aload_nN dX9_quietHair_31 rfl ?_
      refine j_iload_n dX9_quietHair_32 rfl ?_
      first | refine j_aload_n dX9_quietHair_33 rfl ?_ | refine j_aload_nN dX9_quietHair_33 rfl ?_
      refine j_iload_n dX9_quietHair_34 rfl ?_
      refine j_iload_n dX9_quietHair_35 rfl ?_
      refine j_dV1 kl_X9_428 (m_quietest H hC hW hW8 (by omega) hs hs8 n) dX9_quietHair_36 rfl rfl (by decide) (Mo.h H) (Nat.le_of_ble_eq_true rfl) (by first | decide | omega) (by omega) (by omega) ?_
      refine j_iload_n dX9_quietHair_39 rfl ?_
      refine j_dV1 kl_X9_425 (m_hairBy H hC hW hW8 (by omega) _ n) dX9_quietHair_40 rfl rfl (by decide) (Mo.h H) (Nat.le_of_ble_eq_true rfl) (by first | decide | omega) (by omega) (by omega) ?_
      refine j_goto (tgt := 51) dX9_quietHair_43 (by decide) ?_
      refine j_iret dX9_quietHair_51 ⟨_, rfl, rfl⟩ (by omega) (by omega) ?_
      first
      | exact pubR (by rw [oQuietHair, if_pos c_15, if_pos c_28, ep, hs, ixn_nI (by omega)])
      | exact pubX (by simp [oQuietHair, *])
  · first | refine j_aload_n dX9_quietHair_18 rfl ?_ | refine j_aload_nN dX9_quietHair_18 rfl ?_
    refine j_iconst (v := nI 2) dX9_quietHair_19 (by decide +kernel) ?_
    refine j_dV1 kl_X9_325 (m_refuse H _) dX9_quietHair_20 rfl rfl (by decide) (Mo.h H) (Nat.le_of_ble_eq_true rfl) (by first | decide | omega) (by omega) (by omega) ?_
    refine j_iret dX9_quietHair_23 ⟨_, rfl, rfl⟩ (by omega) (by omega) ?_
    exact pubX (by simp [oQuietHair, *])
theorem o_lengthOf (H : Mo σ h ad) (hC : σ.2.1 (ad 20) = C) {W P Dn : Nat} (hw : Wd C W P Dn) (s n : Int32) : Kd g l 4 MX9_lengthOf [.ref h, .int s, .int n] σ (some (.int (oLengthOf C W s n).1)) (mSt σ h (oLengthOf C W s n).2) := by
  obtain ⟨⟨hW, hW8⟩, ⟨hP, hP6⟩, ⟨hD, hD6⟩, hdn⟩ := id hw
  refine Kt.go (Y := MX9_lengthOf) (ls := [some (.ref h), some (.int s), some (.int n)]) (by decide) (Nat.le_of_ble_eq_true rfl) rfl ?_
  first | refine j_aload_n dX9_lengthOf_0 rfl ?_ | refine j_aload_nN dX9_lengthOf_0 rfl ?_
  refine j_iconst (v := nI 0) dX9_lengthOf_1 (by decide +kernel) ?_
  refine j_putI dX9_lengthOf_2 fl_X9_67 rfl (Mo.h H) rfl rfl rfl ?_
  first | refine j_aload_n dX9_lengthOf_5 rfl ?_ | refine j_aload_nN dX9_lengthOf_5 rfl ?_
  refine j_iconst (v := nI 0) dX9_lengthOf_6 (by decide +kernel) ?_
  refine j_putI dX9_lengthOf_7 fl_X9_70 rfl (Mo.h H) rfl rfl rfl ?_
  refine j_eq rfl rfl (σ' := mSt σ h (nI 0)) rfl ?_
  have H0 := H
  have hC0 := hC
  replace hC := (mSt_row (w := nI 0) H0 (k := 20) ⟨_, _, rfl⟩).trans hC0
  replace H : Mo (mSt σ h (nI 0)) h ad := H0
  first | refine j_aload_n dX9_lengthOf_10 rfl ?_ | refine j_aload_nN dX9_lengthOf_10 rfl ?_
  refine j_iload_n dX9_lengthOf_11 rfl ?_
  refine j_dV1 kl_X9_464 (m_areWords H hC hW hW8 s) dX9_lengthOf_12 rfl rfl (by decide) (Mo.h H) (Nat.le_of_ble_eq_true rfl) (by first | decide | omega) (by omega) (by omega) ?_
  first | (with_reducible refine j_gB ?_; refine j_if_eqB (tgt := 39) dX9_lengthOf_15 (by decide) (fun c_15 => ?_) (fun c_15 => ?_)) | (with_reducible refine j_gC ?_; refine j_if_eqC (tgt := 39) dX9_lengthOf_15 (by decide) (fun c_15 => ?_) (fun c_15 => ?_)) | (with_reducible refine j_gN ?_; refine j_if_eqN (tgt := 39) dX9_lengthOf_15 (by decide) (by omega) (fun c_15 => ?_) (fun c_15 => ?_)) | refine j_if_eq (tgt := 39) dX9_lengthOf_15 (by decide) (fun c_15 => ?_) (fun c_15 => ?_)
  · first | refine j_aload_n dX9_lengthOf_39 rfl ?_ | refine j_aload_nN dX9_lengthOf_39 rfl ?_
    refine j_iconst (v := nI 5) dX9_lengthOf_40 (by decide +kernel) ?_
    refine j_dV1 kl_X9_325 (m_refuse H _) dX9_lengthOf_41 rfl rfl (by decide) (Mo.h H) (Nat.le_of_ble_eq_true rfl) (by first | decide | omega) (by omega) (by omega) ?_
    refine j_iret dX9_lengthOf_44 ⟨_, rfl, rfl⟩ (by omega) (by omega) ?_
    first
    | exact pubR (by rw [oLengthOf, if_pos ⟨c_15, c_27⟩])
    | exact pubX (by simp [oLengthOf, *])
  · refine j_iload_n dX9_lengthOf_18 rfl ?_
    refine j_i2l dX9_lengthOf_19 ?_
    refine j_lconst (v := 0) dX9_lengthOf_20 (by decide +kernel) ?_
    refine j_ldc2 (v := 999) dX9_lengthOf_21 q2152 ?_
    refine j_dS1 kl_X9_102 (k_inL _ _ _) dX9_lengthOf_24 rfl rfl (Nat.le_of_ble_eq_true rfl) (by first | decide | omega) (by omega) (by omega) ?_
    rw [inL_ok (n := 1000) (by decide +kernel)]
    first | (with_reducible refine j_gB ?_; refine j_if_eqB (tgt := 39) dX9_lengthOf_27 (by decide) (fun c_27 => ?_) (fun c_27 => ?_)) | (with_reducible refine j_gC ?_; refine j_if_eqC (tgt := 39) dX9_lengthOf_27 (by decide) (fun c_27 => ?_) (fun c_27 => ?_)) | (with_reducible refine j_gN ?_; refine j_if_eqN (tgt := 39) dX9_lengthOf_27 (by decide) (by omega) (fun c_27 => ?_) (fun c_27 => ?_)) | refine j_if_eq (tgt := 39) dX9_lengthOf_27 (by decide) (fun c_27 => ?_) (fun c_27 => ?_)
    · first | refine j_aload_n dX9_lengthOf_39 rfl ?_ | refine j_aload_nN dX9_lengthOf_39 rfl ?_
      refine j_iconst (v := nI 5) dX9_lengthOf_40 (by decide +kernel) ?_
      refine j_dV1 kl_X9_325 (m_refuse H _) dX9_lengthOf_41 rfl rfl (by decide) (Mo.h H) (Nat.le_of_ble_eq_true rfl) (by first | decide | omega) (by omega) (by omega) ?_
      refine j_iret dX9_lengthOf_44 ⟨_, rfl, rfl⟩ (by omega) (by omega) ?_
      first
      | exact pubR (by rw [oLengthOf, if_pos ⟨c_15, c_27⟩])
      | exact pubX (by simp [oLengthOf, *])
    · first | refine j_aload_n dX9_lengthOf_30 rfl ?_ | refine j_aload_nN dX9_lengthOf_30 rfl ?_
      refine j_iload_n dX9_lengthOf_31 rfl ?_
      refine j_iload_n dX9_lengthOf_32 rfl ?_
      refine j_dV1 kl_X9_443 (m_grown H hC hW hW8 s n) dX9_lengthOf_33 rfl rfl (by decide) (Mo.h H) (Nat.le_of_ble_eq_true rfl) (by first | decide | omega) (by omega) (by omega) ?_
      refine j_goto (tgt := 44) dX9_lengthOf_36 (by decide) ?_
      refine j_iret dX9_lengthOf_44 ⟨_, rfl, rfl⟩ (by omega) (by omega) ?_
      first
      | exact pubR (by rw [oLengthOf, if_pos ⟨c_15, c_27⟩])
      | exact pubX (by simp [oLengthOf, *])
theorem o_daysFor (H : Mo σ h ad) (hC : σ.2.1 (ad 20) = C) {W P Dn : Nat} (hw : Wd C W P Dn) (s n : Int32) : Kd g l 4 MX9_daysFor [.ref h, .int s, .int n] σ (some (.int (oDaysFor C W s n).1)) (mSt σ h (oDaysFor C W s n).2) := by
  obtain ⟨⟨hW, hW8⟩, ⟨hP, hP6⟩, ⟨hD, hD6⟩, hdn⟩ := id hw
  refine Kt.go (Y := MX9_daysFor) (ls := [some (.ref h), some (.int s), some (.int n), none]) (by decide) (Nat.le_of_ble_eq_true rfl) rfl ?_
  first | refine j_aload_n dX9_daysFor_0 rfl ?_ | refine j_aload_nN dX9_daysFor_0 rfl ?_
  refine j_iconst (v := nI 0) dX9_daysFor_1 (by decide +kernel) ?_
  refine j_putI dX9_daysFor_2 fl_X9_67 rfl (Mo.h H) rfl rfl rfl ?_
  first | refine j_aload_n dX9_daysFor_5 rfl ?_ | refine j_aload_nN dX9_daysFor_5 rfl ?_
  refine j_iconst (v := nI 0) dX9_daysFor_6 (by decide +kernel) ?_
  refine j_putI dX9_daysFor_7 fl_X9_70 rfl (Mo.h H) rfl rfl rfl ?_
  refine j_eq rfl rfl (σ' := mSt σ h (nI 0)) rfl ?_
  have H0 := H
  have hC0 := hC
  replace hC := (mSt_row (w := nI 0) H0 (k := 20) ⟨_, _, rfl⟩).trans hC0
  replace H : Mo (mSt σ h (nI 0)) h ad := H0
  have key : okN s (2 ^ W) = true → okN n 10000 = true → ∀ j, j ≤ 100 → fUp (fun t => decide (n ≤ mGrown C W s (nI t))) j = none → Td g l 4 MX9_daysFor [.ref h, .int s, .int n] (mSt σ h (oDaysFor C W s n).2) (some (.int (oDaysFor C W s n).1)) 38 [some (.ref h), some (.int s), some (.int n), some (.int (nI j))] [] (mSt σ h (nI 0)) := by
    intro e1 e2
    refine loop_up fun j hj ih => ?_
    intro hf
    refine j_iload_n dX9_daysFor_38 rfl ?_
    refine j_bipush (v := nI 99) dX9_daysFor_39 (by decide +kernel) ?_
    first | (with_reducible refine j_gNN ?_; refine j_icmp_gtN (tgt := 62) dX9_daysFor_41 (by decide) (by omega) (by omega) (fun c_41 => ?_) (fun c_41 => ?_)) | refine j_icmp_gt (tgt := 62) dX9_daysFor_41 (by decide) (fun c_41 => ?_) (fun c_41 => ?_)
    · first | refine j_aload_n dX9_daysFor_62 rfl ?_ | refine j_aload_nN dX9_daysFor_62 rfl ?_
      refine j_bipush (v := nI 8) dX9_daysFor_63 (by decide +kernel) ?_
      refine j_dV1 kl_X9_325 (m_refuse H _) dX9_daysFor_65 rfl rfl (by decide) (Mo.h H) (Nat.le_of_ble_eq_true rfl) (by first | decide | omega) (by omega) (by omega) ?_
      refine j_iret dX9_daysFor_68 ⟨_, rfl, rfl⟩ (by omega) (by omega) ?_
      exact pubX (by rw [oDaysFor, if_pos ⟨e1, e2⟩, show (100 : Nat) = j by omega, hf])
    · first | refine j_aload_n dX9_daysFor_44 rfl ?_ | refine j_aload_nN dX9_daysFor_44 rfl ?_
      refine j_iload_n dX9_daysFor_45 rfl ?_
      refine j_iload_n dX9_daysFor_46 rfl ?_
      refine j_dV1 kl_X9_443 (m_grown H hC hW hW8 s (nI j)) dX9_daysFor_47 rfl rfl (by decide) (Mo.h H) (Nat.le_of_ble_eq_true rfl) (by first | decide | omega) (by omega) (by omega) ?_
      refine j_iload_n dX9_daysFor_50 rfl ?_
      first | (with_reducible refine j_gNN ?_; refine j_icmp_ltN (tgt := 56) dX9_daysFor_51 (by decide) (by omega) (by omega) (fun c_51 => ?_) (fun c_51 => ?_)) | refine j_icmp_lt (tgt := 56) dX9_daysFor_51 (by decide) (fun c_51 => ?_) (fun c_51 => ?_)
      · first | refine j_iincN dX9_daysFor_56 rfl (by decide) ?_ | refine j_iinc dX9_daysFor_56 rfl rfl (by decide) ?_
        refine j_goto (tgt := 38) dX9_daysFor_59 (by decide) ?_
        exact ih (by omega) (by rw [fUp, hf, decide_eq_false (Int32.not_le.mpr c_51)]; rfl)
      · refine j_iload_n dX9_daysFor_54 rfl ?_
        refine j_iret dX9_daysFor_55 ⟨_, rfl, rfl⟩ (by omega) (by omega) ?_
        exact pubR (by rw [oDaysFor, if_pos ⟨e1, e2⟩, fUp_le (j := j + 1) (k := j) (by rw [fUp, hf, decide_eq_true (Int32.not_lt.mp c_51)]; rfl) (by omega)])
  first | refine j_aload_n dX9_daysFor_10 rfl ?_ | refine j_aload_nN dX9_daysFor_10 rfl ?_
  refine j_iload_n dX9_daysFor_11 rfl ?_
  refine j_dV1 kl_X9_464 (m_areWords H hC hW hW8 s) dX9_daysFor_12 rfl rfl (by decide) (Mo.h H) (Nat.le_of_ble_eq_true rfl) (by first | decide | omega) (by omega) (by omega) ?_
  first | (with_reducible refine j_gB ?_; refine j_if_eqB (tgt := 30) dX9_daysFor_15 (by decide) (fun c_15 => ?_) (fun c_15 => ?_)) | (with_reducible refine j_gC ?_; refine j_if_eqC (tgt := 30) dX9_daysFor_15 (by decide) (fun c_15 => ?_) (fun c_15 => ?_)) | (with_reducible refine j_gN ?_; refine j_if_eqN (tgt := 30) dX9_daysFor_15 (by decide) (by omega) (fun c_15 => ?_) (fun c_15 => ?_)) | refine j_if_eq (tgt := 30) dX9_daysFor_15 (by decide) (fun c_15 => ?_) (fun c_15 => ?_)
  · first | refine j_aload_n dX9_daysFor_30 rfl ?_ | refine j_aload_nN dX9_daysFor_30 rfl ?_
    refine j_iconst (v := nI 5) dX9_daysFor_31 (by decide +kernel) ?_
    refine j_dV1 kl_X9_325 (m_refuse H _) dX9_daysFor_32 rfl rfl (by decide) (Mo.h H) (Nat.le_of_ble_eq_true rfl) (by first | decide | omega) (by omega) (by omega) ?_
    refine j_iret dX9_daysFor_35 ⟨_, rfl, rfl⟩ (by omega) (by omega) ?_
    exact pubX (by simp [oDaysFor, *])
  · refine j_iload_n dX9_daysFor_18 rfl ?_
    refine j_i2l dX9_daysFor_19 ?_
    refine j_lconst (v := 0) dX9_daysFor_20 (by decide +kernel) ?_
    refine j_ldc2 (v := 9999) dX9_daysFor_21 q2293 ?_
    refine j_dS1 kl_X9_102 (k_inL _ _ _) dX9_daysFor_24 rfl rfl (Nat.le_of_ble_eq_true rfl) (by first | decide | omega) (by omega) (by omega) ?_
    rw [inL_ok (n := 10000) (by decide +kernel)]
    first | (with_reducible refine j_gB ?_; refine j_if_neB (tgt := 36) dX9_daysFor_27 (by decide) (fun c_27 => ?_) (fun c_27 => ?_)) | (with_reducible refine j_gC ?_; refine j_if_neC (tgt := 36) dX9_daysFor_27 (by decide) (fun c_27 => ?_) (fun c_27 => ?_)) | (with_reducible refine j_gN ?_; refine j_if_neN (tgt := 36) dX9_daysFor_27 (by decide) (by omega) (fun c_27 => ?_) (fun c_27 => ?_)) | refine j_if_ne (tgt := 36) dX9_daysFor_27 (by decide) (fun c_27 => ?_) (fun c_27 => ?_)
    · refine j_iconst (v := nI 0) dX9_daysFor_36 (by decide +kernel) ?_
      refine j_istore_n dX9_daysFor_37 (by decide) ?_
      exact key c_15 c_27 0 (by omega) rfl
    · first | refine j_aload_n dX9_daysFor_30 rfl ?_ | refine j_aload_nN dX9_daysFor_30 rfl ?_
      refine j_iconst (v := nI 5) dX9_daysFor_31 (by decide +kernel) ?_
      refine j_dV1 kl_X9_325 (m_refuse H _) dX9_daysFor_32 rfl rfl (by decide) (Mo.h H) (Nat.le_of_ble_eq_true rfl) (by first | decide | omega) (by omega) (by omega) ?_
      refine j_iret dX9_daysFor_35 ⟨_, rfl, rfl⟩ (by omega) (by omega) ?_
      exact pubX (by simp [oDaysFor, *])
theorem o_say (H : Mo σ h ad) (hC : σ.2.1 (ad 20) = C) {W P Dn : Nat} (hw : Wd C W P Dn) (p k q : Int32) : Kd g l 4 MX9_say [.ref h, .int p, .int k, .int q] σ (some (.int (oSay C W P p k q).1)) (sU (mSt σ h (oSay C W P p k q).2.1) (ad 20) (oSay C W P p k q).2.2) := by
  obtain ⟨⟨hW, hW8⟩, ⟨hP, hP6⟩, ⟨hD, hD6⟩, hdn⟩ := id hw
  have ne : ad 20 ≠ h := Mo.nh H (i := 20) rfl
  refine Kt.go (Y := MX9_say) (ls := [some (.ref h), some (.int p), some (.int k), some (.int q)]) (by decide) (Nat.le_of_ble_eq_true rfl) rfl ?_
  first | refine j_aload_n dX9_say_0 rfl ?_ | refine j_aload_nN dX9_say_0 rfl ?_
  refine j_iconst (v := nI 0) dX9_say_1 (by decide +kernel) ?_
  refine j_putI dX9_say_2 fl_X9_67 rfl (Mo.h H) rfl rfl rfl ?_
  first | refine j_aload_n dX9_say_5 rfl ?_ | refine j_aload_nN dX9_say_5 rfl ?_
  refine j_iconst (v := nI 0) dX9_say_6 (by decide +kernel) ?_
  refine j_putI dX9_say_7 fl_X9_70 rfl (Mo.h H) rfl rfl rfl ?_
  refine j_eq rfl rfl (σ' := mSt σ h (nI 0)) rfl ?_
  have H0 := H
  have hC0 := hC
  replace hC := (mSt_row (w := nI 0) H0 (k := 20) ⟨_, _, rfl⟩).trans hC0
  replace H : Mo (mSt σ h (nI 0)) h ad := H0
  first | refine j_aload_n dX9_say_10 rfl ?_ | refine j_aload_nN dX9_say_10 rfl ?_
  refine j_iload_n dX9_say_11 rfl ?_
  refine j_dV1 kl_X9_345 (m_isPersonAt H hC hP hP6 p) dX9_say_12 rfl rfl (by decide) (Mo.h H) (Nat.le_of_ble_eq_true rfl) (by first | decide | omega) (by omega) (by omega) ?_
  first | (with_reducible refine j_gB ?_; refine j_if_eqB (tgt := 35) dX9_say_15 (by decide) (fun c_15 => ?_) (fun c_15 => ?_)) | (with_reducible refine j_gC ?_; refine j_if_eqC (tgt := 35) dX9_say_15 (by decide) (fun c_15 => ?_) (fun c_15 => ?_)) | (with_reducible refine j_gN ?_; refine j_if_eqN (tgt := 35) dX9_say_15 (by decide) (by omega) (fun c_15 => ?_) (fun c_15 => ?_)) | refine j_if_eq (tgt := 35) dX9_say_15 (by decide) (fun c_15 => ?_) (fun c_15 => ?_)
  · first | refine j_aload_n dX9_say_35 rfl ?_ | refine j_aload_nN dX9_say_35 rfl ?_
    refine j_iconst (v := nI 2) dX9_say_36 (by decide +kernel) ?_
    refine j_dV1 kl_X9_325 (m_refuse H _) dX9_say_37 rfl rfl (by decide) (Mo.h H) (Nat.le_of_ble_eq_true rfl) (by first | decide | omega) (by omega) (by omega) ?_
    refine j_iret dX9_say_40 ⟨_, rfl, rfl⟩ (by omega) (by omega) ?_
    exact pubDX hC0 ne (by simp [oSay, *])
  · first | refine j_aload_n dX9_say_18 rfl ?_ | refine j_aload_nN dX9_say_18 rfl ?_
    refine j_iload_n dX9_say_19 rfl ?_
    refine j_i2l dX9_say_20 ?_
    refine j_dV1 kl_X9_334 (m_isWordAt H hC hW hW8 k) dX9_say_21 rfl rfl (by decide) (Mo.h H) (Nat.le_of_ble_eq_true rfl) (by first | decide | omega) (by omega) (by omega) ?_
    first | (with_reducible refine j_gB ?_; refine j_if_eqB (tgt := 35) dX9_say_24 (by decide) (fun c_24 => ?_) (fun c_24 => ?_)) | (with_reducible refine j_gC ?_; refine j_if_eqC (tgt := 35) dX9_say_24 (by decide) (fun c_24 => ?_) (fun c_24 => ?_)) | (with_reducible refine j_gN ?_; refine j_if_eqN (tgt := 35) dX9_say_24 (by decide) (by omega) (fun c_24 => ?_) (fun c_24 => ?_)) | refine j_if_eq (tgt := 35) dX9_say_24 (by decide) (fun c_24 => ?_) (fun c_24 => ?_)
    · first | refine j_aload_n dX9_say_35 rfl ?_ | refine j_aload_nN dX9_say_35 rfl ?_
      refine j_iconst (v := nI 2) dX9_say_36 (by decide +kernel) ?_
      refine j_dV1 kl_X9_325 (m_refuse H _) dX9_say_37 rfl rfl (by decide) (Mo.h H) (Nat.le_of_ble_eq_true rfl) (by first | decide | omega) (by omega) (by omega) ?_
      refine j_iret dX9_say_40 ⟨_, rfl, rfl⟩ (by omega) (by omega) ?_
      exact pubDX hC0 ne (by simp [oSay, *])
    · first | refine j_aload_n dX9_say_27 rfl ?_ | refine j_aload_nN dX9_say_27 rfl ?_
      refine j_iload_n dX9_say_28 rfl ?_
      refine j_dV1 kl_X9_345 (m_isPersonAt H hC hP hP6 q) dX9_say_29 rfl rfl (by decide) (Mo.h H) (Nat.le_of_ble_eq_true rfl) (by first | decide | omega) (by omega) (by omega) ?_
      first | (with_reducible refine j_gB ?_; refine j_if_neB (tgt := 41) dX9_say_32 (by decide) (fun c_32 => ?_) (fun c_32 => ?_)) | (with_reducible refine j_gC ?_; refine j_if_neC (tgt := 41) dX9_say_32 (by decide) (fun c_32 => ?_) (fun c_32 => ?_)) | (with_reducible refine j_gN ?_; refine j_if_neN (tgt := 41) dX9_say_32 (by decide) (by omega) (fun c_32 => ?_) (fun c_32 => ?_)) | refine j_if_ne (tgt := 41) dX9_say_32 (by decide) (fun c_32 => ?_) (fun c_32 => ?_)
      · obtain ⟨p, hp, rfl⟩ := okN_nI c_15
        obtain ⟨k, hk, rfl⟩ := okN_nI c_24
        obtain ⟨q, hq, rfl⟩ := okN_nI c_32
        have ep : ixn (nI p) = p := ixn_nI (by omega)
        have ek : ixn (nI k) = k := ixn_nI (by omega)
        have eq : ixn (nI q) = q := ixn_nI (by omega)
        have fr := mSays_fr (C := C) (p := p) (k := k) (q := q) (by omega) (by omega)
        first | refine j_aload_n dX9_say_41 rfl ?_ | refine j_aload_nN dX9_say_41 rfl ?_
        refine j_iload_n dX9_say_42 rfl ?_
        refine j_iload_n dX9_say_43 rfl ?_
        refine j_iload_n dX9_say_44 rfl ?_
        refine j_dV1 kl_X9_369 (m_says H hC (by omega) (by omega)) dX9_say_45 rfl rfl (by decide) (Mo.h H) (Nat.le_of_ble_eq_true rfl) (by first | decide | omega) (by omega) (by omega) ?_
        have hC1 := hC
        first | (with_reducible refine j_gB ?_; refine j_if_eqB (tgt := 59) dX9_say_48 (by decide) (fun c_48 => ?_) (fun c_48 => ?_)) | (with_reducible refine j_gC ?_; refine j_if_eqC (tgt := 59) dX9_say_48 (by decide) (fun c_48 => ?_) (fun c_48 => ?_)) | (with_reducible refine j_gN ?_; refine j_if_eqN (tgt := 59) dX9_say_48 (by decide) (by omega) (fun c_48 => ?_) (fun c_48 => ?_)) | refine j_if_eq (tgt := 59) dX9_say_48 (by decide) (fun c_48 => ?_) (fun c_48 => ?_)
        · first | refine j_aload_n dX9_say_59 rfl ?_ | refine j_aload_nN dX9_say_59 rfl ?_
          refine j_bipush (v := nI 9) dX9_say_60 (by decide +kernel) ?_
          refine j_dV1 kl_X9_325 (m_refuse (σ := sU (mSt σ h (nI 0)) (ad 20) (mSays C p k q)) H _) dX9_say_62 rfl rfl (by decide) (Mo.h H) (Nat.le_of_ble_eq_true rfl) (by first | decide | omega) (by omega) (by omega) ?_
          refine j_iret dX9_say_65 ⟨_, rfl, rfl⟩ (by omega) (by omega) ?_
          first
          | exact pubD (by unfold oSay; rw [if_pos ⟨c_15, c_24, c_32⟩, ep, ek, eq, if_pos c_48])
          | (have e : mSays C p k q = C := by rw [mSays, c_48]; rfl
             rw [e, sUh hC1]
             exact pubDX hC0 ne (by unfold oSay; rw [if_pos ⟨c_15, c_24, c_32⟩, ep, ek, eq, if_neg (by rw [c_48]; decide)]))
        · first | refine j_aload_n dX9_say_51 rfl ?_ | refine j_aload_nN dX9_say_51 rfl ?_
          refine j_iload_n dX9_say_52 rfl ?_
          refine j_dV1 kl_X9_320 (m_hairOf (σ := sU (mSt σ h (nI 0)) (ad 20) (mSays C p k q)) H sU_e ((fr 0 (by omega)).trans hW) hW8 (by omega)) dX9_say_53 rfl rfl (by decide) (Mo.h H) (Nat.le_of_ble_eq_true rfl) (by first | decide | omega) (by omega) (by omega) ?_
          refine j_goto (tgt := 65) dX9_say_56 (by decide) ?_
          refine j_iret dX9_say_65 ⟨_, rfl, rfl⟩ (by omega) (by omega) ?_
          first
          | exact pubD (by unfold oSay; rw [if_pos ⟨c_15, c_24, c_32⟩, ep, ek, eq, if_pos c_48])
          | (have e : mSays C p k q = C := by rw [mSays, c_48]; rfl
             rw [e, sUh hC1]
             exact pubDX hC0 ne (by unfold oSay; rw [if_pos ⟨c_15, c_24, c_32⟩, ep, ek, eq, if_neg (by rw [c_48]; decide)]))
      · first | refine j_aload_n dX9_say_35 rfl ?_ | refine j_aload_nN dX9_say_35 rfl ?_
        refine j_iconst (v := nI 2) dX9_say_36 (by decide +kernel) ?_
        refine j_dV1 kl_X9_325 (m_refuse H _) dX9_say_37 rfl rfl (by decide) (Mo.h H) (Nat.le_of_ble_eq_true rfl) (by first | decide | omega) (by omega) (by omega) ?_
        refine j_iret dX9_say_40 ⟨_, rfl, rfl⟩ (by omega) (by omega) ?_
        exact pubDX hC0 ne (by simp [oSay, *])
theorem o_keep (H : Mo σ h ad) (hC : σ.2.1 (ad 20) = C) {W P Dn : Nat} (hw : Wd C W P Dn) (p k : Int32) : Kd g l 4 MX9_keep [.ref h, .int p, .int k] σ (some (.int (oKeep C W P p k).1)) (sU (mSt σ h (oKeep C W P p k).2.1) (ad 20) (oKeep C W P p k).2.2) := by
  obtain ⟨⟨hW, hW8⟩, ⟨hP, hP6⟩, ⟨hD, hD6⟩, hdn⟩ := id hw
  have ne : ad 20 ≠ h := Mo.nh H (i := 20) rfl
  refine Kt.go (Y := MX9_keep) (ls := [some (.ref h), some (.int p), some (.int k)]) (by decide) (Nat.le_of_ble_eq_true rfl) rfl ?_
  first | refine j_aload_n dX9_keep_0 rfl ?_ | refine j_aload_nN dX9_keep_0 rfl ?_
  refine j_iconst (v := nI 0) dX9_keep_1 (by decide +kernel) ?_
  refine j_putI dX9_keep_2 fl_X9_67 rfl (Mo.h H) rfl rfl rfl ?_
  first | refine j_aload_n dX9_keep_5 rfl ?_ | refine j_aload_nN dX9_keep_5 rfl ?_
  refine j_iconst (v := nI 0) dX9_keep_6 (by decide +kernel) ?_
  refine j_putI dX9_keep_7 fl_X9_70 rfl (Mo.h H) rfl rfl rfl ?_
  refine j_eq rfl rfl (σ' := mSt σ h (nI 0)) rfl ?_
  have H0 := H
  have hC0 := hC
  replace hC := (mSt_row (w := nI 0) H0 (k := 20) ⟨_, _, rfl⟩).trans hC0
  replace H : Mo (mSt σ h (nI 0)) h ad := H0
  first | refine j_aload_n dX9_keep_10 rfl ?_ | refine j_aload_nN dX9_keep_10 rfl ?_
  refine j_iload_n dX9_keep_11 rfl ?_
  refine j_dV1 kl_X9_345 (m_isPersonAt H hC hP hP6 p) dX9_keep_12 rfl rfl (by decide) (Mo.h H) (Nat.le_of_ble_eq_true rfl) (by first | decide | omega) (by omega) (by omega) ?_
  first | (with_reducible refine j_gB ?_; refine j_if_eqB (tgt := 27) dX9_keep_15 (by decide) (fun c_15 => ?_) (fun c_15 => ?_)) | (with_reducible refine j_gC ?_; refine j_if_eqC (tgt := 27) dX9_keep_15 (by decide) (fun c_15 => ?_) (fun c_15 => ?_)) | (with_reducible refine j_gN ?_; refine j_if_eqN (tgt := 27) dX9_keep_15 (by decide) (by omega) (fun c_15 => ?_) (fun c_15 => ?_)) | refine j_if_eq (tgt := 27) dX9_keep_15 (by decide) (fun c_15 => ?_) (fun c_15 => ?_)
  · first | refine j_aload_n dX9_keep_27 rfl ?_ | refine j_aload_nN dX9_keep_27 rfl ?_
    refine j_iconst (v := nI 2) dX9_keep_28 (by decide +kernel) ?_
    refine j_dV1 kl_X9_325 (m_refuse H _) dX9_keep_29 rfl rfl (by decide) (Mo.h H) (Nat.le_of_ble_eq_true rfl) (by first | decide | omega) (by omega) (by omega) ?_
    refine j_iret dX9_keep_32 ⟨_, rfl, rfl⟩ (by omega) (by omega) ?_
    exact pubDX hC0 ne (by simp [oKeep, *])
  · first | refine j_aload_n dX9_keep_18 rfl ?_ | refine j_aload_nN dX9_keep_18 rfl ?_
    refine j_iload_n dX9_keep_19 rfl ?_
    refine j_i2l dX9_keep_20 ?_
    refine j_dV1 kl_X9_334 (m_isWordAt H hC hW hW8 k) dX9_keep_21 rfl rfl (by decide) (Mo.h H) (Nat.le_of_ble_eq_true rfl) (by first | decide | omega) (by omega) (by omega) ?_
    first | (with_reducible refine j_gB ?_; refine j_if_neB (tgt := 33) dX9_keep_24 (by decide) (fun c_24 => ?_) (fun c_24 => ?_)) | (with_reducible refine j_gC ?_; refine j_if_neC (tgt := 33) dX9_keep_24 (by decide) (fun c_24 => ?_) (fun c_24 => ?_)) | (with_reducible refine j_gN ?_; refine j_if_neN (tgt := 33) dX9_keep_24 (by decide) (by omega) (fun c_24 => ?_) (fun c_24 => ?_)) | refine j_if_ne (tgt := 33) dX9_keep_24 (by decide) (fun c_24 => ?_) (fun c_24 => ?_)
    · obtain ⟨p, hp, rfl⟩ := okN_nI c_15
      obtain ⟨k, hk, rfl⟩ := okN_nI c_24
      have ep : ixn (nI p) = p := ixn_nI (by omega)
      have ek : ixn (nI k) = k := ixn_nI (by omega)
      first | refine j_aload_n dX9_keep_33 rfl ?_ | refine j_aload_nN dX9_keep_33 rfl ?_
      refine j_iload_n dX9_keep_34 rfl ?_
      refine j_iload_n dX9_keep_35 rfl ?_
      refine j_dV1 kl_X9_387 (m_keepsNow H hC (by omega) (by omega)) dX9_keep_36 rfl rfl (by decide) (Mo.h H) (Nat.le_of_ble_eq_true rfl) (by first | decide | omega) (by omega) (by omega) ?_
      have hC1 := hC
      first | (with_reducible refine j_gB ?_; refine j_if_eqB (tgt := 57) dX9_keep_39 (by decide) (fun c_39 => ?_) (fun c_39 => ?_)) | (with_reducible refine j_gC ?_; refine j_if_eqC (tgt := 57) dX9_keep_39 (by decide) (fun c_39 => ?_) (fun c_39 => ?_)) | (with_reducible refine j_gN ?_; refine j_if_eqN (tgt := 57) dX9_keep_39 (by decide) (by omega) (fun c_39 => ?_) (fun c_39 => ?_)) | refine j_if_eq (tgt := 57) dX9_keep_39 (by decide) (fun c_39 => ?_) (fun c_39 => ?_)
      · first | refine j_aload_n dX9_keep_57 rfl ?_ | refine j_aload_nN dX9_keep_57 rfl ?_
        refine j_bipush (v := nI 9) dX9_keep_58 (by decide +kernel) ?_
        refine j_dV1 kl_X9_325 (m_refuse (σ := sU (mSt σ h (nI 0)) (ad 20) (mKeep C p k)) H _) dX9_keep_60 rfl rfl (by decide) (Mo.h H) (Nat.le_of_ble_eq_true rfl) (by first | decide | omega) (by omega) (by omega) ?_
        refine j_iret dX9_keep_63 ⟨_, rfl, rfl⟩ (by omega) (by omega) ?_
        first
        | exact pubD (by unfold oKeep; rw [if_pos ⟨c_15, c_24⟩, ep, ek, if_pos c_39])
        | (have e : mKeep C p k = C := by rw [mKeep, c_39]; rfl
           rw [e, sUh hC1]
           exact pubDX hC0 ne (by unfold oKeep; rw [if_pos ⟨c_15, c_24⟩, ep, ek, if_neg (by rw [c_39]; decide)]))
      · replace H : Mo (sU (mSt σ h (nI 0)) (ad 20) (mKeep C p k)) h ad := H
        have hC : (sU (mSt σ h (nI 0)) (ad 20) (mKeep C p k)).2.1 (ad 20) = mKeep C p k := sU_e
        first | refine j_aload_n dX9_keep_42 rfl ?_ | refine j_aload_nN dX9_keep_42 rfl ?_
        refine j_getR dX9_keep_43 fl_X9_35 rfl (Mo.h H) (Mo.R H _ _ _ rfl) ?_
        refine j_bipush (v := nI 43) dX9_keep_46 (by decide +kernel) ?_
        refine j_iload_n dX9_keep_48 rfl ?_
        first | (with_reducible refine j_gNN ?_; refine j_iaddN dX9_keep_49 ?_) | refine j_iadd dX9_keep_49 ?_
        refine j_iald dX9_keep_50 (Mo.S H _ _ _ rfl) rfl (by omega) (by decide) (by first | assumption | (rewrite [hC]; first | assumption | rfl) | rfl) ?_
        refine j_dS1 kl_X9_390 (k_sizeOf _) dX9_keep_51 rfl rfl (Nat.le_of_ble_eq_true rfl) (by first | decide | omega) (by omega) (by omega) ?_
        refine j_goto (tgt := 63) dX9_keep_54 (by decide) ?_
        refine j_iret dX9_keep_63 ⟨_, rfl, rfl⟩ (by omega) (by omega) ?_
        first
        | exact pubD (by unfold oKeep; rw [if_pos ⟨c_15, c_24⟩, ep, ek, if_pos c_39])
        | (have e : mKeep C p k = C := by rw [mKeep, c_39]; rfl
           rw [e, sUh hC1]
           exact pubDX hC0 ne (by unfold oKeep; rw [if_pos ⟨c_15, c_24⟩, ep, ek, if_neg (by rw [c_39]; decide)]))
    · first | refine j_aload_n dX9_keep_27 rfl ?_ | refine j_aload_nN dX9_keep_27 rfl ?_
      refine j_iconst (v := nI 2) dX9_keep_28 (by decide +kernel) ?_
      refine j_dV1 kl_X9_325 (m_refuse H _) dX9_keep_29 rfl rfl (by decide) (Mo.h H) (Nat.le_of_ble_eq_true rfl) (by first | decide | omega) (by omega) (by omega) ?_
      refine j_iret dX9_keep_32 ⟨_, rfl, rfl⟩ (by omega) (by omega) ?_
      exact pubDX hC0 ne (by simp [oKeep, *])
theorem o_learn (H : Mo σ h ad) (hC : σ.2.1 (ad 20) = C) {W P Dn : Nat} (hw : Wd C W P Dn) (p k : Int32) : Kd g l 4 MX9_learn [.ref h, .int p, .int k] σ (some (.int (oLearn C W P p k).1)) (sU (mSt σ h (oLearn C W P p k).2.1) (ad 20) (oLearn C W P p k).2.2) := by
  obtain ⟨⟨hW, hW8⟩, ⟨hP, hP6⟩, ⟨hD, hD6⟩, hdn⟩ := id hw
  have ne : ad 20 ≠ h := Mo.nh H (i := 20) rfl
  refine Kt.go (Y := MX9_learn) (ls := [some (.ref h), some (.int p), some (.int k)]) (by decide) (Nat.le_of_ble_eq_true rfl) rfl ?_
  first | refine j_aload_n dX9_learn_0 rfl ?_ | refine j_aload_nN dX9_learn_0 rfl ?_
  refine j_iconst (v := nI 0) dX9_learn_1 (by decide +kernel) ?_
  refine j_putI dX9_learn_2 fl_X9_67 rfl (Mo.h H) rfl rfl rfl ?_
  first | refine j_aload_n dX9_learn_5 rfl ?_ | refine j_aload_nN dX9_learn_5 rfl ?_
  refine j_iconst (v := nI 0) dX9_learn_6 (by decide +kernel) ?_
  refine j_putI dX9_learn_7 fl_X9_70 rfl (Mo.h H) rfl rfl rfl ?_
  refine j_eq rfl rfl (σ' := mSt σ h (nI 0)) rfl ?_
  have H0 := H
  have hC0 := hC
  replace hC := (mSt_row (w := nI 0) H0 (k := 20) ⟨_, _, rfl⟩).trans hC0
  replace H : Mo (mSt σ h (nI 0)) h ad := H0
  first | refine j_aload_n dX9_learn_10 rfl ?_ | refine j_aload_nN dX9_learn_10 rfl ?_
  refine j_iload_n dX9_learn_11 rfl ?_
  refine j_dV1 kl_X9_345 (m_isPersonAt H hC hP hP6 p) dX9_learn_12 rfl rfl (by decide) (Mo.h H) (Nat.le_of_ble_eq_true rfl) (by first | decide | omega) (by omega) (by omega) ?_
  first | (with_reducible refine j_gB ?_; refine j_if_eqB (tgt := 27) dX9_learn_15 (by decide) (fun c_15 => ?_) (fun c_15 => ?_)) | (with_reducible refine j_gC ?_; refine j_if_eqC (tgt := 27) dX9_learn_15 (by decide) (fun c_15 => ?_) (fun c_15 => ?_)) | (with_reducible refine j_gN ?_; refine j_if_eqN (tgt := 27) dX9_learn_15 (by decide) (by omega) (fun c_15 => ?_) (fun c_15 => ?_)) | refine j_if_eq (tgt := 27) dX9_learn_15 (by decide) (fun c_15 => ?_) (fun c_15 => ?_)
  · first | refine j_aload_n dX9_learn_27 rfl ?_ | refine j_aload_nN dX9_learn_27 rfl ?_
    refine j_iconst (v := nI 2) dX9_learn_28 (by decide +kernel) ?_
    refine j_dV1 kl_X9_325 (m_refuse H _) dX9_learn_29 rfl rfl (by decide) (Mo.h H) (Nat.le_of_ble_eq_true rfl) (by first | decide | omega) (by omega) (by omega) ?_
    refine j_iret dX9_learn_32 ⟨_, rfl, rfl⟩ (by omega) (by omega) ?_
    exact pubDX hC0 ne (by simp [oLearn, *])
  · first | refine j_aload_n dX9_learn_18 rfl ?_ | refine j_aload_nN dX9_learn_18 rfl ?_
    refine j_iload_n dX9_learn_19 rfl ?_
    refine j_i2l dX9_learn_20 ?_
    refine j_dV1 kl_X9_334 (m_isWordAt H hC hW hW8 k) dX9_learn_21 rfl rfl (by decide) (Mo.h H) (Nat.le_of_ble_eq_true rfl) (by first | decide | omega) (by omega) (by omega) ?_
    first | (with_reducible refine j_gB ?_; refine j_if_neB (tgt := 33) dX9_learn_24 (by decide) (fun c_24 => ?_) (fun c_24 => ?_)) | (with_reducible refine j_gC ?_; refine j_if_neC (tgt := 33) dX9_learn_24 (by decide) (fun c_24 => ?_) (fun c_24 => ?_)) | (with_reducible refine j_gN ?_; refine j_if_neN (tgt := 33) dX9_learn_24 (by decide) (by omega) (fun c_24 => ?_) (fun c_24 => ?_)) | refine j_if_ne (tgt := 33) dX9_learn_24 (by decide) (fun c_24 => ?_) (fun c_24 => ?_)
    · obtain ⟨p, hp, rfl⟩ := okN_nI c_15
      obtain ⟨k, hk, rfl⟩ := okN_nI c_24
      have ep : ixn (nI p) = p := ixn_nI (by omega)
      have ek : ixn (nI k) = k := ixn_nI (by omega)
      first | refine j_aload_n dX9_learn_33 rfl ?_ | refine j_aload_nN dX9_learn_33 rfl ?_
      refine j_iload_n dX9_learn_34 rfl ?_
      refine j_iload_n dX9_learn_35 rfl ?_
      refine j_dV1 kl_X9_366 (m_knows H hC (by omega)) dX9_learn_36 rfl rfl (by decide) (Mo.h H) (Nat.le_of_ble_eq_true rfl) (by first | decide | omega) (by omega) (by omega) ?_
      first | (with_reducible refine j_gB ?_; refine j_if_eqB (tgt := 49) dX9_learn_39 (by decide) (fun c_39 => ?_) (fun c_39 => ?_)) | (with_reducible refine j_gC ?_; refine j_if_eqC (tgt := 49) dX9_learn_39 (by decide) (fun c_39 => ?_) (fun c_39 => ?_)) | (with_reducible refine j_gN ?_; refine j_if_eqN (tgt := 49) dX9_learn_39 (by decide) (by omega) (fun c_39 => ?_) (fun c_39 => ?_)) | refine j_if_eq (tgt := 49) dX9_learn_39 (by decide) (fun c_39 => ?_) (fun c_39 => ?_)
      · first | refine j_aload_n dX9_learn_49 rfl ?_ | refine j_aload_nN dX9_learn_49 rfl ?_
        refine j_getR dX9_learn_50 fl_X9_35 rfl (Mo.h H) (Mo.R H _ _ _ rfl) ?_
        refine j_bipush (v := nI 37) dX9_learn_53 (by decide +kernel) ?_
        refine j_iload_n dX9_learn_55 rfl ?_
        first | (with_reducible refine j_gNN ?_; refine j_iaddN dX9_learn_56 ?_) | refine j_iadd dX9_learn_56 ?_
        refine j_dup2 dX9_learn_57 rfl rfl ?_
        refine j_iald dX9_learn_58 (Mo.S H _ _ _ rfl) rfl (by omega) (by decide) (by first | assumption | (rewrite [hC]; first | assumption | rfl) | rfl) ?_
        refine j_iconst (v := nI 1) dX9_learn_59 (by decide +kernel) ?_
        refine j_iload_n dX9_learn_60 rfl ?_
        refine j_ishl dX9_learn_61 ?_
        refine j_ior dX9_learn_62 ?_
        refine j_iast dX9_learn_63 (Mo.S H _ _ _ rfl) rfl (by omega) (by decide) ?_
        rw [sI_U, hC]
        first | refine j_aload_n dX9_learn_64 rfl ?_ | refine j_aload_nN dX9_learn_64 rfl ?_
        refine j_bipush (v := nI 37) dX9_learn_65 (by decide +kernel) ?_
        refine j_iload_n dX9_learn_67 rfl ?_
        refine j_dV1 kl_X9_339 (m_peopleWith (σ := sU (mSt σ h (nI 0)) (ad 20) (up C (37 + p) (C (37 + p) ||| bt k))) H sU_e ((up_ne (by omega)).trans hP) hP6 (by decide)) dX9_learn_68 rfl rfl (by decide) (Mo.h H) (Nat.le_of_ble_eq_true rfl) (by first | decide | omega) (by omega) (by omega) ?_
        refine j_dS1 kl_X9_390 (k_sizeOf _) dX9_learn_71 rfl rfl (Nat.le_of_ble_eq_true rfl) (by first | decide | omega) (by omega) (by omega) ?_
        refine j_iret dX9_learn_74 ⟨_, rfl, rfl⟩ (by omega) (by omega) ?_
        first
        | exact pubD (by unfold oLearn; rw [if_pos ⟨c_15, c_24⟩, ep, ek, if_neg (by rw [c_39]; decide)])
        | exact pubDX hC0 ne (by unfold oLearn; rw [if_pos ⟨c_15, c_24⟩, ep, ek, if_pos c_39])
      · first | refine j_aload_n dX9_learn_42 rfl ?_ | refine j_aload_nN dX9_learn_42 rfl ?_
        refine j_bipush (v := nI 9) dX9_learn_43 (by decide +kernel) ?_
        refine j_dV1 kl_X9_325 (m_refuse H _) dX9_learn_45 rfl rfl (by decide) (Mo.h H) (Nat.le_of_ble_eq_true rfl) (by first | decide | omega) (by omega) (by omega) ?_
        refine j_iret dX9_learn_48 ⟨_, rfl, rfl⟩ (by omega) (by omega) ?_
        first
        | exact pubD (by unfold oLearn; rw [if_pos ⟨c_15, c_24⟩, ep, ek, if_neg (by rw [c_39]; decide)])
        | exact pubDX hC0 ne (by unfold oLearn; rw [if_pos ⟨c_15, c_24⟩, ep, ek, if_pos c_39])
    · first | refine j_aload_n dX9_learn_27 rfl ?_ | refine j_aload_nN dX9_learn_27 rfl ?_
      refine j_iconst (v := nI 2) dX9_learn_28 (by decide +kernel) ?_
      refine j_dV1 kl_X9_325 (m_refuse H _) dX9_learn_29 rfl rfl (by decide) (Mo.h H) (Nat.le_of_ble_eq_true rfl) (by first | decide | omega) (by omega) (by omega) ?_
      refine j_iret dX9_learn_32 ⟨_, rfl, rfl⟩ (by omega) (by omega) ?_
      exact pubDX hC0 ne (by simp [oLearn, *])
end M9
