/-! THE MODEL: what may be kept on; what is unsaid -/
set_option maxRecDepth 100000
theorem aw_eq {W : Nat} (h : W ≤ 8) : nI 1 <<< (nI W &&& 31) - nI 1 = nI (2 ^ W - 1) := by
  have : ∀ W, W < 9 → nI 1 <<< (nI W &&& 31) - nI 1 = nI (2 ^ W - 1) := by decide +kernel
  exact this W (by omega)
theorem pw_le {W n : Nat} (h : W ≤ n) : 2 ^ W ≤ 2 ^ n := Nat.pow_le_pow_right (by decide) h
theorem pw8 {W : Nat} (h : W ≤ 8) : 2 ^ W ≤ 256 := pw_le (n := 8) h
theorem pw_pos {W : Nat} : 1 ≤ 2 ^ W := Nat.one_le_two_pow
theorem inL_t {w : Int32} {m : Int64} {n : Nat} (hm : m.toInt = n) (h : inL w.toInt64 0 m = true) : ∃ k, k ≤ n ∧ w = nI k := by
  unfold inL at h
  rw [Bool.and_eq_true, Bool.not_eq_true', Bool.not_eq_true', decide_eq_false_iff_not, decide_eq_false_iff_not, Int64.not_lt, Int64.not_lt, Int64.le_iff_toInt_le, Int64.le_iff_toInt_le, Int32.toInt_toInt64, hm] at h
  have h1 : ¬ w < 0 := fun q => by
    have := Int32.lt_iff_toInt_lt.mp q
    rw [Int32.toInt_zero] at this
    have h2 := h.1
    have e : (0 : Int64).toInt = 0 := by decide
    omega
  obtain ⟨k, hk, rfl⟩ := nI_of h1
  refine ⟨k, ?_, rfl⟩
  have := h.2
  rw [nI_toInt hk] at this
  omega
/-- all below n -/
def allB (f : Nat → Bool) : Nat → Bool
  | 0 => true
  | n + 1 => allB f n && f n
theorem allB_le {f : Nat → Bool} {m n : Nat} (h : allB f m = false) (hmn : m ≤ n) : allB f n = false := by
  induction hmn with
  | refl => exact h
  | step _ ih => rw [allB, ih]; rfl
def cntB (f : Nat → Bool) : Nat → Nat
  | 0 => 0
  | n + 1 => if f n then cntB f n + 1 else cntB f n
theorem cntB_le {f : Nat → Bool} : ∀ n, cntB f n ≤ n := by
  intro n
  induction n with
  | zero => exact Nat.le_refl _
  | succ n ih => rw [cntB]; split <;> omega
theorem sU2_put {σ : Sg} {a b k : Nat} {F G : Nat → Int32} {x : Int32} (h : a ≠ b) : sI (sU (sU σ a F) b G) a k x = sU (sU σ a (up F k x)) b G := by
  rw [sI_U, sU_n h, sU_e, sU_comm (Ne.symm h), sU_U]
def mLenIn (C : Nat → Int32) (p k : Nat) (days : Int32) : Int32 := C (49 + 8 * p + k) + C (9 + k) * mn days (mx (nI 0) (C (17 + k) - C (97 + 8 * p + k)))
def hbF (C : Nat → Int32) (p : Nat) (set days : Int32) (k : Nat) : Int32 := if hs set k then mLenIn C p k days else nI 0
def mHairBy (C : Nat → Int32) (W p : Nat) (set days : Int32) : Int32 := sumTo (hbF C p set days) W
def qSel (C : Nat → Int32) (W p : Nat) (days : Int32) (t : Nat) (best : Int32) : Int32 :=
  if nI t &&& (C (43 + p) ^^^ (-1)) = 0 ∧ ¬ C (25 + p) < mHairBy C W p (nI t) days then
    (if 0 < szOf (nI t) - szOf best ∨ (szOf (nI t) - szOf best = 0 ∧ mHairBy C W p best days < mHairBy C W p (nI t) days) then nI t else best)
  else best
def mQuiet (C : Nat → Int32) (W p : Nat) (days : Int32) (s : Nat) : Int32 := itr (fun j best => qSel C W p days (j + 1) best) s (nI 0)
def grF (C : Nat → Int32) (set days : Int32) (k : Nat) : Int32 := if hs set k then C (9 + k) * mn days (C (17 + k)) else nI 0
def mGrown (C : Nat → Int32) (W : Nat) (set days : Int32) : Int32 := sumTo (grF C set days) W
def mWhy2 (M : Nat → Int32) (tray n : Int32) : Int32 := if okN tray 4 then (if M (ixn tray) < 0 then nI 3 else if (M (ixn tray)).toInt64 < 2 * n.toInt64 then nI 4 else if inL n.toInt64 0 20 then nI 0 else nI 5) else nI 1
def unsOk (N : Nat → Int64) (t k : Nat) : Bool := inL (N (60 * t + 2 * k)) 0 999 && !decide (N (60 * t + (2 * k + 1)) < 0)
def mWhyU (M : Nat → Int32) (N : Nat → Int64) (tray n : Int32) : Int32 := if mWhy2 M tray n = nI 0 then (if allB (unsOk N (ixn tray)) (ixn n) then nI 0 else nI 5) else mWhy2 M tray n
/-- how many places the trays have: -1, or at most 60 -/
def Wm (M : Nat → Int32) : Prop := ∀ t, t < 4 → M t = -1 ∨ ∃ m, m ≤ 60 ∧ M t = nI m
theorem mWhy2_0 {M : Nat → Int32} {tray n : Int32} (hM : Wm M) (h : mWhy2 M tray n = nI 0) : ∃ t m m2, t < 4 ∧ tray = nI t ∧ n = nI m ∧ m ≤ 20 ∧ M t = nI m2 ∧ m2 ≤ 60 ∧ 2 * m ≤ m2 := by
  unfold mWhy2 at h
  split at h
  · next h1 =>
    obtain ⟨t, ht, rfl⟩ := okN_nI h1
    rw [ixn_nI (by omega)] at h
    split at h
    · exact absurd h (by decide +kernel)
    · next h2 =>
      split at h
      · exact absurd h (by decide +kernel)
      · next h3 =>
        split at h
        · next h4 =>
          obtain ⟨m, hm, rfl⟩ := inL_t (n := 20) (by decide) h4
          rcases hM t ht with e | ⟨m2, hm2, e⟩
          · rw [e] at h2; exact absurd (by decide) h2
          · refine ⟨t, m, m2, ht, rfl, rfl, hm, e, hm2, ?_⟩
            rw [e, nI_l (by omega), nI_l (by omega), Int64.not_lt, Int64.le_iff_toInt_le] at h3
            have e2 : (2 : Int64) * lN m = lN (2 * m) := by
              show lN 2 * lN m = _
              exact (Int64.ofNat_mul 2 m).symm
            rw [e2, lN_toInt (by omega), lN_toInt (by omega)] at h3
            omega
        · exact absurd h (by decide +kernel)
  · exact absurd h (by decide +kernel)
def isUF (C : Nat → Int32) (W : Nat) (N : Nat → Int64) (t : Nat) (set : Int32) (k : Nat) : Bool := decide ((mGrown C W set (N (60 * t + 2 * k)).toInt32).toInt64 = N (60 * t + (2 * k + 1)))
def mIsU (C : Nat → Int32) (W : Nat) (N : Nat → Int64) (t m : Nat) (set : Int32) : Bool := allB (isUF C W N t set) m
section M5
variable {g : Gx} {l : Launch} {σ : Sg} {h : Nat} {ad : Nat → Nat} {C : Nat → Int32}
theorem m_lengthIn (H : Mo σ h ad) (hC : σ.2.1 (ad 20) = C) {p k : Nat} (hp : p < 6) (hk : k < 8) (days : Int32) : Kd g l 0 MX9_lengthIn [.ref h, .int (nI p), .int (nI k), .int days] σ (some (.int (mLenIn C p k days))) σ := by
  refine Kt.go (Y := MX9_lengthIn) (ls := [some (.ref h), some (.int (nI p)), some (.int (nI k)), some (.int days), none]) (by decide) (Nat.le_of_ble_eq_true rfl) rfl ?_
  refine j_iconst (v := nI 0) dX9_lengthIn_0 (by decide +kernel) ?_
  first | refine j_aload_n dX9_lengthIn_1 rfl ?_ | refine j_aload_nN dX9_lengthIn_1 rfl ?_
  refine j_getR dX9_lengthIn_2 fl_X9_35 rfl (Mo.h H) (Mo.R H _ _ _ rfl) ?_
  refine j_bipush (v := nI 17) dX9_lengthIn_5 (by decide +kernel) ?_
  refine j_iload_n dX9_lengthIn_7 rfl ?_
  first | (with_reducible refine j_gNN ?_; refine j_iaddN dX9_lengthIn_8 ?_) | refine j_iadd dX9_lengthIn_8 ?_
  refine j_iald dX9_lengthIn_9 (Mo.S H _ _ _ rfl) rfl (by omega) (by decide) (by first | assumption | (rewrite [hC]; first | assumption | rfl) | rfl) ?_
  first | refine j_aload_n dX9_lengthIn_10 rfl ?_ | refine j_aload_nN dX9_lengthIn_10 rfl ?_
  refine j_getR dX9_lengthIn_11 fl_X9_35 rfl (Mo.h H) (Mo.R H _ _ _ rfl) ?_
  refine j_bipush (v := nI 97) dX9_lengthIn_14 (by decide +kernel) ?_
  refine j_bipush (v := nI 8) dX9_lengthIn_16 (by decide +kernel) ?_
  refine j_iload_n dX9_lengthIn_18 rfl ?_
  first | (with_reducible refine j_gNN ?_; refine j_imulN dX9_lengthIn_19 ?_) | refine j_imul dX9_lengthIn_19 ?_
  first | (with_reducible refine j_gNN ?_; refine j_iaddN dX9_lengthIn_20 ?_) | refine j_iadd dX9_lengthIn_20 ?_
  refine j_iload_n dX9_lengthIn_21 rfl ?_
  first | (with_reducible refine j_gNN ?_; refine j_iaddN dX9_lengthIn_22 ?_) | refine j_iadd dX9_lengthIn_22 ?_
  refine j_iald dX9_lengthIn_23 (Mo.S H _ _ _ rfl) rfl (by omega) (by decide) (by first | assumption | (rewrite [hC]; first | assumption | rfl) | rfl) ?_
  first | (with_reducible refine j_gNN ?_; refine j_isubN dX9_lengthIn_24 (by omega) ?_) | refine j_isub dX9_lengthIn_24 ?_
  refine j_max dX9_lengthIn_25 q1957 q1192 q194 q1193 (Nat.le_of_ble_eq_true rfl) (by omega) (by omega) ?_
  refine j_istore dX9_lengthIn_28 (by decide) ?_
  first | refine j_aload_n dX9_lengthIn_30 rfl ?_ | refine j_aload_nN dX9_lengthIn_30 rfl ?_
  refine j_getR dX9_lengthIn_31 fl_X9_35 rfl (Mo.h H) (Mo.R H _ _ _ rfl) ?_
  refine j_bipush (v := nI 49) dX9_lengthIn_34 (by decide +kernel) ?_
  refine j_bipush (v := nI 8) dX9_lengthIn_36 (by decide +kernel) ?_
  refine j_iload_n dX9_lengthIn_38 rfl ?_
  first | (with_reducible refine j_gNN ?_; refine j_imulN dX9_lengthIn_39 ?_) | refine j_imul dX9_lengthIn_39 ?_
  first | (with_reducible refine j_gNN ?_; refine j_iaddN dX9_lengthIn_40 ?_) | refine j_iadd dX9_lengthIn_40 ?_
  refine j_iload_n dX9_lengthIn_41 rfl ?_
  first | (with_reducible refine j_gNN ?_; refine j_iaddN dX9_lengthIn_42 ?_) | refine j_iadd dX9_lengthIn_42 ?_
  refine j_iald dX9_lengthIn_43 (Mo.S H _ _ _ rfl) rfl (by omega) (by decide) (by first | assumption | (rewrite [hC]; first | assumption | rfl) | rfl) ?_
  first | refine j_aload_n dX9_lengthIn_44 rfl ?_ | refine j_aload_nN dX9_lengthIn_44 rfl ?_
  refine j_getR dX9_lengthIn_45 fl_X9_35 rfl (Mo.h H) (Mo.R H _ _ _ rfl) ?_
  refine j_bipush (v := nI 9) dX9_lengthIn_48 (by decide +kernel) ?_
  refine j_iload_n dX9_lengthIn_50 rfl ?_
  first | (with_reducible refine j_gNN ?_; refine j_iaddN dX9_lengthIn_51 ?_) | refine j_iadd dX9_lengthIn_51 ?_
  refine j_iald dX9_lengthIn_52 (Mo.S H _ _ _ rfl) rfl (by omega) (by decide) (by first | assumption | (rewrite [hC]; first | assumption | rfl) | rfl) ?_
  refine j_iload_n dX9_lengthIn_53 rfl ?_
  refine j_iload dX9_lengthIn_54 rfl ?_
  refine j_min dX9_lengthIn_56 q2104 q783 q194 q784 (Nat.le_of_ble_eq_true rfl) (by omega) (by omega) ?_
  first | (with_reducible refine j_gNN ?_; refine j_imulN dX9_lengthIn_59 ?_) | refine j_imul dX9_lengthIn_59 ?_
  first | (with_reducible refine j_gNN ?_; refine j_iaddN dX9_lengthIn_60 ?_) | refine j_iadd dX9_lengthIn_60 ?_
  refine j_iret dX9_lengthIn_61 ⟨_, rfl, rfl⟩ (by omega) (by omega) ?_
  exact ⟨rfl, rfl⟩
theorem m_hairBy (H : Mo σ h ad) (hC : σ.2.1 (ad 20) = C) {W p : Nat} (hW : C 0 = nI W) (hW8 : W ≤ 8) (hp : p < 6) (set days : Int32) : Kd g l 1 MX9_hairBy [.ref h, .int (nI p), .int set, .int days] σ (some (.int (mHairBy C W p set days))) σ := by
  refine Kt.go (Y := MX9_hairBy) (ls := [some (.ref h), some (.int (nI p)), some (.int set), some (.int days), none, none]) (by decide) (Nat.le_of_ble_eq_true rfl) rfl ?_
  have key : ∀ j, j ≤ W → ∀ a, a = sumTo (hbF C p set days) j → Td g l 1 MX9_hairBy [.ref h, .int (nI p), .int set, .int days] σ (some (.int (mHairBy C W p set days))) 6 [some (.ref h), some (.int (nI p)), some (.int set), some (.int days), some (.int a), some (.int (nI j))] [] σ := by
    refine loop_up fun j hj ih => ?_
    intro a ha
    refine j_iload dX9_hairBy_6 rfl ?_
    first | refine j_aload_n dX9_hairBy_8 rfl ?_ | refine j_aload_nN dX9_hairBy_8 rfl ?_
    refine j_getR dX9_hairBy_9 fl_X9_35 rfl (Mo.h H) (Mo.R H _ _ _ rfl) ?_
    refine j_iconst (v := nI 0) dX9_hairBy_12 (by decide +kernel) ?_
    refine j_iald dX9_hairBy_13 (Mo.S H _ _ _ rfl) rfl (by omega) (by decide) (by first | assumption | (rewrite [hC]; first | assumption | rfl) | rfl) ?_
    first | (with_reducible refine j_gNN ?_; refine j_icmp_geN (tgt := 49) dX9_hairBy_14 (by decide) (by omega) (by omega) (fun c_14 => ?_) (fun c_14 => ?_)) | refine j_icmp_ge (tgt := 49) dX9_hairBy_14 (by decide) (fun c_14 => ?_) (fun c_14 => ?_)
    · refine j_iload dX9_hairBy_49 rfl ?_
      refine j_iret dX9_hairBy_51 ⟨_, rfl, rfl⟩ (by omega) (by omega) ?_
      exact ⟨by rw [ha, show j = W by omega]; rfl, rfl⟩
    · refine j_iload dX9_hairBy_17 rfl ?_
      refine j_iload_n dX9_hairBy_19 rfl ?_
      refine j_iload dX9_hairBy_20 rfl ?_
      refine j_dS1 kl_X9_106 (k_has _ _ _ _ j) dX9_hairBy_22 rfl rfl (Nat.le_of_ble_eq_true rfl) (by first | decide | omega) (by omega) (by omega) ?_
      first | (with_reducible refine j_gB ?_; refine j_if_eqB (tgt := 39) dX9_hairBy_25 (by decide) (fun c_25 => ?_) (fun c_25 => ?_)) | (with_reducible refine j_gC ?_; refine j_if_eqC (tgt := 39) dX9_hairBy_25 (by decide) (fun c_25 => ?_) (fun c_25 => ?_)) | (with_reducible refine j_gN ?_; refine j_if_eqN (tgt := 39) dX9_hairBy_25 (by decide) (by omega) (fun c_25 => ?_) (fun c_25 => ?_)) | refine j_if_eq (tgt := 39) dX9_hairBy_25 (by decide) (fun c_25 => ?_) (fun c_25 => ?_)
      · refine j_iconst (v := nI 0) dX9_hairBy_39 (by decide +kernel) ?_
        first | (with_reducible refine j_gNN ?_; refine j_iaddN dX9_hairBy_40 ?_) | refine j_iadd dX9_hairBy_40 ?_
        refine j_istore dX9_hairBy_41 (by decide) ?_
        first | refine j_iincN dX9_hairBy_43 rfl (by decide) ?_ | refine j_iinc dX9_hairBy_43 rfl rfl (by decide) ?_
        refine j_goto (tgt := 6) dX9_hairBy_46 (by decide) ?_
        exact ih (by omega) _ (by rw [ha, sumTo, hbF, c_25]; rfl)
      · first | refine j_aload_n dX9_hairBy_28 rfl ?_ | refine j_aload_nN dX9_hairBy_28 rfl ?_
        refine j_iload_n dX9_hairBy_29 rfl ?_
        refine j_iload dX9_hairBy_30 rfl ?_
        refine j_iload_n dX9_hairBy_32 rfl ?_
        refine j_dV1 kl_X9_421 (m_lengthIn H hC hp (by omega) days) dX9_hairBy_33 rfl rfl (by decide) (Mo.h H) (Nat.le_of_ble_eq_true rfl) (by first | decide | omega) (by omega) (by omega) ?_
        refine j_goto (tgt := 40) dX9_hairBy_36 (by decide) ?_
        first | (with_reducible refine j_gNN ?_; refine j_iaddN dX9_hairBy_40 ?_) | refine j_iadd dX9_hairBy_40 ?_
        refine j_istore dX9_hairBy_41 (by decide) ?_
        first | refine j_iincN dX9_hairBy_43 rfl (by decide) ?_ | refine j_iinc dX9_hairBy_43 rfl rfl (by decide) ?_
        refine j_goto (tgt := 6) dX9_hairBy_46 (by decide) ?_
        exact ih (by omega) _ (by rw [ha, sumTo, hbF, c_25]; rfl)
  refine j_iconst (v := nI 0) dX9_hairBy_0 (by decide +kernel) ?_
  refine j_istore dX9_hairBy_1 (by decide) ?_
  refine j_iconst (v := nI 0) dX9_hairBy_3 (by decide +kernel) ?_
  refine j_istore dX9_hairBy_4 (by decide) ?_
  exact key 0 (by omega) _ rfl
theorem m_quietest (H : Mo σ h ad) (hC : σ.2.1 (ad 20) = C) {W p s : Nat} (hW : C 0 = nI W) (hW8 : W ≤ 8) (hp : p < 6) (hK : C (43 + p) = nI s) (hs : s < 256) (days : Int32) : Kd g l 2 MX9_quietest [.ref h, .int (nI p), .int days] σ (some (.int (mQuiet C W p days s))) σ := by
  refine Kt.go (Y := MX9_quietest) (ls := [some (.ref h), some (.int (nI p)), some (.int days), none, none, none]) (by decide) (Nat.le_of_ble_eq_true rfl) rfl ?_
  have key : ∀ j, j ≤ s → ∀ a x, a = itr (fun j best => qSel C W p days (j + 1) best) j (nI 0) → Td g l 2 MX9_quietest [.ref h, .int (nI p), .int days] σ (some (.int (mQuiet C W p days s))) 5 [some (.ref h), some (.int (nI p)), some (.int days), some (.int a), some (.int (nI (j + 1))), x] [] σ := by
    refine loop_up fun j hj ih => ?_
    intro a x ha
    have hs : itr (fun j best => qSel C W p days (j + 1) best) (j + 1) (nI 0) = qSel C W p days (j + 1) a := by rw [itr, ← ha]
    refine j_iload dX9_quietest_5 rfl ?_
    first | refine j_aload_n dX9_quietest_7 rfl ?_ | refine j_aload_nN dX9_quietest_7 rfl ?_
    refine j_getR dX9_quietest_8 fl_X9_35 rfl (Mo.h H) (Mo.R H _ _ _ rfl) ?_
    refine j_bipush (v := nI 43) dX9_quietest_11 (by decide +kernel) ?_
    refine j_iload_n dX9_quietest_13 rfl ?_
    first | (with_reducible refine j_gNN ?_; refine j_iaddN dX9_quietest_14 ?_) | refine j_iadd dX9_quietest_14 ?_
    refine j_iald dX9_quietest_15 (Mo.S H _ _ _ rfl) rfl (by omega) (by decide) (by first | assumption | (rewrite [hC]; first | assumption | rfl) | rfl) ?_
    first | (with_reducible refine j_gNN ?_; refine j_icmp_gtN (tgt := 108) dX9_quietest_16 (by decide) (by omega) (by omega) (fun c_16 => ?_) (fun c_16 => ?_)) | refine j_icmp_gt (tgt := 108) dX9_quietest_16 (by decide) (fun c_16 => ?_) (fun c_16 => ?_)
    · refine j_iload_n dX9_quietest_108 rfl ?_
      refine j_iret dX9_quietest_109 ⟨_, rfl, rfl⟩ (by omega) (by omega) ?_
      exact ⟨by rw [ha, show j = s by omega]; rfl, rfl⟩
    · refine j_iload dX9_quietest_19 rfl ?_
      first | refine j_aload_n dX9_quietest_21 rfl ?_ | refine j_aload_nN dX9_quietest_21 rfl ?_
      refine j_getR dX9_quietest_22 fl_X9_35 rfl (Mo.h H) (Mo.R H _ _ _ rfl) ?_
      refine j_bipush (v := nI 43) dX9_quietest_25 (by decide +kernel) ?_
      refine j_iload_n dX9_quietest_27 rfl ?_
      first | (with_reducible refine j_gNN ?_; refine j_iaddN dX9_quietest_28 ?_) | refine j_iadd dX9_quietest_28 ?_
      refine j_iald dX9_quietest_29 (Mo.S H _ _ _ rfl) rfl (by omega) (by decide) (by first | assumption | (rewrite [hC]; first | assumption | rfl) | rfl) ?_
      refine j_iconst (v := -1) dX9_quietest_30 (by decide +kernel) ?_
      refine j_ixor dX9_quietest_31 ?_
      refine j_iand dX9_quietest_32 ?_
      first | (with_reducible refine j_gB ?_; refine j_if_neB (tgt := 102) dX9_quietest_33 (by decide) (fun c_33 => ?_) (fun c_33 => ?_)) | (with_reducible refine j_gC ?_; refine j_if_neC (tgt := 102) dX9_quietest_33 (by decide) (fun c_33 => ?_) (fun c_33 => ?_)) | (with_reducible refine j_gN ?_; refine j_if_neN (tgt := 102) dX9_quietest_33 (by decide) (by omega) (fun c_33 => ?_) (fun c_33 => ?_)) | refine j_if_ne (tgt := 102) dX9_quietest_33 (by decide) (fun c_33 => ?_) (fun c_33 => ?_)
      · first | refine j_iincN dX9_quietest_102 rfl (by decide) ?_ | refine j_iinc dX9_quietest_102 rfl rfl (by decide) ?_
        refine j_goto (tgt := 5) dX9_quietest_105 (by decide) ?_
        refine ih (by omega) _ _ ?_
        rw [hs, qSel, hK]
        first
        | (rw [if_neg (fun q => c_33 q.1)]; done)
        | (rw [if_neg (fun q => q.2 (Int32.not_le.mp c_53))]; done)
        | (rw [if_pos ⟨c_33, Int32.not_lt.mpr c_53⟩, if_pos (Or.inl c_73)]; done)
        | (rw [if_pos ⟨c_33, Int32.not_lt.mpr c_53⟩, if_pos (Or.inr ⟨c_78, Int32.not_le.mp c_96⟩)]; done)
        | (rw [if_pos ⟨c_33, Int32.not_lt.mpr c_53⟩, if_neg (fun q => q.elim c_73 (fun q => c_78 q.1))]; done)
        | (rw [if_pos ⟨c_33, Int32.not_lt.mpr c_53⟩, if_neg (fun q => q.elim c_73 (fun q => absurd q.2 (Int32.not_lt.mpr c_96)))]; done)
        | skip
      · first | refine j_aload_n dX9_quietest_36 rfl ?_ | refine j_aload_nN dX9_quietest_36 rfl ?_
        refine j_iload_n dX9_quietest_37 rfl ?_
        refine j_iload dX9_quietest_38 rfl ?_
        refine j_iload_n dX9_quietest_40 rfl ?_
        refine j_dV1 kl_X9_425 (m_hairBy H hC hW hW8 hp (nI (j + 1)) days) dX9_quietest_41 rfl rfl (by decide) (Mo.h H) (Nat.le_of_ble_eq_true rfl) (by first | decide | omega) (by omega) (by omega) ?_
        first | refine j_aload_n dX9_quietest_44 rfl ?_ | refine j_aload_nN dX9_quietest_44 rfl ?_
        refine j_getR dX9_quietest_45 fl_X9_35 rfl (Mo.h H) (Mo.R H _ _ _ rfl) ?_
        refine j_bipush (v := nI 25) dX9_quietest_48 (by decide +kernel) ?_
        refine j_iload_n dX9_quietest_50 rfl ?_
        first | (with_reducible refine j_gNN ?_; refine j_iaddN dX9_quietest_51 ?_) | refine j_iadd dX9_quietest_51 ?_
        refine j_iald dX9_quietest_52 (Mo.S H _ _ _ rfl) rfl (by omega) (by decide) (by first | assumption | (rewrite [hC]; first | assumption | rfl) | rfl) ?_
        first | (with_reducible refine j_gNN ?_; refine j_icmp_leN (tgt := 59) dX9_quietest_53 (by decide) (by omega) (by omega) (fun c_53 => ?_) (fun c_53 => ?_)) | refine j_icmp_le (tgt := 59) dX9_quietest_53 (by decide) (fun c_53 => ?_) (fun c_53 => ?_)
        · refine j_iload dX9_quietest_59 rfl ?_
          refine j_dS1 kl_X9_390 (k_sizeOf (nI (j + 1))) dX9_quietest_61 rfl rfl (Nat.le_of_ble_eq_true rfl) (by first | decide | omega) (by omega) (by omega) ?_
          refine j_iload_n dX9_quietest_64 rfl ?_
          refine j_dS1 kl_X9_390 (k_sizeOf a) dX9_quietest_65 rfl rfl (Nat.le_of_ble_eq_true rfl) (by first | decide | omega) (by omega) (by omega) ?_
          first | (with_reducible refine j_gNN ?_; refine j_isubN dX9_quietest_68 (by omega) ?_) | refine j_isub dX9_quietest_68 ?_
          refine j_istore dX9_quietest_69 (by decide) ?_
          refine j_iload dX9_quietest_71 rfl ?_
          first | (with_reducible refine j_gC ?_; refine j_if_gtC (tgt := 99) dX9_quietest_73 (by decide) (fun c_73 => ?_) (fun c_73 => ?_)) | refine j_if_gt (tgt := 99) dX9_quietest_73 (by decide) (fun c_73 => ?_) (fun c_73 => ?_)
          · refine j_iload dX9_quietest_99 rfl ?_
            refine j_istore_n dX9_quietest_101 (by decide) ?_
            first | refine j_iincN dX9_quietest_102 rfl (by decide) ?_ | refine j_iinc dX9_quietest_102 rfl rfl (by decide) ?_
            refine j_goto (tgt := 5) dX9_quietest_105 (by decide) ?_
            refine ih (by omega) _ _ ?_
            rw [hs, qSel, hK]
            first
            | (rw [if_neg (fun q => c_33 q.1)]; done)
            | (rw [if_neg (fun q => q.2 (Int32.not_le.mp c_53))]; done)
            | (rw [if_pos ⟨c_33, Int32.not_lt.mpr c_53⟩, if_pos (Or.inl c_73)]; done)
            | (rw [if_pos ⟨c_33, Int32.not_lt.mpr c_53⟩, if_pos (Or.inr ⟨c_78, Int32.not_le.mp c_96⟩)]; done)
            | (rw [if_pos ⟨c_33, Int32.not_lt.mpr c_53⟩, if_neg (fun q => q.elim c_73 (fun q => c_78 q.1))]; done)
            | (rw [if_pos ⟨c_33, Int32.not_lt.mpr c_53⟩, if_neg (fun q => q.elim c_73 (fun q => absurd q.2 (Int32.not_lt.mpr c_96)))]; done)
            | skip
          · refine j_iload dX9_quietest_76 rfl ?_
            first | (with_reducible refine j_gB ?_; refine j_if_neB (tgt := 102) dX9_quietest_78 (by decide) (fun c_78 => ?_) (fun c_78 => ?_)) | (with_reducible refine j_gC ?_; refine j_if_neC (tgt := 102) dX9_quietest_78 (by decide) (fun c_78 => ?_) (fun c_78 => ?_)) | (with_reducible refine j_gN ?_; refine j_if_neN (tgt := 102) dX9_quietest_78 (by decide) (by omega) (fun c_78 => ?_) (fun c_78 => ?_)) | refine j_if_ne (tgt := 102) dX9_quietest_78 (by decide) (fun c_78 => ?_) (fun c_78 => ?_)
            · first | refine j_iincN dX9_quietest_102 rfl (by decide) ?_ | refine j_iinc dX9_quietest_102 rfl rfl (by decide) ?_
              refine j_goto (tgt := 5) dX9_quietest_105 (by decide) ?_
              refine ih (by omega) _ _ ?_
              rw [hs, qSel, hK]
              first
              | (rw [if_neg (fun q => c_33 q.1)]; done)
              | (rw [if_neg (fun q => q.2 (Int32.not_le.mp c_53))]; done)
              | (rw [if_pos ⟨c_33, Int32.not_lt.mpr c_53⟩, if_pos (Or.inl c_73)]; done)
              | (rw [if_pos ⟨c_33, Int32.not_lt.mpr c_53⟩, if_pos (Or.inr ⟨c_78, Int32.not_le.mp c_96⟩)]; done)
              | (rw [if_pos ⟨c_33, Int32.not_lt.mpr c_53⟩, if_neg (fun q => q.elim c_73 (fun q => c_78 q.1))]; done)
              | (rw [if_pos ⟨c_33, Int32.not_lt.mpr c_53⟩, if_neg (fun q => q.elim c_73 (fun q => absurd q.2 (Int32.not_lt.mpr c_96)))]; done)
              | skip
            · first | refine j_aload_n dX9_quietest_81 rfl ?_ | refine j_aload_nN dX9_quietest_81 rfl ?_
              refine j_iload_n dX9_quietest_82 rfl ?_
              refine j_iload dX9_quietest_83 rfl ?_
              refine j_iload_n dX9_quietest_85 rfl ?_
              refine j_dV1 kl_X9_425 (m_hairBy H hC hW hW8 hp (nI (j + 1)) days) dX9_quietest_86 rfl rfl (by decide) (Mo.h H) (Nat.le_of_ble_eq_true rfl) (by first | decide | omega) (by omega) (by omega) ?_
              first | refine j_aload_n dX9_quietest_89 rfl ?_ | refine j_aload_nN dX9_quietest_89 rfl ?_
              refine j_iload_n dX9_quietest_90 rfl ?_
              refine j_iload_n dX9_quietest_91 rfl ?_
              refine j_iload_n dX9_quietest_92 rfl ?_
              refine j_dV1 kl_X9_425 (m_hairBy H hC hW hW8 hp a days) dX9_quietest_93 rfl rfl (by decide) (Mo.h H) (Nat.le_of_ble_eq_true rfl) (by first | decide | omega) (by omega) (by omega) ?_
              first | (with_reducible refine j_gNN ?_; refine j_icmp_leN (tgt := 102) dX9_quietest_96 (by decide) (by omega) (by omega) (fun c_96 => ?_) (fun c_96 => ?_)) | refine j_icmp_le (tgt := 102) dX9_quietest_96 (by decide) (fun c_96 => ?_) (fun c_96 => ?_)
              · first | refine j_iincN dX9_quietest_102 rfl (by decide) ?_ | refine j_iinc dX9_quietest_102 rfl rfl (by decide) ?_
                refine j_goto (tgt := 5) dX9_quietest_105 (by decide) ?_
                refine ih (by omega) _ _ ?_
                rw [hs, qSel, hK]
                first
                | (rw [if_neg (fun q => c_33 q.1)]; done)
                | (rw [if_neg (fun q => q.2 (Int32.not_le.mp c_53))]; done)
                | (rw [if_pos ⟨c_33, Int32.not_lt.mpr c_53⟩, if_pos (Or.inl c_73)]; done)
                | (rw [if_pos ⟨c_33, Int32.not_lt.mpr c_53⟩, if_pos (Or.inr ⟨c_78, Int32.not_le.mp c_96⟩)]; done)
                | (rw [if_pos ⟨c_33, Int32.not_lt.mpr c_53⟩, if_neg (fun q => q.elim c_73 (fun q => c_78 q.1))]; done)
                | (rw [if_pos ⟨c_33, Int32.not_lt.mpr c_53⟩, if_neg (fun q => q.elim c_73 (fun q => absurd q.2 (Int32.not_lt.mpr c_96)))]; done)
                | skip
              · refine j_iload dX9_quietest_99 rfl ?_
                refine j_istore_n dX9_quietest_101 (by decide) ?_
                first | refine j_iincN dX9_quietest_102 rfl (by decide) ?_ | refine j_iinc dX9_quietest_102 rfl rfl (by decide) ?_
                refine j_goto (tgt := 5) dX9_quietest_105 (by decide) ?_
                refine ih (by omega) _ _ ?_
                rw [hs, qSel, hK]
                first
                | (rw [if_neg (fun q => c_33 q.1)]; done)
                | (rw [if_neg (fun q => q.2 (Int32.not_le.mp c_53))]; done)
                | (rw [if_pos ⟨c_33, Int32.not_lt.mpr c_53⟩, if_pos (Or.inl c_73)]; done)
                | (rw [if_pos ⟨c_33, Int32.not_lt.mpr c_53⟩, if_pos (Or.inr ⟨c_78, Int32.not_le.mp c_96⟩)]; done)
                | (rw [if_pos ⟨c_33, Int32.not_lt.mpr c_53⟩, if_neg (fun q => q.elim c_73 (fun q => c_78 q.1))]; done)
                | (rw [if_pos ⟨c_33, Int32.not_lt.mpr c_53⟩, if_neg (fun q => q.elim c_73 (fun q => absurd q.2 (Int32.not_lt.mpr c_96)))]; done)
                | skip
        · refine j_goto (tgt := 102) dX9_quietest_56 (by decide) ?_
          first | refine j_iincN dX9_quietest_102 rfl (by decide) ?_ | refine j_iinc dX9_quietest_102 rfl rfl (by decide) ?_
          refine j_goto (tgt := 5) dX9_quietest_105 (by decide) ?_
          refine ih (by omega) _ _ ?_
          rw [hs, qSel, hK]
          first
          | (rw [if_neg (fun q => c_33 q.1)]; done)
          | (rw [if_neg (fun q => q.2 (Int32.not_le.mp c_53))]; done)
          | (rw [if_pos ⟨c_33, Int32.not_lt.mpr c_53⟩, if_pos (Or.inl c_73)]; done)
          | (rw [if_pos ⟨c_33, Int32.not_lt.mpr c_53⟩, if_pos (Or.inr ⟨c_78, Int32.not_le.mp c_96⟩)]; done)
          | (rw [if_pos ⟨c_33, Int32.not_lt.mpr c_53⟩, if_neg (fun q => q.elim c_73 (fun q => c_78 q.1))]; done)
          | (rw [if_pos ⟨c_33, Int32.not_lt.mpr c_53⟩, if_neg (fun q => q.elim c_73 (fun q => absurd q.2 (Int32.not_lt.mpr c_96)))]; done)
          | skip
  refine j_iconst (v := nI 0) dX9_quietest_0 (by decide +kernel) ?_
  refine j_istore_n dX9_quietest_1 (by decide) ?_
  refine j_iconst (v := nI 1) dX9_quietest_2 (by decide +kernel) ?_
  refine j_istore dX9_quietest_3 (by decide) ?_
  exact key 0 (by omega) _ _ rfl
theorem m_allWords (H : Mo σ h ad) (hC : σ.2.1 (ad 20) = C) {W : Nat} (hW : C 0 = nI W) (hW8 : W ≤ 8) : Kd g l 0 MX9_allWords [.ref h] σ (some (.int (nI (2 ^ W - 1)))) σ := by
  refine Kt.go (Y := MX9_allWords) (ls := [some (.ref h)]) (by decide) (Nat.le_of_ble_eq_true rfl) rfl ?_
  refine j_iconst (v := nI 1) dX9_allWords_0 (by decide +kernel) ?_
  first | refine j_aload_n dX9_allWords_1 rfl ?_ | refine j_aload_nN dX9_allWords_1 rfl ?_
  refine j_getR dX9_allWords_2 fl_X9_35 rfl (Mo.h H) (Mo.R H _ _ _ rfl) ?_
  refine j_iconst (v := nI 0) dX9_allWords_5 (by decide +kernel) ?_
  refine j_iald dX9_allWords_6 (Mo.S H _ _ _ rfl) rfl (by omega) (by decide) (by first | assumption | (rewrite [hC]; first | assumption | rfl) | rfl) ?_
  refine j_ishl dX9_allWords_7 ?_
  refine j_iconst (v := nI 1) dX9_allWords_8 (by decide +kernel) ?_
  refine j_isub dX9_allWords_9 ?_
  refine j_top (aw_eq hW8) ?_
  refine j_iret dX9_allWords_10 ⟨_, rfl, rfl⟩ (by omega) (by omega) ?_
  exact ⟨rfl, rfl⟩
theorem m_areWords (H : Mo σ h ad) (hC : σ.2.1 (ad 20) = C) {W : Nat} (hW : C 0 = nI W) (hW8 : W ≤ 8) (set : Int32) : Kd g l 1 MX9_areWords [.ref h, .int set] σ (some (.int (bI (okN set (2 ^ W))))) σ := by
  have h1 := pw8 hW8
  have h2 : 1 ≤ 2 ^ W := pw_pos
  rw [← inL_n (by omega), nI_sub h2]
  refine Kt.go (Y := MX9_areWords) (ls := [some (.ref h), some (.int set)]) (by decide) (Nat.le_of_ble_eq_true rfl) rfl ?_
  refine j_iload_n dX9_areWords_0 rfl ?_
  refine j_i2l dX9_areWords_1 ?_
  refine j_lconst (v := 0) dX9_areWords_2 (by decide +kernel) ?_
  first | refine j_aload_n dX9_areWords_3 rfl ?_ | refine j_aload_nN dX9_areWords_3 rfl ?_
  refine j_dV1 kl_X9_431 (m_allWords H hC hW hW8) dX9_areWords_4 rfl rfl (by decide) (Mo.h H) (Nat.le_of_ble_eq_true rfl) (by first | decide | omega) (by omega) (by omega) ?_
  refine j_i2l dX9_areWords_7 ?_
  refine j_dS1 kl_X9_102 (k_inL _ _ _) dX9_areWords_8 rfl rfl (Nat.le_of_ble_eq_true rfl) (by first | decide | omega) (by omega) (by omega) ?_
  refine j_iret dX9_areWords_11 ⟨_, rfl, bI_nar _⟩ (by omega) (by omega) ?_
  exact ⟨rfl, rfl⟩
theorem m_grown (H : Mo σ h ad) (hC : σ.2.1 (ad 20) = C) {W : Nat} (hW : C 0 = nI W) (hW8 : W ≤ 8) (set days : Int32) : Kd g l 1 MX9_grown [.ref h, .int set, .int days] σ (some (.int (mGrown C W set days))) σ := by
  refine Kt.go (Y := MX9_grown) (ls := [some (.ref h), some (.int set), some (.int days), none, none]) (by decide) (Nat.le_of_ble_eq_true rfl) rfl ?_
  have key : ∀ j, j ≤ W → ∀ a, a = sumTo (grF C set days) j → Td g l 1 MX9_grown [.ref h, .int set, .int days] σ (some (.int (mGrown C W set days))) 5 [some (.ref h), some (.int set), some (.int days), some (.int a), some (.int (nI j))] [] σ := by
    refine loop_up fun j hj ih => ?_
    intro a ha
    refine j_iload dX9_grown_5 rfl ?_
    first | refine j_aload_n dX9_grown_7 rfl ?_ | refine j_aload_nN dX9_grown_7 rfl ?_
    refine j_getR dX9_grown_8 fl_X9_35 rfl (Mo.h H) (Mo.R H _ _ _ rfl) ?_
    refine j_iconst (v := nI 0) dX9_grown_11 (by decide +kernel) ?_
    refine j_iald dX9_grown_12 (Mo.S H _ _ _ rfl) rfl (by omega) (by decide) (by first | assumption | (rewrite [hC]; first | assumption | rfl) | rfl) ?_
    first | (with_reducible refine j_gNN ?_; refine j_icmp_geN (tgt := 63) dX9_grown_13 (by decide) (by omega) (by omega) (fun c_13 => ?_) (fun c_13 => ?_)) | refine j_icmp_ge (tgt := 63) dX9_grown_13 (by decide) (fun c_13 => ?_) (fun c_13 => ?_)
    · refine j_iload_n dX9_grown_63 rfl ?_
      refine j_iret dX9_grown_64 ⟨_, rfl, rfl⟩ (by omega) (by omega) ?_
      exact ⟨by rw [ha, show j = W by omega]; rfl, rfl⟩
    · refine j_iload_n dX9_grown_16 rfl ?_
      refine j_iload_n dX9_grown_17 rfl ?_
      refine j_iload dX9_grown_18 rfl ?_
      refine j_dS1 kl_X9_106 (k_has _ _ _ _ j) dX9_grown_20 rfl rfl (Nat.le_of_ble_eq_true rfl) (by first | decide | omega) (by omega) (by omega) ?_
      first | (with_reducible refine j_gB ?_; refine j_if_eqB (tgt := 54) dX9_grown_23 (by decide) (fun c_23 => ?_) (fun c_23 => ?_)) | (with_reducible refine j_gC ?_; refine j_if_eqC (tgt := 54) dX9_grown_23 (by decide) (fun c_23 => ?_) (fun c_23 => ?_)) | (with_reducible refine j_gN ?_; refine j_if_eqN (tgt := 54) dX9_grown_23 (by decide) (by omega) (fun c_23 => ?_) (fun c_23 => ?_)) | refine j_if_eq (tgt := 54) dX9_grown_23 (by decide) (fun c_23 => ?_) (fun c_23 => ?_)
      · refine j_iconst (v := nI 0) dX9_grown_54 (by decide +kernel) ?_
        first | (with_reducible refine j_gNN ?_; refine j_iaddN dX9_grown_55 ?_) | refine j_iadd dX9_grown_55 ?_
        refine j_istore_n dX9_grown_56 (by decide) ?_
        first | refine j_iincN dX9_grown_57 rfl (by decide) ?_ | refine j_iinc dX9_grown_57 rfl rfl (by decide) ?_
        refine j_goto (tgt := 5) dX9_grown_60 (by decide) ?_
        exact ih (by omega) _ (by rw [ha, sumTo, grF, c_23]; rfl)
      · first | refine j_aload_n dX9_grown_26 rfl ?_ | refine j_aload_nN dX9_grown_26 rfl ?_
        refine j_getR dX9_grown_27 fl_X9_35 rfl (Mo.h H) (Mo.R H _ _ _ rfl) ?_
        refine j_bipush (v := nI 9) dX9_grown_30 (by decide +kernel) ?_
        refine j_iload dX9_grown_32 rfl ?_
        first | (with_reducible refine j_gNN ?_; refine j_iaddN dX9_grown_34 ?_) | refine j_iadd dX9_grown_34 ?_
        refine j_iald dX9_grown_35 (Mo.S H _ _ _ rfl) rfl (by omega) (by decide) (by first | assumption | (rewrite [hC]; first | assumption | rfl) | rfl) ?_
        refine j_iload_n dX9_grown_36 rfl ?_
        first | refine j_aload_n dX9_grown_37 rfl ?_ | refine j_aload_nN dX9_grown_37 rfl ?_
        refine j_getR dX9_grown_38 fl_X9_35 rfl (Mo.h H) (Mo.R H _ _ _ rfl) ?_
        refine j_bipush (v := nI 17) dX9_grown_41 (by decide +kernel) ?_
        refine j_iload dX9_grown_43 rfl ?_
        first | (with_reducible refine j_gNN ?_; refine j_iaddN dX9_grown_45 ?_) | refine j_iadd dX9_grown_45 ?_
        refine j_iald dX9_grown_46 (Mo.S H _ _ _ rfl) rfl (by omega) (by decide) (by first | assumption | (rewrite [hC]; first | assumption | rfl) | rfl) ?_
        refine j_min dX9_grown_47 q2104 q783 q194 q784 (Nat.le_of_ble_eq_true rfl) (by omega) (by omega) ?_
        first | (with_reducible refine j_gNN ?_; refine j_imulN dX9_grown_50 ?_) | refine j_imul dX9_grown_50 ?_
        refine j_goto (tgt := 55) dX9_grown_51 (by decide) ?_
        first | (with_reducible refine j_gNN ?_; refine j_iaddN dX9_grown_55 ?_) | refine j_iadd dX9_grown_55 ?_
        refine j_istore_n dX9_grown_56 (by decide) ?_
        first | refine j_iincN dX9_grown_57 rfl (by decide) ?_ | refine j_iinc dX9_grown_57 rfl rfl (by decide) ?_
        refine j_goto (tgt := 5) dX9_grown_60 (by decide) ?_
        exact ih (by omega) _ (by rw [ha, sumTo, grF, c_23]; rfl)
  refine j_iconst (v := nI 0) dX9_grown_0 (by decide +kernel) ?_
  refine j_istore_n dX9_grown_1 (by decide) ?_
  refine j_iconst (v := nI 0) dX9_grown_2 (by decide +kernel) ?_
  refine j_istore dX9_grown_3 (by decide) ?_
  exact key 0 (by omega) _ rfl
theorem m_isTray (H : Mo σ h ad) (t : Int32) : Kd g l 1 MX9_isTray [.ref h, .int t] σ (some (.int (bI (okN t 4)))) σ := by
  rw [← inL_n (by decide)]
  refine Kt.go (Y := MX9_isTray) (ls := [some (.ref h), some (.int t)]) (by decide) (Nat.le_of_ble_eq_true rfl) rfl ?_
  refine j_iload_n dX9_isTray_0 rfl ?_
  refine j_i2l dX9_isTray_1 ?_
  refine j_lconst (v := 0) dX9_isTray_2 (by decide +kernel) ?_
  refine j_ldc2 (v := 3) dX9_isTray_3 q2089 ?_
  refine j_dS1 kl_X9_102 (k_inL _ _ _) dX9_isTray_6 rfl rfl (Nat.le_of_ble_eq_true rfl) (by first | decide | omega) (by omega) (by omega) ?_
  refine j_iret dX9_isTray_9 ⟨_, rfl, bI_nar _⟩ (by omega) (by omega) ?_
  exact ⟨rfl, rfl⟩
theorem m_numberOf (H : Mo σ h ad) {N : Nat → Int64} (hN : σ.2.2.1 (ad 6) = N) {t i : Nat} (hi : 60 * t + i < 240) : Kd g l 0 MX9_numberOf [.ref h, .int (nI t), .int (nI i)] σ (some (.long (N (60 * t + i)))) σ := by
  subst hN
  refine Kt.go (Y := MX9_numberOf) (ls := [some (.ref h), some (.int (nI t)), some (.int (nI i))]) (by decide) (Nat.le_of_ble_eq_true rfl) rfl ?_
  first | refine j_aload_n dX9_numberOf_0 rfl ?_ | refine j_aload_nN dX9_numberOf_0 rfl ?_
  refine j_getR dX9_numberOf_1 fl_X9_20 rfl (Mo.h H) (Mo.R H _ _ _ rfl) ?_
  refine j_bipush (v := nI 60) dX9_numberOf_4 (by decide +kernel) ?_
  refine j_iload_n dX9_numberOf_6 rfl ?_
  first | (with_reducible refine j_gNN ?_; refine j_imulN dX9_numberOf_7 ?_) | refine j_imul dX9_numberOf_7 ?_
  refine j_iload_n dX9_numberOf_8 rfl ?_
  first | (with_reducible refine j_gNN ?_; refine j_iaddN dX9_numberOf_9 ?_) | refine j_iadd dX9_numberOf_9 ?_
  refine j_lald dX9_numberOf_10 (Mo.S H _ _ _ rfl) rfl (by omega) (by decide) (by first | assumption | (rewrite [hC]; first | assumption | rfl) | rfl) ?_
  refine j_lret dX9_numberOf_11 rfl (by omega) (by omega) ?_
  exact ⟨rfl, rfl⟩
theorem m_why2 (H : Mo σ h ad) {M : Nat → Int32} (hC : σ.2.1 (ad 5) = M) (t n : Int32) : Kd g l 2 MX9_whyNoTwos [.ref h, .int t, .int n] σ (some (.int (mWhy2 M t n))) σ := by
  refine Kt.go (Y := MX9_whyNoTwos) (ls := [some (.ref h), some (.int t), some (.int n)]) (by decide) (Nat.le_of_ble_eq_true rfl) rfl ?_
  cases e : okN t 4 with
  | false =>
    first | refine j_aload_n dX9_whyNoTwos_0 rfl ?_ | refine j_aload_nN dX9_whyNoTwos_0 rfl ?_
    refine j_iload_n dX9_whyNoTwos_1 rfl ?_
    refine j_dV1 kl_X9_356 (m_isTray H t) dX9_whyNoTwos_2 rfl rfl (by decide) (Mo.h H) (Nat.le_of_ble_eq_true rfl) (by first | decide | omega) (by omega) (by omega) ?_
    first | (with_reducible refine j_gB ?_; refine j_if_neB (tgt := 10) dX9_whyNoTwos_5 (by decide) (fun c_5 => ?_) (fun c_5 => ?_)) | (with_reducible refine j_gC ?_; refine j_if_neC (tgt := 10) dX9_whyNoTwos_5 (by decide) (fun c_5 => ?_) (fun c_5 => ?_)) | (with_reducible refine j_gN ?_; refine j_if_neN (tgt := 10) dX9_whyNoTwos_5 (by decide) (by omega) (fun c_5 => ?_) (fun c_5 => ?_)) | refine j_if_ne (tgt := 10) dX9_whyNoTwos_5 (by decide) (fun c_5 => ?_) (fun c_5 => ?_)
    · rw [e] at c_5; cases c_5
    · refine j_iconst (v := nI 1) dX9_whyNoTwos_8 (by decide +kernel) ?_
      refine j_iret dX9_whyNoTwos_9 ⟨_, rfl, rfl⟩ (by omega) (by omega) ?_
      exact ⟨by rw [mWhy2, e]; rfl, rfl⟩
  | true =>
    obtain ⟨k, hk, rfl⟩ := okN_nI e
    have ek : ixn (nI k) = k := ixn_nI (by omega)
    first | refine j_aload_n dX9_whyNoTwos_0 rfl ?_ | refine j_aload_nN dX9_whyNoTwos_0 rfl ?_
    refine j_iload_n dX9_whyNoTwos_1 rfl ?_
    refine j_dV1 kl_X9_356 (m_isTray H (nI k)) dX9_whyNoTwos_2 rfl rfl (by decide) (Mo.h H) (Nat.le_of_ble_eq_true rfl) (by first | decide | omega) (by omega) (by omega) ?_
    first | (with_reducible refine j_gB ?_; refine j_if_neB (tgt := 10) dX9_whyNoTwos_5 (by decide) (fun c_5 => ?_) (fun c_5 => ?_)) | (with_reducible refine j_gC ?_; refine j_if_neC (tgt := 10) dX9_whyNoTwos_5 (by decide) (fun c_5 => ?_) (fun c_5 => ?_)) | (with_reducible refine j_gN ?_; refine j_if_neN (tgt := 10) dX9_whyNoTwos_5 (by decide) (by omega) (fun c_5 => ?_) (fun c_5 => ?_)) | refine j_if_ne (tgt := 10) dX9_whyNoTwos_5 (by decide) (fun c_5 => ?_) (fun c_5 => ?_)
    · first | refine j_aload_n dX9_whyNoTwos_10 rfl ?_ | refine j_aload_nN dX9_whyNoTwos_10 rfl ?_
      refine j_getR dX9_whyNoTwos_11 fl_X9_17 rfl (Mo.h H) (Mo.R H _ _ _ rfl) ?_
      refine j_iload_n dX9_whyNoTwos_14 rfl ?_
      refine j_iald dX9_whyNoTwos_15 (Mo.S H _ _ _ rfl) rfl (by omega) (by decide) (by first | assumption | (rewrite [hC]; first | assumption | rfl) | rfl) ?_
      first | (with_reducible refine j_gC ?_; refine j_if_geC (tgt := 21) dX9_whyNoTwos_16 (by decide) (fun c_16 => ?_) (fun c_16 => ?_)) | refine j_if_ge (tgt := 21) dX9_whyNoTwos_16 (by decide) (fun c_16 => ?_) (fun c_16 => ?_)
      · first | refine j_aload_n dX9_whyNoTwos_21 rfl ?_ | refine j_aload_nN dX9_whyNoTwos_21 rfl ?_
        refine j_getR dX9_whyNoTwos_22 fl_X9_17 rfl (Mo.h H) (Mo.R H _ _ _ rfl) ?_
        refine j_iload_n dX9_whyNoTwos_25 rfl ?_
        refine j_iald dX9_whyNoTwos_26 (Mo.S H _ _ _ rfl) rfl (by omega) (by decide) (by first | assumption | (rewrite [hC]; first | assumption | rfl) | rfl) ?_
        refine j_i2l dX9_whyNoTwos_27 ?_
        refine j_ldc2 (v := 2) dX9_whyNoTwos_28 q2072 ?_
        refine j_iload_n dX9_whyNoTwos_31 rfl ?_
        refine j_i2l dX9_whyNoTwos_32 ?_
        refine j_lmul dX9_whyNoTwos_33 ?_
        refine j_lcmp dX9_whyNoTwos_34 ?_
        first | (with_reducible refine j_gC ?_; refine j_if_geC (tgt := 40) dX9_whyNoTwos_35 (by decide) (fun c_35 => ?_) (fun c_35 => ?_)) | refine j_if_ge (tgt := 40) dX9_whyNoTwos_35 (by decide) (fun c_35 => ?_) (fun c_35 => ?_)
        · refine j_iload_n dX9_whyNoTwos_40 rfl ?_
          refine j_i2l dX9_whyNoTwos_41 ?_
          refine j_lconst (v := 0) dX9_whyNoTwos_42 (by decide +kernel) ?_
          refine j_ldc2 (v := 20) dX9_whyNoTwos_43 q2248 ?_
          refine j_dS1 kl_X9_102 (k_inL _ _ _) dX9_whyNoTwos_46 rfl rfl (Nat.le_of_ble_eq_true rfl) (by first | decide | omega) (by omega) (by omega) ?_
          first | (with_reducible refine j_gB ?_; refine j_if_eqB (tgt := 56) dX9_whyNoTwos_49 (by decide) (fun c_49 => ?_) (fun c_49 => ?_)) | (with_reducible refine j_gC ?_; refine j_if_eqC (tgt := 56) dX9_whyNoTwos_49 (by decide) (fun c_49 => ?_) (fun c_49 => ?_)) | (with_reducible refine j_gN ?_; refine j_if_eqN (tgt := 56) dX9_whyNoTwos_49 (by decide) (by omega) (fun c_49 => ?_) (fun c_49 => ?_)) | refine j_if_eq (tgt := 56) dX9_whyNoTwos_49 (by decide) (fun c_49 => ?_) (fun c_49 => ?_)
          · refine j_iconst (v := nI 5) dX9_whyNoTwos_56 (by decide +kernel) ?_
            refine j_iret dX9_whyNoTwos_57 ⟨_, rfl, rfl⟩ (by omega) (by omega) ?_
            refine ⟨?_, rfl⟩
            rw [mWhy2, e, if_pos rfl, ek]
            first
            | (rw [if_pos (Int32.not_le.mp c_16)]; done)
            | (rw [if_neg (Int32.not_lt.mpr c_16), if_pos c_35]; done)
            | (rw [if_neg (Int32.not_lt.mpr c_16), if_neg c_35, c_49]; rfl)
          · refine j_iconst (v := nI 0) dX9_whyNoTwos_52 (by decide +kernel) ?_
            refine j_goto (tgt := 57) dX9_whyNoTwos_53 (by decide) ?_
            refine j_iret dX9_whyNoTwos_57 ⟨_, rfl, rfl⟩ (by omega) (by omega) ?_
            refine ⟨?_, rfl⟩
            rw [mWhy2, e, if_pos rfl, ek]
            first
            | (rw [if_pos (Int32.not_le.mp c_16)]; done)
            | (rw [if_neg (Int32.not_lt.mpr c_16), if_pos c_35]; done)
            | (rw [if_neg (Int32.not_lt.mpr c_16), if_neg c_35, c_49]; rfl)
        · refine j_iconst (v := nI 4) dX9_whyNoTwos_38 (by decide +kernel) ?_
          refine j_iret dX9_whyNoTwos_39 ⟨_, rfl, rfl⟩ (by omega) (by omega) ?_
          refine ⟨?_, rfl⟩
          rw [mWhy2, e, if_pos rfl, ek]
          first
          | (rw [if_pos (Int32.not_le.mp c_16)]; done)
          | (rw [if_neg (Int32.not_lt.mpr c_16), if_pos c_35]; done)
          | (rw [if_neg (Int32.not_lt.mpr c_16), if_neg c_35, c_49]; rfl)
      · refine j_iconst (v := nI 3) dX9_whyNoTwos_19 (by decide +kernel) ?_
        refine j_iret dX9_whyNoTwos_20 ⟨_, rfl, rfl⟩ (by omega) (by omega) ?_
        refine ⟨?_, rfl⟩
        rw [mWhy2, e, if_pos rfl, ek]
        first
        | (rw [if_pos (Int32.not_le.mp c_16)]; done)
        | (rw [if_neg (Int32.not_lt.mpr c_16), if_pos c_35]; done)
        | (rw [if_neg (Int32.not_lt.mpr c_16), if_neg c_35, c_49]; rfl)
    · rw [e] at c_5; cases c_5
theorem m_whyU (H : Mo σ h ad) {M : Nat → Int32} (hC : σ.2.1 (ad 5) = M) {N : Nat → Int64} (hN : σ.2.2.1 (ad 6) = N) (hM : Wm M) (t n : Int32) : Kd g l 3 MX9_whyNotUnsaid [.ref h, .int t, .int n] σ (some (.int (mWhyU M N t n))) σ := by
  refine Kt.go (Y := MX9_whyNotUnsaid) (ls := [some (.ref h), some (.int t), some (.int n), none, none]) (by decide) (Nat.le_of_ble_eq_true rfl) rfl ?_
  by_cases e : mWhy2 M t n = nI 0
  · obtain ⟨k, m, m2, hk, rfl, rfl, hm, -, hm2, hmm⟩ := mWhy2_0 hM e
    have eU : mWhyU M N (nI k) (nI m) = if allB (unsOk N k) m then nI 0 else nI 5 := by rw [mWhyU, if_pos e, ixn_nI (by omega), ixn_nI (by omega)]
    have key : ∀ j, j ≤ m → ∀ a, a = (if allB (unsOk N k) j then nI 0 else nI 5) → Td g l 3 MX9_whyNotUnsaid [.ref h, .int (nI k), .int (nI m)] σ (some (.int (mWhyU M N (nI k) (nI m)))) 10 [some (.ref h), some (.int (nI k)), some (.int (nI m)), some (.int a), some (.int (nI j))] [] σ := by
      refine loop_up fun j hj ih => ?_
      intro a ha
      cases eA : allB (unsOk N k) j with
      | false =>
        rw [eA] at ha
        have ha : a = nI 5 := ha
        subst ha
        refine j_iload dX9_whyNotUnsaid_10 rfl ?_
        refine j_iload_n dX9_whyNotUnsaid_12 rfl ?_
        first | (with_reducible refine j_gNN ?_; refine j_icmp_geN (tgt := 67) dX9_whyNotUnsaid_13 (by decide) (by omega) (by omega) (fun c_13 => ?_) (fun c_13 => ?_)) | refine j_icmp_ge (tgt := 67) dX9_whyNotUnsaid_13 (by decide) (fun c_13 => ?_) (fun c_13 => ?_)
        · refine j_iload_n dX9_whyNotUnsaid_67 rfl ?_
          refine j_iret dX9_whyNotUnsaid_68 ⟨_, rfl, rfl⟩ (by omega) (by omega) ?_
          exact ⟨by rw [eU, allB_le eA hj]; rfl, rfl⟩
        · refine j_iload_n dX9_whyNotUnsaid_16 rfl ?_
          first | (with_reducible refine j_gB ?_; refine j_if_neB (tgt := 67) dX9_whyNotUnsaid_17 (by decide) (fun c_17 => ?_) (fun c_17 => ?_)) | (with_reducible refine j_gC ?_; refine j_if_neC (tgt := 67) dX9_whyNotUnsaid_17 (by decide) (fun c_17 => ?_) (fun c_17 => ?_)) | (with_reducible refine j_gN ?_; refine j_if_neN (tgt := 67) dX9_whyNotUnsaid_17 (by decide) (by omega) (fun c_17 => ?_) (fun c_17 => ?_)) | refine j_if_ne (tgt := 67) dX9_whyNotUnsaid_17 (by decide) (fun c_17 => ?_) (fun c_17 => ?_)
          · refine j_iload_n dX9_whyNotUnsaid_67 rfl ?_
            refine j_iret dX9_whyNotUnsaid_68 ⟨_, rfl, rfl⟩ (by omega) (by omega) ?_
            exact ⟨by rw [eU, allB_le eA hj]; rfl, rfl⟩
          · exact absurd c_17 (by decide)
      | true =>
        rw [eA] at ha
        have ha : a = nI 0 := ha
        subst ha
        refine j_iload dX9_whyNotUnsaid_10 rfl ?_
        refine j_iload_n dX9_whyNotUnsaid_12 rfl ?_
        first | (with_reducible refine j_gNN ?_; refine j_icmp_geN (tgt := 67) dX9_whyNotUnsaid_13 (by decide) (by omega) (by omega) (fun c_13 => ?_) (fun c_13 => ?_)) | refine j_icmp_ge (tgt := 67) dX9_whyNotUnsaid_13 (by decide) (fun c_13 => ?_) (fun c_13 => ?_)
        · refine j_iload_n dX9_whyNotUnsaid_67 rfl ?_
          refine j_iret dX9_whyNotUnsaid_68 ⟨_, rfl, rfl⟩ (by omega) (by omega) ?_
          exact ⟨by rw [eU, ← show j = m by omega, eA]; rfl, rfl⟩
        · refine j_iload_n dX9_whyNotUnsaid_16 rfl ?_
          first | (with_reducible refine j_gB ?_; refine j_if_neB (tgt := 67) dX9_whyNotUnsaid_17 (by decide) (fun c_17 => ?_) (fun c_17 => ?_)) | (with_reducible refine j_gC ?_; refine j_if_neC (tgt := 67) dX9_whyNotUnsaid_17 (by decide) (fun c_17 => ?_) (fun c_17 => ?_)) | (with_reducible refine j_gN ?_; refine j_if_neN (tgt := 67) dX9_whyNotUnsaid_17 (by decide) (by omega) (fun c_17 => ?_) (fun c_17 => ?_)) | refine j_if_ne (tgt := 67) dX9_whyNotUnsaid_17 (by decide) (fun c_17 => ?_) (fun c_17 => ?_)
          · exact absurd rfl c_17
          · first | refine j_aload_n dX9_whyNotUnsaid_20 rfl ?_ | refine j_aload_nN dX9_whyNotUnsaid_20 rfl ?_
            refine j_iload_n dX9_whyNotUnsaid_21 rfl ?_
            refine j_iconst (v := nI 2) dX9_whyNotUnsaid_22 (by decide +kernel) ?_
            refine j_iload dX9_whyNotUnsaid_23 rfl ?_
            first | (with_reducible refine j_gNN ?_; refine j_imulN dX9_whyNotUnsaid_25 ?_) | refine j_imul dX9_whyNotUnsaid_25 ?_
            refine j_dV1 kl_X9_439 (m_numberOf H hN (by omega)) dX9_whyNotUnsaid_26 rfl rfl (by decide) (Mo.h H) (Nat.le_of_ble_eq_true rfl) (by first | decide | omega) (by omega) (by omega) ?_
            refine j_lconst (v := 0) dX9_whyNotUnsaid_29 (by decide +kernel) ?_
            refine j_ldc2 (v := 999) dX9_whyNotUnsaid_30 q2152 ?_
            refine j_dS1 kl_X9_102 (k_inL _ _ _) dX9_whyNotUnsaid_33 rfl rfl (Nat.le_of_ble_eq_true rfl) (by first | decide | omega) (by omega) (by omega) ?_
            first | (with_reducible refine j_gB ?_; refine j_if_eqB (tgt := 59) dX9_whyNotUnsaid_36 (by decide) (fun c_36 => ?_) (fun c_36 => ?_)) | (with_reducible refine j_gC ?_; refine j_if_eqC (tgt := 59) dX9_whyNotUnsaid_36 (by decide) (fun c_36 => ?_) (fun c_36 => ?_)) | (with_reducible refine j_gN ?_; refine j_if_eqN (tgt := 59) dX9_whyNotUnsaid_36 (by decide) (by omega) (fun c_36 => ?_) (fun c_36 => ?_)) | refine j_if_eq (tgt := 59) dX9_whyNotUnsaid_36 (by decide) (fun c_36 => ?_) (fun c_36 => ?_)
            · refine j_iconst (v := nI 5) dX9_whyNotUnsaid_59 (by decide +kernel) ?_
              refine j_istore_n dX9_whyNotUnsaid_60 (by decide) ?_
              first | refine j_iincN dX9_whyNotUnsaid_61 rfl (by decide) ?_ | refine j_iinc dX9_whyNotUnsaid_61 rfl rfl (by decide) ?_
              refine j_goto (tgt := 10) dX9_whyNotUnsaid_64 (by decide) ?_
              exact ih (by omega) _ (by rw [allB, eA, Bool.true_and, unsOk, c_36]; first | rfl | (rw [decide_eq_true c_52]; rfl) | (rw [decide_eq_false c_52]; rfl))
            · first | refine j_aload_n dX9_whyNotUnsaid_39 rfl ?_ | refine j_aload_nN dX9_whyNotUnsaid_39 rfl ?_
              refine j_iload_n dX9_whyNotUnsaid_40 rfl ?_
              refine j_iconst (v := nI 2) dX9_whyNotUnsaid_41 (by decide +kernel) ?_
              refine j_iload dX9_whyNotUnsaid_42 rfl ?_
              first | (with_reducible refine j_gNN ?_; refine j_imulN dX9_whyNotUnsaid_44 ?_) | refine j_imul dX9_whyNotUnsaid_44 ?_
              refine j_iconst (v := nI 1) dX9_whyNotUnsaid_45 (by decide +kernel) ?_
              first | (with_reducible refine j_gNN ?_; refine j_iaddN dX9_whyNotUnsaid_46 ?_) | refine j_iadd dX9_whyNotUnsaid_46 ?_
              refine j_dV1 kl_X9_439 (m_numberOf H hN (by omega)) dX9_whyNotUnsaid_47 rfl rfl (by decide) (Mo.h H) (Nat.le_of_ble_eq_true rfl) (by first | decide | omega) (by omega) (by omega) ?_
              refine j_lconst (v := 0) dX9_whyNotUnsaid_50 (by decide +kernel) ?_
              refine j_lcmp dX9_whyNotUnsaid_51 ?_
              first | (with_reducible refine j_gC ?_; refine j_if_ltC (tgt := 59) dX9_whyNotUnsaid_52 (by decide) (fun c_52 => ?_) (fun c_52 => ?_)) | refine j_if_lt (tgt := 59) dX9_whyNotUnsaid_52 (by decide) (fun c_52 => ?_) (fun c_52 => ?_)
              · refine j_iconst (v := nI 5) dX9_whyNotUnsaid_59 (by decide +kernel) ?_
                refine j_istore_n dX9_whyNotUnsaid_60 (by decide) ?_
                first | refine j_iincN dX9_whyNotUnsaid_61 rfl (by decide) ?_ | refine j_iinc dX9_whyNotUnsaid_61 rfl rfl (by decide) ?_
                refine j_goto (tgt := 10) dX9_whyNotUnsaid_64 (by decide) ?_
                exact ih (by omega) _ (by rw [allB, eA, Bool.true_and, unsOk, c_36]; first | rfl | (rw [decide_eq_true c_52]; rfl) | (rw [decide_eq_false c_52]; rfl))
              · refine j_iconst (v := nI 0) dX9_whyNotUnsaid_55 (by decide +kernel) ?_
                refine j_goto (tgt := 60) dX9_whyNotUnsaid_56 (by decide) ?_
                refine j_istore_n dX9_whyNotUnsaid_60 (by decide) ?_
                first | refine j_iincN dX9_whyNotUnsaid_61 rfl (by decide) ?_ | refine j_iinc dX9_whyNotUnsaid_61 rfl rfl (by decide) ?_
                refine j_goto (tgt := 10) dX9_whyNotUnsaid_64 (by decide) ?_
                exact ih (by omega) _ (by rw [allB, eA, Bool.true_and, unsOk, c_36]; first | rfl | (rw [decide_eq_true c_52]; rfl) | (rw [decide_eq_false c_52]; rfl))
    first | refine j_aload_n dX9_whyNotUnsaid_0 rfl ?_ | refine j_aload_nN dX9_whyNotUnsaid_0 rfl ?_
    refine j_iload_n dX9_whyNotUnsaid_1 rfl ?_
    refine j_iload_n dX9_whyNotUnsaid_2 rfl ?_
    refine j_dV1 kl_X9_436 (m_why2 H hC (nI k) (nI m)) dX9_whyNotUnsaid_3 rfl rfl (by decide) (Mo.h H) (Nat.le_of_ble_eq_true rfl) (by first | decide | omega) (by omega) (by omega) ?_
    refine j_istore_n dX9_whyNotUnsaid_6 (by decide) ?_
    refine j_iconst (v := nI 0) dX9_whyNotUnsaid_7 (by decide +kernel) ?_
    refine j_istore dX9_whyNotUnsaid_8 (by decide) ?_
    exact key 0 (by omega) _ e
  · have eU : mWhyU M N t n = mWhy2 M t n := by rw [mWhyU, if_neg e]
    first | refine j_aload_n dX9_whyNotUnsaid_0 rfl ?_ | refine j_aload_nN dX9_whyNotUnsaid_0 rfl ?_
    refine j_iload_n dX9_whyNotUnsaid_1 rfl ?_
    refine j_iload_n dX9_whyNotUnsaid_2 rfl ?_
    refine j_dV1 kl_X9_436 (m_why2 H hC t n) dX9_whyNotUnsaid_3 rfl rfl (by decide) (Mo.h H) (Nat.le_of_ble_eq_true rfl) (by first | decide | omega) (by omega) (by omega) ?_
    refine j_istore_n dX9_whyNotUnsaid_6 (by decide) ?_
    refine j_iconst (v := nI 0) dX9_whyNotUnsaid_7 (by decide +kernel) ?_
    refine j_istore dX9_whyNotUnsaid_8 (by decide) ?_
    refine j_iload dX9_whyNotUnsaid_10 rfl ?_
    refine j_iload_n dX9_whyNotUnsaid_12 rfl ?_
    first | (with_reducible refine j_gNN ?_; refine j_icmp_geN (tgt := 67) dX9_whyNotUnsaid_13 (by decide) (by omega) (by omega) (fun c_13 => ?_) (fun c_13 => ?_)) | refine j_icmp_ge (tgt := 67) dX9_whyNotUnsaid_13 (by decide) (fun c_13 => ?_) (fun c_13 => ?_)
    · refine j_iload_n dX9_whyNotUnsaid_67 rfl ?_
      refine j_iret dX9_whyNotUnsaid_68 ⟨_, rfl, rfl⟩ (by omega) (by omega) ?_
      exact ⟨by rw [eU], rfl⟩
    · refine j_iload_n dX9_whyNotUnsaid_16 rfl ?_
      first | (with_reducible refine j_gB ?_; refine j_if_neB (tgt := 67) dX9_whyNotUnsaid_17 (by decide) (fun c_17 => ?_) (fun c_17 => ?_)) | (with_reducible refine j_gC ?_; refine j_if_neC (tgt := 67) dX9_whyNotUnsaid_17 (by decide) (fun c_17 => ?_) (fun c_17 => ?_)) | (with_reducible refine j_gN ?_; refine j_if_neN (tgt := 67) dX9_whyNotUnsaid_17 (by decide) (by omega) (fun c_17 => ?_) (fun c_17 => ?_)) | refine j_if_ne (tgt := 67) dX9_whyNotUnsaid_17 (by decide) (fun c_17 => ?_) (fun c_17 => ?_)
      · refine j_iload_n dX9_whyNotUnsaid_67 rfl ?_
        refine j_iret dX9_whyNotUnsaid_68 ⟨_, rfl, rfl⟩ (by omega) (by omega) ?_
        exact ⟨by rw [eU], rfl⟩
      · exact absurd c_17 (by rw [← nI_0]; exact e)
theorem m_isUnsaid (H : Mo σ h ad) (hC : σ.2.1 (ad 20) = C) {W : Nat} (hW : C 0 = nI W) (hW8 : W ≤ 8) {N : Nat → Int64} (hN : σ.2.2.1 (ad 6) = N) {t m : Nat} (ht : t < 4) (hm : 2 * m ≤ 60) (set : Int32) : Kd g l 2 MX9_isUnsaid [.ref h, .int set, .int (nI t), .int (nI m)] σ (some (.int (bI (mIsU C W N t m set)))) σ := by
  refine Kt.go (Y := MX9_isUnsaid) (ls := [some (.ref h), some (.int set), some (.int (nI t)), some (.int (nI m)), none]) (by decide) (Nat.le_of_ble_eq_true rfl) rfl ?_
  have key : ∀ j, j ≤ m → allB (isUF C W N t set) j = true → Td g l 2 MX9_isUnsaid [.ref h, .int set, .int (nI t), .int (nI m)] σ (some (.int (bI (mIsU C W N t m set)))) 3 [some (.ref h), some (.int set), some (.int (nI t)), some (.int (nI m)), some (.int (nI j))] [] σ := by
    refine loop_up fun j hj ih => ?_
    intro hA
    refine j_iload dX9_isUnsaid_3 rfl ?_
    refine j_iload_n dX9_isUnsaid_5 rfl ?_
    first | (with_reducible refine j_gNN ?_; refine j_icmp_geN (tgt := 48) dX9_isUnsaid_6 (by decide) (by omega) (by omega) (fun c_6 => ?_) (fun c_6 => ?_)) | refine j_icmp_ge (tgt := 48) dX9_isUnsaid_6 (by decide) (fun c_6 => ?_) (fun c_6 => ?_)
    · refine j_iconst (v := nI 1) dX9_isUnsaid_48 (by decide +kernel) ?_
      refine j_iret dX9_isUnsaid_49 ⟨_, rfl, rfl⟩ (by omega) (by omega) ?_
      exact ⟨by rw [mIsU, ← show j = m by omega, hA]; rfl, rfl⟩
    · first | refine j_aload_n dX9_isUnsaid_9 rfl ?_ | refine j_aload_nN dX9_isUnsaid_9 rfl ?_
      refine j_iload_n dX9_isUnsaid_10 rfl ?_
      first | refine j_aload_n dX9_isUnsaid_11 rfl ?_ | refine j_aload_nN dX9_isUnsaid_11 rfl ?_
      refine j_iload_n dX9_isUnsaid_12 rfl ?_
      refine j_iconst (v := nI 2) dX9_isUnsaid_13 (by decide +kernel) ?_
      refine j_iload dX9_isUnsaid_14 rfl ?_
      first | (with_reducible refine j_gNN ?_; refine j_imulN dX9_isUnsaid_16 ?_) | refine j_imul dX9_isUnsaid_16 ?_
      refine j_dV1 kl_X9_439 (m_numberOf H hN (by omega)) dX9_isUnsaid_17 rfl rfl (by decide) (Mo.h H) (Nat.le_of_ble_eq_true rfl) (by first | decide | omega) (by omega) (by omega) ?_
      refine j_l2i dX9_isUnsaid_20 ?_
      refine j_dV1 kl_X9_443 (m_grown H hC hW hW8 set _) dX9_isUnsaid_21 rfl rfl (by decide) (Mo.h H) (Nat.le_of_ble_eq_true rfl) (by first | decide | omega) (by omega) (by omega) ?_
      refine j_i2l dX9_isUnsaid_24 ?_
      first | refine j_aload_n dX9_isUnsaid_25 rfl ?_ | refine j_aload_nN dX9_isUnsaid_25 rfl ?_
      refine j_iload_n dX9_isUnsaid_26 rfl ?_
      refine j_iconst (v := nI 2) dX9_isUnsaid_27 (by decide +kernel) ?_
      refine j_iload dX9_isUnsaid_28 rfl ?_
      first | (with_reducible refine j_gNN ?_; refine j_imulN dX9_isUnsaid_30 ?_) | refine j_imul dX9_isUnsaid_30 ?_
      refine j_iconst (v := nI 1) dX9_isUnsaid_31 (by decide +kernel) ?_
      first | (with_reducible refine j_gNN ?_; refine j_iaddN dX9_isUnsaid_32 ?_) | refine j_iadd dX9_isUnsaid_32 ?_
      refine j_dV1 kl_X9_439 (m_numberOf H hN (by omega)) dX9_isUnsaid_33 rfl rfl (by decide) (Mo.h H) (Nat.le_of_ble_eq_true rfl) (by first | decide | omega) (by omega) (by omega) ?_
      refine j_lcmp dX9_isUnsaid_36 ?_
      first | (with_reducible refine j_gB ?_; refine j_if_eqB (tgt := 42) dX9_isUnsaid_37 (by decide) (fun c_37 => ?_) (fun c_37 => ?_)) | (with_reducible refine j_gC ?_; refine j_if_eqC (tgt := 42) dX9_isUnsaid_37 (by decide) (fun c_37 => ?_) (fun c_37 => ?_)) | (with_reducible refine j_gN ?_; refine j_if_eqN (tgt := 42) dX9_isUnsaid_37 (by decide) (by omega) (fun c_37 => ?_) (fun c_37 => ?_)) | refine j_if_eq (tgt := 42) dX9_isUnsaid_37 (by decide) (fun c_37 => ?_) (fun c_37 => ?_)
      · first | refine j_iincN dX9_isUnsaid_42 rfl (by decide) ?_ | refine j_iinc dX9_isUnsaid_42 rfl rfl (by decide) ?_
        refine j_goto (tgt := 3) dX9_isUnsaid_45 (by decide) ?_
        exact ih (by omega) (by rw [allB, hA, isUF, decide_eq_true c_37]; rfl)
      · refine j_iconst (v := nI 0) dX9_isUnsaid_40 (by decide +kernel) ?_
        refine j_iret dX9_isUnsaid_41 ⟨_, rfl, rfl⟩ (by omega) (by omega) ?_
        exact ⟨by rw [mIsU, allB_le (m := j + 1) (by rw [allB, hA, isUF, decide_eq_false c_37]; rfl) (by omega)]; rfl, rfl⟩
  refine j_iconst (v := nI 0) dX9_isUnsaid_0 (by decide +kernel) ?_
  refine j_istore dX9_isUnsaid_1 (by decide) ?_
  exact key 0 (by omega) rfl
end M5
