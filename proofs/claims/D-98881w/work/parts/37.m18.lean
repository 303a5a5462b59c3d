/-! THE MODEL's TRAYS -/
set_option maxRecDepth 100000
theorem mPlaced_0 {M : Nat → Int32} (hM : Wm M) {t k : Int32} (h : mPlaced M t k = nI 0) : ∃ T m K, t = nI T ∧ T < 4 ∧ M T = nI m ∧ m ≤ 60 ∧ k = nI K ∧ K < m := by
  unfold mPlaced at h
  split at h
  · rename_i h0
    split at h
    · rename_i h1
      unfold mTrayed at h0
      split at h0
      · rename_i h2
        obtain ⟨T, hT, rfl⟩ := okN_nI h2
        rw [ixn_nI (by omega)] at h0 h1
        rcases hM T hT with e | ⟨m, hm, e⟩
        · rw [e] at h0
          rw [if_pos (by decide +kernel)] at h0
          exact absurd h0 (by decide +kernel)
        · obtain ⟨K, hK, rfl⟩ := nI_of (Int32.not_lt.mpr h1.1)
          refine ⟨T, m, K, rfl, hT, e, hm, rfl, ?_⟩
          rw [e] at h1
          exact (nI_ltI hK (by omega)).mp h1.2
      · exact absurd h0 (by decide +kernel)
    · exact absurd h (by decide +kernel)
  · exact absurd h (by assumption)
theorem mPlaced_nn {M : Nat → Int32} {t k : Int32} : mPlaced M t k = nI 0 ∨ 0 < mPlaced M t k := by
  unfold mPlaced
  split
  · split
    · exact Or.inl rfl
    · exact Or.inr (by decide +kernel)
  · unfold mTrayed
    split
    · split
      · exact Or.inr (by decide +kernel)
      · exact Or.inl rfl
    · exact Or.inr (by decide +kernel)
def oWrite (S M : Nat → Int32) (N : Nat → Int64) (t k : Int32) (v : Int64) : Bool × Int32 × (Nat → Int64) := if mPlaced M t k = nI 0 then (true, nI 0, up N (60 * ixn t + ixn k) (mCutL (S (ixn t)) v)) else (false, mPlaced M t k, N)
def oRead (M : Nat → Int32) (N : Nat → Int64) (t k : Int32) : Int64 × Int32 := if mPlaced M t k = nI 0 then (N (60 * ixn t + ixn k), nI 0) else (-1, mPlaced M t k)
theorem sULh {σ : Sg} {a : Nat} {N : Nat → Int64} (hN : σ.2.2.1 a = N) : sUL σ a N = σ := by subst hN; exact sUL_self
theorem sL_U {σ : Sg} {a k : Nat} {x : Int64} : sL σ a k x = sUL σ a (up (σ.2.2.1 a) k x) := rfl
def trSt (t s n : Int32) : Int32 := if okN t 4 = true ∧ okN s 4 = true then (if nI 60 < n then nI 5 else if n < 0 then nI 6 else nI 0) else nI 1
theorem i3_4 {s : Int32} (h : ¬ s ≤ nI 3) : nI 4 ≤ s := by
  rw [Int32.le_iff_toInt_le] at h ⊢
  rw [nI_toInt (by decide)] at h ⊢
  omega
theorem i3_lt {s : Int32} (h : s ≤ nI 3) : s < nI 4 := by
  rw [Int32.le_iff_toInt_le] at h
  rw [Int32.lt_iff_toInt_lt]
  rw [nI_toInt (by decide)] at h ⊢
  omega
section M18
variable {g : Gx} {l : Launch} {σ : Sg} {h : Nat} {ad : Nat → Nat} {C : Nat → Int32}
theorem o_write (H : Mo σ h ad) {S M : Nat → Int32} (hS : σ.2.1 (ad 4) = S) (hM : σ.2.1 (ad 5) = M) {N : Nat → Int64} (hN : σ.2.2.1 (ad 6) = N) (hm : Wm M) (t k : Int32) (v : Int64) : Kd g l 3 MX9_write [.ref h, .int t, .int k, .long v] σ (some (.int (bI (oWrite S M N t k v).1))) (sUL (mSt σ h (oWrite S M N t k v).2.1) (ad 6) (oWrite S M N t k v).2.2) := by
  have H0 := H
  have neh : ad 5 ≠ h := Mo.nh H (i := 5) rfl
  refine Kt.go (Y := MX9_write) (ls := [some (.ref h), some (.int t), some (.int k), some (.long v), none]) (by decide) (Nat.le_of_ble_eq_true rfl) rfl ?_
  first | refine j_aload_n dX9_write_0 rfl ?_ | refine j_aload_nN dX9_write_0 rfl ?_
  refine j_iconst (v := nI 0) dX9_write_1 (by decide +kernel) ?_
  refine j_putI dX9_write_2 fl_X9_67 rfl (Mo.h H) rfl rfl rfl ?_
  first | refine j_aload_n dX9_write_5 rfl ?_ | refine j_aload_nN dX9_write_5 rfl ?_
  first | refine j_aload_n dX9_write_6 rfl ?_ | refine j_aload_nN dX9_write_6 rfl ?_
  refine j_iload_n dX9_write_7 rfl ?_
  refine j_iload_n dX9_write_8 rfl ?_
  refine j_dV1 kl_X9_90 (m_placed (σ := sI σ h 1 (nI 0)) H ((sI_n neh).trans hM) t k) dX9_write_9 rfl rfl (by decide) (Mo.h H) (Nat.le_of_ble_eq_true rfl) (by first | decide | omega) (by omega) (by omega) ?_
  refine j_putI dX9_write_12 fl_X9_70 rfl (Mo.h H) rfl rfl rfl ?_
  refine j_eq (σ' := mSt σ h (mPlaced M t k)) rfl rfl rfl ?_
  replace H : Mo (mSt σ h (mPlaced M t k)) h ad := H0
  have hC := mSt_st (σ := σ) (h := h) (w := mPlaced M t k)
  first | refine j_aload_n dX9_write_15 rfl ?_ | refine j_aload_nN dX9_write_15 rfl ?_
  refine j_getI dX9_write_16 fl_X9_70 rfl (Mo.h H) hC ?_
  first | (with_reducible refine j_gC ?_; refine j_if_leC (tgt := 24) dX9_write_19 (by decide) (fun c_19 => ?_) (fun c_19 => ?_)) | refine j_if_le (tgt := 24) dX9_write_19 (by decide) (fun c_19 => ?_) (fun c_19 => ?_)
  · have z : mPlaced M t k = nI 0 := mPlaced_nn.resolve_right (Int32.not_lt.mpr c_19)
    obtain ⟨t, m, k, rfl, ht, e, hm6, rfl, hk⟩ := mPlaced_0 hm z
    have eo : oWrite S M N (nI t) (nI k) v = (true, nI 0, up N (60 * t + k) (mCutL (S t) v)) := by rw [oWrite, if_pos z, ixn_nI (by omega), ixn_nI (by omega)]
    rw [eo, z]
    rw [z] at H
    replace hC : (mSt σ h (nI 0)).2.1 (ad 4) = S := (mSt_row H0 ⟨_, _, rfl⟩).trans hS
    first | refine j_aload_n dX9_write_24 rfl ?_ | refine j_aload_nN dX9_write_24 rfl ?_
    refine j_getR dX9_write_25 fl_X9_20 rfl (Mo.h H) (Mo.R H _ _ _ rfl) ?_
    refine j_bipush (v := nI 60) dX9_write_28 (by decide +kernel) ?_
    refine j_iload_n dX9_write_30 rfl ?_
    first | (with_reducible refine j_gNN ?_; refine j_imulN dX9_write_31 ?_) | refine j_imul dX9_write_31 ?_
    refine j_iload_n dX9_write_32 rfl ?_
    first | (with_reducible refine j_gNN ?_; refine j_iaddN dX9_write_33 ?_) | refine j_iadd dX9_write_33 ?_
    first | refine j_aload_n dX9_write_34 rfl ?_ | refine j_aload_nN dX9_write_34 rfl ?_
    refine j_getR dX9_write_35 fl_X9_13 rfl (Mo.h H) (Mo.R H _ _ _ rfl) ?_
    refine j_iload_n dX9_write_38 rfl ?_
    refine j_iald dX9_write_39 (Mo.S H _ _ _ rfl) rfl (by omega) (by decide) (by first | assumption | (rewrite [hC]; first | assumption | rfl) | rfl) ?_
    refine j_lload_n dX9_write_40 rfl ?_
    refine j_dS1 kl_X9_94 (m_cutL _ _) dX9_write_41 rfl rfl (Nat.le_of_ble_eq_true rfl) (by first | decide | omega) (by omega) (by omega) ?_
    refine j_last dX9_write_44 (Mo.S H _ _ _ rfl) rfl (by omega) (by decide) ?_
    rw [sL_U, show (mSt σ h (nI 0)).2.2.1 (ad 6) = N from hN]
    refine j_iconst (v := nI 1) dX9_write_45 (by decide +kernel) ?_
    refine j_iret dX9_write_46 ⟨_, rfl, rfl⟩ (by omega) (by omega) ?_
    exact ⟨rfl, rfl⟩
  · refine j_iconst (v := nI 0) dX9_write_22 (by decide +kernel) ?_
    refine j_iret dX9_write_23 ⟨_, rfl, rfl⟩ (by omega) (by omega) ?_
    have z : ¬ mPlaced M t k = nI 0 := fun q => by rw [q] at c_19; exact absurd c_19 (by decide +kernel)
    have eo : oWrite S M N t k v = (false, mPlaced M t k, N) := by rw [oWrite, if_neg z]
    rw [eo]
    exact ⟨rfl, (sULh (σ := mSt σ h (mPlaced M t k)) hN).symm⟩
theorem o_read (H : Mo σ h ad) {M : Nat → Int32} (hM : σ.2.1 (ad 5) = M) {N : Nat → Int64} (hN : σ.2.2.1 (ad 6) = N) (hm : Wm M) (t k : Int32) : Kd g l 3 MX9_read [.ref h, .int t, .int k] σ (some (.long (oRead M N t k).1)) (mSt σ h (oRead M N t k).2) := by
  have H0 := H
  have neh : ad 5 ≠ h := Mo.nh H (i := 5) rfl
  refine Kt.go (Y := MX9_read) (ls := [some (.ref h), some (.int t), some (.int k)]) (by decide) (Nat.le_of_ble_eq_true rfl) rfl ?_
  first | refine j_aload_n dX9_read_0 rfl ?_ | refine j_aload_nN dX9_read_0 rfl ?_
  refine j_iconst (v := nI 0) dX9_read_1 (by decide +kernel) ?_
  refine j_putI dX9_read_2 fl_X9_67 rfl (Mo.h H) rfl rfl rfl ?_
  first | refine j_aload_n dX9_read_5 rfl ?_ | refine j_aload_nN dX9_read_5 rfl ?_
  first | refine j_aload_n dX9_read_6 rfl ?_ | refine j_aload_nN dX9_read_6 rfl ?_
  refine j_iload_n dX9_read_7 rfl ?_
  refine j_iload_n dX9_read_8 rfl ?_
  refine j_dV1 kl_X9_90 (m_placed (σ := sI σ h 1 (nI 0)) H ((sI_n neh).trans hM) t k) dX9_read_9 rfl rfl (by decide) (Mo.h H) (Nat.le_of_ble_eq_true rfl) (by first | decide | omega) (by omega) (by omega) ?_
  refine j_putI dX9_read_12 fl_X9_70 rfl (Mo.h H) rfl rfl rfl ?_
  refine j_eq (σ' := mSt σ h (mPlaced M t k)) rfl rfl rfl ?_
  replace H : Mo (mSt σ h (mPlaced M t k)) h ad := H0
  have hC := mSt_st (σ := σ) (h := h) (w := mPlaced M t k)
  first | refine j_aload_n dX9_read_15 rfl ?_ | refine j_aload_nN dX9_read_15 rfl ?_
  refine j_getI dX9_read_16 fl_X9_70 rfl (Mo.h H) hC ?_
  first | (with_reducible refine j_gC ?_; refine j_if_leC (tgt := 28) dX9_read_19 (by decide) (fun c_19 => ?_) (fun c_19 => ?_)) | refine j_if_le (tgt := 28) dX9_read_19 (by decide) (fun c_19 => ?_) (fun c_19 => ?_)
  · have z : mPlaced M t k = nI 0 := mPlaced_nn.resolve_right (Int32.not_lt.mpr c_19)
    obtain ⟨t, m, k, rfl, ht, e, hm6, rfl, hk⟩ := mPlaced_0 hm z
    have eo : oRead M N (nI t) (nI k) = (N (60 * t + k), nI 0) := by rw [oRead, if_pos z, ixn_nI (by omega), ixn_nI (by omega)]
    rw [eo, z]
    rw [z] at H
    replace hC : (mSt σ h (nI 0)).2.2.1 (ad 6) = N := hN
    first | refine j_aload_n dX9_read_28 rfl ?_ | refine j_aload_nN dX9_read_28 rfl ?_
    refine j_getR dX9_read_29 fl_X9_20 rfl (Mo.h H) (Mo.R H _ _ _ rfl) ?_
    refine j_bipush (v := nI 60) dX9_read_32 (by decide +kernel) ?_
    refine j_iload_n dX9_read_34 rfl ?_
    first | (with_reducible refine j_gNN ?_; refine j_imulN dX9_read_35 ?_) | refine j_imul dX9_read_35 ?_
    refine j_iload_n dX9_read_36 rfl ?_
    first | (with_reducible refine j_gNN ?_; refine j_iaddN dX9_read_37 ?_) | refine j_iadd dX9_read_37 ?_
    refine j_lald dX9_read_38 (Mo.S H _ _ _ rfl) rfl (by omega) (by decide) (by first | assumption | (rewrite [hC]; first | assumption | rfl) | rfl) ?_
    refine j_lret dX9_read_39 rfl (by omega) (by omega) ?_
    exact ⟨rfl, rfl⟩
  · have z : ¬ mPlaced M t k = nI 0 := fun q => by rw [q] at c_19; exact absurd c_19 (by decide +kernel)
    have eo : oRead M N t k = (-1, mPlaced M t k) := by rw [oRead, if_neg z]
    rw [eo]
    refine j_ldc2 (v := -1) dX9_read_22 q1775 ?_
    refine j_goto (tgt := 39) dX9_read_25 (by decide) ?_
    refine j_lret dX9_read_39 rfl (by omega) (by omega) ?_
    exact ⟨rfl, rfl⟩
theorem o_tray (H : Mo σ h ad) {S M : Nat → Int32} (hS : σ.2.1 (ad 4) = S) (hM : σ.2.1 (ad 5) = M) {N : Nat → Int64} (hN : σ.2.2.1 (ad 6) = N) (t s n : Int32) : Kd g l 3 MX9_tray [.ref h, .int t, .int s, .int n] σ (some (.int (bI (trSt t s n == nI 0)))) (if trSt t s n = nI 0 then sUL (sU (sU (mSt σ h (nI 0)) (ad 4) (up S (ixn t) s)) (ad 5) (up M (ixn t) n)) (ad 6) (cpOL (60 * ixn t) (ixn n) (fun _ => lN 0) N) else mSt σ h (trSt t s n)) := by
  have hC : σ.2.1 (ad 20) = σ.2.1 (ad 20) := rfl
  have ne45 : ad 5 ≠ ad 4 := Mo.ne H (by decide) (by decide) (by decide)
  refine Kt.go (Y := MX9_tray) (ls := [some (.ref h), some (.int t), some (.int s), some (.int n), none]) (by decide) (Nat.le_of_ble_eq_true rfl) rfl ?_
  first | refine j_aload_n dX9_tray_0 rfl ?_ | refine j_aload_nN dX9_tray_0 rfl ?_
  refine j_iconst (v := nI 0) dX9_tray_1 (by decide +kernel) ?_
  refine j_putI dX9_tray_2 fl_X9_67 rfl (Mo.h H) rfl rfl rfl ?_
  first | refine j_aload_n dX9_tray_5 rfl ?_ | refine j_aload_nN dX9_tray_5 rfl ?_
  refine j_iconst (v := nI 0) dX9_tray_6 (by decide +kernel) ?_
  refine j_putI dX9_tray_7 fl_X9_70 rfl (Mo.h H) rfl rfl rfl ?_
  refine j_eq rfl rfl (σ' := mSt σ h (nI 0)) rfl ?_
  have H0 := H
  have hC0 := hC
  replace hC := (mSt_row (w := nI 0) H0 (k := 20) ⟨_, _, rfl⟩).trans hC0
  replace H : Mo (mSt σ h (nI 0)) h ad := H0
  replace hS : (mSt σ h (nI 0)).2.1 (ad 4) = S := (mSt_row H0 ⟨_, _, rfl⟩).trans hS
  replace hM : (mSt σ h (nI 0)).2.1 (ad 5) = M := (mSt_row H0 ⟨_, _, rfl⟩).trans hM
  have bad : ∀ w, trSt t s n = w → w ≠ nI 0 → some (Value.int (bI false)) = some (Value.int (bI (trSt t s n == nI 0))) ∧ sI (mSt σ h (nI 0)) h 0 w = (if trSt t s n = nI 0 then sUL (sU (sU (mSt σ h (nI 0)) (ad 4) (up S (ixn t) s)) (ad 5) (up M (ixn t) n)) (ad 6) (cpOL (60 * ixn t) (ixn n) (fun _ => lN 0) N) else mSt σ h (trSt t s n)) := by
    intro w e q
    rw [if_neg (by rw [e]; exact q), mSt_r, e]
    exact ⟨by rw [beq_eq_false_iff_ne.mpr q], rfl⟩
  refine j_iload_n dX9_tray_10 rfl ?_
  first | (with_reducible refine j_gC ?_; refine j_if_ltC (tgt := 28) dX9_tray_11 (by decide) (fun c_11 => ?_) (fun c_11 => ?_)) | refine j_if_lt (tgt := 28) dX9_tray_11 (by decide) (fun c_11 => ?_) (fun c_11 => ?_)
  · first | refine j_aload_n dX9_tray_28 rfl ?_ | refine j_aload_nN dX9_tray_28 rfl ?_
    refine j_iconst (v := nI 1) dX9_tray_29 (by decide +kernel) ?_
    refine j_dV1 kl_X9_82 (k_no H _) dX9_tray_30 rfl rfl (by decide) (Mo.h H) (Nat.le_of_ble_eq_true rfl) (by first | decide | omega) (by omega) (by omega) ?_
    refine j_iret dX9_tray_33 ⟨_, rfl, bI_nar _⟩ (by omega) (by omega) ?_
    first
    | (have z := okN_f (t := t) (n := 4) (by decide) (Or.inl c_11)
       exact bad _ (by rw [trSt, if_neg (fun q => by rw [z] at q; exact absurd q.1 (by decide))]) (by decide +kernel))
    | (have z := okN_f (t := t) (n := 4) (by decide) (Or.inr c_16)
       exact bad _ (by rw [trSt, if_neg (fun q => by rw [z] at q; exact absurd q.1 (by decide))]) (by decide +kernel))
    | (have z := okN_f (t := s) (n := 4) (by decide) (Or.inl c_20)
       exact bad _ (by rw [trSt, if_neg (fun q => by rw [z] at q; exact absurd q.2 (by decide))]) (by decide +kernel))
    | (have z := okN_f (t := s) (n := 4) (by decide) (Or.inr (i3_4 c_25))
       exact bad _ (by rw [trSt, if_neg (fun q => by rw [z] at q; exact absurd q.2 (by decide))]) (by decide +kernel))
  · refine j_iload_n dX9_tray_14 rfl ?_
    refine j_iconst (v := nI 4) dX9_tray_15 (by decide +kernel) ?_
    first | (with_reducible refine j_gNN ?_; refine j_icmp_geN (tgt := 28) dX9_tray_16 (by decide) (by omega) (by omega) (fun c_16 => ?_) (fun c_16 => ?_)) | refine j_icmp_ge (tgt := 28) dX9_tray_16 (by decide) (fun c_16 => ?_) (fun c_16 => ?_)
    · first | refine j_aload_n dX9_tray_28 rfl ?_ | refine j_aload_nN dX9_tray_28 rfl ?_
      refine j_iconst (v := nI 1) dX9_tray_29 (by decide +kernel) ?_
      refine j_dV1 kl_X9_82 (k_no H _) dX9_tray_30 rfl rfl (by decide) (Mo.h H) (Nat.le_of_ble_eq_true rfl) (by first | decide | omega) (by omega) (by omega) ?_
      refine j_iret dX9_tray_33 ⟨_, rfl, bI_nar _⟩ (by omega) (by omega) ?_
      first
      | (have z := okN_f (t := t) (n := 4) (by decide) (Or.inl c_11)
         exact bad _ (by rw [trSt, if_neg (fun q => by rw [z] at q; exact absurd q.1 (by decide))]) (by decide +kernel))
      | (have z := okN_f (t := t) (n := 4) (by decide) (Or.inr c_16)
         exact bad _ (by rw [trSt, if_neg (fun q => by rw [z] at q; exact absurd q.1 (by decide))]) (by decide +kernel))
      | (have z := okN_f (t := s) (n := 4) (by decide) (Or.inl c_20)
         exact bad _ (by rw [trSt, if_neg (fun q => by rw [z] at q; exact absurd q.2 (by decide))]) (by decide +kernel))
      | (have z := okN_f (t := s) (n := 4) (by decide) (Or.inr (i3_4 c_25))
         exact bad _ (by rw [trSt, if_neg (fun q => by rw [z] at q; exact absurd q.2 (by decide))]) (by decide +kernel))
    · refine j_iload_n dX9_tray_19 rfl ?_
      first | (with_reducible refine j_gC ?_; refine j_if_ltC (tgt := 28) dX9_tray_20 (by decide) (fun c_20 => ?_) (fun c_20 => ?_)) | refine j_if_lt (tgt := 28) dX9_tray_20 (by decide) (fun c_20 => ?_) (fun c_20 => ?_)
      · first | refine j_aload_n dX9_tray_28 rfl ?_ | refine j_aload_nN dX9_tray_28 rfl ?_
        refine j_iconst (v := nI 1) dX9_tray_29 (by decide +kernel) ?_
        refine j_dV1 kl_X9_82 (k_no H _) dX9_tray_30 rfl rfl (by decide) (Mo.h H) (Nat.le_of_ble_eq_true rfl) (by first | decide | omega) (by omega) (by omega) ?_
        refine j_iret dX9_tray_33 ⟨_, rfl, bI_nar _⟩ (by omega) (by omega) ?_
        first
        | (have z := okN_f (t := t) (n := 4) (by decide) (Or.inl c_11)
           exact bad _ (by rw [trSt, if_neg (fun q => by rw [z] at q; exact absurd q.1 (by decide))]) (by decide +kernel))
        | (have z := okN_f (t := t) (n := 4) (by decide) (Or.inr c_16)
           exact bad _ (by rw [trSt, if_neg (fun q => by rw [z] at q; exact absurd q.1 (by decide))]) (by decide +kernel))
        | (have z := okN_f (t := s) (n := 4) (by decide) (Or.inl c_20)
           exact bad _ (by rw [trSt, if_neg (fun q => by rw [z] at q; exact absurd q.2 (by decide))]) (by decide +kernel))
        | (have z := okN_f (t := s) (n := 4) (by decide) (Or.inr (i3_4 c_25))
           exact bad _ (by rw [trSt, if_neg (fun q => by rw [z] at q; exact absurd q.2 (by decide))]) (by decide +kernel))
      · refine j_iload_n dX9_tray_23 rfl ?_
        refine j_iconst (v := nI 3) dX9_tray_24 (by decide +kernel) ?_
        first | (with_reducible refine j_gNN ?_; refine j_icmp_leN (tgt := 34) dX9_tray_25 (by decide) (by omega) (by omega) (fun c_25 => ?_) (fun c_25 => ?_)) | refine j_icmp_le (tgt := 34) dX9_tray_25 (by decide) (fun c_25 => ?_) (fun c_25 => ?_)
        · have z1 : okN t 4 = true := okN_t (by decide) c_11 (Int32.not_le.mp c_16)
          have z2 : okN s 4 = true := okN_t (by decide) c_20 (i3_lt c_25)
          refine j_iload_n dX9_tray_34 rfl ?_
          refine j_bipush (v := nI 60) dX9_tray_35 (by decide +kernel) ?_
          first | (with_reducible refine j_gNN ?_; refine j_icmp_leN (tgt := 46) dX9_tray_37 (by decide) (by omega) (by omega) (fun c_37 => ?_) (fun c_37 => ?_)) | refine j_icmp_le (tgt := 46) dX9_tray_37 (by decide) (fun c_37 => ?_) (fun c_37 => ?_)
          · refine j_iload_n dX9_tray_46 rfl ?_
            first | (with_reducible refine j_gC ?_; refine j_if_geC (tgt := 57) dX9_tray_47 (by decide) (fun c_47 => ?_) (fun c_47 => ?_)) | refine j_if_ge (tgt := 57) dX9_tray_47 (by decide) (fun c_47 => ?_) (fun c_47 => ?_)
            · have eo : trSt t s n = nI 0 := by rw [trSt, if_pos ⟨z1, z2⟩, if_neg (Int32.not_lt.mpr c_37), if_neg (Int32.not_lt.mpr c_47)]
              rw [if_pos eo, eo]
              obtain ⟨t, ht, rfl⟩ := okN_nI z1
              obtain ⟨n, hn, rfl⟩ := nI_of (Int32.not_lt.mpr c_47)
              have hn60 : n ≤ 60 := (nI_leI hn (by decide)).mp c_37
              rw [ixn_nI (by omega), ixn_nI hn]
              have hM2 : (sU (mSt σ h (nI 0)) (ad 4) (up S t s)).2.1 (ad 5) = M := (sU_n ne45).trans hM
              have key : ∀ j, j ≤ n → ∀ D, D = cpOL (60 * t) j (fun _ => lN 0) N → Td g l 3 MX9_tray [.ref h, .int (nI t), .int s, .int (nI n)] (sUL (sU (sU (mSt σ h (nI 0)) (ad 4) (up S t s)) (ad 5) (up M t (nI n))) (ad 6) (cpOL (60 * t) n (fun _ => lN 0) N)) (some (.int (bI (nI 0 == nI 0)))) 74 [some (.ref h), some (.int (nI t)), some (.int s), some (.int (nI n)), some (.int (nI j))] [] (sUL (sU (sU (mSt σ h (nI 0)) (ad 4) (up S t s)) (ad 5) (up M t (nI n))) (ad 6) D) := by
                refine loop_up fun j hj ih => ?_
                intro D hD
                have H : Mo (sUL (sU (sU (mSt σ h (nI 0)) (ad 4) (up S t s)) (ad 5) (up M t (nI n))) (ad 6) D) h ad := H0
                refine j_iload dX9_tray_74 rfl ?_
                refine j_iload_n dX9_tray_76 rfl ?_
                first | (with_reducible refine j_gNN ?_; refine j_icmp_geN (tgt := 99) dX9_tray_77 (by decide) (by omega) (by omega) (fun c_77 => ?_) (fun c_77 => ?_)) | refine j_icmp_ge (tgt := 99) dX9_tray_77 (by decide) (fun c_77 => ?_) (fun c_77 => ?_)
                · refine j_iconst (v := nI 1) dX9_tray_99 (by decide +kernel) ?_
                  refine j_iret dX9_tray_100 ⟨_, rfl, rfl⟩ (by omega) (by omega) ?_
                  exact ⟨rfl, by rw [hD, show j = n by omega]⟩
                · first | refine j_aload_n dX9_tray_80 rfl ?_ | refine j_aload_nN dX9_tray_80 rfl ?_
                  refine j_getR dX9_tray_81 fl_X9_20 rfl (Mo.h H) (Mo.R H _ _ _ rfl) ?_
                  refine j_bipush (v := nI 60) dX9_tray_84 (by decide +kernel) ?_
                  refine j_iload_n dX9_tray_86 rfl ?_
                  first | (with_reducible refine j_gNN ?_; refine j_imulN dX9_tray_87 ?_) | refine j_imul dX9_tray_87 ?_
                  refine j_iload dX9_tray_88 rfl ?_
                  first | (with_reducible refine j_gNN ?_; refine j_iaddN dX9_tray_90 ?_) | refine j_iadd dX9_tray_90 ?_
                  refine j_lconst (v := 0) dX9_tray_91 (by decide +kernel) ?_
                  refine j_last dX9_tray_92 (Mo.S H _ _ _ rfl) rfl (by omega) (by decide) ?_
                  first | refine j_iincN dX9_tray_93 rfl (by decide) ?_ | refine j_iinc dX9_tray_93 rfl rfl (by decide) ?_
                  refine j_goto (tgt := 74) dX9_tray_96 (by decide) ?_
                  exact j_eq rfl rfl sUL_I (ih (by omega) _ (by rw [hD]; exact cpOL_s))
              first | refine j_aload_n dX9_tray_57 rfl ?_ | refine j_aload_nN dX9_tray_57 rfl ?_
              refine j_getR dX9_tray_58 fl_X9_13 rfl (Mo.h H) (Mo.R H _ _ _ rfl) ?_
              refine j_iload_n dX9_tray_61 rfl ?_
              refine j_iload_n dX9_tray_62 rfl ?_
              refine j_iast dX9_tray_63 (Mo.S H _ _ _ rfl) rfl (by omega) (by decide) ?_
              rw [sI_U, hS]
              first | refine j_aload_n dX9_tray_64 rfl ?_ | refine j_aload_nN dX9_tray_64 rfl ?_
              refine j_getR dX9_tray_65 fl_X9_17 rfl (Mo.h H) (Mo.R H _ _ _ rfl) ?_
              refine j_iload_n dX9_tray_68 rfl ?_
              refine j_iload_n dX9_tray_69 rfl ?_
              refine j_iast dX9_tray_70 (Mo.S H _ _ _ rfl) rfl (by omega) (by decide) ?_
              rw [sI_U, hM2]
              refine j_iconst (v := nI 0) dX9_tray_71 (by decide +kernel) ?_
              refine j_istore dX9_tray_72 (by decide) ?_
              refine j_eq rfl rfl ?_ (key 0 (by omega) _ rfl)
              rw [cpOL_0]
              exact (sULh (σ := sU (sU (mSt σ h (nI 0)) (ad 4) (up S t s)) (ad 5) (up M t (nI n))) hN).symm
            · first | refine j_aload_n dX9_tray_50 rfl ?_ | refine j_aload_nN dX9_tray_50 rfl ?_
              refine j_bipush (v := nI 6) dX9_tray_51 (by decide +kernel) ?_
              refine j_dV1 kl_X9_82 (k_no H _) dX9_tray_53 rfl rfl (by decide) (Mo.h H) (Nat.le_of_ble_eq_true rfl) (by first | decide | omega) (by omega) (by omega) ?_
              refine j_iret dX9_tray_56 ⟨_, rfl, bI_nar _⟩ (by omega) (by omega) ?_
              exact bad _ (by rw [trSt, if_pos ⟨z1, z2⟩, if_neg (Int32.not_lt.mpr c_37), if_pos (Int32.not_le.mp c_47)]) (by decide +kernel)
          · first | refine j_aload_n dX9_tray_40 rfl ?_ | refine j_aload_nN dX9_tray_40 rfl ?_
            refine j_iconst (v := nI 5) dX9_tray_41 (by decide +kernel) ?_
            refine j_dV1 kl_X9_82 (k_no H _) dX9_tray_42 rfl rfl (by decide) (Mo.h H) (Nat.le_of_ble_eq_true rfl) (by first | decide | omega) (by omega) (by omega) ?_
            refine j_iret dX9_tray_45 ⟨_, rfl, bI_nar _⟩ (by omega) (by omega) ?_
            exact bad _ (by rw [trSt, if_pos ⟨z1, z2⟩, if_pos (Int32.not_le.mp c_37)]) (by decide +kernel)
        · first | refine j_aload_n dX9_tray_28 rfl ?_ | refine j_aload_nN dX9_tray_28 rfl ?_
          refine j_iconst (v := nI 1) dX9_tray_29 (by decide +kernel) ?_
          refine j_dV1 kl_X9_82 (k_no H _) dX9_tray_30 rfl rfl (by decide) (Mo.h H) (Nat.le_of_ble_eq_true rfl) (by first | decide | omega) (by omega) (by omega) ?_
          refine j_iret dX9_tray_33 ⟨_, rfl, bI_nar _⟩ (by omega) (by omega) ?_
          first
          | (have z := okN_f (t := t) (n := 4) (by decide) (Or.inl c_11)
             exact bad _ (by rw [trSt, if_neg (fun q => by rw [z] at q; exact absurd q.1 (by decide))]) (by decide +kernel))
          | (have z := okN_f (t := t) (n := 4) (by decide) (Or.inr c_16)
             exact bad _ (by rw [trSt, if_neg (fun q => by rw [z] at q; exact absurd q.1 (by decide))]) (by decide +kernel))
          | (have z := okN_f (t := s) (n := 4) (by decide) (Or.inl c_20)
             exact bad _ (by rw [trSt, if_neg (fun q => by rw [z] at q; exact absurd q.2 (by decide))]) (by decide +kernel))
          | (have z := okN_f (t := s) (n := 4) (by decide) (Or.inr (i3_4 c_25))
             exact bad _ (by rw [trSt, if_neg (fun q => by rw [z] at q; exact absurd q.2 (by decide))]) (by decide +kernel))
end M18
