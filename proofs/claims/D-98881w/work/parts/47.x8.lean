/-! X: WHAT MAY BE KEPT ON; LENGTHS -/
set_option maxRecDepth 100000
theorem mxmn {d z : Int32} (h : 0 ≤ d) : mx (nI 0) (mn d z) = mn d (mx (nI 0) z) := by
  have h0 : (nI 0).toInt = 0 := by decide +kernel
  have h1 : (0 : Int32).toInt = 0 := by decide +kernel
  rw [Int32.le_iff_toInt_le, h1] at h
  have e : ∀ x : Int32, ¬ nI 0 < x → 0 ≤ x.toInt → x = nI 0 := fun x q1 q2 => by
    apply Int32.toInt_inj.mp
    rw [Int32.lt_iff_toInt_lt, h0] at q1
    rw [h0]
    omega
  unfold mx mn
  by_cases a : z < d
  · rw [if_pos a]
    by_cases b : nI 0 < z
    · rw [if_pos b, if_pos a]
    · rw [if_neg b]
      by_cases c : nI 0 < d
      · rw [if_pos c]
      · rw [if_neg c]; exact (e d c h).symm
  · rw [if_neg a]
    by_cases b : nI 0 < z
    · rw [if_pos b, if_neg a]
      by_cases c : nI 0 < d
      · rw [if_pos c]
      · rw [if_neg c]; exact (e d c h).symm
    · rw [if_neg b]
      have c : ¬ nI 0 < d := by
        rw [Int32.lt_iff_toInt_lt] at a b ⊢
        omega
      rw [if_neg c, if_neg c]
      exact (e d c h).symm
section X8
variable {g : Gx} {l : Launch} {σ τ : Sg} {L : Nat → Nat → Option Nat} {A B : Nat → Nat} {C : Nat → Int32} {W P Dn Hn k p q hx : Nat}
theorem x_hairOf (hf : Fa σ hx B) (hg : Fq σ hx A) (hR : Pv σ L A C W P Dn Hn) (hw : Wx C W P Dn) (hp6 : p < P) (set : Int32) {days : Int32} (hd : 0 ≤ days) : Kd g l 2 MX0_hairOf [.ref hx, .ref (A (20 + p)), .int set, .int days] (put σ L C) (some (.int (mHairBy C W p set days))) (put σ L C) := by
  obtain ⟨⟨⟨hW, hW8⟩, ⟨hP, hP6⟩, ⟨hD, hD6⟩, hdn⟩, hWv, hPp⟩ := id hw
  have hL := hR.inj
  have hp := hR.pe hp6
  have hq := hp
  refine Kt.go (Y := MX0_hairOf) (ls := [some (.ref hx), some (.ref (A (20 + p))), some (.int set), some (.int days), none, none]) (by decide) (Nat.le_of_ble_eq_true rfl) rfl ?_
  have key : ∀ j, j ≤ W → ∀ a, a = sumTo (hbF C p set days) j → Td g l 2 MX0_hairOf [.ref hx, .ref (A (20 + p)), .int set, .int days] (put σ L C) (some (.int (mHairBy C W p set days))) 6 [some (.ref hx), some (.ref (A (20 + p))), some (.int set), some (.int days), some (.int a), some (.int (nI j))] [] (put σ L C) := by
    refine loop_up fun j hj ih => ?_
    intro a ha
    refine j_iload dX0_hairOf_6 rfl ?_
    first | refine j_aload_n dX0_hairOf_8 rfl ?_ | refine j_aload_nN dX0_hairOf_8 rfl ?_
    refine j_getR dX0_hairOf_9 fl_X0_38 rfl (by first | exact Fa.sh hf | assumption) (by first | exact Fq.f3 hg | assumption) ?_
    refine j_getI dX0_hairOf_12 fl_X0_147 rfl (by first | exact Pv.sh hR | assumption) (by first | exact pg (Pv.li hR 4 0 rfl (by decide)) | assumption) ?_
    rw [hW]
    first | (with_reducible refine j_gNN ?_; refine j_icmp_geN (tgt := 71) dX0_hairOf_15 (by decide) (by omega) (by omega) (fun c_15 => ?_) (fun c_15 => ?_)) | refine j_icmp_ge (tgt := 71) dX0_hairOf_15 (by decide) (fun c_15 => ?_) (fun c_15 => ?_)
    · refine j_iload dX0_hairOf_71 rfl ?_
      refine j_iret dX0_hairOf_73 ⟨_, rfl, rfl⟩ (by omega) (by omega) ?_
      exact ⟨by rw [ha, show j = W by omega]; rfl, rfl⟩
    · refine j_iload dX0_hairOf_18 rfl ?_
      refine j_iload_n dX0_hairOf_20 rfl ?_
      refine j_iload dX0_hairOf_21 rfl ?_
      refine j_dS1 kl_X0_279 (k_isIn _ _ _ _ j) dX0_hairOf_23 rfl rfl (Nat.le_of_ble_eq_true rfl) (by first | decide | omega) (by omega) (by omega) ?_
      first | (with_reducible refine j_gB ?_; refine j_if_eqB (tgt := 61) dX0_hairOf_26 (by decide) (fun c_26 => ?_) (fun c_26 => ?_)) | (with_reducible refine j_gC ?_; refine j_if_eqC (tgt := 61) dX0_hairOf_26 (by decide) (fun c_26 => ?_) (fun c_26 => ?_)) | (with_reducible refine j_gN ?_; refine j_if_eqN (tgt := 61) dX0_hairOf_26 (by decide) (by omega) (fun c_26 => ?_) (fun c_26 => ?_)) | refine j_if_eq (tgt := 61) dX0_hairOf_26 (by decide) (fun c_26 => ?_) (fun c_26 => ?_)
      · refine j_iconst (v := nI 0) dX0_hairOf_61 (by decide +kernel) ?_
        first | (with_reducible refine j_gNN ?_; refine j_iaddN dX0_hairOf_62 ?_) | refine j_iadd dX0_hairOf_62 ?_
        refine j_istore dX0_hairOf_63 (by decide) ?_
        first | refine j_iincN dX0_hairOf_65 rfl (by decide) ?_ | refine j_iinc dX0_hairOf_65 rfl rfl (by decide) ?_
        refine j_goto (tgt := 6) dX0_hairOf_68 (by decide) ?_
        exact ih (by omega) _ (by
          rw [ha, sumTo, hbF, c_26]
          first
          | (rw [if_pos rfl, mLenIn, moreI, mxmn hd]; done)
          | rfl)
      · first | refine j_aload_n dX0_hairOf_29 rfl ?_ | refine j_aload_nN dX0_hairOf_29 rfl ?_
        refine j_getR dX0_hairOf_30 fl_X0_282 rfl (by first | exact Pe.sh hp | exact Pe.sh hq | assumption) (by first | exact Pe.r1 hp | exact Pe.r1 hq | assumption) ?_
        refine j_iload dX0_hairOf_33 rfl ?_
        refine j_iald dX0_hairOf_35 (by first | exact Pe.sl hp | exact Pe.sa hp | exact Pe.sl hq | exact Pe.sa hq | exact Pv.sw hR | exact Pv.sp hR | exact Pv.sd hR | exact Fa.s0 hf | exact Fa.s12 hf | exact Fa.s13 hf | exact Fa.s14 hf | exact Fa.s15 hf | exact Fa.s16 hf | exact Fa.s20 hf | exact Fa.s21 hf | exact Fa.s23 hf | assumption) rfl (by omega) (by decide) (by first | exact pg (Pe.ll hp (by omega)) | exact pg (Pe.lg hp (by omega)) | exact pg (Pe.ll hq (by omega)) | exact pg (Pe.lg hq (by omega)) | assumption) ?_
        first | refine j_aload_n dX0_hairOf_36 rfl ?_ | refine j_aload_nN dX0_hairOf_36 rfl ?_
        refine j_getR dX0_hairOf_37 fl_X0_38 rfl (by first | exact Fa.sh hf | assumption) (by first | exact Fq.f3 hg | assumption) ?_
        refine j_getR dX0_hairOf_40 fl_X0_245 rfl (by first | exact Pv.sh hR | assumption) (by first | exact Pv.r0 hR | assumption) ?_
        refine j_iload dX0_hairOf_43 rfl ?_
        refine j_aald (t := 26) dX0_hairOf_45 (fun _ => rfl) (by decide) (by first | exact Pe.sl hp | exact Pe.sa hp | exact Pe.sl hq | exact Pe.sa hq | exact Pv.sw hR | exact Pv.sp hR | exact Pv.sd hR | exact Fa.s0 hf | exact Fa.s12 hf | exact Fa.s13 hf | exact Fa.s14 hf | exact Fa.s15 hf | exact Fa.s16 hf | exact Fa.s20 hf | exact Fa.s21 hf | exact Fa.s23 hf | assumption) rfl (by omega) (by decide) (by first | exact Pv.rw hR (by omega) | exact Pv.rp hR (by omega) | exact Pv.rd hR (by omega) | exact Fa.tr hf (by omega) | assumption) ?_
        first | refine j_aload_n dX0_hairOf_46 rfl ?_ | refine j_aload_nN dX0_hairOf_46 rfl ?_
        refine j_getR dX0_hairOf_47 fl_X0_285 rfl (by first | exact Pe.sh hp | exact Pe.sh hq | assumption) (by first | exact Pe.r2 hp | exact Pe.r2 hq | assumption) ?_
        refine j_iload dX0_hairOf_50 rfl ?_
        refine j_iald dX0_hairOf_52 (by first | exact Pe.sl hp | exact Pe.sa hp | exact Pe.sl hq | exact Pe.sa hq | exact Pv.sw hR | exact Pv.sp hR | exact Pv.sd hR | exact Fa.s0 hf | exact Fa.s12 hf | exact Fa.s13 hf | exact Fa.s14 hf | exact Fa.s15 hf | exact Fa.s16 hf | exact Fa.s20 hf | exact Fa.s21 hf | exact Fa.s23 hf | assumption) rfl (by omega) (by decide) (by first | exact pg (Pe.ll hp (by omega)) | exact pg (Pe.lg hp (by omega)) | exact pg (Pe.ll hq (by omega)) | exact pg (Pe.lg hq (by omega)) | assumption) ?_
        refine j_iload_n dX0_hairOf_53 rfl ?_
        refine j_dV1 kl_X0_354 (x_moreIn (Pv.ws hR (by omega)) (Pv.w1 hR (by omega)) (Pv.w2 hR (by omega)) _ _) dX0_hairOf_54 rfl rfl (by decide) (by first | exact Pv.ws hR (by omega) | assumption) (Nat.le_of_ble_eq_true rfl) (by first | decide | omega) (by omega) (by omega) ?_
        first | (with_reducible refine j_gNN ?_; refine j_iaddN dX0_hairOf_57 ?_) | refine j_iadd dX0_hairOf_57 ?_
        refine j_goto (tgt := 62) dX0_hairOf_58 (by decide) ?_
        first | (with_reducible refine j_gNN ?_; refine j_iaddN dX0_hairOf_62 ?_) | refine j_iadd dX0_hairOf_62 ?_
        refine j_istore dX0_hairOf_63 (by decide) ?_
        first | refine j_iincN dX0_hairOf_65 rfl (by decide) ?_ | refine j_iinc dX0_hairOf_65 rfl rfl (by decide) ?_
        refine j_goto (tgt := 6) dX0_hairOf_68 (by decide) ?_
        exact ih (by omega) _ (by
          rw [ha, sumTo, hbF, c_26]
          first
          | (rw [if_pos rfl, mLenIn, moreI, mxmn hd]; done)
          | rfl)
  refine j_iconst (v := nI 0) dX0_hairOf_0 (by decide +kernel) ?_
  refine j_istore dX0_hairOf_1 (by decide) ?_
  refine j_iconst (v := nI 0) dX0_hairOf_3 (by decide +kernel) ?_
  refine j_istore dX0_hairOf_4 (by decide) ?_
  exact key 0 (by omega) _ rfl
theorem x_quietOf (hf : Fa σ hx B) (hg : Fq σ hx A) (hR : Pv σ L A C W P Dn Hn) (hw : Wx C W P Dn) (hp6 : p < P) {s : Nat} (hs : C (43 + p) = nI s) (hs8 : s < 256) {days : Int32} (hd : 0 ≤ days) : Kd g l 3 MX0_quietOf [.ref hx, .ref (A (20 + p)), .int days] (put σ L C) (some (.int (mQuiet C W p days s))) (put σ L C) := by
  have hL := hR.inj
  have hp := hR.pe hp6
  have hq := hp
  refine Kt.go (Y := MX0_quietOf) (ls := [some (.ref hx), some (.ref (A (20 + p))), some (.int days), none, none, none]) (by decide) (Nat.le_of_ble_eq_true rfl) rfl ?_
  have key : ∀ j, j ≤ s → ∀ b x, b < 256 → nI b = itr (fun j best => qSel C W p days (j + 1) best) j (nI 0) → Td g l 3 MX0_quietOf [.ref hx, .ref (A (20 + p)), .int days] (put σ L C) (some (.int (mQuiet C W p days s))) 5 [some (.ref hx), some (.ref (A (20 + p))), some (.int days), some (.int (nI b)), some (.int (nI (j + 1))), x] [] (put σ L C) := by
    refine loop_up fun j hj ih => ?_
    intro b x hb ha
    have hst : itr (fun j best => qSel C W p days (j + 1) best) (j + 1) (nI 0) = qSel C W p days (j + 1) (nI b) := by rw [itr, ← ha]
    refine j_iload dX0_quietOf_5 rfl ?_
    first | refine j_aload_n dX0_quietOf_7 rfl ?_ | refine j_aload_nN dX0_quietOf_7 rfl ?_
    refine j_getI dX0_quietOf_8 fl_X0_273 rfl (by first | exact Pe.sh hp | exact Pe.sh hq | assumption) (by first | exact pg (Pe.l5 hp) | exact pg (Pe.l5 hq) | assumption) ?_
    rw [hs]
    first | (with_reducible refine j_gNN ?_; refine j_icmp_gtN (tgt := 93) dX0_quietOf_11 (by decide) (by omega) (by omega) (fun c_11 => ?_) (fun c_11 => ?_)) | refine j_icmp_gt (tgt := 93) dX0_quietOf_11 (by decide) (fun c_11 => ?_) (fun c_11 => ?_)
    · refine j_iload_n dX0_quietOf_93 rfl ?_
      refine j_iret dX0_quietOf_94 ⟨_, rfl, rfl⟩ (by omega) (by omega) ?_
      exact ⟨by rw [ha, show j = s by omega]; rfl, rfl⟩
    · refine j_iload dX0_quietOf_14 rfl ?_
      first | refine j_aload_n dX0_quietOf_16 rfl ?_ | refine j_aload_nN dX0_quietOf_16 rfl ?_
      refine j_getI dX0_quietOf_17 fl_X0_273 rfl (by first | exact Pe.sh hp | exact Pe.sh hq | assumption) (by first | exact pg (Pe.l5 hp) | exact pg (Pe.l5 hq) | assumption) ?_
      rw [hs]
      refine j_iconst (v := -1) dX0_quietOf_20 (by decide +kernel) ?_
      refine j_ixor dX0_quietOf_21 ?_
      refine j_iand dX0_quietOf_22 ?_
      first | (with_reducible refine j_gB ?_; refine j_if_neB (tgt := 87) dX0_quietOf_23 (by decide) (fun c_23 => ?_) (fun c_23 => ?_)) | (with_reducible refine j_gC ?_; refine j_if_neC (tgt := 87) dX0_quietOf_23 (by decide) (fun c_23 => ?_) (fun c_23 => ?_)) | (with_reducible refine j_gN ?_; refine j_if_neN (tgt := 87) dX0_quietOf_23 (by decide) (by omega) (fun c_23 => ?_) (fun c_23 => ?_)) | refine j_if_ne (tgt := 87) dX0_quietOf_23 (by decide) (fun c_23 => ?_) (fun c_23 => ?_)
      · first | refine j_iincN dX0_quietOf_87 rfl (by decide) ?_ | refine j_iinc dX0_quietOf_87 rfl rfl (by decide) ?_
        refine j_goto (tgt := 5) dX0_quietOf_90 (by decide) ?_
        refine ih (by omega) _ _ (by omega) ?_
        rw [hst, qSel, hs]
        first
        | (rw [if_neg (fun q => c_23 q.1)]; done)
        | (rw [if_neg (fun q => q.2 (Int32.not_le.mp c_38))]; done)
        | (rw [if_pos ⟨c_23, Int32.not_lt.mpr c_38⟩, sz_pop (by omega), sz_pop hb, if_pos (Or.inl c_58)]; done)
        | (rw [if_pos ⟨c_23, Int32.not_lt.mpr c_38⟩, sz_pop (by omega), sz_pop hb, if_pos (Or.inr ⟨c_63, Int32.not_le.mp c_81⟩)]; done)
        | (rw [if_pos ⟨c_23, Int32.not_lt.mpr c_38⟩, sz_pop (by omega), sz_pop hb, if_neg (fun q => q.elim c_58 (fun q => c_63 q.1))]; done)
        | (rw [if_pos ⟨c_23, Int32.not_lt.mpr c_38⟩, sz_pop (by omega), sz_pop hb, if_neg (fun q => q.elim c_58 (fun q => absurd q.2 (Int32.not_lt.mpr c_81)))]; done)
        | skip
      · first | refine j_aload_n dX0_quietOf_26 rfl ?_ | refine j_aload_nN dX0_quietOf_26 rfl ?_
        first | refine j_aload_n dX0_quietOf_27 rfl ?_ | refine j_aload_nN dX0_quietOf_27 rfl ?_
        refine j_iload dX0_quietOf_28 rfl ?_
        refine j_iload_n dX0_quietOf_30 rfl ?_
        refine j_dV1 kl_X0_357 (x_hairOf hf hg hR hw hp6 _ hd) dX0_quietOf_31 rfl rfl (by decide) (by first | exact Fa.sh hf | assumption) (Nat.le_of_ble_eq_true rfl) (by first | decide | omega) (by omega) (by omega) ?_
        first | refine j_aload_n dX0_quietOf_34 rfl ?_ | refine j_aload_nN dX0_quietOf_34 rfl ?_
        refine j_getI dX0_quietOf_35 fl_X0_267 rfl (by first | exact Pe.sh hp | exact Pe.sh hq | assumption) (by first | exact pg (Pe.l3 hp) | exact pg (Pe.l3 hq) | assumption) ?_
        first | (with_reducible refine j_gNN ?_; refine j_icmp_leN (tgt := 44) dX0_quietOf_38 (by decide) (by omega) (by omega) (fun c_38 => ?_) (fun c_38 => ?_)) | refine j_icmp_le (tgt := 44) dX0_quietOf_38 (by decide) (fun c_38 => ?_) (fun c_38 => ?_)
        · refine j_iload dX0_quietOf_44 rfl ?_
          refine j_dS1 kl_X0_326 (k_bits (by omega)) dX0_quietOf_46 rfl rfl (Nat.le_of_ble_eq_true rfl) (by first | decide | omega) (by omega) (by omega) ?_
          refine j_iload_n dX0_quietOf_49 rfl ?_
          refine j_dS1 kl_X0_326 (k_bits hb) dX0_quietOf_50 rfl rfl (Nat.le_of_ble_eq_true rfl) (by first | decide | omega) (by omega) (by omega) ?_
          refine j_isub dX0_quietOf_53 ?_
          refine j_istore dX0_quietOf_54 (by decide) ?_
          refine j_iload dX0_quietOf_56 rfl ?_
          first | (with_reducible refine j_gC ?_; refine j_if_gtC (tgt := 84) dX0_quietOf_58 (by decide) (fun c_58 => ?_) (fun c_58 => ?_)) | refine j_if_gt (tgt := 84) dX0_quietOf_58 (by decide) (fun c_58 => ?_) (fun c_58 => ?_)
          · refine j_iload dX0_quietOf_84 rfl ?_
            refine j_istore_n dX0_quietOf_86 (by decide) ?_
            first | refine j_iincN dX0_quietOf_87 rfl (by decide) ?_ | refine j_iinc dX0_quietOf_87 rfl rfl (by decide) ?_
            refine j_goto (tgt := 5) dX0_quietOf_90 (by decide) ?_
            refine ih (by omega) _ _ (by omega) ?_
            rw [hst, qSel, hs]
            first
            | (rw [if_neg (fun q => c_23 q.1)]; done)
            | (rw [if_neg (fun q => q.2 (Int32.not_le.mp c_38))]; done)
            | (rw [if_pos ⟨c_23, Int32.not_lt.mpr c_38⟩, sz_pop (by omega), sz_pop hb, if_pos (Or.inl c_58)]; done)
            | (rw [if_pos ⟨c_23, Int32.not_lt.mpr c_38⟩, sz_pop (by omega), sz_pop hb, if_pos (Or.inr ⟨c_63, Int32.not_le.mp c_81⟩)]; done)
            | (rw [if_pos ⟨c_23, Int32.not_lt.mpr c_38⟩, sz_pop (by omega), sz_pop hb, if_neg (fun q => q.elim c_58 (fun q => c_63 q.1))]; done)
            | (rw [if_pos ⟨c_23, Int32.not_lt.mpr c_38⟩, sz_pop (by omega), sz_pop hb, if_neg (fun q => q.elim c_58 (fun q => absurd q.2 (Int32.not_lt.mpr c_81)))]; done)
            | skip
          · refine j_iload dX0_quietOf_61 rfl ?_
            first | (with_reducible refine j_gB ?_; refine j_if_neB (tgt := 87) dX0_quietOf_63 (by decide) (fun c_63 => ?_) (fun c_63 => ?_)) | (with_reducible refine j_gC ?_; refine j_if_neC (tgt := 87) dX0_quietOf_63 (by decide) (fun c_63 => ?_) (fun c_63 => ?_)) | (with_reducible refine j_gN ?_; refine j_if_neN (tgt := 87) dX0_quietOf_63 (by decide) (by omega) (fun c_63 => ?_) (fun c_63 => ?_)) | refine j_if_ne (tgt := 87) dX0_quietOf_63 (by decide) (fun c_63 => ?_) (fun c_63 => ?_)
            · first | refine j_iincN dX0_quietOf_87 rfl (by decide) ?_ | refine j_iinc dX0_quietOf_87 rfl rfl (by decide) ?_
              refine j_goto (tgt := 5) dX0_quietOf_90 (by decide) ?_
              refine ih (by omega) _ _ (by omega) ?_
              rw [hst, qSel, hs]
              first
              | (rw [if_neg (fun q => c_23 q.1)]; done)
              | (rw [if_neg (fun q => q.2 (Int32.not_le.mp c_38))]; done)
              | (rw [if_pos ⟨c_23, Int32.not_lt.mpr c_38⟩, sz_pop (by omega), sz_pop hb, if_pos (Or.inl c_58)]; done)
              | (rw [if_pos ⟨c_23, Int32.not_lt.mpr c_38⟩, sz_pop (by omega), sz_pop hb, if_pos (Or.inr ⟨c_63, Int32.not_le.mp c_81⟩)]; done)
              | (rw [if_pos ⟨c_23, Int32.not_lt.mpr c_38⟩, sz_pop (by omega), sz_pop hb, if_neg (fun q => q.elim c_58 (fun q => c_63 q.1))]; done)
              | (rw [if_pos ⟨c_23, Int32.not_lt.mpr c_38⟩, sz_pop (by omega), sz_pop hb, if_neg (fun q => q.elim c_58 (fun q => absurd q.2 (Int32.not_lt.mpr c_81)))]; done)
              | skip
            · first | refine j_aload_n dX0_quietOf_66 rfl ?_ | refine j_aload_nN dX0_quietOf_66 rfl ?_
              first | refine j_aload_n dX0_quietOf_67 rfl ?_ | refine j_aload_nN dX0_quietOf_67 rfl ?_
              refine j_iload dX0_quietOf_68 rfl ?_
              refine j_iload_n dX0_quietOf_70 rfl ?_
              refine j_dV1 kl_X0_357 (x_hairOf hf hg hR hw hp6 _ hd) dX0_quietOf_71 rfl rfl (by decide) (by first | exact Fa.sh hf | assumption) (Nat.le_of_ble_eq_true rfl) (by first | decide | omega) (by omega) (by omega) ?_
              first | refine j_aload_n dX0_quietOf_74 rfl ?_ | refine j_aload_nN dX0_quietOf_74 rfl ?_
              first | refine j_aload_n dX0_quietOf_75 rfl ?_ | refine j_aload_nN dX0_quietOf_75 rfl ?_
              refine j_iload_n dX0_quietOf_76 rfl ?_
              refine j_iload_n dX0_quietOf_77 rfl ?_
              refine j_dV1 kl_X0_357 (x_hairOf hf hg hR hw hp6 _ hd) dX0_quietOf_78 rfl rfl (by decide) (by first | exact Fa.sh hf | assumption) (Nat.le_of_ble_eq_true rfl) (by first | decide | omega) (by omega) (by omega) ?_
              first | (with_reducible refine j_gNN ?_; refine j_icmp_leN (tgt := 87) dX0_quietOf_81 (by decide) (by omega) (by omega) (fun c_81 => ?_) (fun c_81 => ?_)) | refine j_icmp_le (tgt := 87) dX0_quietOf_81 (by decide) (fun c_81 => ?_) (fun c_81 => ?_)
              · first | refine j_iincN dX0_quietOf_87 rfl (by decide) ?_ | refine j_iinc dX0_quietOf_87 rfl rfl (by decide) ?_
                refine j_goto (tgt := 5) dX0_quietOf_90 (by decide) ?_
                refine ih (by omega) _ _ (by omega) ?_
                rw [hst, qSel, hs]
                first
                | (rw [if_neg (fun q => c_23 q.1)]; done)
                | (rw [if_neg (fun q => q.2 (Int32.not_le.mp c_38))]; done)
                | (rw [if_pos ⟨c_23, Int32.not_lt.mpr c_38⟩, sz_pop (by omega), sz_pop hb, if_pos (Or.inl c_58)]; done)
                | (rw [if_pos ⟨c_23, Int32.not_lt.mpr c_38⟩, sz_pop (by omega), sz_pop hb, if_pos (Or.inr ⟨c_63, Int32.not_le.mp c_81⟩)]; done)
                | (rw [if_pos ⟨c_23, Int32.not_lt.mpr c_38⟩, sz_pop (by omega), sz_pop hb, if_neg (fun q => q.elim c_58 (fun q => c_63 q.1))]; done)
                | (rw [if_pos ⟨c_23, Int32.not_lt.mpr c_38⟩, sz_pop (by omega), sz_pop hb, if_neg (fun q => q.elim c_58 (fun q => absurd q.2 (Int32.not_lt.mpr c_81)))]; done)
                | skip
              · refine j_iload dX0_quietOf_84 rfl ?_
                refine j_istore_n dX0_quietOf_86 (by decide) ?_
                first | refine j_iincN dX0_quietOf_87 rfl (by decide) ?_ | refine j_iinc dX0_quietOf_87 rfl rfl (by decide) ?_
                refine j_goto (tgt := 5) dX0_quietOf_90 (by decide) ?_
                refine ih (by omega) _ _ (by omega) ?_
                rw [hst, qSel, hs]
                first
                | (rw [if_neg (fun q => c_23 q.1)]; done)
                | (rw [if_neg (fun q => q.2 (Int32.not_le.mp c_38))]; done)
                | (rw [if_pos ⟨c_23, Int32.not_lt.mpr c_38⟩, sz_pop (by omega), sz_pop hb, if_pos (Or.inl c_58)]; done)
                | (rw [if_pos ⟨c_23, Int32.not_lt.mpr c_38⟩, sz_pop (by omega), sz_pop hb, if_pos (Or.inr ⟨c_63, Int32.not_le.mp c_81⟩)]; done)
                | (rw [if_pos ⟨c_23, Int32.not_lt.mpr c_38⟩, sz_pop (by omega), sz_pop hb, if_neg (fun q => q.elim c_58 (fun q => c_63 q.1))]; done)
                | (rw [if_pos ⟨c_23, Int32.not_lt.mpr c_38⟩, sz_pop (by omega), sz_pop hb, if_neg (fun q => q.elim c_58 (fun q => absurd q.2 (Int32.not_lt.mpr c_81)))]; done)
                | skip
        · refine j_goto (tgt := 87) dX0_quietOf_41 (by decide) ?_
          first | refine j_iincN dX0_quietOf_87 rfl (by decide) ?_ | refine j_iinc dX0_quietOf_87 rfl rfl (by decide) ?_
          refine j_goto (tgt := 5) dX0_quietOf_90 (by decide) ?_
          refine ih (by omega) _ _ (by omega) ?_
          rw [hst, qSel, hs]
          first
          | (rw [if_neg (fun q => c_23 q.1)]; done)
          | (rw [if_neg (fun q => q.2 (Int32.not_le.mp c_38))]; done)
          | (rw [if_pos ⟨c_23, Int32.not_lt.mpr c_38⟩, sz_pop (by omega), sz_pop hb, if_pos (Or.inl c_58)]; done)
          | (rw [if_pos ⟨c_23, Int32.not_lt.mpr c_38⟩, sz_pop (by omega), sz_pop hb, if_pos (Or.inr ⟨c_63, Int32.not_le.mp c_81⟩)]; done)
          | (rw [if_pos ⟨c_23, Int32.not_lt.mpr c_38⟩, sz_pop (by omega), sz_pop hb, if_neg (fun q => q.elim c_58 (fun q => c_63 q.1))]; done)
          | (rw [if_pos ⟨c_23, Int32.not_lt.mpr c_38⟩, sz_pop (by omega), sz_pop hb, if_neg (fun q => q.elim c_58 (fun q => absurd q.2 (Int32.not_lt.mpr c_81)))]; done)
          | skip
  refine j_iconst (v := nI 0) dX0_quietOf_0 (by decide +kernel) ?_
  refine j_istore_n dX0_quietOf_1 (by decide) ?_
  refine j_iconst (v := nI 1) dX0_quietOf_2 (by decide +kernel) ?_
  refine j_istore dX0_quietOf_3 (by decide) ?_
  exact key 0 (by omega) _ _ (by omega) rfl
theorem x_lengthBy (hf : Fa σ hx B) (hg : Fq σ hx A) (hR : Pv σ L A C W P Dn Hn) (hw : Wx C W P Dn) (set days : Int32) : Kd g l 2 MX0_lengthBy [.ref hx, .int set, .int days] (put σ L C) (some (.int (mGrown C W set days))) (put σ L C) := by
  obtain ⟨⟨⟨hW, hW8⟩, ⟨hP, hP6⟩, ⟨hD, hD6⟩, hdn⟩, hWv, hPp⟩ := id hw
  have hL := hR.inj
  refine Kt.go (Y := MX0_lengthBy) (ls := [some (.ref hx), some (.int set), some (.int days), none, none]) (by decide) (Nat.le_of_ble_eq_true rfl) rfl ?_
  have key : ∀ j, j ≤ W → ∀ a, a = sumTo (grF C set days) j → Td g l 2 MX0_lengthBy [.ref hx, .int set, .int days] (put σ L C) (some (.int (mGrown C W set days))) 5 [some (.ref hx), some (.int set), some (.int days), some (.int a), some (.int (nI j))] [] (put σ L C) := by
    refine loop_up fun j hj ih => ?_
    intro a ha
    refine j_iload dX0_lengthBy_5 rfl ?_
    first | refine j_aload_n dX0_lengthBy_7 rfl ?_ | refine j_aload_nN dX0_lengthBy_7 rfl ?_
    refine j_getR dX0_lengthBy_8 fl_X0_38 rfl (by first | exact Fa.sh hf | assumption) (by first | exact Fq.f3 hg | assumption) ?_
    refine j_getI dX0_lengthBy_11 fl_X0_147 rfl (by first | exact Pv.sh hR | assumption) (by first | exact pg (Pv.li hR 4 0 rfl (by decide)) | assumption) ?_
    rw [hW]
    first | (with_reducible refine j_gNN ?_; refine j_icmp_geN (tgt := 53) dX0_lengthBy_14 (by decide) (by omega) (by omega) (fun c_14 => ?_) (fun c_14 => ?_)) | refine j_icmp_ge (tgt := 53) dX0_lengthBy_14 (by decide) (fun c_14 => ?_) (fun c_14 => ?_)
    · refine j_iload_n dX0_lengthBy_53 rfl ?_
      refine j_iret dX0_lengthBy_54 ⟨_, rfl, rfl⟩ (by omega) (by omega) ?_
      exact ⟨by rw [ha, show j = W by omega]; rfl, rfl⟩
    · refine j_iload_n dX0_lengthBy_17 rfl ?_
      refine j_iload_n dX0_lengthBy_18 rfl ?_
      refine j_iload dX0_lengthBy_19 rfl ?_
      refine j_dS1 kl_X0_279 (k_isIn _ _ _ _ j) dX0_lengthBy_21 rfl rfl (Nat.le_of_ble_eq_true rfl) (by first | decide | omega) (by omega) (by omega) ?_
      first | (with_reducible refine j_gB ?_; refine j_if_eqB (tgt := 44) dX0_lengthBy_24 (by decide) (fun c_24 => ?_) (fun c_24 => ?_)) | (with_reducible refine j_gC ?_; refine j_if_eqC (tgt := 44) dX0_lengthBy_24 (by decide) (fun c_24 => ?_) (fun c_24 => ?_)) | (with_reducible refine j_gN ?_; refine j_if_eqN (tgt := 44) dX0_lengthBy_24 (by decide) (by omega) (fun c_24 => ?_) (fun c_24 => ?_)) | refine j_if_eq (tgt := 44) dX0_lengthBy_24 (by decide) (fun c_24 => ?_) (fun c_24 => ?_)
      · refine j_iconst (v := nI 0) dX0_lengthBy_44 (by decide +kernel) ?_
        first | (with_reducible refine j_gNN ?_; refine j_iaddN dX0_lengthBy_45 ?_) | refine j_iadd dX0_lengthBy_45 ?_
        refine j_istore_n dX0_lengthBy_46 (by decide) ?_
        first | refine j_iincN dX0_lengthBy_47 rfl (by decide) ?_ | refine j_iinc dX0_lengthBy_47 rfl rfl (by decide) ?_
        refine j_goto (tgt := 5) dX0_lengthBy_50 (by decide) ?_
        exact ih (by omega) _ (by rw [ha, sumTo, grF, c_24]; rfl)
      · first | refine j_aload_n dX0_lengthBy_27 rfl ?_ | refine j_aload_nN dX0_lengthBy_27 rfl ?_
        refine j_getR dX0_lengthBy_28 fl_X0_38 rfl (by first | exact Fa.sh hf | assumption) (by first | exact Fq.f3 hg | assumption) ?_
        refine j_getR dX0_lengthBy_31 fl_X0_245 rfl (by first | exact Pv.sh hR | assumption) (by first | exact Pv.r0 hR | assumption) ?_
        refine j_iload dX0_lengthBy_34 rfl ?_
        refine j_aald (t := 26) dX0_lengthBy_36 (fun _ => rfl) (by decide) (by first | exact Pe.sl hp | exact Pe.sa hp | exact Pe.sl hq | exact Pe.sa hq | exact Pv.sw hR | exact Pv.sp hR | exact Pv.sd hR | exact Fa.s0 hf | exact Fa.s12 hf | exact Fa.s13 hf | exact Fa.s14 hf | exact Fa.s15 hf | exact Fa.s16 hf | exact Fa.s20 hf | exact Fa.s21 hf | exact Fa.s23 hf | assumption) rfl (by omega) (by decide) (by first | exact Pv.rw hR (by omega) | exact Pv.rp hR (by omega) | exact Pv.rd hR (by omega) | exact Fa.tr hf (by omega) | assumption) ?_
        refine j_iload_n dX0_lengthBy_37 rfl ?_
        refine j_dV1 kl_X0_365 (x_lengthIn (Pv.ws hR (by omega)) (Pv.w1 hR (by omega)) (Pv.w2 hR (by omega)) _) dX0_lengthBy_38 rfl rfl (by decide) (by first | exact Pv.ws hR (by omega) | assumption) (Nat.le_of_ble_eq_true rfl) (by first | decide | omega) (by omega) (by omega) ?_
        refine j_goto (tgt := 45) dX0_lengthBy_41 (by decide) ?_
        first | (with_reducible refine j_gNN ?_; refine j_iaddN dX0_lengthBy_45 ?_) | refine j_iadd dX0_lengthBy_45 ?_
        refine j_istore_n dX0_lengthBy_46 (by decide) ?_
        first | refine j_iincN dX0_lengthBy_47 rfl (by decide) ?_ | refine j_iinc dX0_lengthBy_47 rfl rfl (by decide) ?_
        refine j_goto (tgt := 5) dX0_lengthBy_50 (by decide) ?_
        exact ih (by omega) _ (by rw [ha, sumTo, grF, c_24]; rfl)
  refine j_iconst (v := nI 0) dX0_lengthBy_0 (by decide +kernel) ?_
  refine j_istore_n dX0_lengthBy_1 (by decide) ?_
  refine j_iconst (v := nI 0) dX0_lengthBy_2 (by decide +kernel) ?_
  refine j_istore dX0_lengthBy_3 (by decide) ?_
  exact key 0 (by omega) _ rfl
theorem q_quiet (hf : Fa σ hx B) (hg : Fq σ hx A) (hR : Pv σ L A C W P Dn Hn) (hw : Wx C W P Dn) (p0 n : Int32) : Kd g l 4 MX0_quiet [.ref hx, .int p0, .int n] (put σ L C) (some (.int (oQuiet C W P p0 n).1)) (put (xS σ hx (oQuiet C W P p0 n).2) L C) := by
  obtain ⟨⟨⟨hW, hW8⟩, ⟨hP, hP6⟩, ⟨hD, hD6⟩, hdn⟩, hWv, hPp⟩ := id hw
  have hL := hR.inj
  have hn := hR.nf hf
  refine Kt.go (Y := MX0_quiet) (ls := [some (.ref hx), some (.int p0), some (.int n)]) (by decide) (Nat.le_of_ble_eq_true rfl) rfl ?_
  first | refine j_aload_n dX0_quiet_0 rfl ?_ | refine j_aload_nN dX0_quiet_0 rfl ?_
  refine j_iload_n dX0_quiet_1 rfl ?_
  refine j_dV1 kl_X0_264 (x_isPerson hf hg hR hP hP6 _) dX0_quiet_2 rfl rfl (by decide) (by first | exact Fa.sh hf | assumption) (Nat.le_of_ble_eq_true rfl) (by first | decide | omega) (by omega) (by omega) ?_
  first | (with_reducible refine j_gB ?_; refine j_if_neB (tgt := 16) dX0_quiet_5 (by decide) (fun c_5 => ?_) (fun c_5 => ?_)) | (with_reducible refine j_gC ?_; refine j_if_neC (tgt := 16) dX0_quiet_5 (by decide) (fun c_5 => ?_) (fun c_5 => ?_)) | (with_reducible refine j_gN ?_; refine j_if_neN (tgt := 16) dX0_quiet_5 (by decide) (by omega) (fun c_5 => ?_) (fun c_5 => ?_)) | refine j_if_ne (tgt := 16) dX0_quiet_5 (by decide) (fun c_5 => ?_) (fun c_5 => ?_)
  · refine j_iload_n dX0_quiet_16 rfl ?_
    refine j_dS1 kl_X0_343 (x_isSpan _) dX0_quiet_17 rfl rfl (Nat.le_of_ble_eq_true rfl) (by first | decide | omega) (by omega) (by omega) ?_
    rw [inL_ok (n := 201) (by decide +kernel)]
    first | (with_reducible refine j_gB ?_; refine j_if_eqB (tgt := 44) dX0_quiet_20 (by decide) (fun c_20 => ?_) (fun c_20 => ?_)) | (with_reducible refine j_gC ?_; refine j_if_eqC (tgt := 44) dX0_quiet_20 (by decide) (fun c_20 => ?_) (fun c_20 => ?_)) | (with_reducible refine j_gN ?_; refine j_if_eqN (tgt := 44) dX0_quiet_20 (by decide) (by omega) (fun c_20 => ?_) (fun c_20 => ?_)) | refine j_if_eq (tgt := 44) dX0_quiet_20 (by decide) (fun c_20 => ?_) (fun c_20 => ?_)
    · first | refine j_aload_n dX0_quiet_44 rfl ?_ | refine j_aload_nN dX0_quiet_44 rfl ?_
      refine j_iconst (v := nI 5) dX0_quiet_45 (by decide +kernel) ?_
      refine j_dV1 kl_X0_98 (x_none (Fa.sh hf) _) dX0_quiet_46 rfl rfl (by decide) (by first | exact Fa.sh hf | assumption) (Nat.le_of_ble_eq_true rfl) (by first | decide | omega) (by omega) (by omega) ?_
      refine j_iret dX0_quiet_49 ⟨_, rfl, rfl⟩ (by omega) (by omega) ?_
      first
      | exact pxR hn (by unfold oQuiet; rw [if_neg (by rw [c_5]; decide)])
      | exact pxR hn (by unfold oQuiet; rw [if_pos c_5, if_neg (by rw [c_20]; decide)])
      | exact pxR hn (by unfold oQuiet; rw [if_pos c_5, if_pos c_20, ep, e1, ixn_nI (by omega)])
    · obtain ⟨p0, hp0, rfl⟩ := okN_nI c_5
      obtain ⟨n, hn2, rfl⟩ := okN_nI c_20
      have ep : ixn (nI p0) = p0 := ixn_nI (by omega)
      have hp := hR.pe hp0
      have hq := hp
      obtain ⟨s, t, e1, e2, e3, e4, e5, e6, -⟩ := (hPp p0 hp0).sets hW8
      first | refine j_aload_n dX0_quiet_23 rfl ?_ | refine j_aload_nN dX0_quiet_23 rfl ?_
      first | refine j_aload_n dX0_quiet_24 rfl ?_ | refine j_aload_nN dX0_quiet_24 rfl ?_
      first | refine j_aload_n dX0_quiet_25 rfl ?_ | refine j_aload_nN dX0_quiet_25 rfl ?_
      refine j_getR dX0_quiet_26 fl_X0_38 rfl (by first | exact Fa.sh hf | assumption) (by first | exact Fq.f3 hg | assumption) ?_
      refine j_getR dX0_quiet_29 fl_X0_211 rfl (by first | exact Pv.sh hR | assumption) (by first | exact Pv.r1 hR | assumption) ?_
      refine j_iload_n dX0_quiet_32 rfl ?_
      refine j_aald (t := 27) dX0_quiet_33 (fun _ => rfl) (by decide) (by first | exact Pe.sl hp | exact Pe.sa hp | exact Pe.sl hq | exact Pe.sa hq | exact Pv.sw hR | exact Pv.sp hR | exact Pv.sd hR | exact Fa.s0 hf | exact Fa.s12 hf | exact Fa.s13 hf | exact Fa.s14 hf | exact Fa.s15 hf | exact Fa.s16 hf | exact Fa.s20 hf | exact Fa.s21 hf | exact Fa.s23 hf | assumption) rfl (by omega) (by decide) (by first | exact Pv.rw hR (by omega) | exact Pv.rp hR (by omega) | exact Pv.rd hR (by omega) | exact Fa.tr hf (by omega) | assumption) ?_
      refine j_iload_n dX0_quiet_34 rfl ?_
      refine j_dV1 kl_X0_361 (x_quietOf hf hg hR hw hp0 e1 e5 (nI_pos' (by omega))) dX0_quiet_35 rfl rfl (by decide) (by first | exact Fa.sh hf | assumption) (Nat.le_of_ble_eq_true rfl) (by first | decide | omega) (by omega) (by omega) ?_
      refine j_dV1 kl_X0_102 (x_gives (Fa.sh hf) _) dX0_quiet_38 rfl rfl (by decide) (by first | exact Fa.sh hf | assumption) (Nat.le_of_ble_eq_true rfl) (by first | decide | omega) (by omega) (by omega) ?_
      refine j_goto (tgt := 49) dX0_quiet_41 (by decide) ?_
      refine j_iret dX0_quiet_49 ⟨_, rfl, rfl⟩ (by omega) (by omega) ?_
      first
      | exact pxR hn (by unfold oQuiet; rw [if_neg (by rw [c_5]; decide)])
      | exact pxR hn (by unfold oQuiet; rw [if_pos c_5, if_neg (by rw [c_20]; decide)])
      | exact pxR hn (by unfold oQuiet; rw [if_pos c_5, if_pos c_20, ep, e1, ixn_nI (by omega)])
  · first | refine j_aload_n dX0_quiet_8 rfl ?_ | refine j_aload_nN dX0_quiet_8 rfl ?_
    refine j_iconst (v := nI 2) dX0_quiet_9 (by decide +kernel) ?_
    refine j_dV1 kl_X0_98 (x_none (Fa.sh hf) _) dX0_quiet_10 rfl rfl (by decide) (by first | exact Fa.sh hf | assumption) (Nat.le_of_ble_eq_true rfl) (by first | decide | omega) (by omega) (by omega) ?_
    refine j_goto (tgt := 49) dX0_quiet_13 (by decide) ?_
    refine j_iret dX0_quiet_49 ⟨_, rfl, rfl⟩ (by omega) (by omega) ?_
    first
    | exact pxR hn (by unfold oQuiet; rw [if_neg (by rw [c_5]; decide)])
    | exact pxR hn (by unfold oQuiet; rw [if_pos c_5, if_neg (by rw [c_20]; decide)])
    | exact pxR hn (by unfold oQuiet; rw [if_pos c_5, if_pos c_20, ep, e1, ixn_nI (by omega)])
theorem q_quietHair (hf : Fa σ hx B) (hg : Fq σ hx A) (hR : Pv σ L A C W P Dn Hn) (hw : Wx C W P Dn) (p0 n : Int32) : Kd g l 4 MX0_quietHair [.ref hx, .int p0, .int n] (put σ L C) (some (.int (oQuietHair C W P p0 n).1)) (put (xS σ hx (oQuietHair C W P p0 n).2) L C) := by
  obtain ⟨⟨⟨hW, hW8⟩, ⟨hP, hP6⟩, ⟨hD, hD6⟩, hdn⟩, hWv, hPp⟩ := id hw
  have hL := hR.inj
  have hn := hR.nf hf
  refine Kt.go (Y := MX0_quietHair) (ls := [some (.ref hx), some (.int p0), some (.int n), none]) (by decide) (Nat.le_of_ble_eq_true rfl) rfl ?_
  first | refine j_aload_n dX0_quietHair_0 rfl ?_ | refine j_aload_nN dX0_quietHair_0 rfl ?_
  refine j_iload_n dX0_quietHair_1 rfl ?_
  refine j_dV1 kl_X0_264 (x_isPerson hf hg hR hP hP6 _) dX0_quietHair_2 rfl rfl (by decide) (by first | exact Fa.sh hf | assumption) (Nat.le_of_ble_eq_true rfl) (by first | decide | omega) (by omega) (by omega) ?_
  first | (with_reducible refine j_gB ?_; refine j_if_neB (tgt := 14) dX0_quietHair_5 (by decide) (fun c_5 => ?_) (fun c_5 => ?_)) | (with_reducible refine j_gC ?_; refine j_if_neC (tgt := 14) dX0_quietHair_5 (by decide) (fun c_5 => ?_) (fun c_5 => ?_)) | (with_reducible refine j_gN ?_; refine j_if_neN (tgt := 14) dX0_quietHair_5 (by decide) (by omega) (fun c_5 => ?_) (fun c_5 => ?_)) | refine j_if_ne (tgt := 14) dX0_quietHair_5 (by decide) (fun c_5 => ?_) (fun c_5 => ?_)
  · refine j_iload_n dX0_quietHair_14 rfl ?_
    refine j_dS1 kl_X0_343 (x_isSpan _) dX0_quietHair_15 rfl rfl (Nat.le_of_ble_eq_true rfl) (by first | decide | omega) (by omega) (by omega) ?_
    rw [inL_ok (n := 201) (by decide +kernel)]
    first | (with_reducible refine j_gB ?_; refine j_if_neB (tgt := 27) dX0_quietHair_18 (by decide) (fun c_18 => ?_) (fun c_18 => ?_)) | (with_reducible refine j_gC ?_; refine j_if_neC (tgt := 27) dX0_quietHair_18 (by decide) (fun c_18 => ?_) (fun c_18 => ?_)) | (with_reducible refine j_gN ?_; refine j_if_neN (tgt := 27) dX0_quietHair_18 (by decide) (by omega) (fun c_18 => ?_) (fun c_18 => ?_)) | refine j_if_ne (tgt := 27) dX0_quietHair_18 (by decide) (fun c_18 => ?_) (fun c_18 => ?_)
    · obtain ⟨p0, hp0, rfl⟩ := okN_nI c_5
      obtain ⟨n, hn2, rfl⟩ := okN_nI c_18
      have ep : ixn (nI p0) = p0 := ixn_nI (by omega)
      have hp := hR.pe hp0
      have hq := hp
      obtain ⟨s, t, e1, e2, e3, e4, e5, e6, -⟩ := (hPp p0 hp0).sets hW8
      first | refine j_aload_n dX0_quietHair_27 rfl ?_ | refine j_aload_nN dX0_quietHair_27 rfl ?_
      refine j_getR dX0_quietHair_28 fl_X0_38 rfl (by first | exact Fa.sh hf | assumption) (by first | exact Fq.f3 hg | assumption) ?_
      refine j_getR dX0_quietHair_31 fl_X0_211 rfl (by first | exact Pv.sh hR | assumption) (by first | exact Pv.r1 hR | assumption) ?_
      refine j_iload_n dX0_quietHair_34 rfl ?_
      refine j_aald (t := 27) dX0_quietHair_35 (fun _ => rfl) (by decide) (by first | exact Pe.sl hp | exact Pe.sa hp | exact Pe.sl hq | exact Pe.sa hq | exact Pv.sw hR | exact Pv.sp hR | exact Pv.sd hR | exact Fa.s0 hf | exact Fa.s12 hf | exact Fa.s13 hf | exact Fa.s14 hf | exact Fa.s15 hf | exact Fa.s16 hf | exact Fa.s20 hf | exact Fa.s21 hf | exact Fa.s23 hf | assumption) rfl (by omega) (by decide) (by first | exact Pv.rw hR (by omega) | exact Pv.rp hR (by omega) | exact Pv.rd hR (by omega) | exact Fa.tr hf (by omega) | assumption) ?_
      first | refine j_astore_n dX0_quietHair_36 (by decide) ?_ | refine j_astore_nN dX0_quietHair_36 (by decide) ?_
      first | refine j_aload_n dX0_quietHair_37 rfl ?_ | refine j_aload_nN dX0_quietHair_37 rfl ?_
      first | refine j_aload_n dX0_quietHair_38 rfl ?_ | refine j_aload_nN dX0_quietHair_38 rfl ?_
      first | refine j_aload_n dX0_quietHair_39 rfl ?_ | refine j_aload_nN dX0_quietHair_39 rfl ?_
      first | refine j_aload_n dX0_quietHair_40 rfl ?_ | refine j_aload_nN dX0_quietHair_40 rfl ?_
      first | refine j_aload_n dX0_quietHair_41 rfl ?_ | refine j_aload_nN dX0_quietHair_41 rfl ?_
      refine j_iload_n dX0_quietHair_42 rfl ?_
      refine j_dV1 kl_X0_361 (x_quietOf hf hg hR hw hp0 e1 e5 (nI_pos' (by omega))) dX0_quietHair_43 rfl rfl (by decide) (by first | exact Fa.sh hf | assumption) (Nat.le_of_ble_eq_true rfl) (by first | decide | omega) (by omega) (by omega) ?_
      refine j_iload_n dX0_quietHair_46 rfl ?_
      refine j_dV1 kl_X0_357 (x_hairOf hf hg hR hw hp0 _ (nI_pos' (by omega))) dX0_quietHair_47 rfl rfl (by decide) (by first | exact Fa.sh hf | assumption) (Nat.le_of_ble_eq_true rfl) (by first | decide | omega) (by omega) (by omega) ?_
      refine j_dV1 kl_X0_102 (x_gives (Fa.sh hf) _) dX0_quietHair_50 rfl rfl (by decide) (by first | exact Fa.sh hf | assumption) (Nat.le_of_ble_eq_true rfl) (by first | decide | omega) (by omega) (by omega) ?_
      refine j_iret dX0_quietHair_53 ⟨_, rfl, rfl⟩ (by omega) (by omega) ?_
      first
      | exact pxR hn (by unfold oQuietHair; rw [if_neg (by rw [c_5]; decide)])
      | exact pxR hn (by unfold oQuietHair; rw [if_pos c_5, if_neg (by rw [c_18]; decide)])
      | exact pxR hn (by unfold oQuietHair; rw [if_pos c_5, if_pos c_18, ep, e1, ixn_nI (by omega)])
    · first | refine j_aload_n dX0_quietHair_21 rfl ?_ | refine j_aload_nN dX0_quietHair_21 rfl ?_
      refine j_iconst (v := nI 5) dX0_quietHair_22 (by decide +kernel) ?_
      refine j_dV1 kl_X0_98 (x_none (Fa.sh hf) _) dX0_quietHair_23 rfl rfl (by decide) (by first | exact Fa.sh hf | assumption) (Nat.le_of_ble_eq_true rfl) (by first | decide | omega) (by omega) (by omega) ?_
      refine j_iret dX0_quietHair_26 ⟨_, rfl, rfl⟩ (by omega) (by omega) ?_
      first
      | exact pxR hn (by unfold oQuietHair; rw [if_neg (by rw [c_5]; decide)])
      | exact pxR hn (by unfold oQuietHair; rw [if_pos c_5, if_neg (by rw [c_18]; decide)])
      | exact pxR hn (by unfold oQuietHair; rw [if_pos c_5, if_pos c_18, ep, e1, ixn_nI (by omega)])
  · first | refine j_aload_n dX0_quietHair_8 rfl ?_ | refine j_aload_nN dX0_quietHair_8 rfl ?_
    refine j_iconst (v := nI 2) dX0_quietHair_9 (by decide +kernel) ?_
    refine j_dV1 kl_X0_98 (x_none (Fa.sh hf) _) dX0_quietHair_10 rfl rfl (by decide) (by first | exact Fa.sh hf | assumption) (Nat.le_of_ble_eq_true rfl) (by first | decide | omega) (by omega) (by omega) ?_
    refine j_iret dX0_quietHair_13 ⟨_, rfl, rfl⟩ (by omega) (by omega) ?_
    first
    | exact pxR hn (by unfold oQuietHair; rw [if_neg (by rw [c_5]; decide)])
    | exact pxR hn (by unfold oQuietHair; rw [if_pos c_5, if_neg (by rw [c_18]; decide)])
    | exact pxR hn (by unfold oQuietHair; rw [if_pos c_5, if_pos c_18, ep, e1, ixn_nI (by omega)])
theorem q_lengthOf (hf : Fa σ hx B) (hg : Fq σ hx A) (hR : Pv σ L A C W P Dn Hn) (hw : Wx C W P Dn) (s n : Int32) : Kd g l 4 MX0_lengthOf [.ref hx, .int s, .int n] (put σ L C) (some (.int (oLengthOf C W s n).1)) (put (xS σ hx (oLengthOf C W s n).2) L C) := by
  obtain ⟨⟨⟨hW, hW8⟩, ⟨hP, hP6⟩, ⟨hD, hD6⟩, hdn⟩, hWv, hPp⟩ := id hw
  have hn := hR.nf hf
  refine Kt.go (Y := MX0_lengthOf) (ls := [some (.ref hx), some (.int s), some (.int n)]) (by decide) (Nat.le_of_ble_eq_true rfl) rfl ?_
  first | refine j_aload_n dX0_lengthOf_0 rfl ?_ | refine j_aload_nN dX0_lengthOf_0 rfl ?_
  refine j_iload_n dX0_lengthOf_1 rfl ?_
  refine j_i2l dX0_lengthOf_2 ?_
  refine j_dV1 kl_X0_394 (x_areWords hf hg hR hW hW8 _) dX0_lengthOf_3 rfl rfl (by decide) (by first | exact Fa.sh hf | assumption) (Nat.le_of_ble_eq_true rfl) (by first | decide | omega) (by omega) (by omega) ?_
  first | (with_reducible refine j_gB ?_; refine j_if_eqB (tgt := 34) dX0_lengthOf_6 (by decide) (fun c_6 => ?_) (fun c_6 => ?_)) | (with_reducible refine j_gC ?_; refine j_if_eqC (tgt := 34) dX0_lengthOf_6 (by decide) (fun c_6 => ?_) (fun c_6 => ?_)) | (with_reducible refine j_gN ?_; refine j_if_eqN (tgt := 34) dX0_lengthOf_6 (by decide) (by omega) (fun c_6 => ?_) (fun c_6 => ?_)) | refine j_if_eq (tgt := 34) dX0_lengthOf_6 (by decide) (fun c_6 => ?_) (fun c_6 => ?_)
  · first | refine j_aload_n dX0_lengthOf_34 rfl ?_ | refine j_aload_nN dX0_lengthOf_34 rfl ?_
    refine j_iconst (v := nI 5) dX0_lengthOf_35 (by decide +kernel) ?_
    refine j_dV1 kl_X0_98 (x_none (Fa.sh hf) _) dX0_lengthOf_36 rfl rfl (by decide) (by first | exact Fa.sh hf | assumption) (Nat.le_of_ble_eq_true rfl) (by first | decide | omega) (by omega) (by omega) ?_
    refine j_iret dX0_lengthOf_39 ⟨_, rfl, rfl⟩ (by omega) (by omega) ?_
    exact pxR hn (by simp [oLengthOf, *])
  · refine j_iload_n dX0_lengthOf_9 rfl ?_
    refine j_i2l dX0_lengthOf_10 ?_
    refine j_lconst (v := 0) dX0_lengthOf_11 (by decide +kernel) ?_
    refine j_ldc2 (v := 999) dX0_lengthOf_12 q1253 ?_
    refine j_dS1 kl_X0_162 (k_isFrom _ _ _) dX0_lengthOf_15 rfl rfl (Nat.le_of_ble_eq_true rfl) (by first | decide | omega) (by omega) (by omega) ?_
    rw [inL_ok (n := 1000) (by decide +kernel)]
    first | (with_reducible refine j_gB ?_; refine j_if_eqB (tgt := 34) dX0_lengthOf_18 (by decide) (fun c_18 => ?_) (fun c_18 => ?_)) | (with_reducible refine j_gC ?_; refine j_if_eqC (tgt := 34) dX0_lengthOf_18 (by decide) (fun c_18 => ?_) (fun c_18 => ?_)) | (with_reducible refine j_gN ?_; refine j_if_eqN (tgt := 34) dX0_lengthOf_18 (by decide) (by omega) (fun c_18 => ?_) (fun c_18 => ?_)) | refine j_if_eq (tgt := 34) dX0_lengthOf_18 (by decide) (fun c_18 => ?_) (fun c_18 => ?_)
    · first | refine j_aload_n dX0_lengthOf_34 rfl ?_ | refine j_aload_nN dX0_lengthOf_34 rfl ?_
      refine j_iconst (v := nI 5) dX0_lengthOf_35 (by decide +kernel) ?_
      refine j_dV1 kl_X0_98 (x_none (Fa.sh hf) _) dX0_lengthOf_36 rfl rfl (by decide) (by first | exact Fa.sh hf | assumption) (Nat.le_of_ble_eq_true rfl) (by first | decide | omega) (by omega) (by omega) ?_
      refine j_iret dX0_lengthOf_39 ⟨_, rfl, rfl⟩ (by omega) (by omega) ?_
      exact pxR hn (by simp [oLengthOf, *])
    · first | refine j_aload_n dX0_lengthOf_21 rfl ?_ | refine j_aload_nN dX0_lengthOf_21 rfl ?_
      first | refine j_aload_n dX0_lengthOf_22 rfl ?_ | refine j_aload_nN dX0_lengthOf_22 rfl ?_
      refine j_iload_n dX0_lengthOf_23 rfl ?_
      refine j_iload_n dX0_lengthOf_24 rfl ?_
      refine j_dV1 kl_X0_378 (x_lengthBy hf hg hR hw _ _) dX0_lengthOf_25 rfl rfl (by decide) (by first | exact Fa.sh hf | assumption) (Nat.le_of_ble_eq_true rfl) (by first | decide | omega) (by omega) (by omega) ?_
      refine j_dV1 kl_X0_102 (x_gives (Fa.sh hf) _) dX0_lengthOf_28 rfl rfl (by decide) (by first | exact Fa.sh hf | assumption) (Nat.le_of_ble_eq_true rfl) (by first | decide | omega) (by omega) (by omega) ?_
      refine j_goto (tgt := 39) dX0_lengthOf_31 (by decide) ?_
      refine j_iret dX0_lengthOf_39 ⟨_, rfl, rfl⟩ (by omega) (by omega) ?_
      exact pxR hn (by simp [oLengthOf, *])
theorem q_daysFor (hf : Fa σ hx B) (hg : Fq σ hx A) (hR : Pv σ L A C W P Dn Hn) (hw : Wx C W P Dn) (s n : Int32) : Kd g l 4 MX0_daysFor [.ref hx, .int s, .int n] (put σ L C) (some (.int (oDaysFor C W s n).1)) (put (xS σ hx (oDaysFor C W s n).2) L C) := by
  obtain ⟨⟨⟨hW, hW8⟩, ⟨hP, hP6⟩, ⟨hD, hD6⟩, hdn⟩, hWv, hPp⟩ := id hw
  have hn := hR.nf hf
  refine Kt.go (Y := MX0_daysFor) (ls := [some (.ref hx), some (.int s), some (.int n), none]) (by decide) (Nat.le_of_ble_eq_true rfl) rfl ?_
  have key : okN s (2 ^ W) = true → okN n 10000 = true → ∀ j, j ≤ 100 → fUp (fun t => decide (n ≤ mGrown C W s (nI t))) j = none → Td g l 4 MX0_daysFor [.ref hx, .int s, .int n] (put (xS σ hx (oDaysFor C W s n).2) L C) (some (.int (oDaysFor C W s n).1)) 29 [some (.ref hx), some (.int s), some (.int n), some (.int (nI j))] [] (put σ L C) := by
    intro e1 e2
    refine loop_up fun j hj ih => ?_
    intro hu
    refine j_iload_n dX0_daysFor_29 rfl ?_
    refine j_bipush (v := nI 99) dX0_daysFor_30 (by decide +kernel) ?_
    first | (with_reducible refine j_gNN ?_; refine j_icmp_gtN (tgt := 57) dX0_daysFor_32 (by decide) (by omega) (by omega) (fun c_32 => ?_) (fun c_32 => ?_)) | refine j_icmp_gt (tgt := 57) dX0_daysFor_32 (by decide) (fun c_32 => ?_) (fun c_32 => ?_)
    · first | refine j_aload_n dX0_daysFor_57 rfl ?_ | refine j_aload_nN dX0_daysFor_57 rfl ?_
      refine j_bipush (v := nI 8) dX0_daysFor_58 (by decide +kernel) ?_
      refine j_dV1 kl_X0_98 (x_none (Fa.sh hf) _) dX0_daysFor_60 rfl rfl (by decide) (by first | exact Fa.sh hf | assumption) (Nat.le_of_ble_eq_true rfl) (by first | decide | omega) (by omega) (by omega) ?_
      refine j_iret dX0_daysFor_63 ⟨_, rfl, rfl⟩ (by omega) (by omega) ?_
      exact pxR hn (by rw [oDaysFor, if_pos ⟨e1, e2⟩, show (100 : Nat) = j by omega, hu])
    · first | refine j_aload_n dX0_daysFor_35 rfl ?_ | refine j_aload_nN dX0_daysFor_35 rfl ?_
      refine j_iload_n dX0_daysFor_36 rfl ?_
      refine j_iload_n dX0_daysFor_37 rfl ?_
      refine j_dV1 kl_X0_378 (x_lengthBy hf hg hR hw _ _) dX0_daysFor_38 rfl rfl (by decide) (by first | exact Fa.sh hf | assumption) (Nat.le_of_ble_eq_true rfl) (by first | decide | omega) (by omega) (by omega) ?_
      refine j_iload_n dX0_daysFor_41 rfl ?_
      first | (with_reducible refine j_gNN ?_; refine j_icmp_ltN (tgt := 51) dX0_daysFor_42 (by decide) (by omega) (by omega) (fun c_42 => ?_) (fun c_42 => ?_)) | refine j_icmp_lt (tgt := 51) dX0_daysFor_42 (by decide) (fun c_42 => ?_) (fun c_42 => ?_)
      · first | refine j_iincN dX0_daysFor_51 rfl (by decide) ?_ | refine j_iinc dX0_daysFor_51 rfl rfl (by decide) ?_
        refine j_goto (tgt := 29) dX0_daysFor_54 (by decide) ?_
        exact ih (by omega) (by rw [fUp, hu, decide_eq_false (Int32.not_le.mpr c_42)]; rfl)
      · first | refine j_aload_n dX0_daysFor_45 rfl ?_ | refine j_aload_nN dX0_daysFor_45 rfl ?_
        refine j_iload_n dX0_daysFor_46 rfl ?_
        refine j_dV1 kl_X0_102 (x_gives (Fa.sh hf) _) dX0_daysFor_47 rfl rfl (by decide) (by first | exact Fa.sh hf | assumption) (Nat.le_of_ble_eq_true rfl) (by first | decide | omega) (by omega) (by omega) ?_
        refine j_iret dX0_daysFor_50 ⟨_, rfl, rfl⟩ (by omega) (by omega) ?_
        exact pxR hn (by rw [oDaysFor, if_pos ⟨e1, e2⟩, fUp_le (j := j + 1) (k := j) (by rw [fUp, hu, decide_eq_true (Int32.not_lt.mp c_42)]; rfl) (by omega)])
  first | refine j_aload_n dX0_daysFor_0 rfl ?_ | refine j_aload_nN dX0_daysFor_0 rfl ?_
  refine j_iload_n dX0_daysFor_1 rfl ?_
  refine j_i2l dX0_daysFor_2 ?_
  refine j_dV1 kl_X0_394 (x_areWords hf hg hR hW hW8 _) dX0_daysFor_3 rfl rfl (by decide) (by first | exact Fa.sh hf | assumption) (Nat.le_of_ble_eq_true rfl) (by first | decide | omega) (by omega) (by omega) ?_
  first | (with_reducible refine j_gB ?_; refine j_if_eqB (tgt := 21) dX0_daysFor_6 (by decide) (fun c_6 => ?_) (fun c_6 => ?_)) | (with_reducible refine j_gC ?_; refine j_if_eqC (tgt := 21) dX0_daysFor_6 (by decide) (fun c_6 => ?_) (fun c_6 => ?_)) | (with_reducible refine j_gN ?_; refine j_if_eqN (tgt := 21) dX0_daysFor_6 (by decide) (by omega) (fun c_6 => ?_) (fun c_6 => ?_)) | refine j_if_eq (tgt := 21) dX0_daysFor_6 (by decide) (fun c_6 => ?_) (fun c_6 => ?_)
  · first | refine j_aload_n dX0_daysFor_21 rfl ?_ | refine j_aload_nN dX0_daysFor_21 rfl ?_
    refine j_iconst (v := nI 5) dX0_daysFor_22 (by decide +kernel) ?_
    refine j_dV1 kl_X0_98 (x_none (Fa.sh hf) _) dX0_daysFor_23 rfl rfl (by decide) (by first | exact Fa.sh hf | assumption) (Nat.le_of_ble_eq_true rfl) (by first | decide | omega) (by omega) (by omega) ?_
    refine j_iret dX0_daysFor_26 ⟨_, rfl, rfl⟩ (by omega) (by omega) ?_
    exact pxR hn (by simp [oDaysFor, *])
  · refine j_iload_n dX0_daysFor_9 rfl ?_
    refine j_i2l dX0_daysFor_10 ?_
    refine j_lconst (v := 0) dX0_daysFor_11 (by decide +kernel) ?_
    refine j_ldc2 (v := 9999) dX0_daysFor_12 q1410 ?_
    refine j_dS1 kl_X0_162 (k_isFrom _ _ _) dX0_daysFor_15 rfl rfl (Nat.le_of_ble_eq_true rfl) (by first | decide | omega) (by omega) (by omega) ?_
    rw [inL_ok (n := 10000) (by decide +kernel)]
    first | (with_reducible refine j_gB ?_; refine j_if_neB (tgt := 27) dX0_daysFor_18 (by decide) (fun c_18 => ?_) (fun c_18 => ?_)) | (with_reducible refine j_gC ?_; refine j_if_neC (tgt := 27) dX0_daysFor_18 (by decide) (fun c_18 => ?_) (fun c_18 => ?_)) | (with_reducible refine j_gN ?_; refine j_if_neN (tgt := 27) dX0_daysFor_18 (by decide) (by omega) (fun c_18 => ?_) (fun c_18 => ?_)) | refine j_if_ne (tgt := 27) dX0_daysFor_18 (by decide) (fun c_18 => ?_) (fun c_18 => ?_)
    · refine j_iconst (v := nI 0) dX0_daysFor_27 (by decide +kernel) ?_
      refine j_istore_n dX0_daysFor_28 (by decide) ?_
      exact key c_6 c_18 0 (by omega) rfl
    · first | refine j_aload_n dX0_daysFor_21 rfl ?_ | refine j_aload_nN dX0_daysFor_21 rfl ?_
      refine j_iconst (v := nI 5) dX0_daysFor_22 (by decide +kernel) ?_
      refine j_dV1 kl_X0_98 (x_none (Fa.sh hf) _) dX0_daysFor_23 rfl rfl (by decide) (by first | exact Fa.sh hf | assumption) (Nat.le_of_ble_eq_true rfl) (by first | decide | omega) (by omega) (by omega) ?_
      refine j_iret dX0_daysFor_26 ⟨_, rfl, rfl⟩ (by omega) (by omega) ?_
      exact pxR hn (by simp [oDaysFor, *])
end X8
