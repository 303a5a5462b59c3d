/-! THE MODEL's RUMOURS, DINNERS AHEAD, DAYS, GAMES -/
set_option maxRecDepth 100000
def oDay (C : Nat → Int32) (W P Dn : Nat) (n : Int32) : Int32 × Int32 × (Nat → Int32) := if inL n.toInt64 1 99 then if nI 9999 < C 6 + n then (-1, nI 7, C) else ((mDaysS W P Dn C (ixn n)).1, nI 0, (mDaysS W P Dn C (ixn n)).2) else (-1, nI 5, C)
def oGame (C : Nat → Int32) (W P : Nat) (p q t : Int32) : Int32 × Int32 := if mWhyG P p q t 0 = nI 0 then ((mPlayS W (ixn p) (ixn q) (ixn t) true C).1, nI 0) else (-1, mWhyG P p q t 0)
def oMoveOf (C : Nat → Int32) (W P : Nat) (p q t : Int32) : Int32 × Int32 := if mWhyG P p q t (nI 1) = nI 0 then if (mPlayS W (ixn p) (ixn q) (ixn t) true C).2 = some W then (-1, nI 8) else (oI (mPlayS W (ixn p) (ixn q) (ixn t) true C).2, nI 0) else (-1, mWhyG P p q t (nI 1))
theorem mWhyG_nn {P : Nat} {a b t m : Int32} : mWhyG P a b t m = nI 0 ∨ 0 < mWhyG P a b t m := by
  unfold mWhyG
  repeat' split
  all_goals first | exact Or.inl rfl | exact Or.inr (by decide +kernel)
theorem inL_1t {w : Int32} {m : Int64} {n : Nat} (hm : m.toInt = n) (h : inL w.toInt64 1 m = true) : ∃ k, 1 ≤ k ∧ k ≤ n ∧ w = nI k := by
  unfold inL at h
  rw [Bool.and_eq_true, Bool.not_eq_true', Bool.not_eq_true', decide_eq_false_iff_not, decide_eq_false_iff_not, Int64.not_lt, Int64.not_lt, Int64.le_iff_toInt_le, Int64.le_iff_toInt_le, Int32.toInt_toInt64, hm] at h
  have e : (1 : Int64).toInt = 1 := by decide
  have h1 : ¬ w < 0 := fun q => by
    have := Int32.lt_iff_toInt_lt.mp q
    rw [Int32.toInt_zero] at this
    have h2 := h.1
    omega
  obtain ⟨k, hk, rfl⟩ := nI_of h1
  have h2 := h.1
  have h3 := h.2
  rw [nI_toInt hk] at h2 h3
  exact ⟨k, by omega, by omega, rfl⟩
section M14
variable {g : Gx} {l : Launch} {σ : Sg} {h : Nat} {ad : Nat → Nat} {C : Nat → Int32}
theorem o_rumour (H : Mo σ h ad) (hC : σ.2.1 (ad 20) = C) {W P Dn : Nat} (hw : Wd C W P Dn) (k p : Int32) : Kd g l 4 MX9_rumour [.ref h, .int k, .int p] σ (some (.int (oRumour C W P Dn k p).1)) (mSt σ h (oRumour C W P Dn k p).2) := by
  obtain ⟨⟨hW, hW8⟩, ⟨hP, hP6⟩, ⟨hD, hD6⟩, hdn⟩ := id hw
  refine Kt.go (Y := MX9_rumour) (ls := [some (.ref h), some (.int k), some (.int p), none, none, none, none, none]) (by decide) (Nat.le_of_ble_eq_true rfl) rfl ?_
  first | refine j_aload_n dX9_rumour_0 rfl ?_ | refine j_aload_nN dX9_rumour_0 rfl ?_
  refine j_iconst (v := nI 0) dX9_rumour_1 (by decide +kernel) ?_
  refine j_putI dX9_rumour_2 fl_X9_67 rfl (Mo.h H) rfl rfl rfl ?_
  first | refine j_aload_n dX9_rumour_5 rfl ?_ | refine j_aload_nN dX9_rumour_5 rfl ?_
  refine j_iconst (v := nI 0) dX9_rumour_6 (by decide +kernel) ?_
  refine j_putI dX9_rumour_7 fl_X9_70 rfl (Mo.h H) rfl rfl rfl ?_
  refine j_eq rfl rfl (σ' := mSt σ h (nI 0)) rfl ?_
  have H0 := H
  have hC0 := hC
  replace hC := (mSt_row (w := nI 0) H0 (k := 20) ⟨_, _, rfl⟩).trans hC0
  replace H : Mo (mSt σ h (nI 0)) h ad := H0
  first | refine j_aload_n dX9_rumour_10 rfl ?_ | refine j_aload_nN dX9_rumour_10 rfl ?_
  refine j_iload_n dX9_rumour_11 rfl ?_
  refine j_i2l dX9_rumour_12 ?_
  refine j_dV1 kl_X9_334 (m_isWordAt H hC hW hW8 k) dX9_rumour_13 rfl rfl (by decide) (Mo.h H) (Nat.le_of_ble_eq_true rfl) (by first | decide | omega) (by omega) (by omega) ?_
  first | (with_reducible refine j_gB ?_; refine j_if_eqB (tgt := 27) dX9_rumour_16 (by decide) (fun c_16 => ?_) (fun c_16 => ?_)) | (with_reducible refine j_gC ?_; refine j_if_eqC (tgt := 27) dX9_rumour_16 (by decide) (fun c_16 => ?_) (fun c_16 => ?_)) | (with_reducible refine j_gN ?_; refine j_if_eqN (tgt := 27) dX9_rumour_16 (by decide) (by omega) (fun c_16 => ?_) (fun c_16 => ?_)) | refine j_if_eq (tgt := 27) dX9_rumour_16 (by decide) (fun c_16 => ?_) (fun c_16 => ?_)
  · first | refine j_aload_n dX9_rumour_27 rfl ?_ | refine j_aload_nN dX9_rumour_27 rfl ?_
    refine j_iconst (v := nI 2) dX9_rumour_28 (by decide +kernel) ?_
    refine j_dV1 kl_X9_325 (m_refuse H _) dX9_rumour_29 rfl rfl (by decide) (Mo.h H) (Nat.le_of_ble_eq_true rfl) (by first | decide | omega) (by omega) (by omega) ?_
    refine j_iret dX9_rumour_32 ⟨_, rfl, rfl⟩ (by omega) (by omega) ?_
    exact pubX (by simp [oRumour, *])
  · first | refine j_aload_n dX9_rumour_19 rfl ?_ | refine j_aload_nN dX9_rumour_19 rfl ?_
    refine j_iload_n dX9_rumour_20 rfl ?_
    refine j_dV1 kl_X9_345 (m_isPersonAt H hC hP hP6 p) dX9_rumour_21 rfl rfl (by decide) (Mo.h H) (Nat.le_of_ble_eq_true rfl) (by first | decide | omega) (by omega) (by omega) ?_
    first | (with_reducible refine j_gB ?_; refine j_if_neB (tgt := 33) dX9_rumour_24 (by decide) (fun c_24 => ?_) (fun c_24 => ?_)) | (with_reducible refine j_gC ?_; refine j_if_neC (tgt := 33) dX9_rumour_24 (by decide) (fun c_24 => ?_) (fun c_24 => ?_)) | (with_reducible refine j_gN ?_; refine j_if_neN (tgt := 33) dX9_rumour_24 (by decide) (by omega) (fun c_24 => ?_) (fun c_24 => ?_)) | refine j_if_ne (tgt := 33) dX9_rumour_24 (by decide) (fun c_24 => ?_) (fun c_24 => ?_)
    · obtain ⟨k, hk, rfl⟩ := okN_nI c_16
      obtain ⟨p, hp, rfl⟩ := okN_nI c_24
      have ek : ixn (nI k) = k := ixn_nI (by omega)
      have ep : ixn (nI p) = p := ixn_nI (by omega)
      have eo : oRumour C W P Dn (nI k) (nI p) = oFound 0 (fUp (fun n => hs (rumF C P Dn (mPeopleWith C P 37 k) n) p) 7) := by rw [oRumour, if_pos ⟨c_16, c_24⟩, ek, ep]
      rw [eo]
      have key : ∀ j, j ≤ 7 → ∀ a x5 x6 x7, a = rumF C P Dn (mPeopleWith C P 37 k) j → fUp (fun n => hs (rumF C P Dn (mPeopleWith C P 37 k) n) p) j = none → Td g l 4 MX9_rumour [.ref h, .int (nI k), .int (nI p)] (mSt σ h (oFound 0 (fUp (fun n => hs (rumF C P Dn (mPeopleWith C P 37 k) n) p) 7)).2) (some (.int (oFound 0 (fUp (fun n => hs (rumF C P Dn (mPeopleWith C P 37 k) n) p) 7)).1)) 44 [some (.ref h), some (.int (nI k)), some (.int (nI p)), some (.int a), some (.int (nI j)), x5, x6, x7] [] (mSt σ h (nI 0)) := by
        refine loop_up fun j hj ih => ?_
        intro a x5 x6 x7 ha hf
        refine j_iload dX9_rumour_44 rfl ?_
        refine j_bipush (v := nI 6) dX9_rumour_46 (by decide +kernel) ?_
        first | (with_reducible refine j_gNN ?_; refine j_icmp_gtN (tgt := 143) dX9_rumour_48 (by decide) (by omega) (by omega) (fun c_48 => ?_) (fun c_48 => ?_)) | refine j_icmp_gt (tgt := 143) dX9_rumour_48 (by decide) (fun c_48 => ?_) (fun c_48 => ?_)
        · first | refine j_aload_n dX9_rumour_143 rfl ?_ | refine j_aload_nN dX9_rumour_143 rfl ?_
          refine j_bipush (v := nI 8) dX9_rumour_144 (by decide +kernel) ?_
          refine j_dV1 kl_X9_325 (m_refuse H _) dX9_rumour_146 rfl rfl (by decide) (Mo.h H) (Nat.le_of_ble_eq_true rfl) (by first | decide | omega) (by omega) (by omega) ?_
          refine j_iret dX9_rumour_149 ⟨_, rfl, rfl⟩ (by omega) (by omega) ?_
          have e : j = 7 := by omega
          subst e
          rw [hf]
          exact ⟨rfl, mSt_r⟩
        · refine j_iload_n dX9_rumour_51 rfl ?_
          refine j_iload_n dX9_rumour_52 rfl ?_
          refine j_dS1 kl_X9_106 (k_has _ _ _ _ p) dX9_rumour_53 rfl rfl (Nat.le_of_ble_eq_true rfl) (by first | decide | omega) (by omega) (by omega) ?_
          first | (with_reducible refine j_gB ?_; refine j_if_eqB (tgt := 62) dX9_rumour_56 (by decide) (fun c_56 => ?_) (fun c_56 => ?_)) | (with_reducible refine j_gC ?_; refine j_if_eqC (tgt := 62) dX9_rumour_56 (by decide) (fun c_56 => ?_) (fun c_56 => ?_)) | (with_reducible refine j_gN ?_; refine j_if_eqN (tgt := 62) dX9_rumour_56 (by decide) (by omega) (fun c_56 => ?_) (fun c_56 => ?_)) | refine j_if_eq (tgt := 62) dX9_rumour_56 (by decide) (fun c_56 => ?_) (fun c_56 => ?_)
          · refine j_iload_n dX9_rumour_62 rfl ?_
            refine j_istore dX9_rumour_63 (by decide) ?_
            refine j_iconst (v := nI 0) dX9_rumour_65 (by decide +kernel) ?_
            refine j_istore dX9_rumour_66 (by decide) ?_
            have keyQ : ∀ q, q ≤ P → ∀ b x7, b = itr (fun q b => itr (rumR C Dn a q) P b) q a → Td g l 4 MX9_rumour [.ref h, .int (nI k), .int (nI p)] (mSt σ h (oFound 0 (fUp (fun n => hs (rumF C P Dn (mPeopleWith C P 37 k) n) p) 7)).2) (some (.int (oFound 0 (fUp (fun n => hs (rumF C P Dn (mPeopleWith C P 37 k) n) p) 7)).1)) 68 [some (.ref h), some (.int (nI k)), some (.int (nI p)), some (.int a), some (.int (nI j)), some (.int b), some (.int (nI q)), x7] [] (mSt σ h (nI 0)) := by
              refine loop_up fun q hq ihq => ?_
              intro b x7 hb
              refine j_iload dX9_rumour_68 rfl ?_
              first | refine j_aload_n dX9_rumour_70 rfl ?_ | refine j_aload_nN dX9_rumour_70 rfl ?_
              refine j_getR dX9_rumour_71 fl_X9_35 rfl (Mo.h H) (Mo.R H _ _ _ rfl) ?_
              refine j_iconst (v := nI 1) dX9_rumour_74 (by decide +kernel) ?_
              refine j_iald dX9_rumour_75 (Mo.S H _ _ _ rfl) rfl (by omega) (by decide) (by first | assumption | (rewrite [hC]; first | assumption | rfl) | rfl) ?_
              first | (with_reducible refine j_gNN ?_; refine j_icmp_geN (tgt := 134) dX9_rumour_76 (by decide) (by omega) (by omega) (fun c_76 => ?_) (fun c_76 => ?_)) | refine j_icmp_ge (tgt := 134) dX9_rumour_76 (by decide) (fun c_76 => ?_) (fun c_76 => ?_)
              · refine j_iload dX9_rumour_134 rfl ?_
                refine j_istore_n dX9_rumour_136 (by decide) ?_
                first | refine j_iincN dX9_rumour_137 rfl (by decide) ?_ | refine j_iinc dX9_rumour_137 rfl rfl (by decide) ?_
                refine j_goto (tgt := 44) dX9_rumour_140 (by decide) ?_
                refine ih (by omega) _ _ _ _ ?_ (by rw [fUp, hf, ← ha, c_56]; rfl)
                rw [hb, show q = P by omega, rumF, itr, ← rumF, ← ha]
                rfl
              · refine j_iconst (v := nI 0) dX9_rumour_79 (by decide +kernel) ?_
                refine j_istore dX9_rumour_80 (by decide) ?_
                have keyR : ∀ r, r ≤ P → ∀ e, e = itr (rumR C Dn a q) r b → Td g l 4 MX9_rumour [.ref h, .int (nI k), .int (nI p)] (mSt σ h (oFound 0 (fUp (fun n => hs (rumF C P Dn (mPeopleWith C P 37 k) n) p) 7)).2) (some (.int (oFound 0 (fUp (fun n => hs (rumF C P Dn (mPeopleWith C P 37 k) n) p) 7)).1)) 82 [some (.ref h), some (.int (nI k)), some (.int (nI p)), some (.int a), some (.int (nI j)), some (.int e), some (.int (nI q)), some (.int (nI r))] [] (mSt σ h (nI 0)) := by
                  refine loop_up fun r hr ihr => ?_
                  intro e he
                  have es : itr (rumR C Dn a q) (r + 1) b = rumR C Dn a q r e := by rw [itr, ← he]
                  refine j_iload dX9_rumour_82 rfl ?_
                  first | refine j_aload_n dX9_rumour_84 rfl ?_ | refine j_aload_nN dX9_rumour_84 rfl ?_
                  refine j_getR dX9_rumour_85 fl_X9_35 rfl (Mo.h H) (Mo.R H _ _ _ rfl) ?_
                  refine j_iconst (v := nI 1) dX9_rumour_88 (by decide +kernel) ?_
                  refine j_iald dX9_rumour_89 (Mo.S H _ _ _ rfl) rfl (by omega) (by decide) (by first | assumption | (rewrite [hC]; first | assumption | rfl) | rfl) ?_
                  first | (with_reducible refine j_gNN ?_; refine j_icmp_geN (tgt := 128) dX9_rumour_90 (by decide) (by omega) (by omega) (fun c_90 => ?_) (fun c_90 => ?_)) | refine j_icmp_ge (tgt := 128) dX9_rumour_90 (by decide) (fun c_90 => ?_) (fun c_90 => ?_)
                  · first | refine j_iincN dX9_rumour_128 rfl (by decide) ?_ | refine j_iinc dX9_rumour_128 rfl rfl (by decide) ?_
                    refine j_goto (tgt := 68) dX9_rumour_131 (by decide) ?_
                    exact ihq (by omega) _ _ (by rw [itr, ← hb, he, show r = P by omega])
                  · refine j_iload_n dX9_rumour_93 rfl ?_
                    refine j_iload dX9_rumour_94 rfl ?_
                    refine j_dS1 kl_X9_106 (k_has _ _ _ _ q) dX9_rumour_96 rfl rfl (Nat.le_of_ble_eq_true rfl) (by first | decide | omega) (by omega) (by omega) ?_
                    first | (with_reducible refine j_gB ?_; refine j_if_eqB (tgt := 122) dX9_rumour_99 (by decide) (fun c_99 => ?_) (fun c_99 => ?_)) | (with_reducible refine j_gC ?_; refine j_if_eqC (tgt := 122) dX9_rumour_99 (by decide) (fun c_99 => ?_) (fun c_99 => ?_)) | (with_reducible refine j_gN ?_; refine j_if_eqN (tgt := 122) dX9_rumour_99 (by decide) (by omega) (fun c_99 => ?_) (fun c_99 => ?_)) | refine j_if_eq (tgt := 122) dX9_rumour_99 (by decide) (fun c_99 => ?_) (fun c_99 => ?_)
                    · first | refine j_iincN dX9_rumour_122 rfl (by decide) ?_ | refine j_iinc dX9_rumour_122 rfl rfl (by decide) ?_
                      refine j_goto (tgt := 82) dX9_rumour_125 (by decide) ?_
                      refine ihr (by omega) _ ?_
                      rw [es, rumR]
                      first
                      | (rw [if_pos ⟨c_99, c_110⟩]; rfl)
                      | (rw [if_neg (fun z => by rw [c_110] at z; exact absurd z.2 (by decide))])
                      | (rw [if_neg (fun z => by rw [c_99] at z; exact absurd z.1 (by decide))])
                    · first | refine j_aload_n dX9_rumour_102 rfl ?_ | refine j_aload_nN dX9_rumour_102 rfl ?_
                      refine j_iload dX9_rumour_103 rfl ?_
                      refine j_iload dX9_rumour_105 rfl ?_
                      refine j_dV1 kl_X9_491 (m_areDining H hC hD hD6 (nI q) (nI r)) dX9_rumour_107 rfl rfl (by decide) (Mo.h H) (Nat.le_of_ble_eq_true rfl) (by first | decide | omega) (by omega) (by omega) ?_
                      first | (with_reducible refine j_gB ?_; refine j_if_eqB (tgt := 122) dX9_rumour_110 (by decide) (fun c_110 => ?_) (fun c_110 => ?_)) | (with_reducible refine j_gC ?_; refine j_if_eqC (tgt := 122) dX9_rumour_110 (by decide) (fun c_110 => ?_) (fun c_110 => ?_)) | (with_reducible refine j_gN ?_; refine j_if_eqN (tgt := 122) dX9_rumour_110 (by decide) (by omega) (fun c_110 => ?_) (fun c_110 => ?_)) | refine j_if_eq (tgt := 122) dX9_rumour_110 (by decide) (fun c_110 => ?_) (fun c_110 => ?_)
                      · first | refine j_iincN dX9_rumour_122 rfl (by decide) ?_ | refine j_iinc dX9_rumour_122 rfl rfl (by decide) ?_
                        refine j_goto (tgt := 82) dX9_rumour_125 (by decide) ?_
                        refine ihr (by omega) _ ?_
                        rw [es, rumR]
                        first
                        | (rw [if_pos ⟨c_99, c_110⟩]; rfl)
                        | (rw [if_neg (fun z => by rw [c_110] at z; exact absurd z.2 (by decide))])
                        | (rw [if_neg (fun z => by rw [c_99] at z; exact absurd z.1 (by decide))])
                      · refine j_iload dX9_rumour_113 rfl ?_
                        refine j_iconst (v := nI 1) dX9_rumour_115 (by decide +kernel) ?_
                        refine j_iload dX9_rumour_116 rfl ?_
                        refine j_ishl dX9_rumour_118 ?_
                        refine j_ior dX9_rumour_119 ?_
                        refine j_istore dX9_rumour_120 (by decide) ?_
                        first | refine j_iincN dX9_rumour_122 rfl (by decide) ?_ | refine j_iinc dX9_rumour_122 rfl rfl (by decide) ?_
                        refine j_goto (tgt := 82) dX9_rumour_125 (by decide) ?_
                        refine ihr (by omega) _ ?_
                        rw [es, rumR]
                        first
                        | (rw [if_pos ⟨c_99, c_110⟩]; rfl)
                        | (rw [if_neg (fun z => by rw [c_110] at z; exact absurd z.2 (by decide))])
                        | (rw [if_neg (fun z => by rw [c_99] at z; exact absurd z.1 (by decide))])
                exact keyR 0 (by omega) _ rfl
            exact keyQ 0 (by omega) _ _ rfl
          · refine j_iload dX9_rumour_59 rfl ?_
            refine j_iret dX9_rumour_61 ⟨_, rfl, rfl⟩ (by omega) (by omega) ?_
            have e : fUp (fun n => hs (rumF C P Dn (mPeopleWith C P 37 k) n) p) 7 = some j := fUp_le (j := j + 1) (by rw [fUp, hf, ← ha, c_56]; rfl) (by omega)
            rw [e]
            exact ⟨rfl, rfl⟩
      first | refine j_aload_n dX9_rumour_33 rfl ?_ | refine j_aload_nN dX9_rumour_33 rfl ?_
      refine j_bipush (v := nI 37) dX9_rumour_34 (by decide +kernel) ?_
      refine j_iload_n dX9_rumour_36 rfl ?_
      refine j_dV1 kl_X9_339 (m_peopleWith H hC hP hP6 (by decide)) dX9_rumour_37 rfl rfl (by decide) (Mo.h H) (Nat.le_of_ble_eq_true rfl) (by first | decide | omega) (by omega) (by omega) ?_
      refine j_istore_n dX9_rumour_40 (by decide) ?_
      refine j_iconst (v := nI 0) dX9_rumour_41 (by decide +kernel) ?_
      refine j_istore dX9_rumour_42 (by decide) ?_
      exact key 0 (by omega) _ none none none rfl rfl
    · first | refine j_aload_n dX9_rumour_27 rfl ?_ | refine j_aload_nN dX9_rumour_27 rfl ?_
      refine j_iconst (v := nI 2) dX9_rumour_28 (by decide +kernel) ?_
      refine j_dV1 kl_X9_325 (m_refuse H _) dX9_rumour_29 rfl rfl (by decide) (Mo.h H) (Nat.le_of_ble_eq_true rfl) (by first | decide | omega) (by omega) (by omega) ?_
      refine j_iret dX9_rumour_32 ⟨_, rfl, rfl⟩ (by omega) (by omega) ?_
      exact pubX (by simp [oRumour, *])
theorem o_day (H : Mo σ h ad) (hC : σ.2.1 (ad 20) = C) {W P Dn : Nat} (hw : Wd C W P Dn) (n : Int32) : Kd g l 5 MX9_day [.ref h, .int n] σ (some (.int (oDay C W P Dn n).1)) (sU (mSt σ h (oDay C W P Dn n).2.1) (ad 20) (oDay C W P Dn n).2.2) := by
  obtain ⟨⟨hW, hW8⟩, ⟨hP, hP6⟩, ⟨hD, hD6⟩, hdn⟩ := id hw
  have ne : ad 20 ≠ h := Mo.nh H (i := 20) rfl
  refine Kt.go (Y := MX9_day) (ls := [some (.ref h), some (.int n), none, none]) (by decide) (Nat.le_of_ble_eq_true rfl) rfl ?_
  first | refine j_aload_n dX9_day_0 rfl ?_ | refine j_aload_nN dX9_day_0 rfl ?_
  refine j_iconst (v := nI 0) dX9_day_1 (by decide +kernel) ?_
  refine j_putI dX9_day_2 fl_X9_67 rfl (Mo.h H) rfl rfl rfl ?_
  first | refine j_aload_n dX9_day_5 rfl ?_ | refine j_aload_nN dX9_day_5 rfl ?_
  refine j_iconst (v := nI 0) dX9_day_6 (by decide +kernel) ?_
  refine j_putI dX9_day_7 fl_X9_70 rfl (Mo.h H) rfl rfl rfl ?_
  refine j_eq rfl rfl (σ' := mSt σ h (nI 0)) rfl ?_
  have H0 := H
  have hC0 := hC
  replace hC := (mSt_row (w := nI 0) H0 (k := 20) ⟨_, _, rfl⟩).trans hC0
  replace H : Mo (mSt σ h (nI 0)) h ad := H0
  refine j_iload_n dX9_day_10 rfl ?_
  refine j_i2l dX9_day_11 ?_
  refine j_lconst (v := 1) dX9_day_12 (by decide +kernel) ?_
  refine j_ldc2 (v := 99) dX9_day_13 q2095 ?_
  refine j_dS1 kl_X9_102 (k_inL _ _ _) dX9_day_16 rfl rfl (Nat.le_of_ble_eq_true rfl) (by first | decide | omega) (by omega) (by omega) ?_
  first | (with_reducible refine j_gB ?_; refine j_if_neB (tgt := 28) dX9_day_19 (by decide) (fun c_19 => ?_) (fun c_19 => ?_)) | (with_reducible refine j_gC ?_; refine j_if_neC (tgt := 28) dX9_day_19 (by decide) (fun c_19 => ?_) (fun c_19 => ?_)) | (with_reducible refine j_gN ?_; refine j_if_neN (tgt := 28) dX9_day_19 (by decide) (by omega) (fun c_19 => ?_) (fun c_19 => ?_)) | refine j_if_ne (tgt := 28) dX9_day_19 (by decide) (fun c_19 => ?_) (fun c_19 => ?_)
  · first | refine j_aload_n dX9_day_28 rfl ?_ | refine j_aload_nN dX9_day_28 rfl ?_
    refine j_getR dX9_day_29 fl_X9_35 rfl (Mo.h H) (Mo.R H _ _ _ rfl) ?_
    refine j_bipush (v := nI 6) dX9_day_32 (by decide +kernel) ?_
    refine j_iald dX9_day_34 (Mo.S H _ _ _ rfl) rfl (by omega) (by decide) (by first | assumption | (rewrite [hC]; first | assumption | rfl) | rfl) ?_
    refine j_iload_n dX9_day_35 rfl ?_
    first | (with_reducible refine j_gNN ?_; refine j_iaddN dX9_day_36 ?_) | refine j_iadd dX9_day_36 ?_
    refine j_sipush (v := nI 9999) dX9_day_37 (by decide +kernel) ?_
    first | (with_reducible refine j_gNN ?_; refine j_icmp_leN (tgt := 50) dX9_day_40 (by decide) (by omega) (by omega) (fun c_40 => ?_) (fun c_40 => ?_)) | refine j_icmp_le (tgt := 50) dX9_day_40 (by decide) (fun c_40 => ?_) (fun c_40 => ?_)
    · have z := Int32.not_lt.mpr c_40
      obtain ⟨m, hm1, hm, rfl⟩ := inL_1t (m := 99) (n := 99) (by decide +kernel) c_19
      have em : ixn (nI m) = m := ixn_nI (by omega)
      have eo : oDay C W P Dn (nI m) = ((mDaysS W P Dn C m).1, nI 0, (mDaysS W P Dn C m).2) := by unfold oDay; rw [if_pos c_19, if_neg z, em]
      rw [eo]
      have key : ∀ j, j ≤ m → ∀ a D, (a, D) = mDaysS W P Dn C j → Td g l 5 MX9_day [.ref h, .int (nI m)] (sU (mSt σ h (nI 0)) (ad 20) (mDaysS W P Dn C m).2) (some (.int (mDaysS W P Dn C m).1)) 54 [some (.ref h), some (.int (nI m)), some (.int a), some (.int (nI j))] [] (sU (mSt σ h (nI 0)) (ad 20) D) := by
        refine loop_up fun j hj ih => ?_
        intro a D hs
        have hD2 : D = mDays C W P Dn j := congrArg Prod.snd hs
        have f0 : Fr C D := by rw [hD2]; exact mDays_fr hw j
        refine j_iload_n dX9_day_54 rfl ?_
        refine j_iload_n dX9_day_55 rfl ?_
        first | (with_reducible refine j_gNN ?_; refine j_icmp_geN (tgt := 72) dX9_day_56 (by decide) (by omega) (by omega) (fun c_56 => ?_) (fun c_56 => ?_)) | refine j_icmp_ge (tgt := 72) dX9_day_56 (by decide) (fun c_56 => ?_) (fun c_56 => ?_)
        · refine j_iload_n dX9_day_72 rfl ?_
          refine j_iret dX9_day_73 ⟨_, rfl, rfl⟩ (by omega) (by omega) ?_
          exact ⟨by rw [← show j = m by omega, ← hs], by rw [← show j = m by omega, ← hs]⟩
        · refine j_iload_n dX9_day_59 rfl ?_
          first | refine j_aload_n dX9_day_60 rfl ?_ | refine j_aload_nN dX9_day_60 rfl ?_
          refine j_dV1 kl_X9_381 (m_goesDay (σ := sU (mSt σ h (nI 0)) (ad 20) D) H sU_e (hw.fr f0)) dX9_day_61 rfl rfl (by decide) (Mo.h H) (Nat.le_of_ble_eq_true rfl) (by first | decide | omega) (by omega) (by omega) ?_
          rw [sU_U]
          refine j_iadd dX9_day_64 ?_
          refine j_istore_n dX9_day_65 (by decide) ?_
          first | refine j_iincN dX9_day_66 rfl (by decide) ?_ | refine j_iinc dX9_day_66 rfl rfl (by decide) ?_
          refine j_goto (tgt := 54) dX9_day_69 (by decide) ?_
          exact ih (by omega) _ _ (by rw [mDaysS, itr, ← mDaysS, ← hs])
      refine j_iconst (v := nI 0) dX9_day_50 (by decide +kernel) ?_
      refine j_istore_n dX9_day_51 (by decide) ?_
      refine j_iconst (v := nI 0) dX9_day_52 (by decide +kernel) ?_
      refine j_istore_n dX9_day_53 (by decide) ?_
      exact j_eq rfl rfl (sUh hC).symm (key 0 (by omega) _ _ rfl)
    · first | refine j_aload_n dX9_day_43 rfl ?_ | refine j_aload_nN dX9_day_43 rfl ?_
      refine j_bipush (v := nI 7) dX9_day_44 (by decide +kernel) ?_
      refine j_dV1 kl_X9_325 (m_refuse H _) dX9_day_46 rfl rfl (by decide) (Mo.h H) (Nat.le_of_ble_eq_true rfl) (by first | decide | omega) (by omega) (by omega) ?_
      refine j_iret dX9_day_49 ⟨_, rfl, rfl⟩ (by omega) (by omega) ?_
      have z := Int32.not_le.mp c_40
      exact pubDX hC0 ne (by unfold oDay; rw [if_pos c_19, if_pos z])
  · first | refine j_aload_n dX9_day_22 rfl ?_ | refine j_aload_nN dX9_day_22 rfl ?_
    refine j_iconst (v := nI 5) dX9_day_23 (by decide +kernel) ?_
    refine j_dV1 kl_X9_325 (m_refuse H _) dX9_day_24 rfl rfl (by decide) (Mo.h H) (Nat.le_of_ble_eq_true rfl) (by first | decide | omega) (by omega) (by omega) ?_
    refine j_iret dX9_day_27 ⟨_, rfl, rfl⟩ (by omega) (by omega) ?_
    exact pubDX hC0 ne (by simp [oDay, *])
end M14
