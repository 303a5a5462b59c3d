/-! THE MODEL's YEARS: a run, live -/
set_option maxRecDepth 100000
theorem ym_cg {σ : Sg} {h : Nat} {ad : Nat → Nat} {C U V : Nat → Int32} (hV : ∀ k, 36 ≤ k → k < 44 → V k = U k) : ym σ h ad C V = ym σ h ad C U := by
  unfold ym
  refine put_cg fun a k i hi => ?_
  unfold yL at hi
  split at hi
  · next z => cases hi; exact hV k z.2.1 z.2.2
  · cases hi
/-- the cells of a run at its start -/
def y0 (seed : Nat) : Nat → Int32 := fun k => if k = 37 then nI seed else nI 0
def yRun (C : Nat → Int32) (W P Dn N seed : Nat) : (Nat → Int32) × (Nat → Int32) := yAll W P Dn 31 0 N (C, y0 seed)
/-- the years stand well in the row -/
def Yw (C : Nat → Int32) (W P N : Nat) : Prop := N ≤ 30 ∧ C 176 = nI N ∧ Bk C W P 31 3 0 N
def lvR (L V : Nat → Int32) : Nat → Int32 := up (up (up (up (up L 0 (V 39)) 1 (V 40)) 2 (V 41)) 3 (V 42)) 4 (V 43)
def mLive (σ : Sg) (h : Nat) (ad : Nat → Nat) (L : Nat → Int32) (z : (Nat → Int32) × (Nat → Int32)) : Sg := sI (sU (ym (mSt σ h (nI 0)) h ad z.1 z.2) (ad 34) (lvR L z.2)) h 35 (nI 1)
section M23
variable {g : Gx} {l : Launch} {σ : Sg} {h : Nat} {ad : Nat → Nat} {C V L : Nat → Int32} {W P Dn N : Nat}
theorem m_runsYears (H0 : Mo σ h ad) (hw : Wd C W P Dn) (hY : Yw C W P N) {seed : Nat} (hs : seed < 65536) : Iz C (yRun C W P Dn N seed) ∧ Kd g l 15 MX9_runsYears [.ref h, .int (nI seed)] (ym σ h ad C V) none (ym σ h ad (yRun C W P Dn N seed).1 (yRun C W P Dn N seed).2) := by
  have ne : ad 20 ≠ h := Mo.nh H0 (i := 20) rfl
  have H : Mo (ym σ h ad C V) h ad := H0
  obtain ⟨hN, hN2, hB⟩ := hY
  obtain ⟨r1, r2⟩ := m_doAll (g := g) (l := l) (W := W) (P := P) (Dn := Dn) H0 31 3 0 N 0 C (y0 seed) hB hN hw ⟨Fr.rf, seed, hs, rfl⟩
  refine ⟨r1, ?_⟩
  have hK : Kd g l 14 MX9_doAll [.ref h, .int (nI 0), .int (nI N)] (ym σ h ad C (y0 seed)) none (ym σ h ad (yRun C W P Dn N seed).1 (yRun C W P Dn N seed).2) := by
    have H : Mo (ym σ h ad C (y0 seed)) h ad := H0
    refine Kt.go (Y := MX9_doAll) (ls := [some (.ref h), some (.int (nI 0)), some (.int (nI N)), none]) (by decide) (Nat.le_of_ble_eq_true rfl) rfl ?_
    refine j_iload_n dX9_doAll_0 rfl ?_
    refine j_istore_n dX9_doAll_1 (by decide) ?_
    exact r2
  generalize yRun C W P Dn N seed = z at *
  refine Kt.go (Y := MX9_runsYears) (ls := [some (.ref h), some (.int (nI seed))]) (by decide) (Nat.le_of_ble_eq_true rfl) rfl ?_
  first | refine j_aload_n dX9_runsYears_0 rfl ?_ | refine j_aload_nN dX9_runsYears_0 rfl ?_
  refine j_iload_n dX9_runsYears_1 rfl ?_
  refine j_putI dX9_runsYears_2 fl_X9_517 rfl (Mo.h H) rfl rfl rfl ?_
  rw [ym_w 37 (by decide) (by decide)]
  first | refine j_aload_n dX9_runsYears_5 rfl ?_ | refine j_aload_nN dX9_runsYears_5 rfl ?_
  refine j_iconst (v := nI 0) dX9_runsYears_6 (by decide +kernel) ?_
  refine j_putI dX9_runsYears_7 fl_X9_545 rfl (Mo.h H) rfl rfl rfl ?_
  rw [ym_w 38 (by decide) (by decide)]
  first | refine j_aload_n dX9_runsYears_10 rfl ?_ | refine j_aload_nN dX9_runsYears_10 rfl ?_
  refine j_iconst (v := nI 0) dX9_runsYears_11 (by decide +kernel) ?_
  refine j_putI dX9_runsYears_12 fl_X9_555 rfl (Mo.h H) rfl rfl rfl ?_
  rw [ym_w 39 (by decide) (by decide)]
  first | refine j_aload_n dX9_runsYears_15 rfl ?_ | refine j_aload_nN dX9_runsYears_15 rfl ?_
  refine j_iconst (v := nI 0) dX9_runsYears_16 (by decide +kernel) ?_
  refine j_putI dX9_runsYears_17 fl_X9_524 rfl (Mo.h H) rfl rfl rfl ?_
  rw [ym_w 40 (by decide) (by decide)]
  first | refine j_aload_n dX9_runsYears_20 rfl ?_ | refine j_aload_nN dX9_runsYears_20 rfl ?_
  refine j_iconst (v := nI 0) dX9_runsYears_21 (by decide +kernel) ?_
  refine j_putI dX9_runsYears_22 fl_X9_521 rfl (Mo.h H) rfl rfl rfl ?_
  rw [ym_w 41 (by decide) (by decide)]
  first | refine j_aload_n dX9_runsYears_25 rfl ?_ | refine j_aload_nN dX9_runsYears_25 rfl ?_
  refine j_iconst (v := nI 0) dX9_runsYears_26 (by decide +kernel) ?_
  refine j_putI dX9_runsYears_27 fl_X9_533 rfl (Mo.h H) rfl rfl rfl ?_
  rw [ym_w 42 (by decide) (by decide)]
  first | refine j_aload_n dX9_runsYears_30 rfl ?_ | refine j_aload_nN dX9_runsYears_30 rfl ?_
  refine j_iconst (v := nI 0) dX9_runsYears_31 (by decide +kernel) ?_
  refine j_putI dX9_runsYears_32 fl_X9_552 rfl (Mo.h H) rfl rfl rfl ?_
  rw [ym_w 43 (by decide) (by decide)]
  first | refine j_aload_n dX9_runsYears_35 rfl ?_ | refine j_aload_nN dX9_runsYears_35 rfl ?_
  refine j_iconst (v := nI 0) dX9_runsYears_36 (by decide +kernel) ?_
  refine j_putI dX9_runsYears_37 fl_X9_548 rfl (Mo.h H) rfl (by first | rfl | exact zb_nar (by assumption)) (by first | rfl | exact zb_fit (by assumption)) ?_
  rw [ym_w 36 (by decide) (by decide)]
  refine j_sg (ym_cg (U := y0 seed) (fun k k1 k2 => by
    have : k = 36 ∨ k = 37 ∨ k = 38 ∨ k = 39 ∨ k = 40 ∨ k = 41 ∨ k = 42 ∨ k = 43 := by omega
    rcases this with rfl | rfl | rfl | rfl | rfl | rfl | rfl | rfl <;> rfl)) ?_
  first | refine j_aload_n dX9_runsYears_40 rfl ?_ | refine j_aload_nN dX9_runsYears_40 rfl ?_
  refine j_iconst (v := nI 0) dX9_runsYears_41 (by decide +kernel) ?_
  first | refine j_aload_n dX9_runsYears_42 rfl ?_ | refine j_aload_nN dX9_runsYears_42 rfl ?_
  refine j_getR dX9_runsYears_43 fl_X9_35 rfl (Mo.h H) (Mo.R H _ _ _ rfl) ?_
  refine j_sipush (v := nI 176) dX9_runsYears_46 (by decide +kernel) ?_
  refine j_iald dX9_runsYears_49 (Mo.S H _ _ _ rfl) rfl (by omega) (by decide) (by first | assumption | ((first | rewrite [ym_c ne] | rewrite [ym_v 36 (by decide) (by decide)] | rewrite [ym_v 37 (by decide) (by decide)] | rewrite [ym_v 38 (by decide) (by decide)] | rewrite [ym_v 39 (by decide) (by decide)] | rewrite [ym_v 40 (by decide) (by decide)] | rewrite [ym_v 41 (by decide) (by decide)] | rewrite [ym_v 42 (by decide) (by decide)] | rewrite [ym_v 43 (by decide) (by decide)]); first | assumption | rfl) | rfl) ?_
  refine j_dV0 kl_X9_564 (hK) dX9_runsYears_50 rfl rfl (by decide) (Mo.h H) (Nat.le_of_ble_eq_true rfl) (by first | decide | omega) (by omega) (by omega) ?_
  refine j_vret dX9_runsYears_53 rfl (by omega) (by omega) ?_
  exact ⟨rfl, rfl⟩
/-- live's answer -/
def oLive (C : Nat → Int32) (W P Dn N : Nat) (seed : Int32) : Int32 × Int32 := if okN seed 10000 then (if C 175 = 0 then (-1, nI 8) else ((yRun C W P Dn N (ixn seed)).2 38, nI 0)) else (-1, nI 5)
theorem o_live (H : Mo σ h ad) (hC : σ.2.1 (ad 20) = C) (hL : σ.2.1 (ad 34) = L) (hw : Wd C W P Dn) (hY : ¬ C 175 = 0 → Yw C W P N) (seed : Int32) : Kd g l 16 MX9_live [.ref h, .int seed] σ (some (.int (oLive C W P Dn N seed).1)) (if okN seed 10000 = true ∧ ¬ C 175 = 0 then mLive σ h ad L (yRun C W P Dn N (ixn seed)) else mSt σ h (oLive C W P Dn N seed).2) := by
  have hne : ad 20 ≠ h := Mo.nh H (i := 20) rfl
  refine Kt.go (Y := MX9_live) (ls := [some (.ref h), some (.int seed)]) (by decide) (Nat.le_of_ble_eq_true rfl) rfl ?_
  first | refine j_aload_n dX9_live_0 rfl ?_ | refine j_aload_nN dX9_live_0 rfl ?_
  refine j_iconst (v := nI 0) dX9_live_1 (by decide +kernel) ?_
  refine j_putI dX9_live_2 fl_X9_67 rfl (Mo.h H) rfl rfl rfl ?_
  first | refine j_aload_n dX9_live_5 rfl ?_ | refine j_aload_nN dX9_live_5 rfl ?_
  refine j_iconst (v := nI 0) dX9_live_6 (by decide +kernel) ?_
  refine j_putI dX9_live_7 fl_X9_70 rfl (Mo.h H) rfl rfl rfl ?_
  refine j_eq rfl rfl (σ' := mSt σ h (nI 0)) rfl ?_
  have H0 := H
  have hC0 := hC
  replace hC := (mSt_row (w := nI 0) H0 (k := 20) ⟨_, _, rfl⟩).trans hC0
  replace H : Mo (mSt σ h (nI 0)) h ad := H0
  refine j_iload_n dX9_live_10 rfl ?_
  refine j_i2l dX9_live_11 ?_
  refine j_lconst (v := 0) dX9_live_12 (by decide +kernel) ?_
  refine j_ldc2 (v := 9999) dX9_live_13 q2293 ?_
  refine j_dS1 kl_X9_102 (k_inL _ _ _) dX9_live_16 rfl rfl (Nat.le_of_ble_eq_true rfl) (by first | decide | omega) (by omega) (by omega) ?_
  rw [inL_ok (n := 10000) (by decide +kernel)]
  first | (with_reducible refine j_gB ?_; refine j_if_neB (tgt := 28) dX9_live_19 (by decide) (fun c_19 => ?_) (fun c_19 => ?_)) | (with_reducible refine j_gC ?_; refine j_if_neC (tgt := 28) dX9_live_19 (by decide) (fun c_19 => ?_) (fun c_19 => ?_)) | (with_reducible refine j_gN ?_; refine j_if_neN (tgt := 28) dX9_live_19 (by decide) (by omega) (fun c_19 => ?_) (fun c_19 => ?_)) | refine j_if_ne (tgt := 28) dX9_live_19 (by decide) (fun c_19 => ?_) (fun c_19 => ?_)
  · first | refine j_aload_n dX9_live_28 rfl ?_ | refine j_aload_nN dX9_live_28 rfl ?_
    refine j_getR dX9_live_29 fl_X9_35 rfl (Mo.h H) (Mo.R H _ _ _ rfl) ?_
    refine j_sipush (v := nI 175) dX9_live_32 (by decide +kernel) ?_
    refine j_iald dX9_live_35 (Mo.S H _ _ _ rfl) rfl (by omega) (by decide) (by first | assumption | ((first | rewrite [hC] | rewrite [ym_v 38 (by decide) (by decide)]); first | assumption | rfl) | rfl) ?_
    first | (with_reducible refine j_gB ?_; refine j_if_neB (tgt := 46) dX9_live_36 (by decide) (fun c_36 => ?_) (fun c_36 => ?_)) | (with_reducible refine j_gC ?_; refine j_if_neC (tgt := 46) dX9_live_36 (by decide) (fun c_36 => ?_) (fun c_36 => ?_)) | (with_reducible refine j_gN ?_; refine j_if_neN (tgt := 46) dX9_live_36 (by decide) (by omega) (fun c_36 => ?_) (fun c_36 => ?_)) | refine j_if_ne (tgt := 46) dX9_live_36 (by decide) (fun c_36 => ?_) (fun c_36 => ?_)
    · obtain ⟨s, hs, rfl⟩ := okN_nI c_19
      have es : ixn (nI s) = s := ixn_nI (by omega)
      rw [if_pos ⟨c_19, c_36⟩, oLive, if_pos c_19, if_neg c_36, es]
      obtain ⟨-, hK⟩ := m_runsYears (g := g) (l := l) (V := (mSt σ h (nI 0)).2.1 h) H hw (hY c_36) (show s < 65536 by omega)
      generalize yRun C W P Dn N s = z at *
      have h34 : h ≠ ad 34 := fun e => Mo.nh H (i := 34) rfl e.symm
      have hL0 : (mSt σ h (nI 0)).2.1 (ad 34) = L := (mSt_row H0 ⟨_, _, rfl⟩).trans hL
      have n34 : ad 34 ≠ ad 20 := Mo.ne H (by decide) (by decide) (by decide)
      have eL : (ym (mSt σ h (nI 0)) h ad z.1 z.2).2.1 (ad 34) = L := by
        funext k
        refine (pgn (yL_n (Ne.symm h34))).trans ?_
        rw [sU_n n34]
        exact congrFun hL0 k
      refine j_sg (ym_id (h := h) hC (fun _ _ _ => rfl)).symm ?_
      have v38 : (sI (sU (ym (mSt σ h (nI 0)) h ad z.1 z.2) (ad 34) (lvR L z.2)) h 35 (nI 1)).2.1 h 38 = z.2 38 := by rw [sI_e, up_ne (by decide), sU_n h34, ym_v 38 (by decide) (by decide)]
      first | refine j_aload_n dX9_live_46 rfl ?_ | refine j_aload_nN dX9_live_46 rfl ?_
      refine j_iload_n dX9_live_47 rfl ?_
      refine j_dV0 kl_X9_570 (hK) dX9_live_48 rfl rfl (by decide) (Mo.h H) (Nat.le_of_ble_eq_true rfl) (by first | decide | omega) (by omega) (by omega) ?_
      first | refine j_aload_n dX9_live_51 rfl ?_ | refine j_aload_nN dX9_live_51 rfl ?_
      refine j_getR dX9_live_52 fl_X9_60 rfl (Mo.h H) (Mo.R H _ _ _ rfl) ?_
      refine j_iconst (v := nI 0) dX9_live_55 (by decide +kernel) ?_
      first | refine j_aload_n dX9_live_56 rfl ?_ | refine j_aload_nN dX9_live_56 rfl ?_
      refine j_getI dX9_live_57 fl_X9_555 rfl (Mo.h H) (by first | assumption | (((try rewrite [sU_n h34]); first | rewrite [ym_v 38 (by decide) (by decide)] | rewrite [ym_v 39 (by decide) (by decide)] | rewrite [ym_v 40 (by decide) (by decide)] | rewrite [ym_v 41 (by decide) (by decide)] | rewrite [ym_v 42 (by decide) (by decide)] | rewrite [ym_v 43 (by decide) (by decide)]); first | assumption | rfl) | rfl) ?_
      refine j_iast dX9_live_60 (Mo.S H _ _ _ rfl) rfl (by omega) (by decide) ?_
      rw [sI_U, eL]
      first | refine j_aload_n dX9_live_61 rfl ?_ | refine j_aload_nN dX9_live_61 rfl ?_
      refine j_getR dX9_live_62 fl_X9_60 rfl (Mo.h H) (Mo.R H _ _ _ rfl) ?_
      refine j_iconst (v := nI 1) dX9_live_65 (by decide +kernel) ?_
      first | refine j_aload_n dX9_live_66 rfl ?_ | refine j_aload_nN dX9_live_66 rfl ?_
      refine j_getI dX9_live_67 fl_X9_524 rfl (Mo.h H) (by first | assumption | (((try rewrite [sU_n h34]); first | rewrite [ym_v 38 (by decide) (by decide)] | rewrite [ym_v 39 (by decide) (by decide)] | rewrite [ym_v 40 (by decide) (by decide)] | rewrite [ym_v 41 (by decide) (by decide)] | rewrite [ym_v 42 (by decide) (by decide)] | rewrite [ym_v 43 (by decide) (by decide)]); first | assumption | rfl) | rfl) ?_
      refine j_iast dX9_live_70 (Mo.S H _ _ _ rfl) rfl (by omega) (by decide) ?_
      rw [sU_I]
      first | refine j_aload_n dX9_live_71 rfl ?_ | refine j_aload_nN dX9_live_71 rfl ?_
      refine j_getR dX9_live_72 fl_X9_60 rfl (Mo.h H) (Mo.R H _ _ _ rfl) ?_
      refine j_iconst (v := nI 2) dX9_live_75 (by decide +kernel) ?_
      first | refine j_aload_n dX9_live_76 rfl ?_ | refine j_aload_nN dX9_live_76 rfl ?_
      refine j_getI dX9_live_77 fl_X9_521 rfl (Mo.h H) (by first | assumption | (((try rewrite [sU_n h34]); first | rewrite [ym_v 38 (by decide) (by decide)] | rewrite [ym_v 39 (by decide) (by decide)] | rewrite [ym_v 40 (by decide) (by decide)] | rewrite [ym_v 41 (by decide) (by decide)] | rewrite [ym_v 42 (by decide) (by decide)] | rewrite [ym_v 43 (by decide) (by decide)]); first | assumption | rfl) | rfl) ?_
      refine j_iast dX9_live_80 (Mo.S H _ _ _ rfl) rfl (by omega) (by decide) ?_
      rw [sU_I]
      first | refine j_aload_n dX9_live_81 rfl ?_ | refine j_aload_nN dX9_live_81 rfl ?_
      refine j_getR dX9_live_82 fl_X9_60 rfl (Mo.h H) (Mo.R H _ _ _ rfl) ?_
      refine j_iconst (v := nI 3) dX9_live_85 (by decide +kernel) ?_
      first | refine j_aload_n dX9_live_86 rfl ?_ | refine j_aload_nN dX9_live_86 rfl ?_
      refine j_getI dX9_live_87 fl_X9_533 rfl (Mo.h H) (by first | assumption | (((try rewrite [sU_n h34]); first | rewrite [ym_v 38 (by decide) (by decide)] | rewrite [ym_v 39 (by decide) (by decide)] | rewrite [ym_v 40 (by decide) (by decide)] | rewrite [ym_v 41 (by decide) (by decide)] | rewrite [ym_v 42 (by decide) (by decide)] | rewrite [ym_v 43 (by decide) (by decide)]); first | assumption | rfl) | rfl) ?_
      refine j_iast dX9_live_90 (Mo.S H _ _ _ rfl) rfl (by omega) (by decide) ?_
      rw [sU_I]
      first | refine j_aload_n dX9_live_91 rfl ?_ | refine j_aload_nN dX9_live_91 rfl ?_
      refine j_getR dX9_live_92 fl_X9_60 rfl (Mo.h H) (Mo.R H _ _ _ rfl) ?_
      refine j_iconst (v := nI 4) dX9_live_95 (by decide +kernel) ?_
      first | refine j_aload_n dX9_live_96 rfl ?_ | refine j_aload_nN dX9_live_96 rfl ?_
      refine j_getI dX9_live_97 fl_X9_552 rfl (Mo.h H) (by first | assumption | (((try rewrite [sU_n h34]); first | rewrite [ym_v 38 (by decide) (by decide)] | rewrite [ym_v 39 (by decide) (by decide)] | rewrite [ym_v 40 (by decide) (by decide)] | rewrite [ym_v 41 (by decide) (by decide)] | rewrite [ym_v 42 (by decide) (by decide)] | rewrite [ym_v 43 (by decide) (by decide)]); first | assumption | rfl) | rfl) ?_
      refine j_iast dX9_live_100 (Mo.S H _ _ _ rfl) rfl (by omega) (by decide) ?_
      rw [sU_I]
      first | refine j_aload_n dX9_live_101 rfl ?_ | refine j_aload_nN dX9_live_101 rfl ?_
      refine j_iconst (v := nI 1) dX9_live_102 (by decide +kernel) ?_
      refine j_putI dX9_live_103 fl_X9_573 rfl (Mo.h H) rfl (by first | rfl | exact zb_nar (by assumption)) (by first | rfl | exact zb_fit (by assumption)) ?_
      first | refine j_aload_n dX9_live_106 rfl ?_ | refine j_aload_nN dX9_live_106 rfl ?_
      refine j_getI dX9_live_107 fl_X9_545 rfl (Mo.h H) (by first | assumption | (((try rewrite [sU_n h34]); first | rewrite [ym_v 38 (by decide) (by decide)] | rewrite [ym_v 39 (by decide) (by decide)] | rewrite [ym_v 40 (by decide) (by decide)] | rewrite [ym_v 41 (by decide) (by decide)] | rewrite [ym_v 42 (by decide) (by decide)] | rewrite [ym_v 43 (by decide) (by decide)]); first | assumption | rfl) | rfl) ?_
      refine j_iret dX9_live_110 ⟨_, rfl, rfl⟩ (by omega) (by omega) ?_
      exact ⟨rfl, rfl⟩
    · first | refine j_aload_n dX9_live_39 rfl ?_ | refine j_aload_nN dX9_live_39 rfl ?_
      refine j_bipush (v := nI 8) dX9_live_40 (by decide +kernel) ?_
      refine j_dV1 kl_X9_325 (m_refuse H _) dX9_live_42 rfl rfl (by decide) (Mo.h H) (Nat.le_of_ble_eq_true rfl) (by first | decide | omega) (by omega) (by omega) ?_
      refine j_iret dX9_live_45 ⟨_, rfl, rfl⟩ (by omega) (by omega) ?_
      rw [if_neg (fun q => q.2 c_36)]; exact pubX (by simp [oLive, *])
  · first | refine j_aload_n dX9_live_22 rfl ?_ | refine j_aload_nN dX9_live_22 rfl ?_
    refine j_iconst (v := nI 5) dX9_live_23 (by decide +kernel) ?_
    refine j_dV1 kl_X9_325 (m_refuse H _) dX9_live_24 rfl rfl (by decide) (Mo.h H) (Nat.le_of_ble_eq_true rfl) (by first | decide | omega) (by omega) (by omega) ?_
    refine j_iret dX9_live_27 ⟨_, rfl, rfl⟩ (by omega) (by omega) ?_
    rw [if_neg (fun q => by rw [c_19] at q; exact absurd q.1 (by decide))]; exact pubX (by simp [oLive, *])
end M23
