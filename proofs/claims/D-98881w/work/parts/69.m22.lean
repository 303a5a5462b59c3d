/-! THE MODEL's YEARS: steps s to t; live -/
set_option maxRecDepth 100000
theorem Bk.fr {C D : Nat → Int32} {W P : Nat} (hf : Fr C D) : ∀ f lv s t, Bk C W P f lv s t → Bk D W P f lv s t := by
  intro f
  induction f with
  | zero => intro lv s t h; exact h
  | succ f ih =>
    intro lv s t h
    rcases h with h | ⟨h1, h2, h3, kd, e, h4, h5, h6, h7, h8, h9, h10, h11, h12⟩
    · exact Or.inl h
    · exact Or.inr ⟨h1, h2, h3.fr (by omega) hf, kd, e, (hf _ (by omega)).trans h4, h5, (hf _ (by omega)).trans h6, h7, h8, h9, fun q => ⟨(h10 q).1, ih _ _ _ (h10 q).2⟩, h11, ih _ _ _ h12⟩
section M22
variable {g : Gx} {l : Launch} {σ : Sg} {h : Nat} {ad : Nat → Nat} {W P Dn : Nat}
theorem Wd.frw {C D : Nat → Int32} (hw : Wd C W P Dn) (hf : Fr C D) : Wd D W P Dn := hw.fr hf
theorem m_doAll (H : Mo σ h ad) : ∀ f lv s t f0 (C V : Nat → Int32), Bk C W P f lv s t → t ≤ 30 → Wd C W P Dn → Iz C (C, V) → Iz C (yAll W P Dn f s t (C, V)) ∧ Td g l (2 * lv + 8) MX9_doAll [.ref h, .int (nI f0), .int (nI t)] (ym σ h ad (yAll W P Dn f s t (C, V)).1 (yAll W P Dn f s t (C, V)).2) none 2 [some (.ref h), some (.int (nI f0)), some (.int (nI t)), some (.int (nI s))] [] (ym σ h ad C V) := by
  have ne : ad 20 ≠ h := Mo.nh H (i := 20) rfl
  intro f
  induction f with
  | zero =>
    intro lv s t f0 C V hB ht hw hI
    have e : s = t := hB
    subst e
    have H : Mo (ym σ h ad C V) h ad := H
    refine ⟨hI, ?_⟩
    refine j_iload_n dX9_doAll_2 rfl ?_
    refine j_iload_n dX9_doAll_3 rfl ?_
    first | (with_reducible refine j_gNN ?_; refine j_icmp_geN (tgt := 39) dX9_doAll_4 (by decide) (by omega) (by omega) (fun c_4 => ?_) (fun c_4 => ?_)) | refine j_icmp_ge (tgt := 39) dX9_doAll_4 (by decide) (fun c_4 => ?_) (fun c_4 => ?_)
    · refine j_vret dX9_doAll_39 rfl (by omega) (by omega) ?_
      exact ⟨rfl, rfl⟩
    · exact absurd c_4 (by omega)
  | succ f ih =>
    intro lv s t f0 C V hB ht hw hI
    have H0 := H
    have H : Mo (ym σ h ad C V) h ad := H
    have hsle : s ≤ t := by
      rcases hB with q | q
      · exact Nat.le_of_eq q
      · exact Nat.le_of_lt q.1
    by_cases hst : s < t ∧ V 36 = 0
    · rcases hB with hB | ⟨h1, h2, h3, kd, e, h4, h5, h6, h7, h8, h9, h10, h11, h12⟩
      · omega
      · have hone := m_doOne (g := g) (l := l) (σ := σ) (h := h) (ad := ad) (inn := yAll W P Dn f) (e := e) (lv := lv) H hw h2 h3 ⟨kd, h4, h5⟩ h6 h9 hI (fun q y hy => by
          have k56 : kd = 5 ∨ kd = 6 := by
            rcases q with q | q
            · exact Or.inl ((nI_eq (by omega) (by omega)).mp (h4.symm.trans q))
            · exact Or.inr ((nI_eq (by omega) (by omega)).mp (h4.symm.trans q))
          obtain ⟨l1, b1⟩ := h10 k56
          obtain ⟨y1, r, y2, y3⟩ := hy
          obtain ⟨r1, r2⟩ := ih (lv - 1) (s + 1) e (s + 1) y.1 y.2 (b1.fr y1 f (lv - 1) (s + 1) e) h9 (hw.fr y1) ⟨Fr.rf, r, y2, y3⟩
          refine ⟨⟨y1.tr r1.1, r1.2⟩, ?_⟩
          have e8 : 2 * lv + 6 = 2 * (lv - 1) + 8 := by omega
          rw [e8]
          have H : Mo (ym σ h ad y.1 y.2) h ad := H0
          refine Kt.go (Y := MX9_doAll) (ls := [some (.ref h), some (.int (nI (s + 1))), some (.int (nI e)), none]) (by decide) (Nat.le_of_ble_eq_true rfl) rfl ?_
          refine j_iload_n dX9_doAll_0 rfl ?_
          refine j_istore_n dX9_doAll_1 (by decide) ?_
          exact r2
          )
        have ey : yAll W P Dn (f + 1) s t (C, V) = yAll W P Dn f e t (yOne W P Dn (yAll W P Dn f) s (C, V)) := by
          rw [yAll, if_pos hst]
          dsimp only
          rw [h6, ixn_nI (by omega)]
        rw [ey]
        obtain ⟨o1, o2⟩ := hone
        generalize ho : yOne W P Dn (yAll W P Dn f) s (C, V) = o at *
        obtain ⟨p1, r, p2, p3⟩ := o1
        obtain ⟨q1, q2⟩ := ih lv e t f0 o.1 o.2 (h12.fr p1 f lv e t) ht (hw.fr p1) ⟨Fr.rf, r, p2, p3⟩
        have e8 : o.1 (177 + 9 * s + 8) = nI e := (p1 _ (by omega)).trans h6
        refine ⟨⟨p1.tr q1.1, q1.2⟩, ?_⟩
        have hst1 := hst.1
        have hst2 := hst.2
        refine j_iload_n dX9_doAll_2 rfl ?_
        refine j_iload_n dX9_doAll_3 rfl ?_
        first | (with_reducible refine j_gNN ?_; refine j_icmp_geN (tgt := 39) dX9_doAll_4 (by decide) (by omega) (by omega) (fun c_4 => ?_) (fun c_4 => ?_)) | refine j_icmp_ge (tgt := 39) dX9_doAll_4 (by decide) (fun c_4 => ?_) (fun c_4 => ?_)
        · exact absurd c_4 (by omega)
        · first | refine j_aload_n dX9_doAll_7 rfl ?_ | refine j_aload_nN dX9_doAll_7 rfl ?_
          refine j_getI dX9_doAll_8 fl_X9_548 rfl (Mo.h H) (by first | assumption | ((first | rewrite [ym_c ne] | rewrite [ym_v 36 (by decide) (by decide)] | rewrite [ym_v 37 (by decide) (by decide)] | rewrite [ym_v 38 (by decide) (by decide)] | rewrite [ym_v 39 (by decide) (by decide)] | rewrite [ym_v 40 (by decide) (by decide)] | rewrite [ym_v 41 (by decide) (by decide)] | rewrite [ym_v 42 (by decide) (by decide)] | rewrite [ym_v 43 (by decide) (by decide)]); first | assumption | rfl) | rfl) ?_
          first | (with_reducible refine j_gB ?_; refine j_if_neB (tgt := 39) dX9_doAll_11 (by decide) (fun c_11 => ?_) (fun c_11 => ?_)) | (with_reducible refine j_gC ?_; refine j_if_neC (tgt := 39) dX9_doAll_11 (by decide) (fun c_11 => ?_) (fun c_11 => ?_)) | (with_reducible refine j_gN ?_; refine j_if_neN (tgt := 39) dX9_doAll_11 (by decide) (by omega) (fun c_11 => ?_) (fun c_11 => ?_)) | refine j_if_ne (tgt := 39) dX9_doAll_11 (by decide) (fun c_11 => ?_) (fun c_11 => ?_)
          · exact absurd rfl c_11
          · first | refine j_aload_n dX9_doAll_14 rfl ?_ | refine j_aload_nN dX9_doAll_14 rfl ?_
            refine j_iload_n dX9_doAll_15 rfl ?_
            refine j_dV0 kl_X9_567 o2 dX9_doAll_16 rfl rfl (by decide) (Mo.h H) (Nat.le_of_ble_eq_true rfl) (by omega) (by omega) (by omega) ?_
            first | refine j_aload_n dX9_doAll_19 rfl ?_ | refine j_aload_nN dX9_doAll_19 rfl ?_
            refine j_getR dX9_doAll_20 fl_X9_35 rfl (Mo.h H) (Mo.R H _ _ _ rfl) ?_
            refine j_sipush (v := nI 177) dX9_doAll_23 (by decide +kernel) ?_
            refine j_bipush (v := nI 9) dX9_doAll_26 (by decide +kernel) ?_
            refine j_iload_n dX9_doAll_28 rfl ?_
            first | (with_reducible refine j_gNN ?_; refine j_imulN dX9_doAll_29 ?_) | refine j_imul dX9_doAll_29 ?_
            first | (with_reducible refine j_gNN ?_; refine j_iaddN dX9_doAll_30 ?_) | refine j_iadd dX9_doAll_30 ?_
            refine j_bipush (v := nI 8) dX9_doAll_31 (by decide +kernel) ?_
            first | (with_reducible refine j_gNN ?_; refine j_iaddN dX9_doAll_33 ?_) | refine j_iadd dX9_doAll_33 ?_
            refine j_iald dX9_doAll_34 (Mo.S H _ _ _ rfl) rfl (by omega) (by decide) (by first | assumption | ((first | rewrite [ym_c ne] | rewrite [ym_v 36 (by decide) (by decide)] | rewrite [ym_v 37 (by decide) (by decide)] | rewrite [ym_v 38 (by decide) (by decide)] | rewrite [ym_v 39 (by decide) (by decide)] | rewrite [ym_v 40 (by decide) (by decide)] | rewrite [ym_v 41 (by decide) (by decide)] | rewrite [ym_v 42 (by decide) (by decide)] | rewrite [ym_v 43 (by decide) (by decide)]); first | assumption | rfl) | rfl) ?_
            refine j_istore_n dX9_doAll_35 (by decide) ?_
            refine j_goto (tgt := 2) dX9_doAll_36 (by decide) ?_
            exact q2
    · have ey : yAll W P Dn (f + 1) s t (C, V) = (C, V) := by rw [yAll, if_neg hst]
      rw [ey]
      refine ⟨hI, ?_⟩
      refine j_iload_n dX9_doAll_2 rfl ?_
      refine j_iload_n dX9_doAll_3 rfl ?_
      first | (with_reducible refine j_gNN ?_; refine j_icmp_geN (tgt := 39) dX9_doAll_4 (by decide) (by omega) (by omega) (fun c_4 => ?_) (fun c_4 => ?_)) | refine j_icmp_ge (tgt := 39) dX9_doAll_4 (by decide) (fun c_4 => ?_) (fun c_4 => ?_)
      · refine j_vret dX9_doAll_39 rfl (by omega) (by omega) ?_
        exact ⟨rfl, rfl⟩
      · first | refine j_aload_n dX9_doAll_7 rfl ?_ | refine j_aload_nN dX9_doAll_7 rfl ?_
        refine j_getI dX9_doAll_8 fl_X9_548 rfl (Mo.h H) (by first | assumption | ((first | rewrite [ym_c ne] | rewrite [ym_v 36 (by decide) (by decide)] | rewrite [ym_v 37 (by decide) (by decide)] | rewrite [ym_v 38 (by decide) (by decide)] | rewrite [ym_v 39 (by decide) (by decide)] | rewrite [ym_v 40 (by decide) (by decide)] | rewrite [ym_v 41 (by decide) (by decide)] | rewrite [ym_v 42 (by decide) (by decide)] | rewrite [ym_v 43 (by decide) (by decide)]); first | assumption | rfl) | rfl) ?_
        first | (with_reducible refine j_gB ?_; refine j_if_neB (tgt := 39) dX9_doAll_11 (by decide) (fun c_11 => ?_) (fun c_11 => ?_)) | (with_reducible refine j_gC ?_; refine j_if_neC (tgt := 39) dX9_doAll_11 (by decide) (fun c_11 => ?_) (fun c_11 => ?_)) | (with_reducible refine j_gN ?_; refine j_if_neN (tgt := 39) dX9_doAll_11 (by decide) (by omega) (fun c_11 => ?_) (fun c_11 => ?_)) | refine j_if_ne (tgt := 39) dX9_doAll_11 (by decide) (fun c_11 => ?_) (fun c_11 => ?_)
        · refine j_vret dX9_doAll_39 rfl (by omega) (by omega) ?_
          exact ⟨rfl, rfl⟩
        · exact absurd (And.intro (show s < t by omega) c_11) hst
end M22
