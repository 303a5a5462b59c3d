/-! THE MODEL's YEARS: the run -/
set_option maxRecDepth 100000
/-- one step, with what runs its block -/
def yOne (W P Dn : Nat) (inn : Nat → Nat → (Nat → Int32) × (Nat → Int32) → (Nat → Int32) × (Nat → Int32)) (s : Nat) (z : (Nat → Int32) × (Nat → Int32)) : (Nat → Int32) × (Nat → Int32) :=
  if z.2 38 = nI 300 then (z.1, up (up z.2 36 (nI 1)) 43 (nI 1))
  else
    let V1 := up z.2 38 (z.2 38 + nI 1)
    if z.1 (177 + 9 * s) < nI 5 then
      let o := yDoes W P Dn (177 + 9 * s) z.1 V1
      (o.2.1, up o.2.2 39 (z.2 39 + (if o.1 then nI 0 else nI 1)))
    else if z.1 (177 + 9 * s) = nI 5 then
      (if yHolds W (177 + 9 * s) z.1 then inn (s + 1) (ixn (z.1 (177 + 9 * s + 8))) (z.1, V1) else (z.1, V1))
    else if z.1 (177 + 9 * s) = nI 6 then
      itr (fun _ y => if y.2 36 = 0 then inn (s + 1) (ixn (z.1 (177 + 9 * s + 8))) y else y) (ixn (z.1 (177 + 9 * s + 1))) (z.1, V1)
    else (z.1, up V1 36 (nI 1))
/-- the steps s to t -/
def yAll (W P Dn : Nat) : Nat → Nat → Nat → (Nat → Int32) × (Nat → Int32) → (Nat → Int32) × (Nat → Int32)
  | 0, _, _, z => z
  | f + 1, s, t, z => if s < t ∧ z.2 36 = 0 then yAll W P Dn f (ixn (z.1 (177 + 9 * s + 8))) t (yOne W P Dn (yAll W P Dn f) s z) else z
/-- the steps s to t stand well, lv blocks deep -/
def Bk (C : Nat → Int32) (W P : Nat) : Nat → Nat → Nat → Nat → Prop
  | 0, _, s, t => s = t
  | f + 1, lv, s, t => s = t ∨ (s < t ∧ s < 30 ∧ Sw C W P (177 + 9 * s) ∧ ∃ kd e, C (177 + 9 * s) = nI kd ∧ kd ≤ 7 ∧ C (177 + 9 * s + 8) = nI e ∧ s < e ∧ e ≤ t ∧ e ≤ 30 ∧ (kd = 5 ∨ kd = 6 → 1 ≤ lv ∧ Bk C W P f (lv - 1) (s + 1) e) ∧ (¬ (kd = 5 ∨ kd = 6) → e = s + 1) ∧ Bk C W P f lv e t)
/-- a state of a run -/
def Iz (C0 : Nat → Int32) (z : (Nat → Int32) × (Nat → Int32)) : Prop := Fr C0 z.1 ∧ ∃ r, r < 65536 ∧ z.2 37 = nI r
theorem Sw.fr {C D : Nat → Int32} {W P w : Nat} (h : Sw C W P w) (hw : 145 ≤ w) (f : Fr C D) : Sw D W P w := by
  unfold Sw at h ⊢
  rw [f w (by omega), f (w + 1) (by omega), f (w + 2) (by omega), f (w + 3) (by omega), f (w + 6) (by omega)]
  exact h
theorem mKeep_fr {C : Nat → Int32} {p k : Nat} (hp : p < 6) (hk : k < 8) : Fr C (mKeep C p k) := by
  unfold mKeep
  split
  · exact mStrand_fr hp hk
  · exact Fr.rf
theorem yDoes_iz {C0 C V : Nat → Int32} {W P Dn w : Nat} (hw : Wd C W P Dn) (hS : Sw C W P w) (h : Iz C0 (C, V)) : Iz C0 ((yDoes W P Dn w C V).2.1, (yDoes W P Dn w C V).2.2) := by
  obtain ⟨⟨hW, hW8⟩, ⟨hP, hP6⟩, ⟨hD, hD6⟩, hdn⟩ := id hw
  obtain ⟨h1, r, h2, h3⟩ := h
  obtain ⟨s0, s1, s2, s3, -⟩ := hS
  have hsay : ∀ p k q V, p < P → q < P → (∃ r, r < 65536 ∧ V 37 = nI r) → Iz C0 ((ySay p k q C V).2.1, (ySay p k q C V).2.2) := fun p k q V hp hq hr => by
    unfold ySay
    refine ⟨h1.tr (mSays_fr (by omega) (by omega)), ?_⟩
    obtain ⟨r, r1, r2⟩ := hr
    refine ⟨r, r1, ?_⟩
    dsimp only
    split
    · rw [up_ne (by decide)]; exact r2
    · exact r2
  unfold yDoes
  split
  · next c =>
    unfold yDay
    split
    · exact ⟨h1.tr (mDays_fr hw _), r, h2, by dsimp only; rw [up_ne (by decide), up_ne (by decide)]; exact h3⟩
    · exact ⟨h1, r, h2, h3⟩
  · split
    · next c =>
      obtain ⟨p, k, hp, hk, ep, ek⟩ := s1 c
      rw [ep, ek, ixn_nI (by omega), ixn_nI (by omega)]
      exact ⟨h1.tr (mKeep_fr (by omega) (by omega)), r, h2, h3⟩
    · split
      · next c =>
        obtain ⟨p, k, q, hp, hk, hq, ep, ek, eq⟩ := s2 c
        rw [ep, ek, eq, ixn_nI (by omega), ixn_nI (by omega), ixn_nI (by omega)]
        exact hsay p k q V hp hq ⟨r, h2, h3⟩
      · split
        · next c =>
          obtain ⟨p, q, hp, hq, ep, eq⟩ := s3 c
          rw [ep, eq, ixn_nI (by omega), ixn_nI (by omega)]
          unfold yCut
          refine ⟨h1.tr (mCut_fr hW8 (by omega) (by omega)), r, h2, ?_⟩
          dsimp only
          split
          · rw [up_ne (by decide)]; exact h3
          · exact h3
        · unfold yAny
          split
          · exact ⟨h1, r, h2, h3⟩
          · next c =>
            refine hsay _ _ _ _ (Nat.mod_lt _ (by omega)) (Nat.mod_lt _ (by omega)) ?_
            have e1 := yDraw_r h3 h2
            have e2 := yDraw_r e1 (drw_lt _)
            exact ⟨_, drw_lt _, yDraw_r e2 (drw_lt _)⟩
theorem itr_over {α : Type} {F : Nat → α → α} {x : α} {Q : α → Prop} (hF : ∀ k y, Q y → F k y = y) {j : Nat} (hj : Q (itr F j x)) : ∀ n, j ≤ n → itr F n x = itr F j x := by
  intro n
  induction n with
  | zero => intro h; rw [show j = 0 by omega]
  | succ n ih =>
    intro h
    by_cases e : j = n + 1
    · rw [e]
    · have z := ih (by omega)
      rw [itr, z]
      exact hF n _ hj
section M21
variable {g : Gx} {l : Launch} {σ : Sg} {h : Nat} {ad : Nat → Nat} {C0 C V : Nat → Int32} {W P Dn : Nat}
theorem m_doOne (H : Mo (ym σ h ad C V) h ad) (hw : Wd C W P Dn) {inn : Nat → Nat → (Nat → Int32) × (Nat → Int32) → (Nat → Int32) × (Nat → Int32)} {s e lv : Nat} (hs30 : s < 30) (hS : Sw C W P (177 + 9 * s)) (hkd : ∃ kd, C (177 + 9 * s) = nI kd ∧ kd ≤ 7) (he8 : C (177 + 9 * s + 8) = nI e) (he30 : e ≤ 30) (hI : Iz C (C, V))
    (hin : C (177 + 9 * s) = nI 5 ∨ C (177 + 9 * s) = nI 6 → ∀ y, Iz C y → Iz C (inn (s + 1) e y) ∧ Kd g l (2 * lv + 6) MX9_doAll [.ref h, .int (nI (s + 1)), .int (nI e)] (ym σ h ad y.1 y.2) none (ym σ h ad (inn (s + 1) e y).1 (inn (s + 1) e y).2)) :
    Iz C (yOne W P Dn inn s (C, V)) ∧ Kd g l (2 * lv + 7) MX9_doOne [.ref h, .int (nI s)] (ym σ h ad C V) none (ym σ h ad (yOne W P Dn inn s (C, V)).1 (yOne W P Dn inn s (C, V)).2) := by
  have ne : ad 20 ≠ h := Mo.nh H (i := 20) rfl
  obtain ⟨hFr, r, hr2, hr⟩ := hI
  have hr1 : up V 38 (V 38 + nI 1) 37 = nI r := (up_ne (by decide)).trans hr
  have ee : ixn (C (177 + 9 * s + 8)) = e := by rw [he8, ixn_nI (by omega)]
  have hI1 : Iz C (C, up V 38 (V 38 + nI 1)) := ⟨Fr.rf, r, hr2, hr1⟩
  have hlp : C (177 + 9 * s) = nI 6 → ∀ j, Iz C (itr (fun _ y => if y.2 36 = 0 then inn (s + 1) e y else y) j (C, up V 38 (V 38 + nI 1))) := fun q j => by
    induction j with
    | zero => exact hI1
    | succ j ih =>
      rw [itr]
      split
      · exact (hin (Or.inr q) _ ih).1
      · exact ih
  have eY : yOne W P Dn inn s (C, V) = if V 38 = nI 300 then (C, up (up V 36 (nI 1)) 43 (nI 1)) else if C (177 + 9 * s) < nI 5 then ((yDoes W P Dn (177 + 9 * s) C (up V 38 (V 38 + nI 1))).2.1, up (yDoes W P Dn (177 + 9 * s) C (up V 38 (V 38 + nI 1))).2.2 39 (V 39 + (if (yDoes W P Dn (177 + 9 * s) C (up V 38 (V 38 + nI 1))).1 then nI 0 else nI 1))) else if C (177 + 9 * s) = nI 5 then (if yHolds W (177 + 9 * s) C then inn (s + 1) e (C, up V 38 (V 38 + nI 1)) else (C, up V 38 (V 38 + nI 1))) else if C (177 + 9 * s) = nI 6 then itr (fun _ y => if y.2 36 = 0 then inn (s + 1) e y else y) (ixn (C (177 + 9 * s + 1))) (C, up V 38 (V 38 + nI 1)) else (C, up (up V 38 (V 38 + nI 1)) 36 (nI 1)) := by
    rw [← ee]; rfl
  rw [eY]
  constructor
  · split
    · exact ⟨Fr.rf, r, hr2, by dsimp only; rw [up_ne (by decide), up_ne (by decide)]; exact hr⟩
    · split
      · have z := yDoes_iz hw hS hI1
        obtain ⟨z1, r', z2, z3⟩ := z
        exact ⟨z1, r', z2, by dsimp only; rw [up_ne (by decide)]; exact z3⟩
      · split
        · next c =>
          split
          · exact (hin (Or.inl c) _ hI1).1
          · exact hI1
        · split
          · next c => exact hlp c _
          · exact ⟨Fr.rf, r, hr2, by dsimp only; rw [up_ne (by decide)]; exact hr1⟩
  · clear eY
    have H1 : ∀ D U, Mo (ym σ h ad D U) h ad := fun _ _ => H
    have hdo := m_does (V := up V 38 (V 38 + nI 1)) (g := g) (l := l) (H1 C _) hw (by omega) hS hr1 hr2
    refine Kt.go (Y := MX9_doOne) (ls := [some (.ref h), some (.int (nI s)), none, none, none]) (by decide) (Nat.le_of_ble_eq_true rfl) rfl ?_
    generalize hV1 : up V 38 (V 38 + nI 1) = V1 at *
    generalize ho : yDoes W P Dn (177 + 9 * s) C V1 = o at *
    have v39 : V1 39 = V 39 := by rw [← hV1, up_ne (by decide)]
    have v39b : (ym σ h ad C V1).2.1 h 39 = V 39 := (ym_v 39 (by decide) (by decide)).trans v39
    have body : ¬ V 38 = nI 300 → Td g l (2 * lv + 7) MX9_doOne [.ref h, .int (nI s)] (ym σ h ad (if C (177 + 9 * s) < nI 5 then (o.2.1, up o.2.2 39 (V 39 + (if o.1 then nI 0 else nI 1))) else if C (177 + 9 * s) = nI 5 then (if yHolds W (177 + 9 * s) C then inn (s + 1) e (C, V1) else (C, V1)) else if C (177 + 9 * s) = nI 6 then itr (fun _ y => if y.2 36 = 0 then inn (s + 1) e y else y) (ixn (C (177 + 9 * s + 1))) (C, V1) else (C, up V1 36 (nI 1))).1 (if C (177 + 9 * s) < nI 5 then (o.2.1, up o.2.2 39 (V 39 + (if o.1 then nI 0 else nI 1))) else if C (177 + 9 * s) = nI 5 then (if yHolds W (177 + 9 * s) C then inn (s + 1) e (C, V1) else (C, V1)) else if C (177 + 9 * s) = nI 6 then itr (fun _ y => if y.2 36 = 0 then inn (s + 1) e y else y) (ixn (C (177 + 9 * s + 1))) (C, V1) else (C, up V1 36 (nI 1))).2) none 31 [some (.ref h), some (.int (nI s)), none, none, none] [] (ym σ h ad C V1) := by
      intro _
      by_cases k5 : C (177 + 9 * s) < nI 5
      · rw [if_pos k5]
        refine j_sipush (v := nI 177) dX9_doOne_31 (by decide +kernel) ?_
        refine j_bipush (v := nI 9) dX9_doOne_34 (by decide +kernel) ?_
        refine j_iload_n dX9_doOne_36 rfl ?_
        first | (with_reducible refine j_gNN ?_; refine j_imulN dX9_doOne_37 ?_) | refine j_imul dX9_doOne_37 ?_
        first | (with_reducible refine j_gNN ?_; refine j_iaddN dX9_doOne_38 ?_) | refine j_iadd dX9_doOne_38 ?_
        refine j_istore_n dX9_doOne_39 (by decide) ?_
        first | refine j_aload_n dX9_doOne_40 rfl ?_ | refine j_aload_nN dX9_doOne_40 rfl ?_
        refine j_getR dX9_doOne_41 fl_X9_35 rfl (Mo.h H) (Mo.R H _ _ _ rfl) ?_
        refine j_iload_n dX9_doOne_44 rfl ?_
        refine j_iald dX9_doOne_45 (Mo.S H _ _ _ rfl) rfl (by omega) (by decide) (by first | assumption | ((first | rewrite [ym_c ne] | rewrite [ym_v 36 (by decide) (by decide)] | rewrite [ym_v 37 (by decide) (by decide)] | rewrite [ym_v 38 (by decide) (by decide)] | rewrite [ym_v 39 (by decide) (by decide)] | rewrite [ym_v 40 (by decide) (by decide)] | rewrite [ym_v 41 (by decide) (by decide)] | rewrite [ym_v 42 (by decide) (by decide)] | rewrite [ym_v 43 (by decide) (by decide)]); first | assumption | rfl) | rfl) ?_
        refine j_istore_n dX9_doOne_46 (by decide) ?_
        refine j_iload_n dX9_doOne_47 rfl ?_
        refine j_iconst (v := nI 5) dX9_doOne_48 (by decide +kernel) ?_
        first | (with_reducible refine j_gNN ?_; refine j_icmp_geN (tgt := 77) dX9_doOne_49 (by decide) (by omega) (by omega) (fun c_49 => ?_) (fun c_49 => ?_)) | refine j_icmp_ge (tgt := 77) dX9_doOne_49 (by decide) (fun c_49 => ?_) (fun c_49 => ?_)
        · exact absurd k5 (Int32.not_lt.mpr c_49)
        · first | refine j_aload_n dX9_doOne_52 rfl ?_ | refine j_aload_nN dX9_doOne_52 rfl ?_
          refine j_dup dX9_doOne_53 rfl ?_
          refine j_getI dX9_doOne_54 fl_X9_555 rfl (Mo.h H) (by first | assumption | ((first | rewrite [ym_c ne] | rewrite [ym_v 36 (by decide) (by decide)] | rewrite [ym_v 37 (by decide) (by decide)] | rewrite [ym_v 38 (by decide) (by decide)] | rewrite [ym_v 39 (by decide) (by decide)] | rewrite [ym_v 40 (by decide) (by decide)] | rewrite [ym_v 41 (by decide) (by decide)] | rewrite [ym_v 42 (by decide) (by decide)] | rewrite [ym_v 43 (by decide) (by decide)]); first | assumption | rfl) | rfl) ?_
          first | refine j_aload_n dX9_doOne_57 rfl ?_ | refine j_aload_nN dX9_doOne_57 rfl ?_
          refine j_iload_n dX9_doOne_58 rfl ?_
          refine j_dV1 kl_X9_558 (hdo) dX9_doOne_59 rfl rfl (by decide) (Mo.h H) (Nat.le_of_ble_eq_true rfl) (by first | decide | omega) (by omega) (by omega) ?_
          first | (with_reducible refine j_gB ?_; refine j_if_eqB (tgt := 69) dX9_doOne_62 (by decide) (fun c_62 => ?_) (fun c_62 => ?_)) | (with_reducible refine j_gC ?_; refine j_if_eqC (tgt := 69) dX9_doOne_62 (by decide) (fun c_62 => ?_) (fun c_62 => ?_)) | (with_reducible refine j_gN ?_; refine j_if_eqN (tgt := 69) dX9_doOne_62 (by decide) (by omega) (fun c_62 => ?_) (fun c_62 => ?_)) | refine j_if_eq (tgt := 69) dX9_doOne_62 (by decide) (fun c_62 => ?_) (fun c_62 => ?_)
          · refine j_iconst (v := nI 1) dX9_doOne_69 (by decide +kernel) ?_
            first | (with_reducible refine j_gNN ?_; refine j_iaddN dX9_doOne_70 ?_) | refine j_iadd dX9_doOne_70 ?_
            refine j_putI dX9_doOne_71 fl_X9_555 rfl (Mo.h H) rfl rfl rfl ?_
            rw [ym_w 39 (by decide) (by decide)]
            refine j_goto (tgt := 174) dX9_doOne_74 (by decide) ?_
            refine j_vret dX9_doOne_174 rfl (by omega) (by omega) ?_
            rw [c_62]; exact ⟨rfl, rfl⟩
          · refine j_iconst (v := nI 0) dX9_doOne_65 (by decide +kernel) ?_
            refine j_goto (tgt := 70) dX9_doOne_66 (by decide) ?_
            first | (with_reducible refine j_gNN ?_; refine j_iaddN dX9_doOne_70 ?_) | refine j_iadd dX9_doOne_70 ?_
            refine j_putI dX9_doOne_71 fl_X9_555 rfl (Mo.h H) rfl rfl rfl ?_
            rw [ym_w 39 (by decide) (by decide)]
            refine j_goto (tgt := 174) dX9_doOne_74 (by decide) ?_
            refine j_vret dX9_doOne_174 rfl (by omega) (by omega) ?_
            rw [c_62]; exact ⟨rfl, rfl⟩
      · rw [if_neg k5]
        by_cases k6 : C (177 + 9 * s) = nI 5
        · rw [if_pos k6]
          refine j_sipush (v := nI 177) dX9_doOne_31 (by decide +kernel) ?_
          refine j_bipush (v := nI 9) dX9_doOne_34 (by decide +kernel) ?_
          refine j_iload_n dX9_doOne_36 rfl ?_
          first | (with_reducible refine j_gNN ?_; refine j_imulN dX9_doOne_37 ?_) | refine j_imul dX9_doOne_37 ?_
          first | (with_reducible refine j_gNN ?_; refine j_iaddN dX9_doOne_38 ?_) | refine j_iadd dX9_doOne_38 ?_
          refine j_istore_n dX9_doOne_39 (by decide) ?_
          first | refine j_aload_n dX9_doOne_40 rfl ?_ | refine j_aload_nN dX9_doOne_40 rfl ?_
          refine j_getR dX9_doOne_41 fl_X9_35 rfl (Mo.h H) (Mo.R H _ _ _ rfl) ?_
          refine j_iload_n dX9_doOne_44 rfl ?_
          refine j_iald dX9_doOne_45 (Mo.S H _ _ _ rfl) rfl (by omega) (by decide) (by first | assumption | ((first | rewrite [ym_c ne] | rewrite [ym_v 36 (by decide) (by decide)] | rewrite [ym_v 37 (by decide) (by decide)] | rewrite [ym_v 38 (by decide) (by decide)] | rewrite [ym_v 39 (by decide) (by decide)] | rewrite [ym_v 40 (by decide) (by decide)] | rewrite [ym_v 41 (by decide) (by decide)] | rewrite [ym_v 42 (by decide) (by decide)] | rewrite [ym_v 43 (by decide) (by decide)]); first | assumption | rfl) | rfl) ?_
          refine j_istore_n dX9_doOne_46 (by decide) ?_
          refine j_iload_n dX9_doOne_47 rfl ?_
          refine j_iconst (v := nI 5) dX9_doOne_48 (by decide +kernel) ?_
          first | (with_reducible refine j_gNN ?_; refine j_icmp_geN (tgt := 77) dX9_doOne_49 (by decide) (by omega) (by omega) (fun c_49 => ?_) (fun c_49 => ?_)) | refine j_icmp_ge (tgt := 77) dX9_doOne_49 (by decide) (fun c_49 => ?_) (fun c_49 => ?_)
          · refine j_iload_n dX9_doOne_77 rfl ?_
            refine j_iconst (v := nI 5) dX9_doOne_78 (by decide +kernel) ?_
            first | (with_reducible refine j_gNN ?_; refine j_icmp_neN (tgt := 109) dX9_doOne_79 (by decide) (by omega) (by omega) (fun c_79 => ?_) (fun c_79 => ?_)) | refine j_icmp_ne (tgt := 109) dX9_doOne_79 (by decide) (fun c_79 => ?_) (fun c_79 => ?_)
            · exact absurd rfl c_79
            · first | refine j_aload_n dX9_doOne_82 rfl ?_ | refine j_aload_nN dX9_doOne_82 rfl ?_
              refine j_iload_n dX9_doOne_83 rfl ?_
              refine j_dV1 kl_X9_561 (m_isSo (H1 C V1) hw (by omega) hS k6) dX9_doOne_84 rfl rfl (by decide) (Mo.h H) (Nat.le_of_ble_eq_true rfl) (by first | decide | omega) (by omega) (by omega) ?_
              first | (with_reducible refine j_gB ?_; refine j_if_eqB (tgt := 109) dX9_doOne_87 (by decide) (fun c_87 => ?_) (fun c_87 => ?_)) | (with_reducible refine j_gC ?_; refine j_if_eqC (tgt := 109) dX9_doOne_87 (by decide) (fun c_87 => ?_) (fun c_87 => ?_)) | (with_reducible refine j_gN ?_; refine j_if_eqN (tgt := 109) dX9_doOne_87 (by decide) (by omega) (fun c_87 => ?_) (fun c_87 => ?_)) | refine j_if_eq (tgt := 109) dX9_doOne_87 (by decide) (fun c_87 => ?_) (fun c_87 => ?_)
              · refine j_iload_n dX9_doOne_109 rfl ?_
                refine j_bipush (v := nI 6) dX9_doOne_110 (by decide +kernel) ?_
                first | (with_reducible refine j_gNN ?_; refine j_icmp_neN (tgt := 163) dX9_doOne_112 (by decide) (by omega) (by omega) (fun c_112 => ?_) (fun c_112 => ?_)) | refine j_icmp_ne (tgt := 163) dX9_doOne_112 (by decide) (fun c_112 => ?_) (fun c_112 => ?_)
                · refine j_iload_n dX9_doOne_163 rfl ?_
                  refine j_bipush (v := nI 6) dX9_doOne_164 (by decide +kernel) ?_
                  first | (with_reducible refine j_gNN ?_; refine j_icmp_leN (tgt := 174) dX9_doOne_166 (by decide) (by omega) (by omega) (fun c_166 => ?_) (fun c_166 => ?_)) | refine j_icmp_le (tgt := 174) dX9_doOne_166 (by decide) (fun c_166 => ?_) (fun c_166 => ?_)
                  · refine j_vret dX9_doOne_174 rfl (by omega) (by omega) ?_
                    rw [c_87]; exact ⟨rfl, rfl⟩
                  · exact absurd c_166 (by decide)
                · exact absurd c_112 (by decide)
              · first | refine j_aload_n dX9_doOne_90 rfl ?_ | refine j_aload_nN dX9_doOne_90 rfl ?_
                refine j_iload_n dX9_doOne_91 rfl ?_
                refine j_iconst (v := nI 1) dX9_doOne_92 (by decide +kernel) ?_
                first | (with_reducible refine j_gNN ?_; refine j_iaddN dX9_doOne_93 ?_) | refine j_iadd dX9_doOne_93 ?_
                first | refine j_aload_n dX9_doOne_94 rfl ?_ | refine j_aload_nN dX9_doOne_94 rfl ?_
                refine j_getR dX9_doOne_95 fl_X9_35 rfl (Mo.h H) (Mo.R H _ _ _ rfl) ?_
                refine j_iload_n dX9_doOne_98 rfl ?_
                refine j_bipush (v := nI 8) dX9_doOne_99 (by decide +kernel) ?_
                first | (with_reducible refine j_gNN ?_; refine j_iaddN dX9_doOne_101 ?_) | refine j_iadd dX9_doOne_101 ?_
                refine j_iald dX9_doOne_102 (Mo.S H _ _ _ rfl) rfl (by omega) (by decide) (by first | assumption | ((first | rewrite [ym_c ne] | rewrite [ym_v 36 (by decide) (by decide)] | rewrite [ym_v 37 (by decide) (by decide)] | rewrite [ym_v 38 (by decide) (by decide)] | rewrite [ym_v 39 (by decide) (by decide)] | rewrite [ym_v 40 (by decide) (by decide)] | rewrite [ym_v 41 (by decide) (by decide)] | rewrite [ym_v 42 (by decide) (by decide)] | rewrite [ym_v 43 (by decide) (by decide)]); first | assumption | rfl) | rfl) ?_
                refine j_dV0 kl_X9_564 (hin (Or.inl k6) (C, V1) hI1).2 dX9_doOne_103 rfl rfl (by decide) (Mo.h H) (Nat.le_of_ble_eq_true rfl) (by omega) (by omega) (by omega) ?_
                refine j_goto (tgt := 174) dX9_doOne_106 (by decide) ?_
                refine j_vret dX9_doOne_174 rfl (by omega) (by omega) ?_
                rw [c_87]; exact ⟨rfl, rfl⟩
          · exact absurd c_49 (by omega)
        · rw [if_neg k6]
          by_cases k7 : C (177 + 9 * s) = nI 6
          · rw [if_pos k7]
            obtain ⟨n, hn, en⟩ := hS.2.2.2.2.2 k7
            have hl := hlp k7
            rw [en, ixn_nI (show n < 2 ^ 31 by omega)]
            generalize hF : (fun (_ : Nat) (y : (Nat → Int32) × (Nat → Int32)) => if y.2 36 = 0 then inn (s + 1) e y else y) = F at *
            have key : ∀ j, j ≤ n → ∀ y, y = itr F j (C, V1) → Td g l (2 * lv + 7) MX9_doOne [.ref h, .int (nI s)] (ym σ h ad (itr F n (C, V1)).1 (itr F n (C, V1)).2) none 118 [some (.ref h), some (.int (nI s)), some (.int (nI (177 + 9 * s))), some (.int (nI 6)), some (.int (nI j))] [] (ym σ h ad y.1 y.2) := by
              refine loop_up fun j hj ih => ?_
              intro y hy
              have iy : Iz C y := by rw [hy]; exact hl j
              have en2 : y.1 (177 + 9 * s + 1) = nI n := (iy.1 _ (by omega)).trans en
              have e82 : y.1 (177 + 9 * s + 8) = nI e := (iy.1 _ (by omega)).trans he8
              have hF1 : y.2 36 = 0 → itr F (j + 1) (C, V1) = inn (s + 1) e y := fun q => by rw [itr, ← hy, ← hF]; dsimp only; rw [if_pos q]
              have hF2 : ¬ y.2 36 = 0 → itr F n (C, V1) = y := fun q => (itr_over (Q := fun y => ¬ y.2 36 = 0) (fun k y q => by rw [← hF]; dsimp only; rw [if_neg q]) (j := j) (by rw [← hy]; exact q) n hj).trans hy.symm
              have hI2 := hin (Or.inr k7) y iy
              refine j_iload dX9_doOne_118 rfl ?_
              first | refine j_aload_n dX9_doOne_120 rfl ?_ | refine j_aload_nN dX9_doOne_120 rfl ?_
              refine j_getR dX9_doOne_121 fl_X9_35 rfl (Mo.h H) (Mo.R H _ _ _ rfl) ?_
              refine j_iload_n dX9_doOne_124 rfl ?_
              refine j_iconst (v := nI 1) dX9_doOne_125 (by decide +kernel) ?_
              first | (with_reducible refine j_gNN ?_; refine j_iaddN dX9_doOne_126 ?_) | refine j_iadd dX9_doOne_126 ?_
              refine j_iald dX9_doOne_127 (Mo.S H _ _ _ rfl) rfl (by omega) (by decide) (by first | assumption | ((first | rewrite [ym_c ne] | rewrite [ym_v 36 (by decide) (by decide)] | rewrite [ym_v 37 (by decide) (by decide)] | rewrite [ym_v 38 (by decide) (by decide)] | rewrite [ym_v 39 (by decide) (by decide)] | rewrite [ym_v 40 (by decide) (by decide)] | rewrite [ym_v 41 (by decide) (by decide)] | rewrite [ym_v 42 (by decide) (by decide)] | rewrite [ym_v 43 (by decide) (by decide)]); first | assumption | rfl) | rfl) ?_
              first | (with_reducible refine j_gNN ?_; refine j_icmp_geN (tgt := 160) dX9_doOne_128 (by decide) (by omega) (by omega) (fun c_128 => ?_) (fun c_128 => ?_)) | refine j_icmp_ge (tgt := 160) dX9_doOne_128 (by decide) (fun c_128 => ?_) (fun c_128 => ?_)
              · refine j_goto (tgt := 174) dX9_doOne_160 (by decide) ?_
                refine j_vret dX9_doOne_174 rfl (by omega) (by omega) ?_
                first
                | (have z : ¬ y.2 36 = 0 := c_135
                   rw [hF2 z]
                   exact ⟨rfl, rfl⟩)
                | (have z : ¬ j < n := c_128
                   have e2 : j = n := by omega
                   subst e2
                   rw [← hy]
                   exact ⟨rfl, rfl⟩)
                | (have z : n ≤ j := c_128
                   have e2 : j = n := by omega
                   subst e2
                   rw [← hy]
                   exact ⟨rfl, rfl⟩)
              · first | refine j_aload_n dX9_doOne_131 rfl ?_ | refine j_aload_nN dX9_doOne_131 rfl ?_
                refine j_getI dX9_doOne_132 fl_X9_548 rfl (Mo.h H) (by first | assumption | ((first | rewrite [ym_c ne] | rewrite [ym_v 36 (by decide) (by decide)] | rewrite [ym_v 37 (by decide) (by decide)] | rewrite [ym_v 38 (by decide) (by decide)] | rewrite [ym_v 39 (by decide) (by decide)] | rewrite [ym_v 40 (by decide) (by decide)] | rewrite [ym_v 41 (by decide) (by decide)] | rewrite [ym_v 42 (by decide) (by decide)] | rewrite [ym_v 43 (by decide) (by decide)]); first | assumption | rfl) | rfl) ?_
                first | (with_reducible refine j_gB ?_; refine j_if_neB (tgt := 160) dX9_doOne_135 (by decide) (fun c_135 => ?_) (fun c_135 => ?_)) | (with_reducible refine j_gC ?_; refine j_if_neC (tgt := 160) dX9_doOne_135 (by decide) (fun c_135 => ?_) (fun c_135 => ?_)) | (with_reducible refine j_gN ?_; refine j_if_neN (tgt := 160) dX9_doOne_135 (by decide) (by omega) (fun c_135 => ?_) (fun c_135 => ?_)) | refine j_if_ne (tgt := 160) dX9_doOne_135 (by decide) (fun c_135 => ?_) (fun c_135 => ?_)
                · refine j_goto (tgt := 174) dX9_doOne_160 (by decide) ?_
                  refine j_vret dX9_doOne_174 rfl (by omega) (by omega) ?_
                  first
                  | (have z : ¬ y.2 36 = 0 := c_135
                     rw [hF2 z]
                     exact ⟨rfl, rfl⟩)
                  | (have z : ¬ j < n := c_128
                     have e2 : j = n := by omega
                     subst e2
                     rw [← hy]
                     exact ⟨rfl, rfl⟩)
                  | (have z : n ≤ j := c_128
                     have e2 : j = n := by omega
                     subst e2
                     rw [← hy]
                     exact ⟨rfl, rfl⟩)
                · first | refine j_aload_n dX9_doOne_138 rfl ?_ | refine j_aload_nN dX9_doOne_138 rfl ?_
                  refine j_iload_n dX9_doOne_139 rfl ?_
                  refine j_iconst (v := nI 1) dX9_doOne_140 (by decide +kernel) ?_
                  first | (with_reducible refine j_gNN ?_; refine j_iaddN dX9_doOne_141 ?_) | refine j_iadd dX9_doOne_141 ?_
                  first | refine j_aload_n dX9_doOne_142 rfl ?_ | refine j_aload_nN dX9_doOne_142 rfl ?_
                  refine j_getR dX9_doOne_143 fl_X9_35 rfl (Mo.h H) (Mo.R H _ _ _ rfl) ?_
                  refine j_iload_n dX9_doOne_146 rfl ?_
                  refine j_bipush (v := nI 8) dX9_doOne_147 (by decide +kernel) ?_
                  first | (with_reducible refine j_gNN ?_; refine j_iaddN dX9_doOne_149 ?_) | refine j_iadd dX9_doOne_149 ?_
                  refine j_iald dX9_doOne_150 (Mo.S H _ _ _ rfl) rfl (by omega) (by decide) (by first | assumption | ((first | rewrite [ym_c ne] | rewrite [ym_v 36 (by decide) (by decide)] | rewrite [ym_v 37 (by decide) (by decide)] | rewrite [ym_v 38 (by decide) (by decide)] | rewrite [ym_v 39 (by decide) (by decide)] | rewrite [ym_v 40 (by decide) (by decide)] | rewrite [ym_v 41 (by decide) (by decide)] | rewrite [ym_v 42 (by decide) (by decide)] | rewrite [ym_v 43 (by decide) (by decide)]); first | assumption | rfl) | rfl) ?_
                  refine j_dV0 kl_X9_564 hI2.2 dX9_doOne_151 rfl rfl (by decide) (Mo.h H) (Nat.le_of_ble_eq_true rfl) (by omega) (by omega) (by omega) ?_
                  first | refine j_iincN dX9_doOne_154 rfl (by decide) ?_ | refine j_iinc dX9_doOne_154 rfl rfl (by decide) ?_
                  refine j_goto (tgt := 118) dX9_doOne_157 (by decide) ?_
                  rw [← hF1 c_135]
                  exact ih (by omega) _ rfl
            refine j_sipush (v := nI 177) dX9_doOne_31 (by decide +kernel) ?_
            refine j_bipush (v := nI 9) dX9_doOne_34 (by decide +kernel) ?_
            refine j_iload_n dX9_doOne_36 rfl ?_
            first | (with_reducible refine j_gNN ?_; refine j_imulN dX9_doOne_37 ?_) | refine j_imul dX9_doOne_37 ?_
            first | (with_reducible refine j_gNN ?_; refine j_iaddN dX9_doOne_38 ?_) | refine j_iadd dX9_doOne_38 ?_
            refine j_istore_n dX9_doOne_39 (by decide) ?_
            first | refine j_aload_n dX9_doOne_40 rfl ?_ | refine j_aload_nN dX9_doOne_40 rfl ?_
            refine j_getR dX9_doOne_41 fl_X9_35 rfl (Mo.h H) (Mo.R H _ _ _ rfl) ?_
            refine j_iload_n dX9_doOne_44 rfl ?_
            refine j_iald dX9_doOne_45 (Mo.S H _ _ _ rfl) rfl (by omega) (by decide) (by first | assumption | ((first | rewrite [ym_c ne] | rewrite [ym_v 36 (by decide) (by decide)] | rewrite [ym_v 37 (by decide) (by decide)] | rewrite [ym_v 38 (by decide) (by decide)] | rewrite [ym_v 39 (by decide) (by decide)] | rewrite [ym_v 40 (by decide) (by decide)] | rewrite [ym_v 41 (by decide) (by decide)] | rewrite [ym_v 42 (by decide) (by decide)] | rewrite [ym_v 43 (by decide) (by decide)]); first | assumption | rfl) | rfl) ?_
            refine j_istore_n dX9_doOne_46 (by decide) ?_
            refine j_iload_n dX9_doOne_47 rfl ?_
            refine j_iconst (v := nI 5) dX9_doOne_48 (by decide +kernel) ?_
            first | (with_reducible refine j_gNN ?_; refine j_icmp_geN (tgt := 77) dX9_doOne_49 (by decide) (by omega) (by omega) (fun c_49 => ?_) (fun c_49 => ?_)) | refine j_icmp_ge (tgt := 77) dX9_doOne_49 (by decide) (fun c_49 => ?_) (fun c_49 => ?_)
            · refine j_iload_n dX9_doOne_77 rfl ?_
              refine j_iconst (v := nI 5) dX9_doOne_78 (by decide +kernel) ?_
              first | (with_reducible refine j_gNN ?_; refine j_icmp_neN (tgt := 109) dX9_doOne_79 (by decide) (by omega) (by omega) (fun c_79 => ?_) (fun c_79 => ?_)) | refine j_icmp_ne (tgt := 109) dX9_doOne_79 (by decide) (fun c_79 => ?_) (fun c_79 => ?_)
              · refine j_iload_n dX9_doOne_109 rfl ?_
                refine j_bipush (v := nI 6) dX9_doOne_110 (by decide +kernel) ?_
                first | (with_reducible refine j_gNN ?_; refine j_icmp_neN (tgt := 163) dX9_doOne_112 (by decide) (by omega) (by omega) (fun c_112 => ?_) (fun c_112 => ?_)) | refine j_icmp_ne (tgt := 163) dX9_doOne_112 (by decide) (fun c_112 => ?_) (fun c_112 => ?_)
                · exact absurd rfl c_112
                · refine j_iconst (v := nI 0) dX9_doOne_115 (by decide +kernel) ?_
                  refine j_istore dX9_doOne_116 (by decide) ?_
                  exact key 0 (by omega) _ rfl
              · exact absurd c_79 (by decide)
            · exact absurd c_49 (by omega)
          · rw [if_neg k7]
            refine j_sipush (v := nI 177) dX9_doOne_31 (by decide +kernel) ?_
            refine j_bipush (v := nI 9) dX9_doOne_34 (by decide +kernel) ?_
            refine j_iload_n dX9_doOne_36 rfl ?_
            first | (with_reducible refine j_gNN ?_; refine j_imulN dX9_doOne_37 ?_) | refine j_imul dX9_doOne_37 ?_
            first | (with_reducible refine j_gNN ?_; refine j_iaddN dX9_doOne_38 ?_) | refine j_iadd dX9_doOne_38 ?_
            refine j_istore_n dX9_doOne_39 (by decide) ?_
            first | refine j_aload_n dX9_doOne_40 rfl ?_ | refine j_aload_nN dX9_doOne_40 rfl ?_
            refine j_getR dX9_doOne_41 fl_X9_35 rfl (Mo.h H) (Mo.R H _ _ _ rfl) ?_
            refine j_iload_n dX9_doOne_44 rfl ?_
            refine j_iald dX9_doOne_45 (Mo.S H _ _ _ rfl) rfl (by omega) (by decide) (by first | assumption | ((first | rewrite [ym_c ne] | rewrite [ym_v 36 (by decide) (by decide)] | rewrite [ym_v 37 (by decide) (by decide)] | rewrite [ym_v 38 (by decide) (by decide)] | rewrite [ym_v 39 (by decide) (by decide)] | rewrite [ym_v 40 (by decide) (by decide)] | rewrite [ym_v 41 (by decide) (by decide)] | rewrite [ym_v 42 (by decide) (by decide)] | rewrite [ym_v 43 (by decide) (by decide)]); first | assumption | rfl) | rfl) ?_
            refine j_istore_n dX9_doOne_46 (by decide) ?_
            refine j_iload_n dX9_doOne_47 rfl ?_
            refine j_iconst (v := nI 5) dX9_doOne_48 (by decide +kernel) ?_
            first | (with_reducible refine j_gNN ?_; refine j_icmp_geN (tgt := 77) dX9_doOne_49 (by decide) (by omega) (by omega) (fun c_49 => ?_) (fun c_49 => ?_)) | refine j_icmp_ge (tgt := 77) dX9_doOne_49 (by decide) (fun c_49 => ?_) (fun c_49 => ?_)
            · refine j_iload_n dX9_doOne_77 rfl ?_
              refine j_iconst (v := nI 5) dX9_doOne_78 (by decide +kernel) ?_
              first | (with_reducible refine j_gNN ?_; refine j_icmp_neN (tgt := 109) dX9_doOne_79 (by decide) (by omega) (by omega) (fun c_79 => ?_) (fun c_79 => ?_)) | refine j_icmp_ne (tgt := 109) dX9_doOne_79 (by decide) (fun c_79 => ?_) (fun c_79 => ?_)
              · refine j_iload_n dX9_doOne_109 rfl ?_
                refine j_bipush (v := nI 6) dX9_doOne_110 (by decide +kernel) ?_
                first | (with_reducible refine j_gNN ?_; refine j_icmp_neN (tgt := 163) dX9_doOne_112 (by decide) (by omega) (by omega) (fun c_112 => ?_) (fun c_112 => ?_)) | refine j_icmp_ne (tgt := 163) dX9_doOne_112 (by decide) (fun c_112 => ?_) (fun c_112 => ?_)
                · refine j_iload_n dX9_doOne_163 rfl ?_
                  refine j_bipush (v := nI 6) dX9_doOne_164 (by decide +kernel) ?_
                  first | (with_reducible refine j_gNN ?_; refine j_icmp_leN (tgt := 174) dX9_doOne_166 (by decide) (by omega) (by omega) (fun c_166 => ?_) (fun c_166 => ?_)) | refine j_icmp_le (tgt := 174) dX9_doOne_166 (by decide) (fun c_166 => ?_) (fun c_166 => ?_)
                  · obtain ⟨kd, q1, q2⟩ := hkd
                    rw [q1] at k5 k6 k7 c_166
                    rw [nI_ltI (by omega) (by omega)] at k5
                    rw [nI_eq (by omega) (by omega)] at k6 k7
                    rw [nI_leI (by omega) (by omega)] at c_166
                    omega
                  · first | refine j_aload_n dX9_doOne_169 rfl ?_ | refine j_aload_nN dX9_doOne_169 rfl ?_
                    refine j_iconst (v := nI 1) dX9_doOne_170 (by decide +kernel) ?_
                    refine j_putI dX9_doOne_171 fl_X9_548 rfl (Mo.h H) rfl (by first | rfl | exact zb_nar (by assumption)) (by first | rfl | exact zb_fit (by assumption)) ?_
                    rw [ym_w 36 (by decide) (by decide)]
                    refine j_vret dX9_doOne_174 rfl (by omega) (by omega) ?_
                    exact ⟨rfl, rfl⟩
                · exact absurd c_112 k7
              · exact absurd c_79 k6
            · exact absurd (Int32.not_le.mp c_49) k5
    first | refine j_aload_n dX9_doOne_0 rfl ?_ | refine j_aload_nN dX9_doOne_0 rfl ?_
    refine j_getI dX9_doOne_1 fl_X9_545 rfl (Mo.h H) (by first | assumption | ((first | rewrite [ym_c ne] | rewrite [ym_v 36 (by decide) (by decide)] | rewrite [ym_v 37 (by decide) (by decide)] | rewrite [ym_v 38 (by decide) (by decide)] | rewrite [ym_v 39 (by decide) (by decide)] | rewrite [ym_v 40 (by decide) (by decide)] | rewrite [ym_v 41 (by decide) (by decide)] | rewrite [ym_v 42 (by decide) (by decide)] | rewrite [ym_v 43 (by decide) (by decide)]); first | assumption | rfl) | rfl) ?_
    refine j_sipush (v := nI 300) dX9_doOne_4 (by decide +kernel) ?_
    first | (with_reducible refine j_gNN ?_; refine j_icmp_neN (tgt := 21) dX9_doOne_7 (by decide) (by omega) (by omega) (fun c_7 => ?_) (fun c_7 => ?_)) | refine j_icmp_ne (tgt := 21) dX9_doOne_7 (by decide) (fun c_7 => ?_) (fun c_7 => ?_)
    · first | refine j_aload_n dX9_doOne_21 rfl ?_ | refine j_aload_nN dX9_doOne_21 rfl ?_
      refine j_dup dX9_doOne_22 rfl ?_
      refine j_getI dX9_doOne_23 fl_X9_545 rfl (Mo.h H) (by first | assumption | ((first | rewrite [ym_c ne] | rewrite [ym_v 36 (by decide) (by decide)] | rewrite [ym_v 37 (by decide) (by decide)] | rewrite [ym_v 38 (by decide) (by decide)] | rewrite [ym_v 39 (by decide) (by decide)] | rewrite [ym_v 40 (by decide) (by decide)] | rewrite [ym_v 41 (by decide) (by decide)] | rewrite [ym_v 42 (by decide) (by decide)] | rewrite [ym_v 43 (by decide) (by decide)]); first | assumption | rfl) | rfl) ?_
      refine j_iconst (v := nI 1) dX9_doOne_26 (by decide +kernel) ?_
      first | (with_reducible refine j_gNN ?_; refine j_iaddN dX9_doOne_27 ?_) | refine j_iadd dX9_doOne_27 ?_
      refine j_putI dX9_doOne_28 fl_X9_545 rfl (Mo.h H) rfl rfl rfl ?_
      rw [ym_w 38 (by decide) (by decide), hV1]
      rw [if_neg c_7]; exact body c_7
    · first | refine j_aload_n dX9_doOne_10 rfl ?_ | refine j_aload_nN dX9_doOne_10 rfl ?_
      refine j_iconst (v := nI 1) dX9_doOne_11 (by decide +kernel) ?_
      refine j_putI dX9_doOne_12 fl_X9_548 rfl (Mo.h H) rfl (by first | rfl | exact zb_nar (by assumption)) (by first | rfl | exact zb_fit (by assumption)) ?_
      rw [ym_w 36 (by decide) (by decide)]
      first | refine j_aload_n dX9_doOne_15 rfl ?_ | refine j_aload_nN dX9_doOne_15 rfl ?_
      refine j_iconst (v := nI 1) dX9_doOne_16 (by decide +kernel) ?_
      refine j_putI dX9_doOne_17 fl_X9_552 rfl (Mo.h H) rfl rfl rfl ?_
      rw [ym_w 43 (by decide) (by decide)]
      refine j_vret dX9_doOne_20 rfl (by omega) (by omega) ?_
      rw [if_pos c_7]; exact ⟨rfl, rfl⟩
end M21
