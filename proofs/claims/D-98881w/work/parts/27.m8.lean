/-! THE MODEL: unlike lengths; plaits' reasons; copies; games -/
set_option maxRecDepth 100000
def cpIf (f : Nat → Bool) (A : Nat → Int32) (n : Nat) (B : Nat → Int32) : Nat → Int32 := fun k => if k < n ∧ f k = true then A k else B k
theorem cpIf_0 {f : Nat → Bool} {A B : Nat → Int32} : cpIf f A 0 B = B := by funext k; exact if_neg (fun q => absurd q.1 (Nat.not_lt_zero k))
theorem cpIf_t {f : Nat → Bool} {A B : Nat → Int32} {n : Nat} (h : f n = true) : up (cpIf f A n B) n (A n) = cpIf f A (n + 1) B := by
  funext k
  unfold up cpIf
  by_cases hk : k = n
  · subst hk; rw [if_pos rfl, if_pos ⟨by omega, h⟩]
  · rw [if_neg hk]
    by_cases h2 : k < n ∧ f k = true
    · rw [if_pos h2, if_pos ⟨by omega, h2.2⟩]
    · rw [if_neg h2, if_neg (fun q => h2 ⟨by omega, q.2⟩)]
theorem cpIf_f {f : Nat → Bool} {A B : Nat → Int32} {n : Nat} (h : f n = false) : cpIf f A n B = cpIf f A (n + 1) B := by
  funext k
  unfold cpIf
  by_cases h2 : k < n ∧ f k = true
  · rw [if_pos h2, if_pos ⟨by omega, h2.2⟩]
  · rw [if_neg h2, if_neg]
    intro q
    by_cases hk : k = n
    · rw [hk, h] at q; exact absurd q.2 (by decide)
    · exact h2 ⟨by omega, q.2⟩
theorem cpIf_at {f : Nat → Bool} {A B : Nat → Int32} {n k : Nat} (hk : k < n) (h : f k = true) : cpIf f A n B k = A k := if_pos ⟨hk, h⟩
def ulF (C : Nat → Int32) (W : Nat) (days : Int32) (f : Nat → Bool) (s e : Nat) : Bool := !(f e && decide (mGrown C W (nI e) days = mGrown C W (nI s) days))
def ulB (C : Nat → Int32) (W : Nat) (days : Int32) (f : Nat → Bool) (s : Nat) : Bool := f s && allB (ulF C W days f s) s
def mUnlike (C : Nat → Int32) (W : Nat) (days : Int32) (f : Nat → Bool) : Nat := cntB (ulB C W days f) (2 ^ W)
def mWhyP0 (W : Nat) (M : Nat → Int32) (set tray n : Int32) : Int32 := if mWhy2 M tray n = nI 0 then (if okN set (2 ^ W) then nI 0 else nI 5) else mWhy2 M tray n
def plOk (W : Nat) (N : Nat → Int64) (t k : Nat) : Bool := inL (N (60 * t + k)) 0 (nI W - nI 1).toInt64
def mWhyP (W : Nat) (M : Nat → Int32) (N : Nat → Int64) (set tray n : Int32) : Int32 := if mWhyP0 W M set tray n = nI 0 then (if allB (plOk W N (ixn tray)) (2 * ixn n) then nI 0 else nI 5) else mWhyP0 W M set tray n
section M8
variable {g : Gx} {l : Launch} {σ : Sg} {h : Nat} {ad : Nat → Nat} {C : Nat → Int32}
theorem m_unlike (H : Mo σ h ad) (hC : σ.2.1 (ad 20) = C) {W : Nat} (hW : C 0 = nI W) (hW8 : W ≤ 8) {f : Nat → Bool} (hf : ∀ s, s < 2 ^ W → σ.2.1 (ad 29) s = bI (f s)) {G : Nat → Int32} (hG : σ.2.1 (ad 30) = G) (days : Int32) :
    Kd g l 2 MX9_unlike [.ref h, .int days] σ (some (.int (nI (mUnlike C W days f)))) (sU σ (ad 30) (cpIf f (fun s => mGrown C W (nI s) days) (2 ^ W) G)) := by
  have ne1 : ad 20 ≠ ad 30 := Mo.ne H (by decide) (by decide) (by decide)
  have ne2 : ad 29 ≠ ad 30 := Mo.ne H (by decide) (by decide) (by decide)
  have p8 := pw8 hW8
  have p1 : 1 ≤ 2 ^ W := pw_pos
  have H0 := H
  refine Kt.go (Y := MX9_unlike) (ls := [some (.ref h), some (.int days), none, none, none, none]) (by decide) (Nat.le_of_ble_eq_true rfl) rfl ?_
  have key : ∀ j, j ≤ 2 ^ W → ∀ D x y, D = cpIf f (fun s => mGrown C W (nI s) days) j G → Td g l 2 MX9_unlike [.ref h, .int days] (sU σ (ad 30) (cpIf f (fun s => mGrown C W (nI s) days) (2 ^ W) G)) (some (.int (nI (mUnlike C W days f)))) 4 [some (.ref h), some (.int days), some (.int (nI (cntB (ulB C W days f) j))), some (.int (nI j)), x, y] [] (sU σ (ad 30) D) := by
    refine loop_up fun j hj ih => ?_
    intro D x y hD
    have H : Mo (sU σ (ad 30) D) h ad := H0
    have hC1 : (sU σ (ad 30) D).2.1 (ad 20) = C := (sU_n ne1).trans hC
    have hfj : j < 2 ^ W → (sU σ (ad 30) D).2.1 (ad 29) j = bI (f j) := fun q => by rw [sU_n ne2]; exact hf j q
    have hC : (sU σ (ad 30) D).2.1 (ad 30) = D := sU_e
    refine j_iload_n dX9_unlike_4 rfl ?_
    first | refine j_aload_n dX9_unlike_5 rfl ?_ | refine j_aload_nN dX9_unlike_5 rfl ?_
    refine j_dV1 kl_X9_431 (m_allWords H hC1 hW hW8) dX9_unlike_6 rfl rfl (by decide) (Mo.h H) (Nat.le_of_ble_eq_true rfl) (by first | decide | omega) (by omega) (by omega) ?_
    first | (with_reducible refine j_gNN ?_; refine j_icmp_gtN (tgt := 111) dX9_unlike_9 (by decide) (by omega) (by omega) (fun c_9 => ?_) (fun c_9 => ?_)) | refine j_icmp_gt (tgt := 111) dX9_unlike_9 (by decide) (fun c_9 => ?_) (fun c_9 => ?_)
    · refine j_iload_n dX9_unlike_111 rfl ?_
      refine j_iret dX9_unlike_112 ⟨_, rfl, rfl⟩ (by omega) (by omega) ?_
      have e : j = 2 ^ W := by omega
      exact ⟨by rw [mUnlike, e], by rw [hD, e]⟩
    · first | refine j_aload_n dX9_unlike_12 rfl ?_ | refine j_aload_nN dX9_unlike_12 rfl ?_
      refine j_getR dX9_unlike_13 fl_X9_47 rfl (Mo.h H) (Mo.R H _ _ _ rfl) ?_
      refine j_iload_n dX9_unlike_16 rfl ?_
      first | refine j_bald dX9_unlike_17 (Mo.S H _ _ _ rfl) rfl (by omega) (by decide) (by first | assumption | (rewrite [hC]; first | assumption | rfl) | rfl) ?_ | refine j_zald dX9_unlike_17 (Mo.S H _ _ _ rfl) rfl (by omega) (by decide) (by first | assumption | (rewrite [hC]; first | assumption | rfl) | rfl) ?_
      rw [hfj (by omega)]
      first | (with_reducible refine j_gB ?_; refine j_if_neB (tgt := 24) dX9_unlike_18 (by decide) (fun c_18 => ?_) (fun c_18 => ?_)) | (with_reducible refine j_gC ?_; refine j_if_neC (tgt := 24) dX9_unlike_18 (by decide) (fun c_18 => ?_) (fun c_18 => ?_)) | (with_reducible refine j_gN ?_; refine j_if_neN (tgt := 24) dX9_unlike_18 (by decide) (by omega) (fun c_18 => ?_) (fun c_18 => ?_)) | refine j_if_ne (tgt := 24) dX9_unlike_18 (by decide) (fun c_18 => ?_) (fun c_18 => ?_)
      · first | refine j_aload_n dX9_unlike_24 rfl ?_ | refine j_aload_nN dX9_unlike_24 rfl ?_
        refine j_getR dX9_unlike_25 fl_X9_51 rfl (Mo.h H) (Mo.R H _ _ _ rfl) ?_
        refine j_iload_n dX9_unlike_28 rfl ?_
        first | refine j_aload_n dX9_unlike_29 rfl ?_ | refine j_aload_nN dX9_unlike_29 rfl ?_
        refine j_iload_n dX9_unlike_30 rfl ?_
        refine j_iload_n dX9_unlike_31 rfl ?_
        refine j_dV1 kl_X9_443 (m_grown H hC1 hW hW8 (nI j) days) dX9_unlike_32 rfl rfl (by decide) (Mo.h H) (Nat.le_of_ble_eq_true rfl) (by first | decide | omega) (by omega) (by omega) ?_
        refine j_iast dX9_unlike_35 (Mo.S H _ _ _ rfl) rfl (by omega) (by decide) ?_
        rw [sU_I]
        have hE : up D j (mGrown C W (nI j) days) = cpIf f (fun s => mGrown C W (nI s) days) (j + 1) G := by rw [hD]; exact cpIf_t c_18
        generalize hE2 : up D j (mGrown C W (nI j) days) = E at hE ⊢
        have H : Mo (sU σ (ad 30) E) h ad := H0
        have hC : (sU σ (ad 30) E).2.1 (ad 30) = E := sU_e
        have hEj : E j = mGrown C W (nI j) days := by rw [hE]; exact cpIf_at (by omega) c_18
        have key2 : ∀ i, i ≤ j → ∀ b, b = allB (ulF C W days f j) i → Td g l 2 MX9_unlike [.ref h, .int days] (sU σ (ad 30) (cpIf f (fun s => mGrown C W (nI s) days) (2 ^ W) G)) (some (.int (nI (mUnlike C W days f)))) 42 [some (.ref h), some (.int days), some (.int (nI (cntB (ulB C W days f) j))), some (.int (nI j)), some (.int (bI b)), some (.int (nI i))] [] (sU σ (ad 30) E) := by
          refine loop_up fun i hi ih2 => ?_
          intro b hb
          have hfi : i < j → (sU σ (ad 30) E).2.1 (ad 29) i = bI (f i) := fun q => by rw [sU_n ne2]; exact hf i (by omega)
          have hEi : i < j → f i = true → E i = mGrown C W (nI i) days := fun q q2 => by rw [hE]; exact cpIf_at (by omega) q2
          have done : allB (ulF C W days f j) j = b → Td g l 2 MX9_unlike [.ref h, .int days] (sU σ (ad 30) (cpIf f (fun s => mGrown C W (nI s) days) (2 ^ W) G)) (some (.int (nI (mUnlike C W days f)))) 92 [some (.ref h), some (.int days), some (.int (nI (cntB (ulB C W days f) j))), some (.int (nI j)), some (.int (bI b)), some (.int (nI i))] [] (sU σ (ad 30) E) := by
            intro hb2
            have e : cntB (ulB C W days f) (j + 1) = cntB (ulB C W days f) j + (if b then 1 else 0) := by rw [cntB, ulB, c_18, hb2]; cases b <;> rfl
            refine j_iload_n dX9_unlike_92 rfl ?_
            refine j_iload dX9_unlike_93 rfl ?_
            first | (with_reducible refine j_gB ?_; refine j_if_eqB (tgt := 102) dX9_unlike_95 (by decide) (fun c_95 => ?_) (fun c_95 => ?_)) | (with_reducible refine j_gC ?_; refine j_if_eqC (tgt := 102) dX9_unlike_95 (by decide) (fun c_95 => ?_) (fun c_95 => ?_)) | (with_reducible refine j_gN ?_; refine j_if_eqN (tgt := 102) dX9_unlike_95 (by decide) (by omega) (fun c_95 => ?_) (fun c_95 => ?_)) | refine j_if_eq (tgt := 102) dX9_unlike_95 (by decide) (fun c_95 => ?_) (fun c_95 => ?_)
            · refine j_iconst (v := nI 0) dX9_unlike_102 (by decide +kernel) ?_
              first | (with_reducible refine j_gNN ?_; refine j_iaddN dX9_unlike_103 ?_) | refine j_iadd dX9_unlike_103 ?_
              refine j_istore_n dX9_unlike_104 (by decide) ?_
              first | refine j_iincN dX9_unlike_105 rfl (by decide) ?_ | refine j_iinc dX9_unlike_105 rfl rfl (by decide) ?_
              refine j_goto (tgt := 4) dX9_unlike_108 (by decide) ?_
              rw [c_95] at e
              exact j_eq (by rw [e]; rfl) rfl rfl (ih (by omega) _ _ _ hE)
            · refine j_iconst (v := nI 1) dX9_unlike_98 (by decide +kernel) ?_
              refine j_goto (tgt := 103) dX9_unlike_99 (by decide) ?_
              first | (with_reducible refine j_gNN ?_; refine j_iaddN dX9_unlike_103 ?_) | refine j_iadd dX9_unlike_103 ?_
              refine j_istore_n dX9_unlike_104 (by decide) ?_
              first | refine j_iincN dX9_unlike_105 rfl (by decide) ?_ | refine j_iinc dX9_unlike_105 rfl rfl (by decide) ?_
              refine j_goto (tgt := 4) dX9_unlike_108 (by decide) ?_
              rw [c_95] at e
              exact j_eq (by rw [e]; rfl) rfl rfl (ih (by omega) _ _ _ hE)
          refine j_iload dX9_unlike_42 rfl ?_
          refine j_iload_n dX9_unlike_44 rfl ?_
          first | (with_reducible refine j_gNN ?_; refine j_icmp_geN (tgt := 92) dX9_unlike_45 (by decide) (by omega) (by omega) (fun c_45 => ?_) (fun c_45 => ?_)) | refine j_icmp_ge (tgt := 92) dX9_unlike_45 (by decide) (fun c_45 => ?_) (fun c_45 => ?_)
          · first
            | exact done (by rw [hb, show i = j by omega])
            | exact done (by rw [c_50] at hb; rw [c_50]; exact allB_le hb.symm (by omega))
          · refine j_iload dX9_unlike_48 rfl ?_
            first | (with_reducible refine j_gB ?_; refine j_if_eqB (tgt := 92) dX9_unlike_50 (by decide) (fun c_50 => ?_) (fun c_50 => ?_)) | (with_reducible refine j_gC ?_; refine j_if_eqC (tgt := 92) dX9_unlike_50 (by decide) (fun c_50 => ?_) (fun c_50 => ?_)) | (with_reducible refine j_gN ?_; refine j_if_eqN (tgt := 92) dX9_unlike_50 (by decide) (by omega) (fun c_50 => ?_) (fun c_50 => ?_)) | refine j_if_eq (tgt := 92) dX9_unlike_50 (by decide) (fun c_50 => ?_) (fun c_50 => ?_)
            · first
              | exact done (by rw [hb, show i = j by omega])
              | exact done (by rw [c_50] at hb; rw [c_50]; exact allB_le hb.symm (by omega))
            · first | refine j_aload_n dX9_unlike_53 rfl ?_ | refine j_aload_nN dX9_unlike_53 rfl ?_
              refine j_getR dX9_unlike_54 fl_X9_47 rfl (Mo.h H) (Mo.R H _ _ _ rfl) ?_
              refine j_iload dX9_unlike_57 rfl ?_
              first | refine j_bald dX9_unlike_59 (Mo.S H _ _ _ rfl) rfl (by omega) (by decide) (by first | assumption | (rewrite [hC]; first | assumption | rfl) | rfl) ?_ | refine j_zald dX9_unlike_59 (Mo.S H _ _ _ rfl) rfl (by omega) (by decide) (by first | assumption | (rewrite [hC]; first | assumption | rfl) | rfl) ?_
              rw [hfi (by omega)]
              first | (with_reducible refine j_gB ?_; refine j_if_eqB (tgt := 79) dX9_unlike_60 (by decide) (fun c_60 => ?_) (fun c_60 => ?_)) | (with_reducible refine j_gC ?_; refine j_if_eqC (tgt := 79) dX9_unlike_60 (by decide) (fun c_60 => ?_) (fun c_60 => ?_)) | (with_reducible refine j_gN ?_; refine j_if_eqN (tgt := 79) dX9_unlike_60 (by decide) (by omega) (fun c_60 => ?_) (fun c_60 => ?_)) | refine j_if_eq (tgt := 79) dX9_unlike_60 (by decide) (fun c_60 => ?_) (fun c_60 => ?_)
              · refine j_iconst (v := nI 1) dX9_unlike_79 (by decide +kernel) ?_
                refine j_goto (tgt := 84) dX9_unlike_80 (by decide) ?_
                refine j_istore dX9_unlike_84 (by decide) ?_
                first | refine j_iincN dX9_unlike_86 rfl (by decide) ?_ | refine j_iinc dX9_unlike_86 rfl rfl (by decide) ?_
                refine j_goto (tgt := 42) dX9_unlike_89 (by decide) ?_
                first
                | exact ih2 (by omega) true (by rw [allB, ← hb, c_50, ulF, c_60]; rfl)
                | exact ih2 (by omega) false (by rw [allB, ← hb, c_50, ulF, c_60, decide_eq_true ((hEi (by omega) c_60).symm.trans c_76)]; rfl)
                | exact ih2 (by omega) true (by rw [allB, ← hb, c_50, ulF, c_60, decide_eq_false (fun q => c_76 ((hEi (by omega) c_60).trans q))]; rfl)
              · first | refine j_aload_n dX9_unlike_63 rfl ?_ | refine j_aload_nN dX9_unlike_63 rfl ?_
                refine j_getR dX9_unlike_64 fl_X9_51 rfl (Mo.h H) (Mo.R H _ _ _ rfl) ?_
                refine j_iload dX9_unlike_67 rfl ?_
                refine j_iald dX9_unlike_69 (Mo.S H _ _ _ rfl) rfl (by omega) (by decide) (by first | assumption | (rewrite [hC]; first | assumption | rfl) | rfl) ?_
                first | refine j_aload_n dX9_unlike_70 rfl ?_ | refine j_aload_nN dX9_unlike_70 rfl ?_
                refine j_getR dX9_unlike_71 fl_X9_51 rfl (Mo.h H) (Mo.R H _ _ _ rfl) ?_
                refine j_iload_n dX9_unlike_74 rfl ?_
                refine j_iald dX9_unlike_75 (Mo.S H _ _ _ rfl) rfl (by omega) (by decide) (by first | assumption | (rewrite [hC]; first | assumption | rfl) | rfl) ?_
                first | (with_reducible refine j_gNN ?_; refine j_icmp_eqN (tgt := 83) dX9_unlike_76 (by decide) (by omega) (by omega) (fun c_76 => ?_) (fun c_76 => ?_)) | refine j_icmp_eq (tgt := 83) dX9_unlike_76 (by decide) (fun c_76 => ?_) (fun c_76 => ?_)
                · refine j_iconst (v := nI 0) dX9_unlike_83 (by decide +kernel) ?_
                  refine j_istore dX9_unlike_84 (by decide) ?_
                  first | refine j_iincN dX9_unlike_86 rfl (by decide) ?_ | refine j_iinc dX9_unlike_86 rfl rfl (by decide) ?_
                  refine j_goto (tgt := 42) dX9_unlike_89 (by decide) ?_
                  first
                  | exact ih2 (by omega) true (by rw [allB, ← hb, c_50, ulF, c_60]; rfl)
                  | exact ih2 (by omega) false (by rw [allB, ← hb, c_50, ulF, c_60, decide_eq_true ((hEi (by omega) c_60).symm.trans c_76)]; rfl)
                  | exact ih2 (by omega) true (by rw [allB, ← hb, c_50, ulF, c_60, decide_eq_false (fun q => c_76 ((hEi (by omega) c_60).trans q))]; rfl)
                · refine j_iconst (v := nI 1) dX9_unlike_79 (by decide +kernel) ?_
                  refine j_goto (tgt := 84) dX9_unlike_80 (by decide) ?_
                  refine j_istore dX9_unlike_84 (by decide) ?_
                  first | refine j_iincN dX9_unlike_86 rfl (by decide) ?_ | refine j_iinc dX9_unlike_86 rfl rfl (by decide) ?_
                  refine j_goto (tgt := 42) dX9_unlike_89 (by decide) ?_
                  first
                  | exact ih2 (by omega) true (by rw [allB, ← hb, c_50, ulF, c_60]; rfl)
                  | exact ih2 (by omega) false (by rw [allB, ← hb, c_50, ulF, c_60, decide_eq_true ((hEi (by omega) c_60).symm.trans c_76)]; rfl)
                  | exact ih2 (by omega) true (by rw [allB, ← hb, c_50, ulF, c_60, decide_eq_false (fun q => c_76 ((hEi (by omega) c_60).trans q))]; rfl)
        refine j_iconst (v := nI 1) dX9_unlike_36 (by decide +kernel) ?_
        refine j_istore dX9_unlike_37 (by decide) ?_
        refine j_iconst (v := nI 0) dX9_unlike_39 (by decide +kernel) ?_
        refine j_istore dX9_unlike_40 (by decide) ?_
        exact key2 0 (by omega) true rfl
      · refine j_goto (tgt := 105) dX9_unlike_21 (by decide) ?_
        first | refine j_iincN dX9_unlike_105 rfl (by decide) ?_ | refine j_iinc dX9_unlike_105 rfl rfl (by decide) ?_
        refine j_goto (tgt := 4) dX9_unlike_108 (by decide) ?_
        have e : cntB (ulB C W days f) (j + 1) = cntB (ulB C W days f) j := by rw [cntB, ulB, c_18]; rfl
        exact j_eq (by rw [← e]; rfl) rfl rfl (ih (by omega) _ _ _ (hD.trans (cpIf_f c_18)))
  refine j_iconst (v := nI 0) dX9_unlike_0 (by decide +kernel) ?_
  refine j_istore_n dX9_unlike_1 (by decide) ?_
  refine j_iconst (v := nI 0) dX9_unlike_2 (by decide +kernel) ?_
  refine j_istore_n dX9_unlike_3 (by decide) ?_
  exact j_eq rfl rfl (by rw [cpIf_0, ← hG]; exact sU_self.symm) (key 0 (by omega) _ none none rfl)
theorem m_whyP (H : Mo σ h ad) (hC0 : σ.2.1 (ad 20) = C) {W : Nat} (hW : C 0 = nI W) (hW8 : W ≤ 8) {M : Nat → Int32} (hM : σ.2.1 (ad 5) = M) {N : Nat → Int64} (hN : σ.2.2.1 (ad 6) = N) (hm : Wm M) (set t n : Int32) : Kd g l 3 MX9_whyNoPlait [.ref h, .int set, .int t, .int n] σ (some (.int (mWhyP W M N set t n))) σ := by
  refine Kt.go (Y := MX9_whyNoPlait) (ls := [some (.ref h), some (.int set), some (.int t), some (.int n), none, none]) (by decide) (Nat.le_of_ble_eq_true rfl) rfl ?_
  have fin : ¬ mWhyP0 W M set t n = nI 0 → ∀ x, Td g l 3 MX9_whyNoPlait [.ref h, .int set, .int t, .int n] σ (some (.int (mWhyP W M N set t n))) 27 [some (.ref h), some (.int set), some (.int t), some (.int n), some (.int (mWhyP0 W M set t n)), some (.int x)] [] σ := by
    intro q x
    refine j_iload dX9_whyNoPlait_27 rfl ?_
    refine j_iconst (v := nI 2) dX9_whyNoPlait_29 (by decide +kernel) ?_
    refine j_iload_n dX9_whyNoPlait_30 rfl ?_
    first | (with_reducible refine j_gNN ?_; refine j_imulN dX9_whyNoPlait_31 ?_) | refine j_imul dX9_whyNoPlait_31 ?_
    first | (with_reducible refine j_gNN ?_; refine j_icmp_geN (tgt := 67) dX9_whyNoPlait_32 (by decide) (by omega) (by omega) (fun c_32 => ?_) (fun c_32 => ?_)) | refine j_icmp_ge (tgt := 67) dX9_whyNoPlait_32 (by decide) (fun c_32 => ?_) (fun c_32 => ?_)
    · refine j_iload dX9_whyNoPlait_67 rfl ?_
      refine j_iret dX9_whyNoPlait_69 ⟨_, rfl, rfl⟩ (by omega) (by omega) ?_
      exact ⟨by rw [mWhyP, if_neg q], rfl⟩
    · refine j_iload dX9_whyNoPlait_35 rfl ?_
      first | (with_reducible refine j_gB ?_; refine j_if_neB (tgt := 67) dX9_whyNoPlait_37 (by decide) (fun c_37 => ?_) (fun c_37 => ?_)) | (with_reducible refine j_gC ?_; refine j_if_neC (tgt := 67) dX9_whyNoPlait_37 (by decide) (fun c_37 => ?_) (fun c_37 => ?_)) | (with_reducible refine j_gN ?_; refine j_if_neN (tgt := 67) dX9_whyNoPlait_37 (by decide) (by omega) (fun c_37 => ?_) (fun c_37 => ?_)) | refine j_if_ne (tgt := 67) dX9_whyNoPlait_37 (by decide) (fun c_37 => ?_) (fun c_37 => ?_)
      · refine j_iload dX9_whyNoPlait_67 rfl ?_
        refine j_iret dX9_whyNoPlait_69 ⟨_, rfl, rfl⟩ (by omega) (by omega) ?_
        exact ⟨by rw [mWhyP, if_neg q], rfl⟩
      · exact absurd c_37 q
  have go : mWhyP0 W M set t n = nI 0 → Td g l 3 MX9_whyNoPlait [.ref h, .int set, .int t, .int n] σ (some (.int (mWhyP W M N set t n))) 27 [some (.ref h), some (.int set), some (.int t), some (.int n), some (.int (nI 0)), some (.int (nI 0))] [] σ := by
    intro q
    have q1 : mWhy2 M t n = nI 0 := by
      unfold mWhyP0 at q
      split at q
      · assumption
      · exact absurd q (by assumption)
    obtain ⟨T, m, m2, hT, rfl, rfl, hm20, hMt, hm2, hle⟩ := mWhy2_0 hm q1
    have eT : ixn (nI T) = T := ixn_nI (by omega)
    have em : ixn (nI m) = m := ixn_nI (by omega)
    have key : ∀ j, j ≤ 2 * m → ∀ b, b = allB (plOk W N T) j → Td g l 3 MX9_whyNoPlait [.ref h, .int set, .int (nI T), .int (nI m)] σ (some (.int (mWhyP W M N set (nI T) (nI m)))) 27 [some (.ref h), some (.int set), some (.int (nI T)), some (.int (nI m)), some (.int (if b then nI 0 else nI 5)), some (.int (nI j))] [] σ := by
      refine loop_up fun j hj ih => ?_
      intro b hb
      cases b with
      | true =>
        rw [if_pos rfl]
        refine j_iload dX9_whyNoPlait_27 rfl ?_
        refine j_iconst (v := nI 2) dX9_whyNoPlait_29 (by decide +kernel) ?_
        refine j_iload_n dX9_whyNoPlait_30 rfl ?_
        first | (with_reducible refine j_gNN ?_; refine j_imulN dX9_whyNoPlait_31 ?_) | refine j_imul dX9_whyNoPlait_31 ?_
        first | (with_reducible refine j_gNN ?_; refine j_icmp_geN (tgt := 67) dX9_whyNoPlait_32 (by decide) (by omega) (by omega) (fun c_32 => ?_) (fun c_32 => ?_)) | refine j_icmp_ge (tgt := 67) dX9_whyNoPlait_32 (by decide) (fun c_32 => ?_) (fun c_32 => ?_)
        · refine j_iload dX9_whyNoPlait_67 rfl ?_
          refine j_iret dX9_whyNoPlait_69 ⟨_, rfl, rfl⟩ (by omega) (by omega) ?_
          have e : j = 2 * m := by omega
          exact ⟨by rw [mWhyP, if_pos q, eT, em, ← e, ← hb]; rfl, rfl⟩
        · refine j_iload dX9_whyNoPlait_35 rfl ?_
          first | (with_reducible refine j_gB ?_; refine j_if_neB (tgt := 67) dX9_whyNoPlait_37 (by decide) (fun c_37 => ?_) (fun c_37 => ?_)) | (with_reducible refine j_gC ?_; refine j_if_neC (tgt := 67) dX9_whyNoPlait_37 (by decide) (fun c_37 => ?_) (fun c_37 => ?_)) | (with_reducible refine j_gN ?_; refine j_if_neN (tgt := 67) dX9_whyNoPlait_37 (by decide) (by omega) (fun c_37 => ?_) (fun c_37 => ?_)) | refine j_if_ne (tgt := 67) dX9_whyNoPlait_37 (by decide) (fun c_37 => ?_) (fun c_37 => ?_)
          · omega
          · first | refine j_aload_n dX9_whyNoPlait_40 rfl ?_ | refine j_aload_nN dX9_whyNoPlait_40 rfl ?_
            first | refine j_aload_n dX9_whyNoPlait_41 rfl ?_ | refine j_aload_nN dX9_whyNoPlait_41 rfl ?_
            refine j_iload_n dX9_whyNoPlait_42 rfl ?_
            refine j_iload dX9_whyNoPlait_43 rfl ?_
            refine j_dV1 kl_X9_439 (m_numberOf H hN (by omega)) dX9_whyNoPlait_45 rfl rfl (by decide) (Mo.h H) (Nat.le_of_ble_eq_true rfl) (by first | decide | omega) (by omega) (by omega) ?_
            refine j_dV1 kl_X9_334 (m_isWordAtL H hC0 hW _) dX9_whyNoPlait_48 rfl rfl (by decide) (Mo.h H) (Nat.le_of_ble_eq_true rfl) (by first | decide | omega) (by omega) (by omega) ?_
            first | (with_reducible refine j_gB ?_; refine j_if_eqB (tgt := 58) dX9_whyNoPlait_51 (by decide) (fun c_51 => ?_) (fun c_51 => ?_)) | (with_reducible refine j_gC ?_; refine j_if_eqC (tgt := 58) dX9_whyNoPlait_51 (by decide) (fun c_51 => ?_) (fun c_51 => ?_)) | (with_reducible refine j_gN ?_; refine j_if_eqN (tgt := 58) dX9_whyNoPlait_51 (by decide) (by omega) (fun c_51 => ?_) (fun c_51 => ?_)) | refine j_if_eq (tgt := 58) dX9_whyNoPlait_51 (by decide) (fun c_51 => ?_) (fun c_51 => ?_)
            · refine j_iconst (v := nI 5) dX9_whyNoPlait_58 (by decide +kernel) ?_
              refine j_istore dX9_whyNoPlait_59 (by decide) ?_
              first | refine j_iincN dX9_whyNoPlait_61 rfl (by decide) ?_ | refine j_iinc dX9_whyNoPlait_61 rfl rfl (by decide) ?_
              refine j_goto (tgt := 27) dX9_whyNoPlait_64 (by decide) ?_
              first
              | exact ih (by omega) true (by rw [allB, ← hb, plOk, c_51]; rfl)
              | exact ih (by omega) false (by rw [allB, ← hb, plOk, c_51]; rfl)
            · refine j_iconst (v := nI 0) dX9_whyNoPlait_54 (by decide +kernel) ?_
              refine j_goto (tgt := 59) dX9_whyNoPlait_55 (by decide) ?_
              refine j_istore dX9_whyNoPlait_59 (by decide) ?_
              first | refine j_iincN dX9_whyNoPlait_61 rfl (by decide) ?_ | refine j_iinc dX9_whyNoPlait_61 rfl rfl (by decide) ?_
              refine j_goto (tgt := 27) dX9_whyNoPlait_64 (by decide) ?_
              first
              | exact ih (by omega) true (by rw [allB, ← hb, plOk, c_51]; rfl)
              | exact ih (by omega) false (by rw [allB, ← hb, plOk, c_51]; rfl)
      | false =>
        rw [if_neg (by decide)]
        refine j_iload dX9_whyNoPlait_27 rfl ?_
        refine j_iconst (v := nI 2) dX9_whyNoPlait_29 (by decide +kernel) ?_
        refine j_iload_n dX9_whyNoPlait_30 rfl ?_
        first | (with_reducible refine j_gNN ?_; refine j_imulN dX9_whyNoPlait_31 ?_) | refine j_imul dX9_whyNoPlait_31 ?_
        first | (with_reducible refine j_gNN ?_; refine j_icmp_geN (tgt := 67) dX9_whyNoPlait_32 (by decide) (by omega) (by omega) (fun c_32 => ?_) (fun c_32 => ?_)) | refine j_icmp_ge (tgt := 67) dX9_whyNoPlait_32 (by decide) (fun c_32 => ?_) (fun c_32 => ?_)
        · refine j_iload dX9_whyNoPlait_67 rfl ?_
          refine j_iret dX9_whyNoPlait_69 ⟨_, rfl, rfl⟩ (by omega) (by omega) ?_
          exact ⟨by rw [mWhyP, if_pos q, eT, em, allB_le hb.symm hj]; rfl, rfl⟩
        · refine j_iload dX9_whyNoPlait_35 rfl ?_
          first | (with_reducible refine j_gB ?_; refine j_if_neB (tgt := 67) dX9_whyNoPlait_37 (by decide) (fun c_37 => ?_) (fun c_37 => ?_)) | (with_reducible refine j_gC ?_; refine j_if_neC (tgt := 67) dX9_whyNoPlait_37 (by decide) (fun c_37 => ?_) (fun c_37 => ?_)) | (with_reducible refine j_gN ?_; refine j_if_neN (tgt := 67) dX9_whyNoPlait_37 (by decide) (by omega) (fun c_37 => ?_) (fun c_37 => ?_)) | refine j_if_ne (tgt := 67) dX9_whyNoPlait_37 (by decide) (fun c_37 => ?_) (fun c_37 => ?_)
          · refine j_iload dX9_whyNoPlait_67 rfl ?_
            refine j_iret dX9_whyNoPlait_69 ⟨_, rfl, rfl⟩ (by omega) (by omega) ?_
            exact ⟨by rw [mWhyP, if_pos q, eT, em, allB_le hb.symm hj]; rfl, rfl⟩
          · omega
    exact key 0 (by omega) true rfl
  first | refine j_aload_n dX9_whyNoPlait_0 rfl ?_ | refine j_aload_nN dX9_whyNoPlait_0 rfl ?_
  refine j_iload_n dX9_whyNoPlait_1 rfl ?_
  refine j_iload_n dX9_whyNoPlait_2 rfl ?_
  refine j_dV1 kl_X9_436 (m_why2 H hM t n) dX9_whyNoPlait_3 rfl rfl (by decide) (Mo.h H) (Nat.le_of_ble_eq_true rfl) (by first | decide | omega) (by omega) (by omega) ?_
  refine j_istore dX9_whyNoPlait_6 (by decide) ?_
  refine j_iload dX9_whyNoPlait_8 rfl ?_
  first | (with_reducible refine j_gB ?_; refine j_if_neB (tgt := 24) dX9_whyNoPlait_10 (by decide) (fun c_10 => ?_) (fun c_10 => ?_)) | (with_reducible refine j_gC ?_; refine j_if_neC (tgt := 24) dX9_whyNoPlait_10 (by decide) (fun c_10 => ?_) (fun c_10 => ?_)) | (with_reducible refine j_gN ?_; refine j_if_neN (tgt := 24) dX9_whyNoPlait_10 (by decide) (by omega) (fun c_10 => ?_) (fun c_10 => ?_)) | refine j_if_ne (tgt := 24) dX9_whyNoPlait_10 (by decide) (fun c_10 => ?_) (fun c_10 => ?_)
  · refine j_iconst (v := nI 0) dX9_whyNoPlait_24 (by decide +kernel) ?_
    refine j_istore dX9_whyNoPlait_25 (by decide) ?_
    first
    | (have e : mWhyP0 W M set t n = nI 0 := by rw [mWhyP0, if_pos (show mWhy2 M t n = nI 0 from c_10), c_18]; rfl
       refine j_eq (ls' := [some (.ref h), some (.int set), some (.int t), some (.int n), some (.int (nI 0)), some (.int (nI 0))]) (by rw [c_10]; rfl) rfl rfl (go e))
    | (have e : mWhyP0 W M set t n = nI 5 := by rw [mWhyP0, if_pos (show mWhy2 M t n = nI 0 from c_10), c_18]; rfl
       have := fin (by rw [e]; decide +kernel) (nI 0)
       rw [e] at this
       exact this)
    | (have e : mWhyP0 W M set t n = mWhy2 M t n := by rw [mWhyP0, if_neg (show ¬ mWhy2 M t n = nI 0 from c_10)]
       have := fin (by rw [e]; exact c_10) (nI 0)
       rw [e] at this
       exact this)
  · first | refine j_aload_n dX9_whyNoPlait_13 rfl ?_ | refine j_aload_nN dX9_whyNoPlait_13 rfl ?_
    refine j_iload_n dX9_whyNoPlait_14 rfl ?_
    refine j_dV1 kl_X9_464 (m_areWords H hC0 hW hW8 set) dX9_whyNoPlait_15 rfl rfl (by decide) (Mo.h H) (Nat.le_of_ble_eq_true rfl) (by first | decide | omega) (by omega) (by omega) ?_
    first | (with_reducible refine j_gB ?_; refine j_if_neB (tgt := 24) dX9_whyNoPlait_18 (by decide) (fun c_18 => ?_) (fun c_18 => ?_)) | (with_reducible refine j_gC ?_; refine j_if_neC (tgt := 24) dX9_whyNoPlait_18 (by decide) (fun c_18 => ?_) (fun c_18 => ?_)) | (with_reducible refine j_gN ?_; refine j_if_neN (tgt := 24) dX9_whyNoPlait_18 (by decide) (by omega) (fun c_18 => ?_) (fun c_18 => ?_)) | refine j_if_ne (tgt := 24) dX9_whyNoPlait_18 (by decide) (fun c_18 => ?_) (fun c_18 => ?_)
    · refine j_iconst (v := nI 0) dX9_whyNoPlait_24 (by decide +kernel) ?_
      refine j_istore dX9_whyNoPlait_25 (by decide) ?_
      first
      | (have e : mWhyP0 W M set t n = nI 0 := by rw [mWhyP0, if_pos (show mWhy2 M t n = nI 0 from c_10), c_18]; rfl
         refine j_eq (ls' := [some (.ref h), some (.int set), some (.int t), some (.int n), some (.int (nI 0)), some (.int (nI 0))]) (by rw [c_10]; rfl) rfl rfl (go e))
      | (have e : mWhyP0 W M set t n = nI 5 := by rw [mWhyP0, if_pos (show mWhy2 M t n = nI 0 from c_10), c_18]; rfl
         have := fin (by rw [e]; decide +kernel) (nI 0)
         rw [e] at this
         exact this)
      | (have e : mWhyP0 W M set t n = mWhy2 M t n := by rw [mWhyP0, if_neg (show ¬ mWhy2 M t n = nI 0 from c_10)]
         have := fin (by rw [e]; exact c_10) (nI 0)
         rw [e] at this
         exact this)
    · refine j_iconst (v := nI 5) dX9_whyNoPlait_21 (by decide +kernel) ?_
      refine j_istore dX9_whyNoPlait_22 (by decide) ?_
      refine j_iconst (v := nI 0) dX9_whyNoPlait_24 (by decide +kernel) ?_
      refine j_istore dX9_whyNoPlait_25 (by decide) ?_
      first
      | (have e : mWhyP0 W M set t n = nI 0 := by rw [mWhyP0, if_pos (show mWhy2 M t n = nI 0 from c_10), c_18]; rfl
         refine j_eq (ls' := [some (.ref h), some (.int set), some (.int t), some (.int n), some (.int (nI 0)), some (.int (nI 0))]) (by rw [c_10]; rfl) rfl rfl (go e))
      | (have e : mWhyP0 W M set t n = nI 5 := by rw [mWhyP0, if_pos (show mWhy2 M t n = nI 0 from c_10), c_18]; rfl
         have := fin (by rw [e]; decide +kernel) (nI 0)
         rw [e] at this
         exact this)
      | (have e : mWhyP0 W M set t n = mWhy2 M t n := by rw [mWhyP0, if_neg (show ¬ mWhy2 M t n = nI 0 from c_10)]
         have := fin (by rw [e]; exact c_10) (nI 0)
         rw [e] at this
         exact this)
theorem m_copy (H : Mo σ h ad) (hC0 : σ.2.1 (ad 20) = C) {N : Nat → Int64} (hN : σ.2.2.1 (ad 23) = N) {a b : Nat} (ha : a ≤ 4) (hb : b ≤ 4) (hab : a ≠ b) : Kd g l 0 MX9_copy [.ref h, .int (nI a), .int (nI b)] σ none (sUL (sU σ (ad 20) (cpO (447 * b) 447 (fun k => C (447 * a + k)) C)) (ad 23) (cpOL (14 * b) 14 (fun k => N (14 * a + k)) N)) := by
  have H0 := H
  refine Kt.go (Y := MX9_copy) (ls := [some (.ref h), some (.int (nI a)), some (.int (nI b)), none]) (by decide) (Nat.le_of_ble_eq_true rfl) rfl ?_
  have key2 : ∀ j, j ≤ 14 → ∀ D, D = cpOL (14 * b) j (fun k => N (14 * a + k)) N → Td g l 0 MX9_copy [.ref h, .int (nI a), .int (nI b)] (sUL (sU σ (ad 20) (cpO (447 * b) 447 (fun k => C (447 * a + k)) C)) (ad 23) (cpOL (14 * b) 14 (fun k => N (14 * a + k)) N)) none 41 [some (.ref h), some (.int (nI a)), some (.int (nI b)), some (.int (nI j))] [] (sUL (sU σ (ad 20) (cpO (447 * b) 447 (fun k => C (447 * a + k)) C)) (ad 23) D) := by
    refine loop_up fun j hj ih => ?_
    intro D hD
    have H : Mo (sUL (sU σ (ad 20) (cpO (447 * b) 447 (fun k => C (447 * a + k)) C)) (ad 23) D) h ad := H0
    have hC : (sUL (sU σ (ad 20) (cpO (447 * b) 447 (fun k => C (447 * a + k)) C)) (ad 23) D).2.2.1 (ad 23) = D := sUL_e
    have hDj : j < 14 → D (14 * a + j) = N (14 * a + j) := fun q => by rw [hD]; exact if_neg (by omega)
    refine j_iload_n dX9_copy_41 rfl ?_
    refine j_bipush (v := nI 14) dX9_copy_42 (by decide +kernel) ?_
    first | (with_reducible refine j_gNN ?_; refine j_icmp_geN (tgt := 75) dX9_copy_44 (by decide) (by omega) (by omega) (fun c_44 => ?_) (fun c_44 => ?_)) | refine j_icmp_ge (tgt := 75) dX9_copy_44 (by decide) (fun c_44 => ?_) (fun c_44 => ?_)
    · refine j_vret dX9_copy_75 rfl (by omega) (by omega) ?_
      exact ⟨rfl, by rw [hD, show j = 14 by omega]⟩
    · first | refine j_aload_n dX9_copy_47 rfl ?_ | refine j_aload_nN dX9_copy_47 rfl ?_
      refine j_getR dX9_copy_48 fl_X9_44 rfl (Mo.h H) (Mo.R H _ _ _ rfl) ?_
      refine j_bipush (v := nI 14) dX9_copy_51 (by decide +kernel) ?_
      refine j_iload_n dX9_copy_53 rfl ?_
      first | (with_reducible refine j_gNN ?_; refine j_imulN dX9_copy_54 ?_) | refine j_imul dX9_copy_54 ?_
      refine j_iload_n dX9_copy_55 rfl ?_
      first | (with_reducible refine j_gNN ?_; refine j_iaddN dX9_copy_56 ?_) | refine j_iadd dX9_copy_56 ?_
      first | refine j_aload_n dX9_copy_57 rfl ?_ | refine j_aload_nN dX9_copy_57 rfl ?_
      refine j_getR dX9_copy_58 fl_X9_44 rfl (Mo.h H) (Mo.R H _ _ _ rfl) ?_
      refine j_bipush (v := nI 14) dX9_copy_61 (by decide +kernel) ?_
      refine j_iload_n dX9_copy_63 rfl ?_
      first | (with_reducible refine j_gNN ?_; refine j_imulN dX9_copy_64 ?_) | refine j_imul dX9_copy_64 ?_
      refine j_iload_n dX9_copy_65 rfl ?_
      first | (with_reducible refine j_gNN ?_; refine j_iaddN dX9_copy_66 ?_) | refine j_iadd dX9_copy_66 ?_
      refine j_lald dX9_copy_67 (Mo.S H _ _ _ rfl) rfl (by omega) (by decide) (by first | assumption | (rewrite [hC]; first | assumption | rfl) | rfl) ?_
      rw [hDj (by omega)]
      refine j_last dX9_copy_68 (Mo.S H _ _ _ rfl) rfl (by omega) (by decide) ?_
      first | refine j_iincN dX9_copy_69 rfl (by decide) ?_ | refine j_iinc dX9_copy_69 rfl rfl (by decide) ?_
      refine j_goto (tgt := 41) dX9_copy_72 (by decide) ?_
      exact j_eq rfl rfl sUL_I (ih (by omega) _ (by rw [hD]; exact cpOL_s))
  have key : ∀ j, j ≤ 447 → ∀ D, D = cpO (447 * b) j (fun k => C (447 * a + k)) C → Td g l 0 MX9_copy [.ref h, .int (nI a), .int (nI b)] (sUL (sU σ (ad 20) (cpO (447 * b) 447 (fun k => C (447 * a + k)) C)) (ad 23) (cpOL (14 * b) 14 (fun k => N (14 * a + k)) N)) none 2 [some (.ref h), some (.int (nI a)), some (.int (nI b)), some (.int (nI j))] [] (sU σ (ad 20) D) := by
    refine loop_up fun j hj ih => ?_
    intro D hD
    have H : Mo (sU σ (ad 20) D) h ad := H0
    have hC : (sU σ (ad 20) D).2.1 (ad 20) = D := sU_e
    have hDj : j < 447 → D (447 * a + j) = C (447 * a + j) := fun q => by rw [hD]; exact if_neg (by omega)
    refine j_iload_n dX9_copy_2 rfl ?_
    refine j_sipush (v := nI 447) dX9_copy_3 (by decide +kernel) ?_
    first | (with_reducible refine j_gNN ?_; refine j_icmp_geN (tgt := 39) dX9_copy_6 (by decide) (by omega) (by omega) (fun c_6 => ?_) (fun c_6 => ?_)) | refine j_icmp_ge (tgt := 39) dX9_copy_6 (by decide) (fun c_6 => ?_) (fun c_6 => ?_)
    · refine j_iconst (v := nI 0) dX9_copy_39 (by decide +kernel) ?_
      refine j_istore_n dX9_copy_40 (by decide) ?_
      have e : j = 447 := by omega
      subst e
      rw [hD]
      refine j_eq rfl rfl ?_ (key2 0 (by omega) _ rfl)
      rw [cpOL_0, ← hN]
      exact (sUL_self (σ := sU σ (ad 20) _)).symm
    · first | refine j_aload_n dX9_copy_9 rfl ?_ | refine j_aload_nN dX9_copy_9 rfl ?_
      refine j_getR dX9_copy_10 fl_X9_35 rfl (Mo.h H) (Mo.R H _ _ _ rfl) ?_
      refine j_sipush (v := nI 447) dX9_copy_13 (by decide +kernel) ?_
      refine j_iload_n dX9_copy_16 rfl ?_
      first | (with_reducible refine j_gNN ?_; refine j_imulN dX9_copy_17 ?_) | refine j_imul dX9_copy_17 ?_
      refine j_iload_n dX9_copy_18 rfl ?_
      first | (with_reducible refine j_gNN ?_; refine j_iaddN dX9_copy_19 ?_) | refine j_iadd dX9_copy_19 ?_
      first | refine j_aload_n dX9_copy_20 rfl ?_ | refine j_aload_nN dX9_copy_20 rfl ?_
      refine j_getR dX9_copy_21 fl_X9_35 rfl (Mo.h H) (Mo.R H _ _ _ rfl) ?_
      refine j_sipush (v := nI 447) dX9_copy_24 (by decide +kernel) ?_
      refine j_iload_n dX9_copy_27 rfl ?_
      first | (with_reducible refine j_gNN ?_; refine j_imulN dX9_copy_28 ?_) | refine j_imul dX9_copy_28 ?_
      refine j_iload_n dX9_copy_29 rfl ?_
      first | (with_reducible refine j_gNN ?_; refine j_iaddN dX9_copy_30 ?_) | refine j_iadd dX9_copy_30 ?_
      refine j_iald dX9_copy_31 (Mo.S H _ _ _ rfl) rfl (by omega) (by decide) (by first | assumption | (rewrite [hC]; first | assumption | rfl) | rfl) ?_
      rw [hDj (by omega)]
      refine j_iast dX9_copy_32 (Mo.S H _ _ _ rfl) rfl (by omega) (by decide) ?_
      first | refine j_iincN dX9_copy_33 rfl (by decide) ?_ | refine j_iinc dX9_copy_33 rfl rfl (by decide) ?_
      refine j_goto (tgt := 2) dX9_copy_36 (by decide) ?_
      exact j_eq rfl rfl sU_I (ih (by omega) _ (by rw [hD]; exact cpO_s))
  refine j_iconst (v := nI 0) dX9_copy_0 (by decide +kernel) ?_
  refine j_istore_n dX9_copy_1 (by decide) ?_
  exact j_eq rfl rfl (by rw [cpO_0, ← hC0]; exact sU_self.symm) (key 0 (by omega) _ rfl)
/-- an empty block -/
def mEmp (b : Nat) (C : Nat → Int32) : Nat → Int32 := up (up (cpO (447 * b) 447 (fun _ => nI 0) C) (447 * b + 4) (nI 3)) (447 * b + 5) (nI 1)
theorem m_empties (H : Mo σ h ad) (hC0 : σ.2.1 (ad 20) = C) {b : Nat} (hb : b ≤ 4) : Kd g l 0 MX9_empties [.ref h, .int (nI b)] σ none (sU σ (ad 20) (mEmp b C)) := by
  have H0 := H
  refine Kt.go (Y := MX9_empties) (ls := [some (.ref h), some (.int (nI b)), none, none]) (by decide) (Nat.le_of_ble_eq_true rfl) rfl ?_
  have key : ∀ j, j ≤ 447 → ∀ D, D = cpO (447 * b) j (fun _ => nI 0) C → Td g l 0 MX9_empties [.ref h, .int (nI b)] (sU σ (ad 20) (mEmp b C)) none 8 [some (.ref h), some (.int (nI b)), some (.int (nI (447 * b))), some (.int (nI j))] [] (sU σ (ad 20) D) := by
    refine loop_up fun j hj ih => ?_
    intro D hD
    have H : Mo (sU σ (ad 20) D) h ad := H0
    refine j_iload_n dX9_empties_8 rfl ?_
    refine j_sipush (v := nI 447) dX9_empties_9 (by decide +kernel) ?_
    first | (with_reducible refine j_gNN ?_; refine j_icmp_geN (tgt := 30) dX9_empties_12 (by decide) (by omega) (by omega) (fun c_12 => ?_) (fun c_12 => ?_)) | refine j_icmp_ge (tgt := 30) dX9_empties_12 (by decide) (fun c_12 => ?_) (fun c_12 => ?_)
    · first | refine j_aload_n dX9_empties_30 rfl ?_ | refine j_aload_nN dX9_empties_30 rfl ?_
      refine j_getR dX9_empties_31 fl_X9_35 rfl (Mo.h H) (Mo.R H _ _ _ rfl) ?_
      refine j_iload_n dX9_empties_34 rfl ?_
      refine j_iconst (v := nI 4) dX9_empties_35 (by decide +kernel) ?_
      first | (with_reducible refine j_gNN ?_; refine j_iaddN dX9_empties_36 ?_) | refine j_iadd dX9_empties_36 ?_
      refine j_iconst (v := nI 3) dX9_empties_37 (by decide +kernel) ?_
      refine j_iast dX9_empties_38 (Mo.S H _ _ _ rfl) rfl (by omega) (by decide) ?_
      rw [sU_I]
      first | refine j_aload_n dX9_empties_39 rfl ?_ | refine j_aload_nN dX9_empties_39 rfl ?_
      refine j_getR dX9_empties_40 fl_X9_35 rfl (Mo.h H) (Mo.R H _ _ _ rfl) ?_
      refine j_iload_n dX9_empties_43 rfl ?_
      refine j_iconst (v := nI 5) dX9_empties_44 (by decide +kernel) ?_
      first | (with_reducible refine j_gNN ?_; refine j_iaddN dX9_empties_45 ?_) | refine j_iadd dX9_empties_45 ?_
      refine j_iconst (v := nI 1) dX9_empties_46 (by decide +kernel) ?_
      refine j_iast dX9_empties_47 (Mo.S H _ _ _ rfl) rfl (by omega) (by decide) ?_
      rw [sU_I]
      refine j_vret dX9_empties_48 rfl (by omega) (by omega) ?_
      exact ⟨rfl, by rw [hD, show j = 447 by omega, mEmp]⟩
    · first | refine j_aload_n dX9_empties_15 rfl ?_ | refine j_aload_nN dX9_empties_15 rfl ?_
      refine j_getR dX9_empties_16 fl_X9_35 rfl (Mo.h H) (Mo.R H _ _ _ rfl) ?_
      refine j_iload_n dX9_empties_19 rfl ?_
      refine j_iload_n dX9_empties_20 rfl ?_
      first | (with_reducible refine j_gNN ?_; refine j_iaddN dX9_empties_21 ?_) | refine j_iadd dX9_empties_21 ?_
      refine j_iconst (v := nI 0) dX9_empties_22 (by decide +kernel) ?_
      refine j_iast dX9_empties_23 (Mo.S H _ _ _ rfl) rfl (by omega) (by decide) ?_
      first | refine j_iincN dX9_empties_24 rfl (by decide) ?_ | refine j_iinc dX9_empties_24 rfl rfl (by decide) ?_
      refine j_goto (tgt := 8) dX9_empties_27 (by decide) ?_
      exact j_eq rfl rfl sU_I (ih (by omega) _ (by rw [hD]; exact cpO_s))
  refine j_sipush (v := nI 447) dX9_empties_0 (by decide +kernel) ?_
  refine j_iload_n dX9_empties_3 rfl ?_
  first | (with_reducible refine j_gNN ?_; refine j_imulN dX9_empties_4 ?_) | refine j_imul dX9_empties_4 ?_
  refine j_istore_n dX9_empties_5 (by decide) ?_
  refine j_iconst (v := nI 0) dX9_empties_6 (by decide +kernel) ?_
  refine j_istore_n dX9_empties_7 (by decide) ?_
  exact j_eq rfl rfl (by rw [cpO_0, ← hC0]; exact sU_self.symm) (key 0 (by omega) _ rfl)
def plD (C : Nat → Int32) (W w o k : Nat) : Nat → Int32 := if k = W then C else mStrand (mSaysC C w k o) o k
def plPick (first : Bool) (v : Int32) (k : Nat) (s : Int32 × Option Nat) : Int32 × Option Nat := if s.2 ≠ none ∧ (if first then v ≤ s.1 else s.1 ≤ v) then s else (v, some k)
theorem plPick_or {first : Bool} {v : Int32} {k : Nat} {s : Int32 × Option Nat} : plPick first v k s = s ∨ (plPick first v k s).2 = some k := by
  unfold plPick
  by_cases h : s.2 ≠ none ∧ (if first then v ≤ s.1 else s.1 ≤ v)
  · left; rw [if_pos h]
  · right; rw [if_neg h]
def plStep (rec : Bool → (Nat → Int32) → Int32) (W a b : Nat) (first : Bool) (C : Nat → Int32) (k : Nat) (s : Int32 × Option Nat) : Int32 × Option Nat :=
  if k = W ∨ mSaysB C (if first then a else b) k (if first then b else a) = true then
    plPick first (rec (!first) (mGrow (mGrow (plD C W (if first then a else b) (if first then b else a) k) W a) W b)) k s
  else s
theorem plStep_or {rec : Bool → (Nat → Int32) → Int32} {W a b : Nat} {first : Bool} {C : Nat → Int32} {k : Nat} {s : Int32 × Option Nat} : plStep rec W a b first C k s = s ∨ (plStep rec W a b first C k s).2 = some k := by
  unfold plStep
  by_cases h : k = W ∨ mSaysB C (if first then a else b) k (if first then b else a) = true
  · rw [if_pos h]; exact plPick_or
  · left; rw [if_neg h]
/-- a game: what it comes to, the first move -/
def mPlayS (W a b : Nat) : Nat → Bool → (Nat → Int32) → Int32 × Option Nat
  | 0, _, C => (mHair C W b - mHair C W a, none)
  | f + 1, first, C => itr (plStep (fun fi D => (mPlayS W a b f fi D).1) W a b first C) (W + 1) (nI 0, none)
theorem plD_fr {C : Nat → Int32} {W w o k : Nat} (hw : w < 6) (ho : o < 6) (hk : k < 8 ∨ k = W) (hb : k = W ∨ mSaysB C w k o = true) : Fr C (plD C W w o k) := by
  unfold plD
  split
  · exact Fr.rf
  · have : Fr C (mSaysC C w k o) := by
      have := mSays_fr (C := C) (p := w) (k := k) (q := o) hw ho
      rw [mSays, if_pos (hb.resolve_left (by assumption))] at this
      exact this
    exact this.tr (mStrand_fr ho (hk.resolve_right (by assumption)))
theorem oI_lt {o : Option Nat} (h : oI o < 0) (hk : ∀ k, o = some k → k < 100) : o = none := by
  cases o with
  | none => rfl
  | some k => exact absurd h (nI_pos (by have := hk k rfl; omega))
theorem oI_nlt {o : Option Nat} (h : ¬ oI o < 0) : o ≠ none := by
  intro e; rw [e] at h; exact h (by decide +kernel)
theorem plS_lt {rec : Bool → (Nat → Int32) → Int32} {W a b : Nat} {first : Bool} {C : Nat → Int32} : ∀ n k, (itr (plStep rec W a b first C) n (nI 0, none)).2 = some k → k < n := by
  intro n
  induction n with
  | zero => intro k h; cases h
  | succ n ih =>
    intro k h
    rw [itr] at h
    rcases plStep_or (rec := rec) (W := W) (a := a) (b := b) (first := first) (C := C) (k := n) (s := itr (plStep rec W a b first C) n (nI 0, none)) with e | e
    · rw [e] at h; exact Nat.lt_succ_of_lt (ih k h)
    · rw [e] at h; cases h; omega
def plQ (σ : Sg) (h : Nat) (ad : Nat → Nat) (T : Nat → Int32) (t f : Nat) (s : Int32 × Option Nat) (r : Option Value) (τ : Sg) : Prop := ∃ T' x, r = some (.int s.1) ∧ τ = sI (sU σ (ad 32) T') h 33 x ∧ (∀ i, i < 175 * t → T' i = T i) ∧ (t ≠ 0 → x = σ.2.1 h 33) ∧ (t = 0 → f ≠ 0 → x = oI s.2)
theorem par4 : ∀ t, t < 4 → ((nI t - nI t / nI 2 * nI 2 = 0) ↔ t % 2 = 0) := by decide +kernel
theorem sI_self {σ : Sg} {a k : Nat} {x : Int32} (hx : x = σ.2.1 a k) : sI σ a k x = σ := by
  subst hx
  unfold sI
  rw [up_self, up_self]
theorem m_plays {W a b turns : Nat} (hW8 : W ≤ 8) (ha : a < 6) (hb : b < 6) (htu : turns ≤ 3) : ∀ (f t : Nat), t + f = turns → ∀ {σ : Sg}, Mo σ h ad → ∀ {C : Nat → Int32}, σ.2.1 (ad 20) = C → C 0 = nI W → ∀ {T : Nat → Int32}, σ.2.1 (ad 32) = T →
    Kt g l (3 + f) MX9_plays [.ref h, .int (nI a), .int (nI b), .int (nI t), .int (nI turns)] σ 0 0 (plQ σ h ad T t f (mPlayS W a b f (decide (t % 2 = 0)) C)) (fun _ _ _ => False) := by
  intro f
  induction f with
  | zero =>
    intro t ht σ H C hC hW T hT
    have e : t = turns := by omega
    subst e
    refine Kt.go (Y := MX9_plays) (ls := [some (.ref h), some (.int (nI a)), some (.int (nI b)), some (.int (nI t)), some (.int (nI t)), none, none, none, none, none, none, none, none]) (by decide) (Nat.le_of_ble_eq_true rfl) rfl ?_
    refine j_iload_n dX9_plays_0 rfl ?_
    refine j_iload dX9_plays_1 rfl ?_
    first | (with_reducible refine j_gNN ?_; refine j_icmp_neN (tgt := 18) dX9_plays_3 (by decide) (by omega) (by omega) (fun c_3 => ?_) (fun c_3 => ?_)) | refine j_icmp_ne (tgt := 18) dX9_plays_3 (by decide) (fun c_3 => ?_) (fun c_3 => ?_)
    · exact absurd rfl c_3
    · first | refine j_aload_n dX9_plays_6 rfl ?_ | refine j_aload_nN dX9_plays_6 rfl ?_
      refine j_iload_n dX9_plays_7 rfl ?_
      refine j_dV1 kl_X9_320 (m_hairOf H hC hW hW8 hb) dX9_plays_8 rfl rfl (by decide) (Mo.h H) (Nat.le_of_ble_eq_true rfl) (by first | decide | omega) (by omega) (by omega) ?_
      first | refine j_aload_n dX9_plays_11 rfl ?_ | refine j_aload_nN dX9_plays_11 rfl ?_
      refine j_iload_n dX9_plays_12 rfl ?_
      refine j_dV1 kl_X9_320 (m_hairOf H hC hW hW8 ha) dX9_plays_13 rfl rfl (by decide) (Mo.h H) (Nat.le_of_ble_eq_true rfl) (by first | decide | omega) (by omega) (by omega) ?_
      refine j_isub dX9_plays_16 ?_
      refine j_iret dX9_plays_17 ⟨_, rfl, rfl⟩ (by omega) (by omega) ?_
      refine ⟨T, σ.2.1 h 33, rfl, ?_, fun _ _ => rfl, fun _ => rfl, fun _ q => absurd rfl q⟩
      rw [← hT, sU_self]
      exact (sI_self rfl).symm
  | succ f ihf =>
    intro t ht σ H C hC hW T hT
    have ne1 : h ≠ ad 32 := Ne.symm (Mo.nh H (i := 32) rfl)
    have ne2 : ad 20 ≠ ad 32 := Mo.ne H (by decide) (by decide) (by decide)
    have ne3 : h ≠ ad 20 := Ne.symm (Mo.nh H (i := 20) rfl)
    have H0 := H
    have hCs := hC
    generalize hfi : decide (t % 2 = 0) = first
    generalize hst : plStep (fun fi D => (mPlayS W a b f fi D).1) W a b first C = stp
    have hwo : (if first then a else b) < 6 := by split <;> assumption
    have hoo : (if first then b else a) < 6 := by split <;> assumption
    refine Kt.go (Y := MX9_plays) (ls := [some (.ref h), some (.int (nI a)), some (.int (nI b)), some (.int (nI t)), some (.int (nI turns)), none, none, none, none, none, none, none, none]) (by decide) (Nat.le_of_ble_eq_true rfl) rfl ?_
    have key : ∀ k, k ≤ W + 1 → ∀ s T1 x11 x12, s = itr stp k (nI 0, none) → (∀ i, i < 175 → T1 (175 * t + i) = C i) → (∀ i, i < 175 * t → T1 i = T i) → Tj g l (3 + (f + 1)) MX9_plays [.ref h, .int (nI a), .int (nI b), .int (nI t), .int (nI turns)] 0 0 (plQ σ h ad T t (f + 1) (itr stp (W + 1) (nI 0, none))) (fun _ _ _ => False) 0 0 69 [some (.ref h), some (.int (nI a)), some (.int (nI b)), some (.int (nI t)), some (.int (nI turns)), some (.int (bI first)), some (.int (nI (if first then a else b))), some (.int (nI (if first then b else a))), some (.int s.1), some (.int (oI s.2)), some (.int (nI k)), x11, x12] [] (sU σ (ad 32) T1) := by
      refine loop_up fun k hk ihk => ?_
      intro s T1 x11 x12 hs hT1 hT0
      have H : Mo (sU σ (ad 32) T1) h ad := H0
      have hC : (sU σ (ad 32) T1).2.1 (ad 20) = C := (sU_n ne2).trans hC
      have e1 : itr stp (k + 1) (nI 0, none) = stp k s := by rw [itr, ← hs]
      have hsl : ∀ i, s.2 = some i → i < 100 := fun i q => by
        rw [hs, ← hst] at q
        have := plS_lt _ _ q
        omega
      have rest : k < W + 1 → (k = W ∨ mSaysB C (if first then a else b) k (if first then b else a) = true) → ∀ D y11, D = plD C W (if first then a else b) (if first then b else a) k → Tj g l (3 + (f + 1)) MX9_plays [.ref h, .int (nI a), .int (nI b), .int (nI t), .int (nI turns)] 0 0 (plQ σ h ad T t (f + 1) (itr stp (W + 1) (nI 0, none))) (fun _ _ _ => False) 0 0 132 [some (.ref h), some (.int (nI a)), some (.int (nI b)), some (.int (nI t)), some (.int (nI turns)), some (.int (bI first)), some (.int (nI (if first then a else b))), some (.int (nI (if first then b else a))), some (.int s.1), some (.int (oI s.2)), some (.int (nI k)), some (.int y11), x12] [] (sU (sU σ (ad 32) T1) (ad 20) D) := by
        intro hkW hbr D y11 hD
        have H : Mo (sU (sU σ (ad 32) T1) (ad 20) D) h ad := H0
        have hC1 : (sU (sU σ (ad 32) T1) (ad 20) D).2.1 (ad 20) = D := sU_e
        have f1 : Fr C D := by rw [hD]; exact plD_fr hwo hoo (by omega) hbr
        have f2 : Fr C (mGrow D W a) := f1.tr (mGrow_fr ha W hW8)
        have f3 : Fr C (mGrow (mGrow D W a) W b) := f2.tr (mGrow_fr hb W hW8)
        generalize hE : mGrow (mGrow D W a) W b = E at f3
        have es : stp k s = plPick first (mPlayS W a b f (!first) E).1 k s := by rw [← hst, plStep, if_pos hbr, ← hD, hE]
        have hfn : decide ((t + 1) % 2 = 0) = !first := by
          rw [← hfi]
          by_cases q : t % 2 = 0
          · rw [decide_eq_true q, decide_eq_false (by omega)]; rfl
          · rw [decide_eq_false q, decide_eq_true (by omega)]; rfl
        have ih2 := ihf (t + 1) (by omega) (σ := sU (sU σ (ad 32) T1) (ad 20) E) H0 (C := E) sU_e ((f3 0 (by omega)).trans hW) (T := T1) ((sU_n (Ne.symm ne2)).trans sU_e)
        rw [hfn] at ih2
        first | refine j_aload_n dX9_plays_132 rfl ?_ | refine j_aload_nN dX9_plays_132 rfl ?_
        refine j_iload_n dX9_plays_133 rfl ?_
        refine j_dV0 kl_X9_373 (m_grows H hC1 ((f1 0 (by omega)).trans hW) hW8 ha) dX9_plays_134 rfl rfl (by decide) (Mo.h H) (Nat.le_of_ble_eq_true rfl) (by first | decide | omega) (by omega) (by omega) ?_
        rw [sU_U]
        first | refine j_aload_n dX9_plays_137 rfl ?_ | refine j_aload_nN dX9_plays_137 rfl ?_
        refine j_iload_n dX9_plays_138 rfl ?_
        refine j_dV0 kl_X9_373 (m_grows (σ := sU (sU σ (ad 32) T1) (ad 20) (mGrow D W a)) H0 sU_e ((f2 0 (by omega)).trans hW) hW8 hb) dX9_plays_139 rfl rfl (by decide) (Mo.h H) (Nat.le_of_ble_eq_true rfl) (by first | decide | omega) (by omega) (by omega) ?_
        rw [sU_U, hE]
        first | refine j_aload_n dX9_plays_142 rfl ?_ | refine j_aload_nN dX9_plays_142 rfl ?_
        refine j_iload_n dX9_plays_143 rfl ?_
        refine j_iload_n dX9_plays_144 rfl ?_
        refine j_iload_n dX9_plays_145 rfl ?_
        refine j_iconst (v := nI 1) dX9_plays_146 (by decide +kernel) ?_
        first | (with_reducible refine j_gNN ?_; refine j_iaddN dX9_plays_147 ?_) | refine j_iadd dX9_plays_147 ?_
        refine j_iload dX9_plays_148 rfl ?_
        refine j_callV kl_X9_497 (ih2) dX9_plays_150 rfl rfl (by decide) (Mo.h H) (Nat.le_of_ble_eq_true rfl) (by first | decide | omega) (by omega) (by omega) (fun v τ hq => ?_) (fun _ _ _ hq => hq.elim)
        obtain ⟨T2, x, rfl, rfl, hT2, hx, -⟩ := hq
        rw [hx (by omega)]
        have hT2' : ∀ i, i < 175 * t → T2 i = T i := fun i q => (hT2 i (by omega)).trans (hT0 i q)
        have hT2C : ∀ i, i < 175 → T2 (175 * t + i) = C i := fun i q => (hT2 _ (by omega)).trans (hT1 i q)
        refine j_eq (σ' := sU (sU σ (ad 32) T2) (ad 20) E) rfl rfl ?_ ?_
        · rw [sI_self (by rw [sU_n ne1]), sU_comm ne2, sU_U]
        refine j_istore dX9_plays_153 (by decide) ?_
        first | refine j_aload_n dX9_plays_155 rfl ?_ | refine j_aload_nN dX9_plays_155 rfl ?_
        refine j_iload_n dX9_plays_156 rfl ?_
        refine j_dV0 kl_X9_501 (m_takesTurn (σ := sU (sU σ (ad 32) T2) (ad 20) E) H0 sU_e (T := T2) ((sU_n (Ne.symm ne2)).trans sU_e) (by omega)) dX9_plays_157 rfl rfl (by decide) (Mo.h H) (Nat.le_of_ble_eq_true rfl) (by first | decide | omega) (by omega) (by omega) ?_
        have eC : cpN 175 (fun k => T2 (175 * t + k)) E = C := by
          funext i
          unfold cpN
          split
          · exact hT2C i (by assumption)
          · exact f3 i (by omega)
        refine j_eq (σ' := sU σ (ad 32) T2) rfl rfl ?_ ?_
        · rw [sU_U, eC, ← sU_n (σ := σ) (f := T2) ne2 |>.trans hCs]; exact sU_self
        refine j_iload dX9_plays_160 rfl ?_
        first | (with_reducible refine j_gC ?_; refine j_if_ltC (tgt := 190) dX9_plays_162 (by decide) (fun c_162 => ?_) (fun c_162 => ?_)) | refine j_if_lt (tgt := 190) dX9_plays_162 (by decide) (fun c_162 => ?_) (fun c_162 => ?_)
        · refine j_iload dX9_plays_190 rfl ?_
          refine j_istore dX9_plays_192 (by decide) ?_
          refine j_iload dX9_plays_194 rfl ?_
          refine j_istore dX9_plays_196 (by decide) ?_
          first | refine j_iincN dX9_plays_198 rfl (by decide) ?_ | refine j_iinc dX9_plays_198 rfl rfl (by decide) ?_
          refine j_goto (tgt := 69) dX9_plays_201 (by decide) ?_
          have pk : ∀ s', s' = plPick first (mPlayS W a b f (!first) E).1 k s → s' = itr stp (k + 1) (nI 0, none) := fun s' z => z.trans (e1.trans es).symm
          first
          | (have z := oI_lt c_162 hsl
             exact ihk (by omega) ((mPlayS W a b f (!first) E).1, some k) T2 _ _ (pk _ (if_neg (fun q => q.1 z)).symm) hT2C hT2')
          | (have z := Int32.not_le.mpr c_184
             have y : ¬ first = true := by rw [c_167]; decide
             exact ihk (by omega) ((mPlayS W a b f (!first) E).1, some k) T2 _ _ (pk _ (if_neg (fun q => z (by have q2 := q.2; rw [if_neg y] at q2; exact q2))).symm) hT2C hT2')
          | (have z := Int32.not_le.mpr c_174
             exact ihk (by omega) ((mPlayS W a b f (!first) E).1, some k) T2 _ _ (pk _ (if_neg (fun q => z (by have q2 := q.2; rw [if_pos c_167] at q2; exact q2))).symm) hT2C hT2')
          | (have z := Int32.not_lt.mp c_184
             have y : ¬ first = true := by rw [c_167]; decide
             exact ihk (by omega) s T2 _ _ (pk _ (if_pos ⟨oI_nlt c_162, by rw [if_neg y]; exact z⟩).symm) hT2C hT2')
          | (have z := Int32.not_lt.mp c_174
             exact ihk (by omega) s T2 _ _ (pk _ (if_pos ⟨oI_nlt c_162, by rw [if_pos c_167]; exact z⟩).symm) hT2C hT2')
        · refine j_iload dX9_plays_165 rfl ?_
          first | (with_reducible refine j_gB ?_; refine j_if_eqB (tgt := 180) dX9_plays_167 (by decide) (fun c_167 => ?_) (fun c_167 => ?_)) | (with_reducible refine j_gC ?_; refine j_if_eqC (tgt := 180) dX9_plays_167 (by decide) (fun c_167 => ?_) (fun c_167 => ?_)) | (with_reducible refine j_gN ?_; refine j_if_eqN (tgt := 180) dX9_plays_167 (by decide) (by omega) (fun c_167 => ?_) (fun c_167 => ?_)) | refine j_if_eq (tgt := 180) dX9_plays_167 (by decide) (fun c_167 => ?_) (fun c_167 => ?_)
          · refine j_iload dX9_plays_180 rfl ?_
            refine j_iload dX9_plays_182 rfl ?_
            first | (with_reducible refine j_gNN ?_; refine j_icmp_ltN (tgt := 190) dX9_plays_184 (by decide) (by omega) (by omega) (fun c_184 => ?_) (fun c_184 => ?_)) | refine j_icmp_lt (tgt := 190) dX9_plays_184 (by decide) (fun c_184 => ?_) (fun c_184 => ?_)
            · refine j_iload dX9_plays_190 rfl ?_
              refine j_istore dX9_plays_192 (by decide) ?_
              refine j_iload dX9_plays_194 rfl ?_
              refine j_istore dX9_plays_196 (by decide) ?_
              first | refine j_iincN dX9_plays_198 rfl (by decide) ?_ | refine j_iinc dX9_plays_198 rfl rfl (by decide) ?_
              refine j_goto (tgt := 69) dX9_plays_201 (by decide) ?_
              have pk : ∀ s', s' = plPick first (mPlayS W a b f (!first) E).1 k s → s' = itr stp (k + 1) (nI 0, none) := fun s' z => z.trans (e1.trans es).symm
              first
              | (have z := oI_lt c_162 hsl
                 exact ihk (by omega) ((mPlayS W a b f (!first) E).1, some k) T2 _ _ (pk _ (if_neg (fun q => q.1 z)).symm) hT2C hT2')
              | (have z := Int32.not_le.mpr c_184
                 have y : ¬ first = true := by rw [c_167]; decide
                 exact ihk (by omega) ((mPlayS W a b f (!first) E).1, some k) T2 _ _ (pk _ (if_neg (fun q => z (by have q2 := q.2; rw [if_neg y] at q2; exact q2))).symm) hT2C hT2')
              | (have z := Int32.not_le.mpr c_174
                 exact ihk (by omega) ((mPlayS W a b f (!first) E).1, some k) T2 _ _ (pk _ (if_neg (fun q => z (by have q2 := q.2; rw [if_pos c_167] at q2; exact q2))).symm) hT2C hT2')
              | (have z := Int32.not_lt.mp c_184
                 have y : ¬ first = true := by rw [c_167]; decide
                 exact ihk (by omega) s T2 _ _ (pk _ (if_pos ⟨oI_nlt c_162, by rw [if_neg y]; exact z⟩).symm) hT2C hT2')
              | (have z := Int32.not_lt.mp c_174
                 exact ihk (by omega) s T2 _ _ (pk _ (if_pos ⟨oI_nlt c_162, by rw [if_pos c_167]; exact z⟩).symm) hT2C hT2')
            · refine j_goto (tgt := 198) dX9_plays_187 (by decide) ?_
              first | refine j_iincN dX9_plays_198 rfl (by decide) ?_ | refine j_iinc dX9_plays_198 rfl rfl (by decide) ?_
              refine j_goto (tgt := 69) dX9_plays_201 (by decide) ?_
              have pk : ∀ s', s' = plPick first (mPlayS W a b f (!first) E).1 k s → s' = itr stp (k + 1) (nI 0, none) := fun s' z => z.trans (e1.trans es).symm
              first
              | (have z := oI_lt c_162 hsl
                 exact ihk (by omega) ((mPlayS W a b f (!first) E).1, some k) T2 _ _ (pk _ (if_neg (fun q => q.1 z)).symm) hT2C hT2')
              | (have z := Int32.not_le.mpr c_184
                 have y : ¬ first = true := by rw [c_167]; decide
                 exact ihk (by omega) ((mPlayS W a b f (!first) E).1, some k) T2 _ _ (pk _ (if_neg (fun q => z (by have q2 := q.2; rw [if_neg y] at q2; exact q2))).symm) hT2C hT2')
              | (have z := Int32.not_le.mpr c_174
                 exact ihk (by omega) ((mPlayS W a b f (!first) E).1, some k) T2 _ _ (pk _ (if_neg (fun q => z (by have q2 := q.2; rw [if_pos c_167] at q2; exact q2))).symm) hT2C hT2')
              | (have z := Int32.not_lt.mp c_184
                 have y : ¬ first = true := by rw [c_167]; decide
                 exact ihk (by omega) s T2 _ _ (pk _ (if_pos ⟨oI_nlt c_162, by rw [if_neg y]; exact z⟩).symm) hT2C hT2')
              | (have z := Int32.not_lt.mp c_174
                 exact ihk (by omega) s T2 _ _ (pk _ (if_pos ⟨oI_nlt c_162, by rw [if_pos c_167]; exact z⟩).symm) hT2C hT2')
          · refine j_iload dX9_plays_170 rfl ?_
            refine j_iload dX9_plays_172 rfl ?_
            first | (with_reducible refine j_gNN ?_; refine j_icmp_gtN (tgt := 190) dX9_plays_174 (by decide) (by omega) (by omega) (fun c_174 => ?_) (fun c_174 => ?_)) | refine j_icmp_gt (tgt := 190) dX9_plays_174 (by decide) (fun c_174 => ?_) (fun c_174 => ?_)
            · refine j_iload dX9_plays_190 rfl ?_
              refine j_istore dX9_plays_192 (by decide) ?_
              refine j_iload dX9_plays_194 rfl ?_
              refine j_istore dX9_plays_196 (by decide) ?_
              first | refine j_iincN dX9_plays_198 rfl (by decide) ?_ | refine j_iinc dX9_plays_198 rfl rfl (by decide) ?_
              refine j_goto (tgt := 69) dX9_plays_201 (by decide) ?_
              have pk : ∀ s', s' = plPick first (mPlayS W a b f (!first) E).1 k s → s' = itr stp (k + 1) (nI 0, none) := fun s' z => z.trans (e1.trans es).symm
              first
              | (have z := oI_lt c_162 hsl
                 exact ihk (by omega) ((mPlayS W a b f (!first) E).1, some k) T2 _ _ (pk _ (if_neg (fun q => q.1 z)).symm) hT2C hT2')
              | (have z := Int32.not_le.mpr c_184
                 have y : ¬ first = true := by rw [c_167]; decide
                 exact ihk (by omega) ((mPlayS W a b f (!first) E).1, some k) T2 _ _ (pk _ (if_neg (fun q => z (by have q2 := q.2; rw [if_neg y] at q2; exact q2))).symm) hT2C hT2')
              | (have z := Int32.not_le.mpr c_174
                 exact ihk (by omega) ((mPlayS W a b f (!first) E).1, some k) T2 _ _ (pk _ (if_neg (fun q => z (by have q2 := q.2; rw [if_pos c_167] at q2; exact q2))).symm) hT2C hT2')
              | (have z := Int32.not_lt.mp c_184
                 have y : ¬ first = true := by rw [c_167]; decide
                 exact ihk (by omega) s T2 _ _ (pk _ (if_pos ⟨oI_nlt c_162, by rw [if_neg y]; exact z⟩).symm) hT2C hT2')
              | (have z := Int32.not_lt.mp c_174
                 exact ihk (by omega) s T2 _ _ (pk _ (if_pos ⟨oI_nlt c_162, by rw [if_pos c_167]; exact z⟩).symm) hT2C hT2')
            · refine j_goto (tgt := 198) dX9_plays_177 (by decide) ?_
              first | refine j_iincN dX9_plays_198 rfl (by decide) ?_ | refine j_iinc dX9_plays_198 rfl rfl (by decide) ?_
              refine j_goto (tgt := 69) dX9_plays_201 (by decide) ?_
              have pk : ∀ s', s' = plPick first (mPlayS W a b f (!first) E).1 k s → s' = itr stp (k + 1) (nI 0, none) := fun s' z => z.trans (e1.trans es).symm
              first
              | (have z := oI_lt c_162 hsl
                 exact ihk (by omega) ((mPlayS W a b f (!first) E).1, some k) T2 _ _ (pk _ (if_neg (fun q => q.1 z)).symm) hT2C hT2')
              | (have z := Int32.not_le.mpr c_184
                 have y : ¬ first = true := by rw [c_167]; decide
                 exact ihk (by omega) ((mPlayS W a b f (!first) E).1, some k) T2 _ _ (pk _ (if_neg (fun q => z (by have q2 := q.2; rw [if_neg y] at q2; exact q2))).symm) hT2C hT2')
              | (have z := Int32.not_le.mpr c_174
                 exact ihk (by omega) ((mPlayS W a b f (!first) E).1, some k) T2 _ _ (pk _ (if_neg (fun q => z (by have q2 := q.2; rw [if_pos c_167] at q2; exact q2))).symm) hT2C hT2')
              | (have z := Int32.not_lt.mp c_184
                 have y : ¬ first = true := by rw [c_167]; decide
                 exact ihk (by omega) s T2 _ _ (pk _ (if_pos ⟨oI_nlt c_162, by rw [if_neg y]; exact z⟩).symm) hT2C hT2')
              | (have z := Int32.not_lt.mp c_174
                 exact ihk (by omega) s T2 _ _ (pk _ (if_pos ⟨oI_nlt c_162, by rw [if_pos c_167]; exact z⟩).symm) hT2C hT2')
      have hW' := (congrFun hC 0).trans hW
      rcases (show k < W ∨ k = W ∨ k = W + 1 by omega) with q | q | q
      · refine j_iload dX9_plays_69 rfl ?_
        first | refine j_aload_n dX9_plays_71 rfl ?_ | refine j_aload_nN dX9_plays_71 rfl ?_
        refine j_getR dX9_plays_72 fl_X9_35 rfl (Mo.h H) (Mo.R H _ _ _ rfl) ?_
        refine j_iconst (v := nI 0) dX9_plays_75 (by decide +kernel) ?_
        refine j_iald dX9_plays_76 (Mo.S H _ _ _ rfl) rfl (by omega) (by decide) (by first | assumption | (rewrite [hC]; first | assumption | rfl) | rfl) ?_
        first | (with_reducible refine j_gNN ?_; refine j_icmp_gtN (tgt := 204) dX9_plays_77 (by decide) (by omega) (by omega) (fun c_77 => ?_) (fun c_77 => ?_)) | refine j_icmp_gt (tgt := 204) dX9_plays_77 (by decide) (fun c_77 => ?_) (fun c_77 => ?_)
        · omega
        · refine j_iload dX9_plays_80 rfl ?_
          first | refine j_aload_n dX9_plays_82 rfl ?_ | refine j_aload_nN dX9_plays_82 rfl ?_
          refine j_getR dX9_plays_83 fl_X9_35 rfl (Mo.h H) (Mo.R H _ _ _ rfl) ?_
          refine j_iconst (v := nI 0) dX9_plays_86 (by decide +kernel) ?_
          refine j_iald dX9_plays_87 (Mo.S H _ _ _ rfl) rfl (by omega) (by decide) (by first | assumption | (rewrite [hC]; first | assumption | rfl) | rfl) ?_
          first | (with_reducible refine j_gNN ?_; refine j_icmp_neN (tgt := 95) dX9_plays_88 (by decide) (by omega) (by omega) (fun c_88 => ?_) (fun c_88 => ?_)) | refine j_icmp_ne (tgt := 95) dX9_plays_88 (by decide) (fun c_88 => ?_) (fun c_88 => ?_)
          · refine j_iconst (v := nI 0) dX9_plays_95 (by decide +kernel) ?_
            refine j_istore dX9_plays_96 (by decide) ?_
            refine j_iload dX9_plays_98 rfl ?_
            first | (with_reducible refine j_gB ?_; refine j_if_neB (tgt := 119) dX9_plays_100 (by decide) (fun c_100 => ?_) (fun c_100 => ?_)) | (with_reducible refine j_gC ?_; refine j_if_neC (tgt := 119) dX9_plays_100 (by decide) (fun c_100 => ?_) (fun c_100 => ?_)) | (with_reducible refine j_gN ?_; refine j_if_neN (tgt := 119) dX9_plays_100 (by decide) (by omega) (fun c_100 => ?_) (fun c_100 => ?_)) | refine j_if_ne (tgt := 119) dX9_plays_100 (by decide) (fun c_100 => ?_) (fun c_100 => ?_)
            · exact absurd rfl c_100
            · first | refine j_aload_n dX9_plays_103 rfl ?_ | refine j_aload_nN dX9_plays_103 rfl ?_
              refine j_iload dX9_plays_104 rfl ?_
              refine j_iload dX9_plays_106 rfl ?_
              refine j_iload dX9_plays_108 rfl ?_
              refine j_dV1 kl_X9_369 (m_says H hC hwo hoo) dX9_plays_110 rfl rfl (by decide) (Mo.h H) (Nat.le_of_ble_eq_true rfl) (by first | decide | omega) (by omega) (by omega) ?_
              first | (with_reducible refine j_gB ?_; refine j_if_neB (tgt := 119) dX9_plays_113 (by decide) (fun c_113 => ?_) (fun c_113 => ?_)) | (with_reducible refine j_gC ?_; refine j_if_neC (tgt := 119) dX9_plays_113 (by decide) (fun c_113 => ?_) (fun c_113 => ?_)) | (with_reducible refine j_gN ?_; refine j_if_neN (tgt := 119) dX9_plays_113 (by decide) (by omega) (fun c_113 => ?_) (fun c_113 => ?_)) | refine j_if_ne (tgt := 119) dX9_plays_113 (by decide) (fun c_113 => ?_) (fun c_113 => ?_)
              · refine j_iload dX9_plays_119 rfl ?_
                first | (with_reducible refine j_gB ?_; refine j_if_neB (tgt := 132) dX9_plays_121 (by decide) (fun c_121 => ?_) (fun c_121 => ?_)) | (with_reducible refine j_gC ?_; refine j_if_neC (tgt := 132) dX9_plays_121 (by decide) (fun c_121 => ?_) (fun c_121 => ?_)) | (with_reducible refine j_gN ?_; refine j_if_neN (tgt := 132) dX9_plays_121 (by decide) (by omega) (fun c_121 => ?_) (fun c_121 => ?_)) | refine j_if_ne (tgt := 132) dX9_plays_121 (by decide) (fun c_121 => ?_) (fun c_121 => ?_)
                · exact absurd rfl c_121
                · first | refine j_aload_n dX9_plays_124 rfl ?_ | refine j_aload_nN dX9_plays_124 rfl ?_
                  refine j_iload dX9_plays_125 rfl ?_
                  refine j_iload dX9_plays_127 rfl ?_
                  refine j_dV0 kl_X9_384 (m_strandIs (σ := sU (sU σ (ad 32) T1) (ad 20) (mSays C (if first then a else b) k (if first then b else a))) H0 sU_e hoo (by omega)) dX9_plays_129 rfl rfl (by decide) (Mo.h H) (Nat.le_of_ble_eq_true rfl) (by first | decide | omega) (by omega) (by omega) ?_
                  rw [sU_U, mSays, if_pos c_113]
                  exact rest (by omega) (Or.inr c_113) _ _ (if_neg (show ¬ k = W by omega)).symm
              · refine j_goto (tgt := 198) dX9_plays_116 (by decide) ?_
                first | refine j_iincN dX9_plays_198 rfl (by decide) ?_ | refine j_iinc dX9_plays_198 rfl rfl (by decide) ?_
                refine j_goto (tgt := 69) dX9_plays_201 (by decide) ?_
                refine j_eq rfl rfl (σ' := sU σ (ad 32) T1) ?_ (ihk (by omega) s T1 _ _ ?_ hT1 hT0)
                · rw [mSays, if_neg (by rw [c_113]; decide)]
                  conv => lhs; rw [← hC]
                  exact sU_self
                · rw [e1, ← hst, plStep, if_neg (fun z => z.elim (by omega) (fun z => by rw [c_113] at z; exact absurd z (by decide)))]
          · omega
      · refine j_iload dX9_plays_69 rfl ?_
        first | refine j_aload_n dX9_plays_71 rfl ?_ | refine j_aload_nN dX9_plays_71 rfl ?_
        refine j_getR dX9_plays_72 fl_X9_35 rfl (Mo.h H) (Mo.R H _ _ _ rfl) ?_
        refine j_iconst (v := nI 0) dX9_plays_75 (by decide +kernel) ?_
        refine j_iald dX9_plays_76 (Mo.S H _ _ _ rfl) rfl (by omega) (by decide) (by first | assumption | (rewrite [hC]; first | assumption | rfl) | rfl) ?_
        first | (with_reducible refine j_gNN ?_; refine j_icmp_gtN (tgt := 204) dX9_plays_77 (by decide) (by omega) (by omega) (fun c_77 => ?_) (fun c_77 => ?_)) | refine j_icmp_gt (tgt := 204) dX9_plays_77 (by decide) (fun c_77 => ?_) (fun c_77 => ?_)
        · omega
        · refine j_iload dX9_plays_80 rfl ?_
          first | refine j_aload_n dX9_plays_82 rfl ?_ | refine j_aload_nN dX9_plays_82 rfl ?_
          refine j_getR dX9_plays_83 fl_X9_35 rfl (Mo.h H) (Mo.R H _ _ _ rfl) ?_
          refine j_iconst (v := nI 0) dX9_plays_86 (by decide +kernel) ?_
          refine j_iald dX9_plays_87 (Mo.S H _ _ _ rfl) rfl (by omega) (by decide) (by first | assumption | (rewrite [hC]; first | assumption | rfl) | rfl) ?_
          first | (with_reducible refine j_gNN ?_; refine j_icmp_neN (tgt := 95) dX9_plays_88 (by decide) (by omega) (by omega) (fun c_88 => ?_) (fun c_88 => ?_)) | refine j_icmp_ne (tgt := 95) dX9_plays_88 (by decide) (fun c_88 => ?_) (fun c_88 => ?_)
          · omega
          · refine j_iconst (v := nI 1) dX9_plays_91 (by decide +kernel) ?_
            refine j_goto (tgt := 96) dX9_plays_92 (by decide) ?_
            refine j_istore dX9_plays_96 (by decide) ?_
            refine j_iload dX9_plays_98 rfl ?_
            first | (with_reducible refine j_gB ?_; refine j_if_neB (tgt := 119) dX9_plays_100 (by decide) (fun c_100 => ?_) (fun c_100 => ?_)) | (with_reducible refine j_gC ?_; refine j_if_neC (tgt := 119) dX9_plays_100 (by decide) (fun c_100 => ?_) (fun c_100 => ?_)) | (with_reducible refine j_gN ?_; refine j_if_neN (tgt := 119) dX9_plays_100 (by decide) (by omega) (fun c_100 => ?_) (fun c_100 => ?_)) | refine j_if_ne (tgt := 119) dX9_plays_100 (by decide) (fun c_100 => ?_) (fun c_100 => ?_)
            · refine j_iload dX9_plays_119 rfl ?_
              first | (with_reducible refine j_gB ?_; refine j_if_neB (tgt := 132) dX9_plays_121 (by decide) (fun c_121 => ?_) (fun c_121 => ?_)) | (with_reducible refine j_gC ?_; refine j_if_neC (tgt := 132) dX9_plays_121 (by decide) (fun c_121 => ?_) (fun c_121 => ?_)) | (with_reducible refine j_gN ?_; refine j_if_neN (tgt := 132) dX9_plays_121 (by decide) (by omega) (fun c_121 => ?_) (fun c_121 => ?_)) | refine j_if_ne (tgt := 132) dX9_plays_121 (by decide) (fun c_121 => ?_) (fun c_121 => ?_)
              · refine j_eq rfl rfl (σ' := sU (sU σ (ad 32) T1) (ad 20) C) ?_ (rest (by omega) (Or.inl q) C _ (by rw [plD, if_pos q]))
                conv => rhs; rw [← hC]
                exact sU_self.symm
              · exact absurd c_121 (by decide +kernel)
            · exact absurd c_100 (by decide +kernel)
      · subst q
        refine j_iload dX9_plays_69 rfl ?_
        first | refine j_aload_n dX9_plays_71 rfl ?_ | refine j_aload_nN dX9_plays_71 rfl ?_
        refine j_getR dX9_plays_72 fl_X9_35 rfl (Mo.h H) (Mo.R H _ _ _ rfl) ?_
        refine j_iconst (v := nI 0) dX9_plays_75 (by decide +kernel) ?_
        refine j_iald dX9_plays_76 (Mo.S H _ _ _ rfl) rfl (by omega) (by decide) (by first | assumption | (rewrite [hC]; first | assumption | rfl) | rfl) ?_
        first | (with_reducible refine j_gNN ?_; refine j_icmp_gtN (tgt := 204) dX9_plays_77 (by decide) (by omega) (by omega) (fun c_77 => ?_) (fun c_77 => ?_)) | refine j_icmp_gt (tgt := 204) dX9_plays_77 (by decide) (fun c_77 => ?_) (fun c_77 => ?_)
        · refine j_iload_n dX9_plays_204 rfl ?_
          first | (with_reducible refine j_gB ?_; refine j_if_neB (tgt := 214) dX9_plays_205 (by decide) (fun c_205 => ?_) (fun c_205 => ?_)) | (with_reducible refine j_gC ?_; refine j_if_neC (tgt := 214) dX9_plays_205 (by decide) (fun c_205 => ?_) (fun c_205 => ?_)) | (with_reducible refine j_gN ?_; refine j_if_neN (tgt := 214) dX9_plays_205 (by decide) (by omega) (fun c_205 => ?_) (fun c_205 => ?_)) | refine j_if_ne (tgt := 214) dX9_plays_205 (by decide) (fun c_205 => ?_) (fun c_205 => ?_)
          · refine j_iload dX9_plays_214 rfl ?_
            refine j_iret dX9_plays_216 ⟨_, rfl, rfl⟩ (by omega) (by omega) ?_
            first
            | (have z : t ≠ 0 := c_205
               exact ⟨T1, (sU σ (ad 32) T1).2.1 h 33, by rw [← hs], (sI_self rfl).symm, hT0, fun _ => congrFun (sU_n ne1) 33, fun y => absurd y z⟩)
            | (have z : t = 0 := c_205
               exact ⟨T1, oI s.2, by rw [← hs], rfl, hT0, fun y => absurd z y, fun _ _ => by rw [← hs]⟩)
          · first | refine j_aload_n dX9_plays_208 rfl ?_ | refine j_aload_nN dX9_plays_208 rfl ?_
            refine j_iload dX9_plays_209 rfl ?_
            refine j_putI dX9_plays_211 fl_X9_504 rfl (Mo.h H) rfl rfl rfl ?_
            refine j_iload dX9_plays_214 rfl ?_
            refine j_iret dX9_plays_216 ⟨_, rfl, rfl⟩ (by omega) (by omega) ?_
            first
            | (have z : t ≠ 0 := c_205
               exact ⟨T1, (sU σ (ad 32) T1).2.1 h 33, by rw [← hs], (sI_self rfl).symm, hT0, fun _ => congrFun (sU_n ne1) 33, fun y => absurd y z⟩)
            | (have z : t = 0 := c_205
               exact ⟨T1, oI s.2, by rw [← hs], rfl, hT0, fun y => absurd z y, fun _ _ => by rw [← hs]⟩)
        · omega
    have em : mPlayS W a b (f + 1) first C = itr stp (W + 1) (nI 0, none) := by rw [← hst]; rfl
    rw [em]
    have hp := par4 t (by omega)
    have key0 := key 0 (by omega) (nI 0, none) (cpO (175 * t) 175 C T) none none rfl (fun i hi => by rw [cpO, if_pos (by omega), Nat.add_sub_cancel_left]) (fun i hi => if_neg (show ¬ (175 * t ≤ i ∧ i < 175 * t + 175) by omega))
    clear key
    cases first with
    | true =>
      simp only [bI_t, if_true, oI] at key0
      have hp2 := of_decide_eq_true hfi
      refine j_iload_n dX9_plays_0 rfl ?_
      refine j_iload dX9_plays_1 rfl ?_
      first | (with_reducible refine j_gNN ?_; refine j_icmp_neN (tgt := 18) dX9_plays_3 (by decide) (by omega) (by omega) (fun c_3 => ?_) (fun c_3 => ?_)) | refine j_icmp_ne (tgt := 18) dX9_plays_3 (by decide) (fun c_3 => ?_) (fun c_3 => ?_)
      · refine j_iload_n dX9_plays_18 rfl ?_
        refine j_iconst (v := nI 2) dX9_plays_19 (by decide +kernel) ?_
        refine j_irem dX9_plays_20 (by decide +kernel) ?_
        first | (with_reducible refine j_gB ?_; refine j_if_neB (tgt := 28) dX9_plays_21 (by decide) (fun c_21 => ?_) (fun c_21 => ?_)) | (with_reducible refine j_gC ?_; refine j_if_neC (tgt := 28) dX9_plays_21 (by decide) (fun c_21 => ?_) (fun c_21 => ?_)) | (with_reducible refine j_gN ?_; refine j_if_neN (tgt := 28) dX9_plays_21 (by decide) (by omega) (fun c_21 => ?_) (fun c_21 => ?_)) | refine j_if_ne (tgt := 28) dX9_plays_21 (by decide) (fun c_21 => ?_) (fun c_21 => ?_)
        · exact absurd (hp.mpr hp2) c_21
        · refine j_iconst (v := nI 1) dX9_plays_24 (by decide +kernel) ?_
          refine j_goto (tgt := 29) dX9_plays_25 (by decide) ?_
          refine j_istore dX9_plays_29 (by decide) ?_
          refine j_iload dX9_plays_31 rfl ?_
          first | (with_reducible refine j_gB ?_; refine j_if_eqB (tgt := 40) dX9_plays_33 (by decide) (fun c_33 => ?_) (fun c_33 => ?_)) | (with_reducible refine j_gC ?_; refine j_if_eqC (tgt := 40) dX9_plays_33 (by decide) (fun c_33 => ?_) (fun c_33 => ?_)) | (with_reducible refine j_gN ?_; refine j_if_eqN (tgt := 40) dX9_plays_33 (by decide) (by omega) (fun c_33 => ?_) (fun c_33 => ?_)) | refine j_if_eq (tgt := 40) dX9_plays_33 (by decide) (fun c_33 => ?_) (fun c_33 => ?_)
          · exact absurd c_33 (by decide +kernel)
          · refine j_iload_n dX9_plays_36 rfl ?_
            refine j_goto (tgt := 41) dX9_plays_37 (by decide) ?_
            refine j_istore dX9_plays_41 (by decide) ?_
            refine j_iload dX9_plays_43 rfl ?_
            first | (with_reducible refine j_gB ?_; refine j_if_eqB (tgt := 52) dX9_plays_45 (by decide) (fun c_45 => ?_) (fun c_45 => ?_)) | (with_reducible refine j_gC ?_; refine j_if_eqC (tgt := 52) dX9_plays_45 (by decide) (fun c_45 => ?_) (fun c_45 => ?_)) | (with_reducible refine j_gN ?_; refine j_if_eqN (tgt := 52) dX9_plays_45 (by decide) (by omega) (fun c_45 => ?_) (fun c_45 => ?_)) | refine j_if_eq (tgt := 52) dX9_plays_45 (by decide) (fun c_45 => ?_) (fun c_45 => ?_)
            · exact absurd c_45 (by decide +kernel)
            · refine j_iload_n dX9_plays_48 rfl ?_
              refine j_goto (tgt := 53) dX9_plays_49 (by decide) ?_
              refine j_istore dX9_plays_53 (by decide) ?_
              refine j_iconst (v := nI 0) dX9_plays_55 (by decide +kernel) ?_
              refine j_istore dX9_plays_56 (by decide) ?_
              refine j_iconst (v := -1) dX9_plays_58 (by decide +kernel) ?_
              refine j_istore dX9_plays_59 (by decide) ?_
              first | refine j_aload_n dX9_plays_61 rfl ?_ | refine j_aload_nN dX9_plays_61 rfl ?_
              refine j_iload_n dX9_plays_62 rfl ?_
              refine j_dV0 kl_X9_494 (m_laysTurn H hC hT (by omega)) dX9_plays_63 rfl rfl (by decide) (Mo.h H) (Nat.le_of_ble_eq_true rfl) (by first | decide | omega) (by omega) (by omega) ?_
              refine j_iconst (v := nI 0) dX9_plays_66 (by decide +kernel) ?_
              refine j_istore dX9_plays_67 (by decide) ?_
              exact key0
      · omega
    | false =>
      simp only [bI_f, Bool.false_eq_true, if_false, oI] at key0
      have hp2 := of_decide_eq_false hfi
      refine j_iload_n dX9_plays_0 rfl ?_
      refine j_iload dX9_plays_1 rfl ?_
      first | (with_reducible refine j_gNN ?_; refine j_icmp_neN (tgt := 18) dX9_plays_3 (by decide) (by omega) (by omega) (fun c_3 => ?_) (fun c_3 => ?_)) | refine j_icmp_ne (tgt := 18) dX9_plays_3 (by decide) (fun c_3 => ?_) (fun c_3 => ?_)
      · refine j_iload_n dX9_plays_18 rfl ?_
        refine j_iconst (v := nI 2) dX9_plays_19 (by decide +kernel) ?_
        refine j_irem dX9_plays_20 (by decide +kernel) ?_
        first | (with_reducible refine j_gB ?_; refine j_if_neB (tgt := 28) dX9_plays_21 (by decide) (fun c_21 => ?_) (fun c_21 => ?_)) | (with_reducible refine j_gC ?_; refine j_if_neC (tgt := 28) dX9_plays_21 (by decide) (fun c_21 => ?_) (fun c_21 => ?_)) | (with_reducible refine j_gN ?_; refine j_if_neN (tgt := 28) dX9_plays_21 (by decide) (by omega) (fun c_21 => ?_) (fun c_21 => ?_)) | refine j_if_ne (tgt := 28) dX9_plays_21 (by decide) (fun c_21 => ?_) (fun c_21 => ?_)
        · refine j_iconst (v := nI 0) dX9_plays_28 (by decide +kernel) ?_
          refine j_istore dX9_plays_29 (by decide) ?_
          refine j_iload dX9_plays_31 rfl ?_
          first | (with_reducible refine j_gB ?_; refine j_if_eqB (tgt := 40) dX9_plays_33 (by decide) (fun c_33 => ?_) (fun c_33 => ?_)) | (with_reducible refine j_gC ?_; refine j_if_eqC (tgt := 40) dX9_plays_33 (by decide) (fun c_33 => ?_) (fun c_33 => ?_)) | (with_reducible refine j_gN ?_; refine j_if_eqN (tgt := 40) dX9_plays_33 (by decide) (by omega) (fun c_33 => ?_) (fun c_33 => ?_)) | refine j_if_eq (tgt := 40) dX9_plays_33 (by decide) (fun c_33 => ?_) (fun c_33 => ?_)
          · refine j_iload_n dX9_plays_40 rfl ?_
            refine j_istore dX9_plays_41 (by decide) ?_
            refine j_iload dX9_plays_43 rfl ?_
            first | (with_reducible refine j_gB ?_; refine j_if_eqB (tgt := 52) dX9_plays_45 (by decide) (fun c_45 => ?_) (fun c_45 => ?_)) | (with_reducible refine j_gC ?_; refine j_if_eqC (tgt := 52) dX9_plays_45 (by decide) (fun c_45 => ?_) (fun c_45 => ?_)) | (with_reducible refine j_gN ?_; refine j_if_eqN (tgt := 52) dX9_plays_45 (by decide) (by omega) (fun c_45 => ?_) (fun c_45 => ?_)) | refine j_if_eq (tgt := 52) dX9_plays_45 (by decide) (fun c_45 => ?_) (fun c_45 => ?_)
            · refine j_iload_n dX9_plays_52 rfl ?_
              refine j_istore dX9_plays_53 (by decide) ?_
              refine j_iconst (v := nI 0) dX9_plays_55 (by decide +kernel) ?_
              refine j_istore dX9_plays_56 (by decide) ?_
              refine j_iconst (v := -1) dX9_plays_58 (by decide +kernel) ?_
              refine j_istore dX9_plays_59 (by decide) ?_
              first | refine j_aload_n dX9_plays_61 rfl ?_ | refine j_aload_nN dX9_plays_61 rfl ?_
              refine j_iload_n dX9_plays_62 rfl ?_
              refine j_dV0 kl_X9_494 (m_laysTurn H hC hT (by omega)) dX9_plays_63 rfl rfl (by decide) (Mo.h H) (Nat.le_of_ble_eq_true rfl) (by first | decide | omega) (by omega) (by omega) ?_
              refine j_iconst (v := nI 0) dX9_plays_66 (by decide +kernel) ?_
              refine j_istore dX9_plays_67 (by decide) ?_
              exact key0
            · exact absurd rfl c_45
          · exact absurd rfl c_33
        · exact absurd (hp.mp c_21) hp2
      · omega
end M8
