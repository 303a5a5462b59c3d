/-! X: THE WORD AT A PLACE OF A PLAIT -/
set_option maxRecDepth 100000
section X14s
variable {g : Gx} {l : Launch} {σ τ : Sg} {L : Nat → Nat → Option Nat} {A B : Nat → Nat} {C S M : Nat → Int32} {N : Nat → Int64} {W P Dn Hn k p q hx : Nat}
theorem q_plaitAt (hf0 : Fa σ hx B) (hg0 : Fq σ hx A) (hR0 : Pv σ L A C W P Dn Hn) (hw : Wx C W P Dn) (hT0 : Tr σ L B S M N) (hl14 : ∀ k, L (B 14) k = none) (hN14 : ∀ t r, t < 4 → σ.2.2.2 (B (30 + t)) 0 = some r → r ≠ B 14) (s tr n i0 : Int32) : Kx g l hx B 5 MX0_plaitAt [.ref hx, .int s, .int tr, .int n, .int i0] (put σ L C) 0 0 (some (.int (oPlaitAt W M N s tr n i0).1)) (put (xS σ hx (oPlaitAt W M N s tr n i0).2) L C) := by
  obtain ⟨⟨⟨hW, hW8⟩, ⟨hP, hP6⟩, ⟨hD, hD6⟩, hdn⟩, hWv, hPp⟩ := id hw
  have hf := hf0
  have hg := hg0
  have hR := hR0
  have hn := hR.nf hf
  have h8 := pw8 hW8
  rcases mWhyP_nn (W := W) (M := M) (N := N) (set := s) (tray := tr) (n := n) with h0 | h0
  · obtain ⟨ho, z2⟩ := mWhyP_0 h0
    obtain ⟨t, m, m2, ht, rfl, rfl, hm1, hMt, hm2, hle⟩ := mWhy2_0 hT0.wm z2
    obtain ⟨s, hs2, rfl⟩ := okN_nI ho
    have hpl := mWhyP_all (s := s) ht hm1 h0
    have s13 : σ.1 (B 13) = some (20, 256) := Fa.s13 (L := L) (D := C) hf0
    have s14 : σ.1 (B 14) = some (20, 8) := Fa.s14 (L := L) (D := C) hf0
    have ne : B 14 ≠ B 13 := fun e => by rw [e, s13] at s14; cases s14
    have hl13 := hR0.noL s13 (by decide) (by decide) (by decide)
    have hp8 := pop_le (s := s)
    have eo : oPlaitAt W M N (nI s) (nI t) (nI m) i0 = if okN i0 (pop s) = true ∧ ¬ mPl N W t m 8 s = nI 0 then (nI (plSeq N W t m s (ixn i0 + 1)).2, nI 0) else (-1, nI 8) := by rw [oPlaitAt, if_pos h0, ixn_nI (by omega), ixn_nI (by omega), ixn_nI (by omega)]
    refine Kt.go (Y := MX0_plaitAt) (ls := [some (.ref hx), some (.int (nI s)), some (.int (nI t)), some (.int (nI m)), some (.int i0), none, none, none, none]) (by decide) (Nat.le_of_ble_eq_true rfl) rfl ?_
    first | refine j_aload_n dX0_plaitAt_0 rfl ?_ | refine j_aload_nN dX0_plaitAt_0 rfl ?_
    refine j_iload_n dX0_plaitAt_1 rfl ?_
    refine j_iload_n dX0_plaitAt_2 rfl ?_
    refine j_iload_n dX0_plaitAt_3 rfl ?_
    refine j_dV1 kl_X0_420 (x_wrongPlait hf hg hR hw hT0 _ _ _) dX0_plaitAt_4 rfl rfl (by decide) (by first | exact Fa.sh hf | assumption) (Nat.le_of_ble_eq_true rfl) (by first | decide | omega) (by omega) (by omega) ?_
    rw [h0]
    refine j_istore dX0_plaitAt_7 (by decide) ?_
    refine j_iload dX0_plaitAt_9 rfl ?_
    first | (with_reducible refine j_gC ?_; refine j_if_leC (tgt := 21) dX0_plaitAt_11 (by decide) (fun c_11 => ?_) (fun c_11 => ?_)) | refine j_if_le (tgt := 21) dX0_plaitAt_11 (by decide) (fun c_11 => ?_) (fun c_11 => ?_)
    · first | refine j_aload_n dX0_plaitAt_21 rfl ?_ | refine j_aload_nN dX0_plaitAt_21 rfl ?_
      refine j_iload_n dX0_plaitAt_22 rfl ?_
      refine j_iload_n dX0_plaitAt_23 rfl ?_
      refine j_iload_n dX0_plaitAt_24 rfl ?_
      refine j_callV kl_X0_423 (x_laysOrders hf hg hR hw hT0 hl14 hN14 ht hMt hm2 hle hs2 hpl) dX0_plaitAt_25 rfl rfl (by decide) (by first | exact Fa.sh hf | assumption) (Nat.le_of_ble_eq_true rfl) (by first | decide | omega) (by omega) (by omega) (fun v τ hq => ?_) (fun _ _ _ hq => hq.elim)
      obtain ⟨rfl, F, G, rfl, hF, hG⟩ := hq
      refine j_eq (st' := []) rfl rfl rfl ?_
      have hf : Fa (s34 σ B F G) hx B := hf0
      have heq := lyQ_eq (hx := hx) (σ := σ) (C := C) (F := F) (G := G) hl14 hl13
      have r14 : ∀ w, w < 8 → (put (s34 σ B F G) L C).2.1 (B 14) w = nI (ahN N t s w m) := fun w hw8 => (pgn (hl14 w)).trans ((congrFun (sU_n ne) w).trans ((congrFun sU_e w).trans (hF w hw8)))
      have r13 : ∀ e, sub e s → (put (s34 σ B F G) L C).2.1 (B 13) e = mPl N W t m 8 e := fun e he => (pgn (hl13 e)).trans ((congrFun sU_e e).trans (hG e he))
      have key : ∀ i, i0 = nI i → i < pop s → ¬ mPl N W t m 8 s = nI 0 → ∀ j, j ≤ i + 1 → ∀ left x6, left = (plSeq N W t m s j).1 → (j ≠ 0 → x6 = nI (plSeq N W t m s j).2) → sub left s → pop s ≤ pop left + j → ¬ mPl N W t m 8 left = nI 0 → Tj g l 5 MX0_plaitAt [.ref hx, .int (nI s), .int (nI t), .int (nI m), .int i0] 0 0 (fun r τ => r = some (Value.int (oPlaitAt W M N (nI s) (nI t) (nI m) i0).1) ∧ Eqx hx B τ (put (xS σ hx (oPlaitAt W M N (nI s) (nI t) (nI m) i0).2) L C)) (fun _ _ _ => False) 0 0 67 [some (.ref hx), some (.int (nI s)), some (.int (nI t)), some (.int (nI m)), some (.int (nI i)), some (.int (nI 0)), some (.int (nI left)), some (.int x6), some (.int (nI j))] [] (put (s34 σ B F G) L C) := by
        intro i hi hip hy
        refine loop_up fun j hj ih => ?_
        intro left x6 hl hx6 hsl hpp hne
        have hl8 : left < 256 := Nat.lt_of_le_of_lt (sub_le hsl) (by omega)
        refine j_iload dX0_plaitAt_67 rfl ?_
        refine j_iload dX0_plaitAt_69 rfl ?_
        first | (with_reducible refine j_gNN ?_; refine j_icmp_gtN (tgt := 140) dX0_plaitAt_71 (by decide) (by omega) (by omega) (fun c_71 => ?_) (fun c_71 => ?_)) | refine j_icmp_gt (tgt := 140) dX0_plaitAt_71 (by decide) (fun c_71 => ?_) (fun c_71 => ?_)
        · first | refine j_aload_n dX0_plaitAt_140 rfl ?_ | refine j_aload_nN dX0_plaitAt_140 rfl ?_
          refine j_iload dX0_plaitAt_141 rfl ?_
          refine j_dV1 kl_X0_102 (x_gives (Fa.sh hf) _) dX0_plaitAt_143 rfl rfl (by decide) (by first | exact Fa.sh hf | assumption) (Nat.le_of_ble_eq_true rfl) (by first | decide | omega) (by omega) (by omega) ?_
          refine j_iret dX0_plaitAt_146 ⟨_, rfl, rfl⟩ (by omega) (by omega) ?_
          exact pyR hn (by
            rw [eo, if_pos ⟨by rw [hi]; unfold okN; rw [nI_toInt (by omega)]; simp; omega, hy⟩, hi, ixn_nI (by omega), hx6 (by omega), show j = i + 1 by omega]) heq
        · refine j_iconst (v := nI 0) dX0_plaitAt_74 (by decide +kernel) ?_
          refine j_istore dX0_plaitAt_75 (by decide) ?_
          have hl0 : ¬ left = 0 := fun q => by rw [q, pop_z] at hpp; omega
          obtain ⟨k0, hk0, hf0, hb0⟩ := plNext_ok hW8 hl8 hl0 hne
          have en : plNext N W t m left = k0 := by rw [plNext, hf0]; rfl
          have hb3 := hb0
          unfold plB at hb3
          rw [Bool.and_eq_true, Bool.and_eq_true, Bool.not_eq_true', decide_eq_false_iff_not] at hb3
          have hbit : left.testBit k0 = true := by
            rw [← hs_nI hl8 (by omega)]
            exact hb3.1.1
          have hd8 := dif_le left (2 ^ k0)
          have hpd := pop_dif hl8 (show k0 < 8 by omega)
          have es : plSeq N W t m s (j + 1) = (dif left (2 ^ k0), k0) := by
            rw [plSeq, itr, ← plSeq, ← hl, en]
          have keyK : ∀ k, k ≤ k0 → Tj g l 5 MX0_plaitAt [.ref hx, .int (nI s), .int (nI t), .int (nI m), .int i0] 0 0 (fun r τ => r = some (Value.int (oPlaitAt W M N (nI s) (nI t) (nI m) i0).1) ∧ Eqx hx B τ (put (xS σ hx (oPlaitAt W M N (nI s) (nI t) (nI m) i0).2) L C)) (fun _ _ _ => False) 0 0 77 [some (.ref hx), some (.int (nI s)), some (.int (nI t)), some (.int (nI m)), some (.int (nI i)), some (.int (nI 0)), some (.int (nI left)), some (.int (nI k)), some (.int (nI j))] [] (put (s34 σ B F G) L C) := by
            refine loop_up fun k hk ihk => ?_
            have hd8k := dif_le left (2 ^ k)
            have hsk : hs (nI left) k = left.testBit k := hs_nI hl8 (by omega)
            have hal := ahN_lt (N := N) (t := t) (s0 := s) (w := k) hW8 m (Nat.le_refl _) hpl
            have hzz : nI (ahN N t s k m &&& left) = 0 ↔ ahN N t s k m &&& left = 0 := nI_z (Nat.lt_of_le_of_lt Nat.and_le_left hal)
            have hnx : left.testBit k = true → (ahN N t s k m &&& left = 0 ↔ mIsNext N t m k left = true) := fun q => ahN_next hW8 hpl (by omega) hsl q (by omega)
            have hsd : sub (dif left (2 ^ k)) s := fun x hx2 => hsl x (dif_sub x hx2)
            have hkk : plB N W t m left k = true → k = k0 := fun q => by
              by_cases e : k = k0
              · exact e
              · have h1 := fUp_none hf0 (k + 1) (by omega)
                have h2 := fUp_none hf0 k (by omega)
                rw [fUp, h2] at h1
                rw [if_pos q] at h1
                cases h1
            have e2 : nI 1 <<< (nI k &&& 31) = nI (2 ^ k) := bt_nI (by omega)
            refine j_iload dX0_plaitAt_77 rfl ?_
            refine j_iload dX0_plaitAt_79 rfl ?_
            refine j_dS1 kl_X0_279 (k_isIn _ _ _ _ k) dX0_plaitAt_81 rfl rfl (Nat.le_of_ble_eq_true rfl) (by first | decide | omega) (by omega) (by omega) ?_
            first | (with_reducible refine j_gB ?_; refine j_if_eqB (tgt := 117) dX0_plaitAt_84 (by decide) (fun c_84 => ?_) (fun c_84 => ?_)) | (with_reducible refine j_gC ?_; refine j_if_eqC (tgt := 117) dX0_plaitAt_84 (by decide) (fun c_84 => ?_) (fun c_84 => ?_)) | (with_reducible refine j_gN ?_; refine j_if_eqN (tgt := 117) dX0_plaitAt_84 (by decide) (by omega) (fun c_84 => ?_) (fun c_84 => ?_)) | refine j_if_eq (tgt := 117) dX0_plaitAt_84 (by decide) (fun c_84 => ?_) (fun c_84 => ?_)
            · have hne2 : k ≠ k0 := fun e => by
                subst e
                first
                | (have z : hs (nI left) k = false := c_84
                   rw [hb3.1.1] at z
                   cases z)
                | (have z : ¬ nI (ahN N t s k m &&& left) = 0 := c_97
                   exact z (hzz.mpr ((hnx hbit).mpr hb3.1.2)))
                | (have z : mPl N W t m 8 (dif left (2 ^ k)) = 0 := c_114
                   exact hb3.2 z)
              first | refine j_iincN dX0_plaitAt_117 rfl (by decide) ?_ | refine j_iinc dX0_plaitAt_117 rfl rfl (by decide) ?_
              refine j_goto (tgt := 77) dX0_plaitAt_120 (by decide) ?_
              exact ihk (by omega)
            · first | refine j_aload_n dX0_plaitAt_87 rfl ?_ | refine j_aload_nN dX0_plaitAt_87 rfl ?_
              refine j_getR dX0_plaitAt_88 fl_X0_64 rfl (by first | exact Fa.sh hf | assumption) (by first | exact Fa.f14 hf | assumption) ?_
              refine j_iload dX0_plaitAt_91 rfl ?_
              refine j_iald dX0_plaitAt_93 (Fa.s14 hf) rfl (show k < 8 by omega) (by decide) (r14 k (by omega)) ?_
              refine j_iload dX0_plaitAt_94 rfl ?_
              refine j_iand dX0_plaitAt_96 ?_
              rw [nI_and]
              first | (with_reducible refine j_gB ?_; refine j_if_neB (tgt := 117) dX0_plaitAt_97 (by decide) (fun c_97 => ?_) (fun c_97 => ?_)) | (with_reducible refine j_gC ?_; refine j_if_neC (tgt := 117) dX0_plaitAt_97 (by decide) (fun c_97 => ?_) (fun c_97 => ?_)) | (with_reducible refine j_gN ?_; refine j_if_neN (tgt := 117) dX0_plaitAt_97 (by decide) (by omega) (fun c_97 => ?_) (fun c_97 => ?_)) | refine j_if_ne (tgt := 117) dX0_plaitAt_97 (by decide) (fun c_97 => ?_) (fun c_97 => ?_)
              · have hne2 : k ≠ k0 := fun e => by
                  subst e
                  first
                  | (have z : hs (nI left) k = false := c_84
                     rw [hb3.1.1] at z
                     cases z)
                  | (have z : ¬ nI (ahN N t s k m &&& left) = 0 := c_97
                     exact z (hzz.mpr ((hnx hbit).mpr hb3.1.2)))
                  | (have z : mPl N W t m 8 (dif left (2 ^ k)) = 0 := c_114
                     exact hb3.2 z)
                first | refine j_iincN dX0_plaitAt_117 rfl (by decide) ?_ | refine j_iinc dX0_plaitAt_117 rfl rfl (by decide) ?_
                refine j_goto (tgt := 77) dX0_plaitAt_120 (by decide) ?_
                exact ihk (by omega)
              · first | refine j_aload_n dX0_plaitAt_100 rfl ?_ | refine j_aload_nN dX0_plaitAt_100 rfl ?_
                refine j_getR dX0_plaitAt_101 fl_X0_60 rfl (by first | exact Fa.sh hf | assumption) (by first | exact Fa.f13 hf | assumption) ?_
                refine j_iload dX0_plaitAt_104 rfl ?_
                refine j_iconst (v := nI 1) dX0_plaitAt_106 (by decide +kernel) ?_
                refine j_iload dX0_plaitAt_107 rfl ?_
                refine j_ishl dX0_plaitAt_109 ?_
                rw [e2]
                refine j_iconst (v := -1) dX0_plaitAt_110 (by decide +kernel) ?_
                refine j_ixor dX0_plaitAt_111 ?_
                refine j_iand dX0_plaitAt_112 ?_
                rw [nI_dif]
                refine j_iald dX0_plaitAt_113 (Fa.s13 hf) rfl (show dif left (2 ^ k) < 256 by omega) (by decide) (r13 _ hsd) ?_
                first | (with_reducible refine j_gB ?_; refine j_if_neB (tgt := 123) dX0_plaitAt_114 (by decide) (fun c_114 => ?_) (fun c_114 => ?_)) | (with_reducible refine j_gC ?_; refine j_if_neC (tgt := 123) dX0_plaitAt_114 (by decide) (fun c_114 => ?_) (fun c_114 => ?_)) | (with_reducible refine j_gN ?_; refine j_if_neN (tgt := 123) dX0_plaitAt_114 (by decide) (by omega) (fun c_114 => ?_) (fun c_114 => ?_)) | refine j_if_ne (tgt := 123) dX0_plaitAt_114 (by decide) (fun c_114 => ?_) (fun c_114 => ?_)
                · have z1 : left.testBit k = true := by rw [← hsk]; exact c_84
                  have e := hkk (by
                    unfold plB
                    rw [c_84, (hnx z1).mp (hzz.mp c_97), decide_eq_false (show ¬ mPl N W t m 8 (dif left (2 ^ k)) = nI 0 from c_114)]
                    rfl)
                  subst e
                  refine j_iload dX0_plaitAt_123 rfl ?_
                  refine j_iconst (v := nI 1) dX0_plaitAt_125 (by decide +kernel) ?_
                  refine j_iload dX0_plaitAt_126 rfl ?_
                  refine j_ishl dX0_plaitAt_128 ?_
                  rw [e2]
                  refine j_iconst (v := -1) dX0_plaitAt_129 (by decide +kernel) ?_
                  refine j_ixor dX0_plaitAt_130 ?_
                  refine j_iand dX0_plaitAt_131 ?_
                  rw [nI_dif]
                  refine j_istore dX0_plaitAt_132 (by decide) ?_
                  first | refine j_iincN dX0_plaitAt_134 rfl (by decide) ?_ | refine j_iinc dX0_plaitAt_134 rfl rfl (by decide) ?_
                  refine j_goto (tgt := 67) dX0_plaitAt_137 (by decide) ?_
                  exact ih (by omega) _ _ (by rw [es]) (fun _ => by rw [es]) hsd (by omega) hb3.2
                · have hne2 : k ≠ k0 := fun e => by
                    subst e
                    first
                    | (have z : hs (nI left) k = false := c_84
                       rw [hb3.1.1] at z
                       cases z)
                    | (have z : ¬ nI (ahN N t s k m &&& left) = 0 := c_97
                       exact z (hzz.mpr ((hnx hbit).mpr hb3.1.2)))
                    | (have z : mPl N W t m 8 (dif left (2 ^ k)) = 0 := c_114
                       exact hb3.2 z)
                  first | refine j_iincN dX0_plaitAt_117 rfl (by decide) ?_ | refine j_iinc dX0_plaitAt_117 rfl rfl (by decide) ?_
                  refine j_goto (tgt := 77) dX0_plaitAt_120 (by decide) ?_
                  exact ihk (by omega)
          exact keyK 0 (by omega)
      first | refine j_aload_n dX0_plaitAt_28 rfl ?_ | refine j_aload_nN dX0_plaitAt_28 rfl ?_
      refine j_getR dX0_plaitAt_29 fl_X0_60 rfl (Fa.sh hf) (Fa.f13 hf) ?_
      refine j_iload_n dX0_plaitAt_32 rfl ?_
      refine j_iald dX0_plaitAt_33 (Fa.s13 hf) rfl (show s < 256 by omega) (by decide) (r13 s (fun i hi => hi)) ?_
      first | (with_reducible refine j_gB ?_; refine j_if_eqB (tgt := 51) dX0_plaitAt_34 (by decide) (fun c_34 => ?_) (fun c_34 => ?_)) | (with_reducible refine j_gC ?_; refine j_if_eqC (tgt := 51) dX0_plaitAt_34 (by decide) (fun c_34 => ?_) (fun c_34 => ?_)) | (with_reducible refine j_gN ?_; refine j_if_eqN (tgt := 51) dX0_plaitAt_34 (by decide) (by omega) (fun c_34 => ?_) (fun c_34 => ?_)) | refine j_if_eq (tgt := 51) dX0_plaitAt_34 (by decide) (fun c_34 => ?_) (fun c_34 => ?_)
      · first | refine j_aload_n dX0_plaitAt_51 rfl ?_ | refine j_aload_nN dX0_plaitAt_51 rfl ?_
        refine j_bipush (v := nI 8) dX0_plaitAt_52 (by decide +kernel) ?_
        refine j_dV1 kl_X0_98 (x_none (Fa.sh hf) _) dX0_plaitAt_54 rfl rfl (by decide) (by first | exact Fa.sh hf | assumption) (Nat.le_of_ble_eq_true rfl) (by first | decide | omega) (by omega) (by omega) ?_
        refine j_iret dX0_plaitAt_57 ⟨_, rfl, rfl⟩ (by omega) (by omega) ?_
        first
        | (have y : mPl N W t m 8 s = 0 := c_34
           exact pyR hn (by rw [eo, if_neg (fun q => q.2 y)]) heq)
        | (have y : i0 < 0 := c_39
           exact pyR hn (by rw [eo, if_neg (fun q => by rw [okN_f (by omega) (Or.inl y)] at q; exact Bool.false_ne_true q.1)]) heq)
        | (have y : ¬ i0 < nI (pop s) := c_48
           exact pyR hn (by rw [eo, if_neg (fun q => by rw [okN_f (by omega) (Or.inr (Int32.not_lt.mp y))] at q; exact Bool.false_ne_true q.1)]) heq)
      · refine j_iload dX0_plaitAt_37 rfl ?_
        first | (with_reducible refine j_gC ?_; refine j_if_ltC (tgt := 51) dX0_plaitAt_39 (by decide) (fun c_39 => ?_) (fun c_39 => ?_)) | refine j_if_lt (tgt := 51) dX0_plaitAt_39 (by decide) (fun c_39 => ?_) (fun c_39 => ?_)
        · first | refine j_aload_n dX0_plaitAt_51 rfl ?_ | refine j_aload_nN dX0_plaitAt_51 rfl ?_
          refine j_bipush (v := nI 8) dX0_plaitAt_52 (by decide +kernel) ?_
          refine j_dV1 kl_X0_98 (x_none (Fa.sh hf) _) dX0_plaitAt_54 rfl rfl (by decide) (by first | exact Fa.sh hf | assumption) (Nat.le_of_ble_eq_true rfl) (by first | decide | omega) (by omega) (by omega) ?_
          refine j_iret dX0_plaitAt_57 ⟨_, rfl, rfl⟩ (by omega) (by omega) ?_
          first
          | (have y : mPl N W t m 8 s = 0 := c_34
             exact pyR hn (by rw [eo, if_neg (fun q => q.2 y)]) heq)
          | (have y : i0 < 0 := c_39
             exact pyR hn (by rw [eo, if_neg (fun q => by rw [okN_f (by omega) (Or.inl y)] at q; exact Bool.false_ne_true q.1)]) heq)
          | (have y : ¬ i0 < nI (pop s) := c_48
             exact pyR hn (by rw [eo, if_neg (fun q => by rw [okN_f (by omega) (Or.inr (Int32.not_lt.mp y))] at q; exact Bool.false_ne_true q.1)]) heq)
        · refine j_iload dX0_plaitAt_42 rfl ?_
          refine j_iload_n dX0_plaitAt_44 rfl ?_
          refine j_dS1 kl_X0_326 (k_bits (by omega)) dX0_plaitAt_45 rfl rfl (Nat.le_of_ble_eq_true rfl) (by first | decide | omega) (by omega) (by omega) ?_
          first | (with_reducible refine j_gNN ?_; refine j_icmp_ltN (tgt := 58) dX0_plaitAt_48 (by decide) (by omega) (by omega) (fun c_48 => ?_) (fun c_48 => ?_)) | refine j_icmp_lt (tgt := 58) dX0_plaitAt_48 (by decide) (fun c_48 => ?_) (fun c_48 => ?_)
          · refine j_iload_n dX0_plaitAt_58 rfl ?_
            refine j_istore dX0_plaitAt_59 (by decide) ?_
            refine j_iconst (v := -1) dX0_plaitAt_61 (by decide +kernel) ?_
            refine j_istore dX0_plaitAt_62 (by decide) ?_
            refine j_iconst (v := nI 0) dX0_plaitAt_64 (by decide +kernel) ?_
            refine j_istore dX0_plaitAt_65 (by decide) ?_
            obtain ⟨i, hi, rfl⟩ := okN_nI (okN_t (n := pop s) (by omega) c_39 c_48)
            exact key i rfl hi c_34 0 (by omega) s (-1) rfl (fun q => absurd rfl q) (fun i hi => hi) (by omega) c_34
          · first | refine j_aload_n dX0_plaitAt_51 rfl ?_ | refine j_aload_nN dX0_plaitAt_51 rfl ?_
            refine j_bipush (v := nI 8) dX0_plaitAt_52 (by decide +kernel) ?_
            refine j_dV1 kl_X0_98 (x_none (Fa.sh hf) _) dX0_plaitAt_54 rfl rfl (by decide) (by first | exact Fa.sh hf | assumption) (Nat.le_of_ble_eq_true rfl) (by first | decide | omega) (by omega) (by omega) ?_
            refine j_iret dX0_plaitAt_57 ⟨_, rfl, rfl⟩ (by omega) (by omega) ?_
            first
            | (have y : mPl N W t m 8 s = 0 := c_34
               exact pyR hn (by rw [eo, if_neg (fun q => q.2 y)]) heq)
            | (have y : i0 < 0 := c_39
               exact pyR hn (by rw [eo, if_neg (fun q => by rw [okN_f (by omega) (Or.inl y)] at q; exact Bool.false_ne_true q.1)]) heq)
            | (have y : ¬ i0 < nI (pop s) := c_48
               exact pyR hn (by rw [eo, if_neg (fun q => by rw [okN_f (by omega) (Or.inr (Int32.not_lt.mp y))] at q; exact Bool.false_ne_true q.1)]) heq)
    · exact absurd c_11 (by decide)
  · have h1 : ¬ mWhyP W M N s tr n = nI 0 := fun e => by rw [e] at h0; exact absurd h0 (by decide)
    refine Kt.go (Y := MX0_plaitAt) (ls := [some (.ref hx), some (.int s), some (.int tr), some (.int n), some (.int i0), none, none, none, none]) (by decide) (Nat.le_of_ble_eq_true rfl) rfl ?_
    first | refine j_aload_n dX0_plaitAt_0 rfl ?_ | refine j_aload_nN dX0_plaitAt_0 rfl ?_
    refine j_iload_n dX0_plaitAt_1 rfl ?_
    refine j_iload_n dX0_plaitAt_2 rfl ?_
    refine j_iload_n dX0_plaitAt_3 rfl ?_
    refine j_dV1 kl_X0_420 (x_wrongPlait hf hg hR hw hT0 _ _ _) dX0_plaitAt_4 rfl rfl (by decide) (by first | exact Fa.sh hf | assumption) (Nat.le_of_ble_eq_true rfl) (by first | decide | omega) (by omega) (by omega) ?_
    refine j_istore dX0_plaitAt_7 (by decide) ?_
    refine j_iload dX0_plaitAt_9 rfl ?_
    first | (with_reducible refine j_gC ?_; refine j_if_leC (tgt := 21) dX0_plaitAt_11 (by decide) (fun c_11 => ?_) (fun c_11 => ?_)) | refine j_if_le (tgt := 21) dX0_plaitAt_11 (by decide) (fun c_11 => ?_) (fun c_11 => ?_)
    · exact absurd h0 (Int32.not_lt.mpr c_11)
    · first | refine j_aload_n dX0_plaitAt_14 rfl ?_ | refine j_aload_nN dX0_plaitAt_14 rfl ?_
      refine j_iload dX0_plaitAt_15 rfl ?_
      refine j_dV1 kl_X0_98 (x_none (Fa.sh hf) _) dX0_plaitAt_17 rfl rfl (by decide) (by first | exact Fa.sh hf | assumption) (Nat.le_of_ble_eq_true rfl) (by first | decide | omega) (by omega) (by omega) ?_
      refine j_iret dX0_plaitAt_20 ⟨_, rfl, rfl⟩ (by omega) (by omega) ?_
      exact pyR hn (by unfold oPlaitAt; rw [if_neg h1]) Eqx.rf
end X14s
