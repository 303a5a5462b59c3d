/-! X: THE FACE's QUESTIONS AND CHANGES -/
set_option maxRecDepth 100000
/-- who is a barber: 0 or 1 -/
def Bb (C : Nat → Int32) (P : Nat) : Prop := ∀ p, p < P → C (31 + p) = nI 0 ∨ C (31 + p) = nI 1
theorem sz_pop {s : Nat} (h : s < 256) : szOf (nI s) = nI (pop s) := szOf_nI h
section X7
variable {g : Gx} {l : Launch} {σ τ : Sg} {L : Nat → Nat → Option Nat} {A B : Nat → Nat} {C : Nat → Int32} {W P Dn Hn k p q hx : Nat}
theorem x_barbers (hf : Fa σ hx B) (hg : Fq σ hx A) (hR : Pv σ L A C W P Dn Hn) (hw : Wx C W P Dn) (hb : Bb C P) : Kd g l 0 MX0_barbers [.ref hx] (put σ L C) (some (.int (mBarbers C P))) (put σ L C) := by
  obtain ⟨⟨⟨hW, hW8⟩, ⟨hP, hP6⟩, ⟨hD, hD6⟩, hdn⟩, hWv, hPp⟩ := id hw
  have hL := hR.inj
  have hn := hR.nf hf
  refine Kt.go (Y := MX0_barbers) (ls := [some (.ref hx), none, none]) (by decide) (Nat.le_of_ble_eq_true rfl) rfl ?_
  have key : ∀ j, j ≤ P → ∀ a, a = orTo (barF C) j → Td g l 0 MX0_barbers [.ref hx] (put σ L C) (some (.int (mBarbers C P))) 4 [some (.ref hx), some (.int a), some (.int (nI j))] [] (put σ L C) := by
    refine loop_up fun j hj ih => ?_
    intro a ha
    refine j_iload_n dX0_barbers_4 rfl ?_
    first | refine j_aload_n dX0_barbers_5 rfl ?_ | refine j_aload_nN dX0_barbers_5 rfl ?_
    refine j_getR dX0_barbers_6 fl_X0_38 rfl (by first | exact Fa.sh hf | assumption) (by first | exact Fq.f3 hg | assumption) ?_
    refine j_getI dX0_barbers_9 fl_X0_152 rfl (by first | exact Pv.sh hR | assumption) (by first | exact pg (Pv.li hR 5 1 rfl (by decide)) | assumption) ?_
    rw [hP]
    first | (with_reducible refine j_gNN ?_; refine j_icmp_geN (tgt := 46) dX0_barbers_12 (by decide) (by omega) (by omega) (fun c_12 => ?_) (fun c_12 => ?_)) | refine j_icmp_ge (tgt := 46) dX0_barbers_12 (by decide) (fun c_12 => ?_) (fun c_12 => ?_)
    · refine j_iload_n dX0_barbers_46 rfl ?_
      refine j_iret dX0_barbers_47 ⟨_, rfl, rfl⟩ (by omega) (by omega) ?_
      exact ⟨by rw [ha, show j = P by omega]; rfl, rfl⟩
    · have hp := hR.pe (p := j) (by omega)
      have hq := hp
      refine j_iload_n dX0_barbers_15 rfl ?_
      first | refine j_aload_n dX0_barbers_16 rfl ?_ | refine j_aload_nN dX0_barbers_16 rfl ?_
      refine j_getR dX0_barbers_17 fl_X0_38 rfl (by first | exact Fa.sh hf | assumption) (by first | exact Fq.f3 hg | assumption) ?_
      refine j_getR dX0_barbers_20 fl_X0_211 rfl (by first | exact Pv.sh hR | assumption) (by first | exact Pv.r1 hR | assumption) ?_
      refine j_iload_n dX0_barbers_23 rfl ?_
      refine j_aald (t := 27) dX0_barbers_24 (fun _ => rfl) (by decide) (by first | exact Pe.sl hp | exact Pe.sa hp | exact Pe.sl hq | exact Pe.sa hq | exact Pv.sw hR | exact Pv.sp hR | exact Pv.sd hR | exact Fa.s0 hf | exact Fa.s12 hf | exact Fa.s13 hf | exact Fa.s14 hf | exact Fa.s15 hf | exact Fa.s16 hf | exact Fa.s20 hf | exact Fa.s21 hf | exact Fa.s23 hf | assumption) rfl (by omega) (by decide) (by first | exact Pv.rw hR (by omega) | exact Pv.rp hR (by omega) | exact Pv.rd hR (by omega) | exact Fa.tr hf (by omega) | assumption) ?_
      refine j_getI dX0_barbers_25 fl_X0_214 rfl (by first | exact Pe.sh hp | exact Pe.sh hq | assumption) (by first | exact pg (Pe.l6 hp) | exact pg (Pe.l6 hq) | assumption) ?_
      first | (with_reducible refine j_gB ?_; refine j_if_eqB (tgt := 37) dX0_barbers_28 (by decide) (fun c_28 => ?_) (fun c_28 => ?_)) | (with_reducible refine j_gC ?_; refine j_if_eqC (tgt := 37) dX0_barbers_28 (by decide) (fun c_28 => ?_) (fun c_28 => ?_)) | (with_reducible refine j_gN ?_; refine j_if_eqN (tgt := 37) dX0_barbers_28 (by decide) (by omega) (fun c_28 => ?_) (fun c_28 => ?_)) | refine j_if_eq (tgt := 37) dX0_barbers_28 (by decide) (fun c_28 => ?_) (fun c_28 => ?_)
      · refine j_iconst (v := nI 0) dX0_barbers_37 (by decide +kernel) ?_
        refine j_ior dX0_barbers_38 ?_
        refine j_istore_n dX0_barbers_39 (by decide) ?_
        first | refine j_iincN dX0_barbers_40 rfl (by decide) ?_ | refine j_iinc dX0_barbers_40 rfl rfl (by decide) ?_
        refine j_goto (tgt := 4) dX0_barbers_43 (by decide) ?_
        exact ih (by omega) _ (by
          rw [ha, orTo, barF]
          rcases hb j (by omega) with e | e
          · first
            | exact absurd e c_28
            | (rw [if_neg (by rw [e]; decide)])
          · first
            | exact absurd (c_28.symm.trans e) (by decide)
            | (rw [if_pos e]; rfl))
      · refine j_iconst (v := nI 1) dX0_barbers_31 (by decide +kernel) ?_
        refine j_iload_n dX0_barbers_32 rfl ?_
        refine j_ishl dX0_barbers_33 ?_
        refine j_goto (tgt := 38) dX0_barbers_34 (by decide) ?_
        refine j_ior dX0_barbers_38 ?_
        refine j_istore_n dX0_barbers_39 (by decide) ?_
        first | refine j_iincN dX0_barbers_40 rfl (by decide) ?_ | refine j_iinc dX0_barbers_40 rfl rfl (by decide) ?_
        refine j_goto (tgt := 4) dX0_barbers_43 (by decide) ?_
        exact ih (by omega) _ (by
          rw [ha, orTo, barF]
          rcases hb j (by omega) with e | e
          · first
            | exact absurd e c_28
            | (rw [if_neg (by rw [e]; decide)])
          · first
            | exact absurd (c_28.symm.trans e) (by decide)
            | (rw [if_pos e]; rfl))
  refine j_iconst (v := nI 0) dX0_barbers_0 (by decide +kernel) ?_
  refine j_istore_n dX0_barbers_1 (by decide) ?_
  refine j_iconst (v := nI 0) dX0_barbers_2 (by decide +kernel) ?_
  refine j_istore_n dX0_barbers_3 (by decide) ?_
  exact key 0 (by omega) _ rfl
theorem q_many (hf : Fa σ hx B) (hg : Fq σ hx A) (hR : Pv σ L A C W P Dn Hn) (hw : Wx C W P Dn) (hb : Bb C P) (hH : C 3 = nI Hn) (w : Int32) : Kd g l 3 MX0_many [.ref hx, .int w] (put σ L C) (some (.int (oMany C W P w).1)) (put (xS σ hx (oMany C W P w).2) L C) := by
  obtain ⟨⟨⟨hW, hW8⟩, ⟨hP, hP6⟩, ⟨hD, hD6⟩, hdn⟩, hWv, hPp⟩ := id hw
  have hL := hR.inj
  have hn := hR.nf hf
  by_cases e : okN w 11 = true
  · obtain ⟨k, hk, rfl⟩ := okN_nI e
    have ek : ixn (nI k) = k := ixn_nI (by omega)
    have hz : k = 0 ∨ k = 1 ∨ k = 2 ∨ k = 3 ∨ k = 4 ∨ k = 5 ∨ k = 6 ∨ k = 7 ∨ k = 8 ∨ k = 9 ∨ k = 10 := by omega
    rcases hz with rfl | rfl | rfl | rfl | rfl | rfl | rfl | rfl | rfl | rfl | rfl
    · skip
      refine Kt.go (Y := MX0_many) (ls := [some (.ref hx), some (.int (nI 0))]) (by decide) (Nat.le_of_ble_eq_true rfl) rfl ?_
      refine j_iload_n dX0_many_0 rfl ?_
      refine j_tabIn (tgt := 60) dX0_many_1 (by decide +kernel) (by decide +kernel) (show _ = some (59) by decide +kernel) (by decide) ?_
      first | refine j_aload_n dX0_many_60 rfl ?_ | refine j_aload_nN dX0_many_60 rfl ?_
      first | refine j_aload_n dX0_many_61 rfl ?_ | refine j_aload_nN dX0_many_61 rfl ?_
      refine j_getR dX0_many_62 fl_X0_38 rfl (by first | exact Fa.sh hf | assumption) (by first | exact Fq.f3 hg | assumption) ?_
      refine j_getI dX0_many_65 fl_X0_147 rfl (by first | exact Pv.sh hR | assumption) (by first | exact pg (Pv.li hR 4 0 rfl (by decide)) | assumption) ?_
      refine j_dV1 kl_X0_102 (x_gives (Fa.sh hf) _) dX0_many_68 rfl rfl (by decide) (by first | exact Fa.sh hf | assumption) (Nat.le_of_ble_eq_true rfl) (by first | decide | omega) (by omega) (by omega) ?_
      refine j_iret dX0_many_71 ⟨_, rfl, rfl⟩ (by omega) (by omega) ?_
      exact pxR hn (by unfold oMany; rw [if_pos e, ek]; rfl)
    · skip
      refine Kt.go (Y := MX0_many) (ls := [some (.ref hx), some (.int (nI 1))]) (by decide) (Nat.le_of_ble_eq_true rfl) rfl ?_
      refine j_iload_n dX0_many_0 rfl ?_
      refine j_tabIn (tgt := 72) dX0_many_1 (by decide +kernel) (by decide +kernel) (show _ = some (71) by decide +kernel) (by decide) ?_
      first | refine j_aload_n dX0_many_72 rfl ?_ | refine j_aload_nN dX0_many_72 rfl ?_
      first | refine j_aload_n dX0_many_73 rfl ?_ | refine j_aload_nN dX0_many_73 rfl ?_
      refine j_getR dX0_many_74 fl_X0_38 rfl (by first | exact Fa.sh hf | assumption) (by first | exact Fq.f3 hg | assumption) ?_
      refine j_getI dX0_many_77 fl_X0_152 rfl (by first | exact Pv.sh hR | assumption) (by first | exact pg (Pv.li hR 5 1 rfl (by decide)) | assumption) ?_
      refine j_dV1 kl_X0_102 (x_gives (Fa.sh hf) _) dX0_many_80 rfl rfl (by decide) (by first | exact Fa.sh hf | assumption) (Nat.le_of_ble_eq_true rfl) (by first | decide | omega) (by omega) (by omega) ?_
      refine j_iret dX0_many_83 ⟨_, rfl, rfl⟩ (by omega) (by omega) ?_
      exact pxR hn (by unfold oMany; rw [if_pos e, ek]; rfl)
    · skip
      refine Kt.go (Y := MX0_many) (ls := [some (.ref hx), some (.int (nI 2))]) (by decide) (Nat.le_of_ble_eq_true rfl) rfl ?_
      refine j_iload_n dX0_many_0 rfl ?_
      refine j_tabIn (tgt := 84) dX0_many_1 (by decide +kernel) (by decide +kernel) (show _ = some (83) by decide +kernel) (by decide) ?_
      first | refine j_aload_n dX0_many_84 rfl ?_ | refine j_aload_nN dX0_many_84 rfl ?_
      first | refine j_aload_n dX0_many_85 rfl ?_ | refine j_aload_nN dX0_many_85 rfl ?_
      refine j_getR dX0_many_86 fl_X0_38 rfl (by first | exact Fa.sh hf | assumption) (by first | exact Fq.f3 hg | assumption) ?_
      refine j_getI dX0_many_89 fl_X0_155 rfl (by first | exact Pv.sh hR | assumption) (by first | exact pg (Pv.li hR 6 2 rfl (by decide)) | assumption) ?_
      refine j_dV1 kl_X0_102 (x_gives (Fa.sh hf) _) dX0_many_92 rfl rfl (by decide) (by first | exact Fa.sh hf | assumption) (Nat.le_of_ble_eq_true rfl) (by first | decide | omega) (by omega) (by omega) ?_
      refine j_iret dX0_many_95 ⟨_, rfl, rfl⟩ (by omega) (by omega) ?_
      exact pxR hn (by unfold oMany; rw [if_pos e, ek]; rfl)
    · skip
      refine Kt.go (Y := MX0_many) (ls := [some (.ref hx), some (.int (nI 3))]) (by decide) (Nat.le_of_ble_eq_true rfl) rfl ?_
      refine j_iload_n dX0_many_0 rfl ?_
      refine j_tabIn (tgt := 96) dX0_many_1 (by decide +kernel) (by decide +kernel) (show _ = some (95) by decide +kernel) (by decide) ?_
      first | refine j_aload_n dX0_many_96 rfl ?_ | refine j_aload_nN dX0_many_96 rfl ?_
      first | refine j_aload_n dX0_many_97 rfl ?_ | refine j_aload_nN dX0_many_97 rfl ?_
      refine j_getR dX0_many_98 fl_X0_38 rfl (by first | exact Fa.sh hf | assumption) (by first | exact Fq.f3 hg | assumption) ?_
      refine j_getI dX0_many_101 fl_X0_218 rfl (by first | exact Pv.sh hR | assumption) (by first | exact pg (Pv.li hR 7 3 rfl (by decide)) | assumption) ?_
      refine j_dV1 kl_X0_102 (x_gives (Fa.sh hf) _) dX0_many_104 rfl rfl (by decide) (by first | exact Fa.sh hf | assumption) (Nat.le_of_ble_eq_true rfl) (by first | decide | omega) (by omega) (by omega) ?_
      refine j_iret dX0_many_107 ⟨_, rfl, rfl⟩ (by omega) (by omega) ?_
      exact pxR hn (by unfold oMany; rw [if_pos e, ek]; rfl)
    · skip
      refine Kt.go (Y := MX0_many) (ls := [some (.ref hx), some (.int (nI 4))]) (by decide) (Nat.le_of_ble_eq_true rfl) rfl ?_
      refine j_iload_n dX0_many_0 rfl ?_
      refine j_tabIn (tgt := 108) dX0_many_1 (by decide +kernel) (by decide +kernel) (show _ = some (107) by decide +kernel) (by decide) ?_
      first | refine j_aload_n dX0_many_108 rfl ?_ | refine j_aload_nN dX0_many_108 rfl ?_
      first | refine j_aload_n dX0_many_109 rfl ?_ | refine j_aload_nN dX0_many_109 rfl ?_
      refine j_getR dX0_many_110 fl_X0_38 rfl (by first | exact Fa.sh hf | assumption) (by first | exact Fq.f3 hg | assumption) ?_
      refine j_getI dX0_many_113 fl_X0_221 rfl (by first | exact Pv.sh hR | assumption) (by first | exact pg (Pv.li hR 8 4 rfl (by decide)) | assumption) ?_
      refine j_dV1 kl_X0_102 (x_gives (Fa.sh hf) _) dX0_many_116 rfl rfl (by decide) (by first | exact Fa.sh hf | assumption) (Nat.le_of_ble_eq_true rfl) (by first | decide | omega) (by omega) (by omega) ?_
      refine j_iret dX0_many_119 ⟨_, rfl, rfl⟩ (by omega) (by omega) ?_
      exact pxR hn (by unfold oMany; rw [if_pos e, ek]; rfl)
    · skip
      refine Kt.go (Y := MX0_many) (ls := [some (.ref hx), some (.int (nI 5))]) (by decide) (Nat.le_of_ble_eq_true rfl) rfl ?_
      refine j_iload_n dX0_many_0 rfl ?_
      refine j_tabIn (tgt := 120) dX0_many_1 (by decide +kernel) (by decide +kernel) (show _ = some (119) by decide +kernel) (by decide) ?_
      first | refine j_aload_n dX0_many_120 rfl ?_ | refine j_aload_nN dX0_many_120 rfl ?_
      first | refine j_aload_n dX0_many_121 rfl ?_ | refine j_aload_nN dX0_many_121 rfl ?_
      refine j_getR dX0_many_122 fl_X0_38 rfl (by first | exact Fa.sh hf | assumption) (by first | exact Fq.f3 hg | assumption) ?_
      refine j_getI dX0_many_125 fl_X0_224 rfl (by first | exact Pv.sh hR | assumption) (by first | exact pg (Pv.li hR 9 5 rfl (by decide)) | assumption) ?_
      refine j_dV1 kl_X0_102 (x_gives (Fa.sh hf) _) dX0_many_128 rfl rfl (by decide) (by first | exact Fa.sh hf | assumption) (Nat.le_of_ble_eq_true rfl) (by first | decide | omega) (by omega) (by omega) ?_
      refine j_iret dX0_many_131 ⟨_, rfl, rfl⟩ (by omega) (by omega) ?_
      exact pxR hn (by unfold oMany; rw [if_pos e, ek]; rfl)
    · skip
      refine Kt.go (Y := MX0_many) (ls := [some (.ref hx), some (.int (nI 6))]) (by decide) (Nat.le_of_ble_eq_true rfl) rfl ?_
      refine j_iload_n dX0_many_0 rfl ?_
      refine j_tabIn (tgt := 132) dX0_many_1 (by decide +kernel) (by decide +kernel) (show _ = some (131) by decide +kernel) (by decide) ?_
      first | refine j_aload_n dX0_many_132 rfl ?_ | refine j_aload_nN dX0_many_132 rfl ?_
      first | refine j_aload_n dX0_many_133 rfl ?_ | refine j_aload_nN dX0_many_133 rfl ?_
      refine j_getR dX0_many_134 fl_X0_38 rfl (by first | exact Fa.sh hf | assumption) (by first | exact Fq.f3 hg | assumption) ?_
      refine j_getI dX0_many_137 fl_X0_227 rfl (by first | exact Pv.sh hR | assumption) (by first | exact pg (Pv.li hR 10 6 rfl (by decide)) | assumption) ?_
      refine j_dV1 kl_X0_102 (x_gives (Fa.sh hf) _) dX0_many_140 rfl rfl (by decide) (by first | exact Fa.sh hf | assumption) (Nat.le_of_ble_eq_true rfl) (by first | decide | omega) (by omega) (by omega) ?_
      refine j_iret dX0_many_143 ⟨_, rfl, rfl⟩ (by omega) (by omega) ?_
      exact pxR hn (by unfold oMany; rw [if_pos e, ek]; rfl)
    · skip
      refine Kt.go (Y := MX0_many) (ls := [some (.ref hx), some (.int (nI 7))]) (by decide) (Nat.le_of_ble_eq_true rfl) rfl ?_
      refine j_iload_n dX0_many_0 rfl ?_
      refine j_tabIn (tgt := 144) dX0_many_1 (by decide +kernel) (by decide +kernel) (show _ = some (143) by decide +kernel) (by decide) ?_
      first | refine j_aload_n dX0_many_144 rfl ?_ | refine j_aload_nN dX0_many_144 rfl ?_
      first | refine j_aload_n dX0_many_145 rfl ?_ | refine j_aload_nN dX0_many_145 rfl ?_
      refine j_dV1 kl_X0_230 (x_barbers hf hg hR hw hb) dX0_many_146 rfl rfl (by decide) (by first | exact Fa.sh hf | assumption) (Nat.le_of_ble_eq_true rfl) (by first | decide | omega) (by omega) (by omega) ?_
      refine j_dV1 kl_X0_102 (x_gives (Fa.sh hf) _) dX0_many_149 rfl rfl (by decide) (by first | exact Fa.sh hf | assumption) (Nat.le_of_ble_eq_true rfl) (by first | decide | omega) (by omega) (by omega) ?_
      refine j_iret dX0_many_152 ⟨_, rfl, rfl⟩ (by omega) (by omega) ?_
      exact pxR hn (by unfold oMany; rw [if_pos e, ek]; rfl)
    · skip
      refine Kt.go (Y := MX0_many) (ls := [some (.ref hx), some (.int (nI 8))]) (by decide) (Nat.le_of_ble_eq_true rfl) rfl ?_
      refine j_iload_n dX0_many_0 rfl ?_
      refine j_tabIn (tgt := 153) dX0_many_1 (by decide +kernel) (by decide +kernel) (show _ = some (152) by decide +kernel) (by decide) ?_
      first | refine j_aload_n dX0_many_153 rfl ?_ | refine j_aload_nN dX0_many_153 rfl ?_
      first | refine j_aload_n dX0_many_154 rfl ?_ | refine j_aload_nN dX0_many_154 rfl ?_
      refine j_getR dX0_many_155 fl_X0_38 rfl (by first | exact Fa.sh hf | assumption) (by first | exact Fq.f3 hg | assumption) ?_
      refine j_getI dX0_many_158 fl_X0_233 rfl (by first | exact Pv.sh hR | assumption) (by first | exact pg (Pv.li hR 11 7 rfl (by decide)) | assumption) ?_
      refine j_dV1 kl_X0_102 (x_gives (Fa.sh hf) _) dX0_many_161 rfl rfl (by decide) (by first | exact Fa.sh hf | assumption) (Nat.le_of_ble_eq_true rfl) (by first | decide | omega) (by omega) (by omega) ?_
      refine j_iret dX0_many_164 ⟨_, rfl, rfl⟩ (by omega) (by omega) ?_
      exact pxR hn (by unfold oMany; rw [if_pos e, ek]; rfl)
    · skip
      refine Kt.go (Y := MX0_many) (ls := [some (.ref hx), some (.int (nI 9))]) (by decide) (Nat.le_of_ble_eq_true rfl) rfl ?_
      refine j_iload_n dX0_many_0 rfl ?_
      refine j_tabIn (tgt := 165) dX0_many_1 (by decide +kernel) (by decide +kernel) (show _ = some (164) by decide +kernel) (by decide) ?_
      first | refine j_aload_n dX0_many_165 rfl ?_ | refine j_aload_nN dX0_many_165 rfl ?_
      first | refine j_aload_n dX0_many_166 rfl ?_ | refine j_aload_nN dX0_many_166 rfl ?_
      refine j_getR dX0_many_167 fl_X0_38 rfl (by first | exact Fa.sh hf | assumption) (by first | exact Fq.f3 hg | assumption) ?_
      refine j_getI dX0_many_170 fl_X0_236 rfl (by first | exact Pv.sh hR | assumption) (by first | exact pg (Pv.li hR 12 8 rfl (by decide)) | assumption) ?_
      refine j_dV1 kl_X0_102 (x_gives (Fa.sh hf) _) dX0_many_173 rfl rfl (by decide) (by first | exact Fa.sh hf | assumption) (Nat.le_of_ble_eq_true rfl) (by first | decide | omega) (by omega) (by omega) ?_
      refine j_iret dX0_many_176 ⟨_, rfl, rfl⟩ (by omega) (by omega) ?_
      exact pxR hn (by unfold oMany; rw [if_pos e, ek]; rfl)
    · skip
      refine Kt.go (Y := MX0_many) (ls := [some (.ref hx), some (.int (nI 10))]) (by decide) (Nat.le_of_ble_eq_true rfl) rfl ?_
      refine j_iload_n dX0_many_0 rfl ?_
      refine j_tabIn (tgt := 177) dX0_many_1 (by decide +kernel) (by decide +kernel) (show _ = some (176) by decide +kernel) (by decide) ?_
      first | refine j_aload_n dX0_many_177 rfl ?_ | refine j_aload_nN dX0_many_177 rfl ?_
      first | refine j_aload_n dX0_many_178 rfl ?_ | refine j_aload_nN dX0_many_178 rfl ?_
      refine j_getR dX0_many_179 fl_X0_38 rfl (by first | exact Fa.sh hf | assumption) (by first | exact Fq.f3 hg | assumption) ?_
      refine j_dV1 kl_X0_239 (x_allHair hR hw) dX0_many_182 rfl rfl (by decide) (by first | exact Pv.sh hR | assumption) (Nat.le_of_ble_eq_true rfl) (by first | decide | omega) (by omega) (by omega) ?_
      refine j_dV1 kl_X0_102 (x_gives (Fa.sh hf) _) dX0_many_185 rfl rfl (by decide) (by first | exact Fa.sh hf | assumption) (Nat.le_of_ble_eq_true rfl) (by first | decide | omega) (by omega) (by omega) ?_
      refine j_iret dX0_many_188 ⟨_, rfl, rfl⟩ (by omega) (by omega) ?_
      exact pxR hn (by unfold oMany; rw [if_pos e, ek]; rfl)
  · have e2 := Bool.eq_false_iff.mpr e
    refine Kt.go (Y := MX0_many) (ls := [some (.ref hx), some (.int w)]) (by decide) (Nat.le_of_ble_eq_true rfl) rfl ?_
    refine j_iload_n dX0_many_0 rfl ?_
    refine j_tabOut (tgt := 189) dX0_many_1 (okN_out (by decide) e2) (by decide) ?_
    first | refine j_aload_n dX0_many_189 rfl ?_ | refine j_aload_nN dX0_many_189 rfl ?_
    refine j_iconst (v := nI 5) dX0_many_190 (by decide +kernel) ?_
    refine j_dV1 kl_X0_98 (x_none (Fa.sh hf) _) dX0_many_191 rfl rfl (by decide) (by first | exact Fa.sh hf | assumption) (Nat.le_of_ble_eq_true rfl) (by first | decide | omega) (by omega) (by omega) ?_
    refine j_iret dX0_many_194 ⟨_, rfl, rfl⟩ (by omega) (by omega) ?_
    exact pxR hn (by unfold oMany; rw [if_neg e])
theorem q_word (hf : Fa σ hx B) (hg : Fq σ hx A) (hR : Pv σ L A C W P Dn Hn) (hw : Wx C W P Dn) (hH : C 3 = nI Hn) (k0 w : Int32) : Kd g l 3 MX0_word [.ref hx, .int k0, .int w] (put σ L C) (some (.int (oWord C W P Hn k0 w).1)) (put (xS σ hx (oWord C W P Hn k0 w).2) L C) := by
  obtain ⟨⟨⟨hW, hW8⟩, ⟨hP, hP6⟩, ⟨hD, hD6⟩, hdn⟩, hWv, hPp⟩ := id hw
  have hL := hR.inj
  have hn := hR.nf hf
  by_cases e : okN w 5 = true
  · obtain ⟨k, hk, rfl⟩ := okN_nI e
    have ek : ixn (nI k) = k := ixn_nI (by omega)
    have hz : k = 0 ∨ k = 1 ∨ k = 2 ∨ k = 3 ∨ k = 4 := by omega
    rcases hz with rfl | rfl | rfl | rfl | rfl
    · skip
      refine Kt.go (Y := MX0_word) (ls := [some (.ref hx), some (.int k0), some (.int (nI 0)), none]) (by decide) (Nat.le_of_ble_eq_true rfl) rfl ?_
      first | refine j_aload_n dX0_word_0 rfl ?_ | refine j_aload_nN dX0_word_0 rfl ?_
      refine j_iload_n dX0_word_1 rfl ?_
      refine j_dV1 kl_X0_242 (x_isWord hf hg hR hW hW8 _) dX0_word_2 rfl rfl (by decide) (by first | exact Fa.sh hf | assumption) (Nat.le_of_ble_eq_true rfl) (by first | decide | omega) (by omega) (by omega) ?_
      first | (with_reducible refine j_gB ?_; refine j_if_neB (tgt := 14) dX0_word_5 (by decide) (fun c_5 => ?_) (fun c_5 => ?_)) | (with_reducible refine j_gC ?_; refine j_if_neC (tgt := 14) dX0_word_5 (by decide) (fun c_5 => ?_) (fun c_5 => ?_)) | (with_reducible refine j_gN ?_; refine j_if_neN (tgt := 14) dX0_word_5 (by decide) (by omega) (fun c_5 => ?_) (fun c_5 => ?_)) | refine j_if_ne (tgt := 14) dX0_word_5 (by decide) (fun c_5 => ?_) (fun c_5 => ?_)
      · obtain ⟨k0, hk0, rfl⟩ := okN_nI c_5
        have ek0 : ixn (nI k0) = k0 := ixn_nI (by omega)
        first | refine j_aload_n dX0_word_14 rfl ?_ | refine j_aload_nN dX0_word_14 rfl ?_
        refine j_getR dX0_word_15 fl_X0_38 rfl (by first | exact Fa.sh hf | assumption) (by first | exact Fq.f3 hg | assumption) ?_
        refine j_getR dX0_word_18 fl_X0_245 rfl (by first | exact Pv.sh hR | assumption) (by first | exact Pv.r0 hR | assumption) ?_
        refine j_iload_n dX0_word_21 rfl ?_
        refine j_aald (t := 26) dX0_word_22 (fun _ => rfl) (by decide) (by first | exact Pe.sl hp | exact Pe.sa hp | exact Pe.sl hq | exact Pe.sa hq | exact Pv.sw hR | exact Pv.sp hR | exact Pv.sd hR | exact Fa.s0 hf | exact Fa.s12 hf | exact Fa.s13 hf | exact Fa.s14 hf | exact Fa.s15 hf | exact Fa.s16 hf | exact Fa.s20 hf | exact Fa.s21 hf | exact Fa.s23 hf | assumption) rfl (by omega) (by decide) (by first | exact Pv.rw hR (by omega) | exact Pv.rp hR (by omega) | exact Pv.rd hR (by omega) | exact Fa.tr hf (by omega) | assumption) ?_
        first | refine j_astore_n dX0_word_23 (by decide) ?_ | refine j_astore_nN dX0_word_23 (by decide) ?_
        refine j_iload_n dX0_word_24 rfl ?_
        refine j_tabIn (tgt := 60) dX0_word_25 (by decide +kernel) (by decide +kernel) (show _ = some (35) by decide +kernel) (by decide) ?_
        first | refine j_aload_n dX0_word_60 rfl ?_ | refine j_aload_nN dX0_word_60 rfl ?_
        first | refine j_aload_n dX0_word_61 rfl ?_ | refine j_aload_nN dX0_word_61 rfl ?_
        refine j_getI dX0_word_62 fl_X0_249 rfl (by first | exact Pv.ws hR (by omega) | assumption) (by first | exact Pv.w1 hR (by omega) | assumption) ?_
        refine j_dV1 kl_X0_102 (x_gives (Fa.sh hf) _) dX0_word_65 rfl rfl (by decide) (by first | exact Fa.sh hf | assumption) (Nat.le_of_ble_eq_true rfl) (by first | decide | omega) (by omega) (by omega) ?_
        refine j_iret dX0_word_68 ⟨_, rfl, rfl⟩ (by omega) (by omega) ?_
        exact pxR hn (by unfold oWord; rw [if_pos c_5, if_pos e, ek, ek0]; rfl)
      · first | refine j_aload_n dX0_word_8 rfl ?_ | refine j_aload_nN dX0_word_8 rfl ?_
        refine j_iconst (v := nI 2) dX0_word_9 (by decide +kernel) ?_
        refine j_dV1 kl_X0_98 (x_none (Fa.sh hf) _) dX0_word_10 rfl rfl (by decide) (by first | exact Fa.sh hf | assumption) (Nat.le_of_ble_eq_true rfl) (by first | decide | omega) (by omega) (by omega) ?_
        refine j_iret dX0_word_13 ⟨_, rfl, rfl⟩ (by omega) (by omega) ?_
        exact pxR hn (by unfold oWord; rw [if_neg (by rw [c_5]; decide)])
    · skip
      refine Kt.go (Y := MX0_word) (ls := [some (.ref hx), some (.int k0), some (.int (nI 1)), none]) (by decide) (Nat.le_of_ble_eq_true rfl) rfl ?_
      first | refine j_aload_n dX0_word_0 rfl ?_ | refine j_aload_nN dX0_word_0 rfl ?_
      refine j_iload_n dX0_word_1 rfl ?_
      refine j_dV1 kl_X0_242 (x_isWord hf hg hR hW hW8 _) dX0_word_2 rfl rfl (by decide) (by first | exact Fa.sh hf | assumption) (Nat.le_of_ble_eq_true rfl) (by first | decide | omega) (by omega) (by omega) ?_
      first | (with_reducible refine j_gB ?_; refine j_if_neB (tgt := 14) dX0_word_5 (by decide) (fun c_5 => ?_) (fun c_5 => ?_)) | (with_reducible refine j_gC ?_; refine j_if_neC (tgt := 14) dX0_word_5 (by decide) (fun c_5 => ?_) (fun c_5 => ?_)) | (with_reducible refine j_gN ?_; refine j_if_neN (tgt := 14) dX0_word_5 (by decide) (by omega) (fun c_5 => ?_) (fun c_5 => ?_)) | refine j_if_ne (tgt := 14) dX0_word_5 (by decide) (fun c_5 => ?_) (fun c_5 => ?_)
      · obtain ⟨k0, hk0, rfl⟩ := okN_nI c_5
        have ek0 : ixn (nI k0) = k0 := ixn_nI (by omega)
        first | refine j_aload_n dX0_word_14 rfl ?_ | refine j_aload_nN dX0_word_14 rfl ?_
        refine j_getR dX0_word_15 fl_X0_38 rfl (by first | exact Fa.sh hf | assumption) (by first | exact Fq.f3 hg | assumption) ?_
        refine j_getR dX0_word_18 fl_X0_245 rfl (by first | exact Pv.sh hR | assumption) (by first | exact Pv.r0 hR | assumption) ?_
        refine j_iload_n dX0_word_21 rfl ?_
        refine j_aald (t := 26) dX0_word_22 (fun _ => rfl) (by decide) (by first | exact Pe.sl hp | exact Pe.sa hp | exact Pe.sl hq | exact Pe.sa hq | exact Pv.sw hR | exact Pv.sp hR | exact Pv.sd hR | exact Fa.s0 hf | exact Fa.s12 hf | exact Fa.s13 hf | exact Fa.s14 hf | exact Fa.s15 hf | exact Fa.s16 hf | exact Fa.s20 hf | exact Fa.s21 hf | exact Fa.s23 hf | assumption) rfl (by omega) (by decide) (by first | exact Pv.rw hR (by omega) | exact Pv.rp hR (by omega) | exact Pv.rd hR (by omega) | exact Fa.tr hf (by omega) | assumption) ?_
        first | refine j_astore_n dX0_word_23 (by decide) ?_ | refine j_astore_nN dX0_word_23 (by decide) ?_
        refine j_iload_n dX0_word_24 rfl ?_
        refine j_tabIn (tgt := 69) dX0_word_25 (by decide +kernel) (by decide +kernel) (show _ = some (44) by decide +kernel) (by decide) ?_
        first | refine j_aload_n dX0_word_69 rfl ?_ | refine j_aload_nN dX0_word_69 rfl ?_
        first | refine j_aload_n dX0_word_70 rfl ?_ | refine j_aload_nN dX0_word_70 rfl ?_
        refine j_getI dX0_word_71 fl_X0_254 rfl (by first | exact Pv.ws hR (by omega) | assumption) (by first | exact Pv.w2 hR (by omega) | assumption) ?_
        refine j_dV1 kl_X0_102 (x_gives (Fa.sh hf) _) dX0_word_74 rfl rfl (by decide) (by first | exact Fa.sh hf | assumption) (Nat.le_of_ble_eq_true rfl) (by first | decide | omega) (by omega) (by omega) ?_
        refine j_iret dX0_word_77 ⟨_, rfl, rfl⟩ (by omega) (by omega) ?_
        exact pxR hn (by unfold oWord; rw [if_pos c_5, if_pos e, ek, ek0]; rfl)
      · first | refine j_aload_n dX0_word_8 rfl ?_ | refine j_aload_nN dX0_word_8 rfl ?_
        refine j_iconst (v := nI 2) dX0_word_9 (by decide +kernel) ?_
        refine j_dV1 kl_X0_98 (x_none (Fa.sh hf) _) dX0_word_10 rfl rfl (by decide) (by first | exact Fa.sh hf | assumption) (Nat.le_of_ble_eq_true rfl) (by first | decide | omega) (by omega) (by omega) ?_
        refine j_iret dX0_word_13 ⟨_, rfl, rfl⟩ (by omega) (by omega) ?_
        exact pxR hn (by unfold oWord; rw [if_neg (by rw [c_5]; decide)])
    · skip
      refine Kt.go (Y := MX0_word) (ls := [some (.ref hx), some (.int k0), some (.int (nI 2)), none]) (by decide) (Nat.le_of_ble_eq_true rfl) rfl ?_
      first | refine j_aload_n dX0_word_0 rfl ?_ | refine j_aload_nN dX0_word_0 rfl ?_
      refine j_iload_n dX0_word_1 rfl ?_
      refine j_dV1 kl_X0_242 (x_isWord hf hg hR hW hW8 _) dX0_word_2 rfl rfl (by decide) (by first | exact Fa.sh hf | assumption) (Nat.le_of_ble_eq_true rfl) (by first | decide | omega) (by omega) (by omega) ?_
      first | (with_reducible refine j_gB ?_; refine j_if_neB (tgt := 14) dX0_word_5 (by decide) (fun c_5 => ?_) (fun c_5 => ?_)) | (with_reducible refine j_gC ?_; refine j_if_neC (tgt := 14) dX0_word_5 (by decide) (fun c_5 => ?_) (fun c_5 => ?_)) | (with_reducible refine j_gN ?_; refine j_if_neN (tgt := 14) dX0_word_5 (by decide) (by omega) (fun c_5 => ?_) (fun c_5 => ?_)) | refine j_if_ne (tgt := 14) dX0_word_5 (by decide) (fun c_5 => ?_) (fun c_5 => ?_)
      · obtain ⟨k0, hk0, rfl⟩ := okN_nI c_5
        have ek0 : ixn (nI k0) = k0 := ixn_nI (by omega)
        first | refine j_aload_n dX0_word_14 rfl ?_ | refine j_aload_nN dX0_word_14 rfl ?_
        refine j_getR dX0_word_15 fl_X0_38 rfl (by first | exact Fa.sh hf | assumption) (by first | exact Fq.f3 hg | assumption) ?_
        refine j_getR dX0_word_18 fl_X0_245 rfl (by first | exact Pv.sh hR | assumption) (by first | exact Pv.r0 hR | assumption) ?_
        refine j_iload_n dX0_word_21 rfl ?_
        refine j_aald (t := 26) dX0_word_22 (fun _ => rfl) (by decide) (by first | exact Pe.sl hp | exact Pe.sa hp | exact Pe.sl hq | exact Pe.sa hq | exact Pv.sw hR | exact Pv.sp hR | exact Pv.sd hR | exact Fa.s0 hf | exact Fa.s12 hf | exact Fa.s13 hf | exact Fa.s14 hf | exact Fa.s15 hf | exact Fa.s16 hf | exact Fa.s20 hf | exact Fa.s21 hf | exact Fa.s23 hf | assumption) rfl (by omega) (by decide) (by first | exact Pv.rw hR (by omega) | exact Pv.rp hR (by omega) | exact Pv.rd hR (by omega) | exact Fa.tr hf (by omega) | assumption) ?_
        first | refine j_astore_n dX0_word_23 (by decide) ?_ | refine j_astore_nN dX0_word_23 (by decide) ?_
        refine j_iload_n dX0_word_24 rfl ?_
        refine j_tabIn (tgt := 78) dX0_word_25 (by decide +kernel) (by decide +kernel) (show _ = some (53) by decide +kernel) (by decide) ?_
        first | refine j_aload_n dX0_word_78 rfl ?_ | refine j_aload_nN dX0_word_78 rfl ?_
        first | refine j_aload_n dX0_word_79 rfl ?_ | refine j_aload_nN dX0_word_79 rfl ?_
        refine j_getR dX0_word_80 fl_X0_38 rfl (by first | exact Fa.sh hf | assumption) (by first | exact Fq.f3 hg | assumption) ?_
        refine j_iload_n dX0_word_83 rfl ?_
        refine j_iload_n dX0_word_84 rfl ?_
        refine j_iconst (v := nI 2) dX0_word_85 (by decide +kernel) ?_
        refine j_isub dX0_word_86 ?_
        rw [show nI 2 - nI 2 = nI 0 by decide]
        refine j_dV1 kl_X0_257 (x_peopleK hR hP hP6) dX0_word_87 rfl rfl (by decide) (by first | exact Pv.sh hR | assumption) (Nat.le_of_ble_eq_true rfl) (by first | decide | omega) (by omega) (by omega) ?_
        refine j_dV1 kl_X0_102 (x_gives (Fa.sh hf) _) dX0_word_90 rfl rfl (by decide) (by first | exact Fa.sh hf | assumption) (Nat.le_of_ble_eq_true rfl) (by first | decide | omega) (by omega) (by omega) ?_
        refine j_iret dX0_word_93 ⟨_, rfl, rfl⟩ (by omega) (by omega) ?_
        exact pxR hn (by unfold oWord; rw [if_pos c_5, if_pos e, ek, ek0]; rfl)
      · first | refine j_aload_n dX0_word_8 rfl ?_ | refine j_aload_nN dX0_word_8 rfl ?_
        refine j_iconst (v := nI 2) dX0_word_9 (by decide +kernel) ?_
        refine j_dV1 kl_X0_98 (x_none (Fa.sh hf) _) dX0_word_10 rfl rfl (by decide) (by first | exact Fa.sh hf | assumption) (Nat.le_of_ble_eq_true rfl) (by first | decide | omega) (by omega) (by omega) ?_
        refine j_iret dX0_word_13 ⟨_, rfl, rfl⟩ (by omega) (by omega) ?_
        exact pxR hn (by unfold oWord; rw [if_neg (by rw [c_5]; decide)])
    · skip
      refine Kt.go (Y := MX0_word) (ls := [some (.ref hx), some (.int k0), some (.int (nI 3)), none]) (by decide) (Nat.le_of_ble_eq_true rfl) rfl ?_
      first | refine j_aload_n dX0_word_0 rfl ?_ | refine j_aload_nN dX0_word_0 rfl ?_
      refine j_iload_n dX0_word_1 rfl ?_
      refine j_dV1 kl_X0_242 (x_isWord hf hg hR hW hW8 _) dX0_word_2 rfl rfl (by decide) (by first | exact Fa.sh hf | assumption) (Nat.le_of_ble_eq_true rfl) (by first | decide | omega) (by omega) (by omega) ?_
      first | (with_reducible refine j_gB ?_; refine j_if_neB (tgt := 14) dX0_word_5 (by decide) (fun c_5 => ?_) (fun c_5 => ?_)) | (with_reducible refine j_gC ?_; refine j_if_neC (tgt := 14) dX0_word_5 (by decide) (fun c_5 => ?_) (fun c_5 => ?_)) | (with_reducible refine j_gN ?_; refine j_if_neN (tgt := 14) dX0_word_5 (by decide) (by omega) (fun c_5 => ?_) (fun c_5 => ?_)) | refine j_if_ne (tgt := 14) dX0_word_5 (by decide) (fun c_5 => ?_) (fun c_5 => ?_)
      · obtain ⟨k0, hk0, rfl⟩ := okN_nI c_5
        have ek0 : ixn (nI k0) = k0 := ixn_nI (by omega)
        first | refine j_aload_n dX0_word_14 rfl ?_ | refine j_aload_nN dX0_word_14 rfl ?_
        refine j_getR dX0_word_15 fl_X0_38 rfl (by first | exact Fa.sh hf | assumption) (by first | exact Fq.f3 hg | assumption) ?_
        refine j_getR dX0_word_18 fl_X0_245 rfl (by first | exact Pv.sh hR | assumption) (by first | exact Pv.r0 hR | assumption) ?_
        refine j_iload_n dX0_word_21 rfl ?_
        refine j_aald (t := 26) dX0_word_22 (fun _ => rfl) (by decide) (by first | exact Pe.sl hp | exact Pe.sa hp | exact Pe.sl hq | exact Pe.sa hq | exact Pv.sw hR | exact Pv.sp hR | exact Pv.sd hR | exact Fa.s0 hf | exact Fa.s12 hf | exact Fa.s13 hf | exact Fa.s14 hf | exact Fa.s15 hf | exact Fa.s16 hf | exact Fa.s20 hf | exact Fa.s21 hf | exact Fa.s23 hf | assumption) rfl (by omega) (by decide) (by first | exact Pv.rw hR (by omega) | exact Pv.rp hR (by omega) | exact Pv.rd hR (by omega) | exact Fa.tr hf (by omega) | assumption) ?_
        first | refine j_astore_n dX0_word_23 (by decide) ?_ | refine j_astore_nN dX0_word_23 (by decide) ?_
        refine j_iload_n dX0_word_24 rfl ?_
        refine j_tabIn (tgt := 78) dX0_word_25 (by decide +kernel) (by decide +kernel) (show _ = some (53) by decide +kernel) (by decide) ?_
        first | refine j_aload_n dX0_word_78 rfl ?_ | refine j_aload_nN dX0_word_78 rfl ?_
        first | refine j_aload_n dX0_word_79 rfl ?_ | refine j_aload_nN dX0_word_79 rfl ?_
        refine j_getR dX0_word_80 fl_X0_38 rfl (by first | exact Fa.sh hf | assumption) (by first | exact Fq.f3 hg | assumption) ?_
        refine j_iload_n dX0_word_83 rfl ?_
        refine j_iload_n dX0_word_84 rfl ?_
        refine j_iconst (v := nI 2) dX0_word_85 (by decide +kernel) ?_
        refine j_isub dX0_word_86 ?_
        rw [show nI 3 - nI 2 = nI 1 by decide]
        refine j_dV1 kl_X0_257 (x_peopleS hR hP hP6) dX0_word_87 rfl rfl (by decide) (by first | exact Pv.sh hR | assumption) (Nat.le_of_ble_eq_true rfl) (by first | decide | omega) (by omega) (by omega) ?_
        refine j_dV1 kl_X0_102 (x_gives (Fa.sh hf) _) dX0_word_90 rfl rfl (by decide) (by first | exact Fa.sh hf | assumption) (Nat.le_of_ble_eq_true rfl) (by first | decide | omega) (by omega) (by omega) ?_
        refine j_iret dX0_word_93 ⟨_, rfl, rfl⟩ (by omega) (by omega) ?_
        exact pxR hn (by unfold oWord; rw [if_pos c_5, if_pos e, ek, ek0]; rfl)
      · first | refine j_aload_n dX0_word_8 rfl ?_ | refine j_aload_nN dX0_word_8 rfl ?_
        refine j_iconst (v := nI 2) dX0_word_9 (by decide +kernel) ?_
        refine j_dV1 kl_X0_98 (x_none (Fa.sh hf) _) dX0_word_10 rfl rfl (by decide) (by first | exact Fa.sh hf | assumption) (Nat.le_of_ble_eq_true rfl) (by first | decide | omega) (by omega) (by omega) ?_
        refine j_iret dX0_word_13 ⟨_, rfl, rfl⟩ (by omega) (by omega) ?_
        exact pxR hn (by unfold oWord; rw [if_neg (by rw [c_5]; decide)])
    · skip
      refine Kt.go (Y := MX0_word) (ls := [some (.ref hx), some (.int k0), some (.int (nI 4)), none]) (by decide) (Nat.le_of_ble_eq_true rfl) rfl ?_
      first | refine j_aload_n dX0_word_0 rfl ?_ | refine j_aload_nN dX0_word_0 rfl ?_
      refine j_iload_n dX0_word_1 rfl ?_
      refine j_dV1 kl_X0_242 (x_isWord hf hg hR hW hW8 _) dX0_word_2 rfl rfl (by decide) (by first | exact Fa.sh hf | assumption) (Nat.le_of_ble_eq_true rfl) (by first | decide | omega) (by omega) (by omega) ?_
      first | (with_reducible refine j_gB ?_; refine j_if_neB (tgt := 14) dX0_word_5 (by decide) (fun c_5 => ?_) (fun c_5 => ?_)) | (with_reducible refine j_gC ?_; refine j_if_neC (tgt := 14) dX0_word_5 (by decide) (fun c_5 => ?_) (fun c_5 => ?_)) | (with_reducible refine j_gN ?_; refine j_if_neN (tgt := 14) dX0_word_5 (by decide) (by omega) (fun c_5 => ?_) (fun c_5 => ?_)) | refine j_if_ne (tgt := 14) dX0_word_5 (by decide) (fun c_5 => ?_) (fun c_5 => ?_)
      · obtain ⟨k0, hk0, rfl⟩ := okN_nI c_5
        have ek0 : ixn (nI k0) = k0 := ixn_nI (by omega)
        first | refine j_aload_n dX0_word_14 rfl ?_ | refine j_aload_nN dX0_word_14 rfl ?_
        refine j_getR dX0_word_15 fl_X0_38 rfl (by first | exact Fa.sh hf | assumption) (by first | exact Fq.f3 hg | assumption) ?_
        refine j_getR dX0_word_18 fl_X0_245 rfl (by first | exact Pv.sh hR | assumption) (by first | exact Pv.r0 hR | assumption) ?_
        refine j_iload_n dX0_word_21 rfl ?_
        refine j_aald (t := 26) dX0_word_22 (fun _ => rfl) (by decide) (by first | exact Pe.sl hp | exact Pe.sa hp | exact Pe.sl hq | exact Pe.sa hq | exact Pv.sw hR | exact Pv.sp hR | exact Pv.sd hR | exact Fa.s0 hf | exact Fa.s12 hf | exact Fa.s13 hf | exact Fa.s14 hf | exact Fa.s15 hf | exact Fa.s16 hf | exact Fa.s20 hf | exact Fa.s21 hf | exact Fa.s23 hf | assumption) rfl (by omega) (by decide) (by first | exact Pv.rw hR (by omega) | exact Pv.rp hR (by omega) | exact Pv.rd hR (by omega) | exact Fa.tr hf (by omega) | assumption) ?_
        first | refine j_astore_n dX0_word_23 (by decide) ?_ | refine j_astore_nN dX0_word_23 (by decide) ?_
        refine j_iload_n dX0_word_24 rfl ?_
        refine j_tabIn (tgt := 94) dX0_word_25 (by decide +kernel) (by decide +kernel) (show _ = some (69) by decide +kernel) (by decide) ?_
        first | refine j_aload_n dX0_word_94 rfl ?_ | refine j_aload_nN dX0_word_94 rfl ?_
        first | refine j_aload_n dX0_word_95 rfl ?_ | refine j_aload_nN dX0_word_95 rfl ?_
        refine j_getI dX0_word_96 fl_X0_261 rfl (by first | exact Pv.ws hR (by omega) | assumption) (by first | exact Pv.w3 hR (by omega) | assumption) ?_
        refine j_dV1 kl_X0_102 (x_gives (Fa.sh hf) _) dX0_word_99 rfl rfl (by decide) (by first | exact Fa.sh hf | assumption) (Nat.le_of_ble_eq_true rfl) (by first | decide | omega) (by omega) (by omega) ?_
        refine j_iret dX0_word_102 ⟨_, rfl, rfl⟩ (by omega) (by omega) ?_
        exact pxR hn (by unfold oWord; rw [if_pos c_5, if_pos e, ek, ek0]; rfl)
      · first | refine j_aload_n dX0_word_8 rfl ?_ | refine j_aload_nN dX0_word_8 rfl ?_
        refine j_iconst (v := nI 2) dX0_word_9 (by decide +kernel) ?_
        refine j_dV1 kl_X0_98 (x_none (Fa.sh hf) _) dX0_word_10 rfl rfl (by decide) (by first | exact Fa.sh hf | assumption) (Nat.le_of_ble_eq_true rfl) (by first | decide | omega) (by omega) (by omega) ?_
        refine j_iret dX0_word_13 ⟨_, rfl, rfl⟩ (by omega) (by omega) ?_
        exact pxR hn (by unfold oWord; rw [if_neg (by rw [c_5]; decide)])
  · have e2 := Bool.eq_false_iff.mpr e
    refine Kt.go (Y := MX0_word) (ls := [some (.ref hx), some (.int k0), some (.int w), none]) (by decide) (Nat.le_of_ble_eq_true rfl) rfl ?_
    first | refine j_aload_n dX0_word_0 rfl ?_ | refine j_aload_nN dX0_word_0 rfl ?_
    refine j_iload_n dX0_word_1 rfl ?_
    refine j_dV1 kl_X0_242 (x_isWord hf hg hR hW hW8 _) dX0_word_2 rfl rfl (by decide) (by first | exact Fa.sh hf | assumption) (Nat.le_of_ble_eq_true rfl) (by first | decide | omega) (by omega) (by omega) ?_
    first | (with_reducible refine j_gB ?_; refine j_if_neB (tgt := 14) dX0_word_5 (by decide) (fun c_5 => ?_) (fun c_5 => ?_)) | (with_reducible refine j_gC ?_; refine j_if_neC (tgt := 14) dX0_word_5 (by decide) (fun c_5 => ?_) (fun c_5 => ?_)) | (with_reducible refine j_gN ?_; refine j_if_neN (tgt := 14) dX0_word_5 (by decide) (by omega) (fun c_5 => ?_) (fun c_5 => ?_)) | refine j_if_ne (tgt := 14) dX0_word_5 (by decide) (fun c_5 => ?_) (fun c_5 => ?_)
    · obtain ⟨k0, hk0, rfl⟩ := okN_nI c_5
      first | refine j_aload_n dX0_word_14 rfl ?_ | refine j_aload_nN dX0_word_14 rfl ?_
      refine j_getR dX0_word_15 fl_X0_38 rfl (by first | exact Fa.sh hf | assumption) (by first | exact Fq.f3 hg | assumption) ?_
      refine j_getR dX0_word_18 fl_X0_245 rfl (by first | exact Pv.sh hR | assumption) (by first | exact Pv.r0 hR | assumption) ?_
      refine j_iload_n dX0_word_21 rfl ?_
      refine j_aald (t := 26) dX0_word_22 (fun _ => rfl) (by decide) (by first | exact Pe.sl hp | exact Pe.sa hp | exact Pe.sl hq | exact Pe.sa hq | exact Pv.sw hR | exact Pv.sp hR | exact Pv.sd hR | exact Fa.s0 hf | exact Fa.s12 hf | exact Fa.s13 hf | exact Fa.s14 hf | exact Fa.s15 hf | exact Fa.s16 hf | exact Fa.s20 hf | exact Fa.s21 hf | exact Fa.s23 hf | assumption) rfl (by omega) (by decide) (by first | exact Pv.rw hR (by omega) | exact Pv.rp hR (by omega) | exact Pv.rd hR (by omega) | exact Fa.tr hf (by omega) | assumption) ?_
      first | refine j_astore_n dX0_word_23 (by decide) ?_ | refine j_astore_nN dX0_word_23 (by decide) ?_
      refine j_iload_n dX0_word_24 rfl ?_
      refine j_tabOut (tgt := 103) dX0_word_25 (okN_out (by decide) e2) (by decide) ?_
      first | refine j_aload_n dX0_word_103 rfl ?_ | refine j_aload_nN dX0_word_103 rfl ?_
      refine j_iconst (v := nI 5) dX0_word_104 (by decide +kernel) ?_
      refine j_dV1 kl_X0_98 (x_none (Fa.sh hf) _) dX0_word_105 rfl rfl (by decide) (by first | exact Fa.sh hf | assumption) (Nat.le_of_ble_eq_true rfl) (by first | decide | omega) (by omega) (by omega) ?_
      refine j_iret dX0_word_108 ⟨_, rfl, rfl⟩ (by omega) (by omega) ?_
      exact pxR hn (by unfold oWord; rw [if_pos c_5, if_neg e])
    · first | refine j_aload_n dX0_word_8 rfl ?_ | refine j_aload_nN dX0_word_8 rfl ?_
      refine j_iconst (v := nI 2) dX0_word_9 (by decide +kernel) ?_
      refine j_dV1 kl_X0_98 (x_none (Fa.sh hf) _) dX0_word_10 rfl rfl (by decide) (by first | exact Fa.sh hf | assumption) (Nat.le_of_ble_eq_true rfl) (by first | decide | omega) (by omega) (by omega) ?_
      refine j_iret dX0_word_13 ⟨_, rfl, rfl⟩ (by omega) (by omega) ?_
      exact pxR hn (by unfold oWord; rw [if_neg (by rw [c_5]; decide)])
theorem q_person (hf : Fa σ hx B) (hg : Fq σ hx A) (hR : Pv σ L A C W P Dn Hn) (hw : Wx C W P Dn) (hb : Bb C P) (p0 w : Int32) : Kd g l 3 MX0_person [.ref hx, .int p0, .int w] (put σ L C) (some (.int (oPerson C W P p0 w).1)) (put (xS σ hx (oPerson C W P p0 w).2) L C) := by
  obtain ⟨⟨⟨hW, hW8⟩, ⟨hP, hP6⟩, ⟨hD, hD6⟩, hdn⟩, hWv, hPp⟩ := id hw
  have hL := hR.inj
  have hn := hR.nf hf
  by_cases e : okN w 5 = true
  · obtain ⟨k, hk, rfl⟩ := okN_nI e
    have ek : ixn (nI k) = k := ixn_nI (by omega)
    have hz : k = 0 ∨ k = 1 ∨ k = 2 ∨ k = 3 ∨ k = 4 := by omega
    rcases hz with rfl | rfl | rfl | rfl | rfl
    · skip
      refine Kt.go (Y := MX0_person) (ls := [some (.ref hx), some (.int p0), some (.int (nI 0)), none]) (by decide) (Nat.le_of_ble_eq_true rfl) rfl ?_
      first | refine j_aload_n dX0_person_0 rfl ?_ | refine j_aload_nN dX0_person_0 rfl ?_
      refine j_iload_n dX0_person_1 rfl ?_
      refine j_dV1 kl_X0_264 (x_isPerson hf hg hR hP hP6 _) dX0_person_2 rfl rfl (by decide) (by first | exact Fa.sh hf | assumption) (Nat.le_of_ble_eq_true rfl) (by first | decide | omega) (by omega) (by omega) ?_
      first | (with_reducible refine j_gB ?_; refine j_if_neB (tgt := 14) dX0_person_5 (by decide) (fun c_5 => ?_) (fun c_5 => ?_)) | (with_reducible refine j_gC ?_; refine j_if_neC (tgt := 14) dX0_person_5 (by decide) (fun c_5 => ?_) (fun c_5 => ?_)) | (with_reducible refine j_gN ?_; refine j_if_neN (tgt := 14) dX0_person_5 (by decide) (by omega) (fun c_5 => ?_) (fun c_5 => ?_)) | refine j_if_ne (tgt := 14) dX0_person_5 (by decide) (fun c_5 => ?_) (fun c_5 => ?_)
      · obtain ⟨p0, hp0, rfl⟩ := okN_nI c_5
        have ep : ixn (nI p0) = p0 := ixn_nI (by omega)
        have hp := hR.pe hp0
        have hq := hp
        first | refine j_aload_n dX0_person_14 rfl ?_ | refine j_aload_nN dX0_person_14 rfl ?_
        refine j_getR dX0_person_15 fl_X0_38 rfl (by first | exact Fa.sh hf | assumption) (by first | exact Fq.f3 hg | assumption) ?_
        refine j_getR dX0_person_18 fl_X0_211 rfl (by first | exact Pv.sh hR | assumption) (by first | exact Pv.r1 hR | assumption) ?_
        refine j_iload_n dX0_person_21 rfl ?_
        refine j_aald (t := 27) dX0_person_22 (fun _ => rfl) (by decide) (by first | exact Pe.sl hp | exact Pe.sa hp | exact Pe.sl hq | exact Pe.sa hq | exact Pv.sw hR | exact Pv.sp hR | exact Pv.sd hR | exact Fa.s0 hf | exact Fa.s12 hf | exact Fa.s13 hf | exact Fa.s14 hf | exact Fa.s15 hf | exact Fa.s16 hf | exact Fa.s20 hf | exact Fa.s21 hf | exact Fa.s23 hf | assumption) rfl (by omega) (by decide) (by first | exact Pv.rw hR (by omega) | exact Pv.rp hR (by omega) | exact Pv.rd hR (by omega) | exact Fa.tr hf (by omega) | assumption) ?_
        first | refine j_astore_n dX0_person_23 (by decide) ?_ | refine j_astore_nN dX0_person_23 (by decide) ?_
        refine j_iload_n dX0_person_24 rfl ?_
        refine j_tabIn (tgt := 60) dX0_person_25 (by decide +kernel) (by decide +kernel) (show _ = some (35) by decide +kernel) (by decide) ?_
        first | refine j_aload_n dX0_person_60 rfl ?_ | refine j_aload_nN dX0_person_60 rfl ?_
        first | refine j_aload_n dX0_person_61 rfl ?_ | refine j_aload_nN dX0_person_61 rfl ?_
        refine j_getI dX0_person_62 fl_X0_267 rfl (by first | exact Pe.sh hp | exact Pe.sh hq | assumption) (by first | exact pg (Pe.l3 hp) | exact pg (Pe.l3 hq) | assumption) ?_
        refine j_dV1 kl_X0_102 (x_gives (Fa.sh hf) _) dX0_person_65 rfl rfl (by decide) (by first | exact Fa.sh hf | assumption) (Nat.le_of_ble_eq_true rfl) (by first | decide | omega) (by omega) (by omega) ?_
        refine j_iret dX0_person_68 ⟨_, rfl, rfl⟩ (by omega) (by omega) ?_
        exact pxR hn (by unfold oPerson; rw [if_pos c_5, if_pos e, ek, ep]; rfl)
      · first | refine j_aload_n dX0_person_8 rfl ?_ | refine j_aload_nN dX0_person_8 rfl ?_
        refine j_iconst (v := nI 2) dX0_person_9 (by decide +kernel) ?_
        refine j_dV1 kl_X0_98 (x_none (Fa.sh hf) _) dX0_person_10 rfl rfl (by decide) (by first | exact Fa.sh hf | assumption) (Nat.le_of_ble_eq_true rfl) (by first | decide | omega) (by omega) (by omega) ?_
        refine j_iret dX0_person_13 ⟨_, rfl, rfl⟩ (by omega) (by omega) ?_
        exact pxR hn (by unfold oPerson; rw [if_neg (by rw [c_5]; decide)])
    · skip
      refine Kt.go (Y := MX0_person) (ls := [some (.ref hx), some (.int p0), some (.int (nI 1)), none]) (by decide) (Nat.le_of_ble_eq_true rfl) rfl ?_
      first | refine j_aload_n dX0_person_0 rfl ?_ | refine j_aload_nN dX0_person_0 rfl ?_
      refine j_iload_n dX0_person_1 rfl ?_
      refine j_dV1 kl_X0_264 (x_isPerson hf hg hR hP hP6 _) dX0_person_2 rfl rfl (by decide) (by first | exact Fa.sh hf | assumption) (Nat.le_of_ble_eq_true rfl) (by first | decide | omega) (by omega) (by omega) ?_
      first | (with_reducible refine j_gB ?_; refine j_if_neB (tgt := 14) dX0_person_5 (by decide) (fun c_5 => ?_) (fun c_5 => ?_)) | (with_reducible refine j_gC ?_; refine j_if_neC (tgt := 14) dX0_person_5 (by decide) (fun c_5 => ?_) (fun c_5 => ?_)) | (with_reducible refine j_gN ?_; refine j_if_neN (tgt := 14) dX0_person_5 (by decide) (by omega) (fun c_5 => ?_) (fun c_5 => ?_)) | refine j_if_ne (tgt := 14) dX0_person_5 (by decide) (fun c_5 => ?_) (fun c_5 => ?_)
      · obtain ⟨p0, hp0, rfl⟩ := okN_nI c_5
        have ep : ixn (nI p0) = p0 := ixn_nI (by omega)
        have hp := hR.pe hp0
        have hq := hp
        first | refine j_aload_n dX0_person_14 rfl ?_ | refine j_aload_nN dX0_person_14 rfl ?_
        refine j_getR dX0_person_15 fl_X0_38 rfl (by first | exact Fa.sh hf | assumption) (by first | exact Fq.f3 hg | assumption) ?_
        refine j_getR dX0_person_18 fl_X0_211 rfl (by first | exact Pv.sh hR | assumption) (by first | exact Pv.r1 hR | assumption) ?_
        refine j_iload_n dX0_person_21 rfl ?_
        refine j_aald (t := 27) dX0_person_22 (fun _ => rfl) (by decide) (by first | exact Pe.sl hp | exact Pe.sa hp | exact Pe.sl hq | exact Pe.sa hq | exact Pv.sw hR | exact Pv.sp hR | exact Pv.sd hR | exact Fa.s0 hf | exact Fa.s12 hf | exact Fa.s13 hf | exact Fa.s14 hf | exact Fa.s15 hf | exact Fa.s16 hf | exact Fa.s20 hf | exact Fa.s21 hf | exact Fa.s23 hf | assumption) rfl (by omega) (by decide) (by first | exact Pv.rw hR (by omega) | exact Pv.rp hR (by omega) | exact Pv.rd hR (by omega) | exact Fa.tr hf (by omega) | assumption) ?_
        first | refine j_astore_n dX0_person_23 (by decide) ?_ | refine j_astore_nN dX0_person_23 (by decide) ?_
        refine j_iload_n dX0_person_24 rfl ?_
        refine j_tabIn (tgt := 69) dX0_person_25 (by decide +kernel) (by decide +kernel) (show _ = some (44) by decide +kernel) (by decide) ?_
        first | refine j_aload_n dX0_person_69 rfl ?_ | refine j_aload_nN dX0_person_69 rfl ?_
        first | refine j_aload_n dX0_person_70 rfl ?_ | refine j_aload_nN dX0_person_70 rfl ?_
        refine j_getI dX0_person_71 fl_X0_214 rfl (by first | exact Pe.sh hp | exact Pe.sh hq | assumption) (by first | exact pg (Pe.l6 hp) | exact pg (Pe.l6 hq) | assumption) ?_
        first | (with_reducible refine j_gB ?_; refine j_if_eqB (tgt := 81) dX0_person_74 (by decide) (fun c_74 => ?_) (fun c_74 => ?_)) | (with_reducible refine j_gC ?_; refine j_if_eqC (tgt := 81) dX0_person_74 (by decide) (fun c_74 => ?_) (fun c_74 => ?_)) | (with_reducible refine j_gN ?_; refine j_if_eqN (tgt := 81) dX0_person_74 (by decide) (by omega) (fun c_74 => ?_) (fun c_74 => ?_)) | refine j_if_eq (tgt := 81) dX0_person_74 (by decide) (fun c_74 => ?_) (fun c_74 => ?_)
        · refine j_iconst (v := nI 0) dX0_person_81 (by decide +kernel) ?_
          refine j_dV1 kl_X0_102 (x_gives (Fa.sh hf) _) dX0_person_82 rfl rfl (by decide) (by first | exact Fa.sh hf | assumption) (Nat.le_of_ble_eq_true rfl) (by first | decide | omega) (by omega) (by omega) ?_
          refine j_iret dX0_person_85 ⟨_, rfl, rfl⟩ (by omega) (by omega) ?_
          exact pxR hn (by
            unfold oPerson
            rw [if_pos c_5, if_pos e, ek, ep]
            rcases hb p0 hp0 with z | z
            · first
              | exact absurd z c_74
              | (show (C (31 + p0), nI 0) = _; rw [z])
            · first
              | exact absurd (c_74.symm.trans z) (by decide)
              | (show (C (31 + p0), nI 0) = _; rw [z]))
        · refine j_iconst (v := nI 1) dX0_person_77 (by decide +kernel) ?_
          refine j_goto (tgt := 82) dX0_person_78 (by decide) ?_
          refine j_dV1 kl_X0_102 (x_gives (Fa.sh hf) _) dX0_person_82 rfl rfl (by decide) (by first | exact Fa.sh hf | assumption) (Nat.le_of_ble_eq_true rfl) (by first | decide | omega) (by omega) (by omega) ?_
          refine j_iret dX0_person_85 ⟨_, rfl, rfl⟩ (by omega) (by omega) ?_
          exact pxR hn (by
            unfold oPerson
            rw [if_pos c_5, if_pos e, ek, ep]
            rcases hb p0 hp0 with z | z
            · first
              | exact absurd z c_74
              | (show (C (31 + p0), nI 0) = _; rw [z])
            · first
              | exact absurd (c_74.symm.trans z) (by decide)
              | (show (C (31 + p0), nI 0) = _; rw [z]))
      · first | refine j_aload_n dX0_person_8 rfl ?_ | refine j_aload_nN dX0_person_8 rfl ?_
        refine j_iconst (v := nI 2) dX0_person_9 (by decide +kernel) ?_
        refine j_dV1 kl_X0_98 (x_none (Fa.sh hf) _) dX0_person_10 rfl rfl (by decide) (by first | exact Fa.sh hf | assumption) (Nat.le_of_ble_eq_true rfl) (by first | decide | omega) (by omega) (by omega) ?_
        refine j_iret dX0_person_13 ⟨_, rfl, rfl⟩ (by omega) (by omega) ?_
        exact pxR hn (by unfold oPerson; rw [if_neg (by rw [c_5]; decide)])
    · skip
      refine Kt.go (Y := MX0_person) (ls := [some (.ref hx), some (.int p0), some (.int (nI 2)), none]) (by decide) (Nat.le_of_ble_eq_true rfl) rfl ?_
      first | refine j_aload_n dX0_person_0 rfl ?_ | refine j_aload_nN dX0_person_0 rfl ?_
      refine j_iload_n dX0_person_1 rfl ?_
      refine j_dV1 kl_X0_264 (x_isPerson hf hg hR hP hP6 _) dX0_person_2 rfl rfl (by decide) (by first | exact Fa.sh hf | assumption) (Nat.le_of_ble_eq_true rfl) (by first | decide | omega) (by omega) (by omega) ?_
      first | (with_reducible refine j_gB ?_; refine j_if_neB (tgt := 14) dX0_person_5 (by decide) (fun c_5 => ?_) (fun c_5 => ?_)) | (with_reducible refine j_gC ?_; refine j_if_neC (tgt := 14) dX0_person_5 (by decide) (fun c_5 => ?_) (fun c_5 => ?_)) | (with_reducible refine j_gN ?_; refine j_if_neN (tgt := 14) dX0_person_5 (by decide) (by omega) (fun c_5 => ?_) (fun c_5 => ?_)) | refine j_if_ne (tgt := 14) dX0_person_5 (by decide) (fun c_5 => ?_) (fun c_5 => ?_)
      · obtain ⟨p0, hp0, rfl⟩ := okN_nI c_5
        have ep : ixn (nI p0) = p0 := ixn_nI (by omega)
        have hp := hR.pe hp0
        have hq := hp
        first | refine j_aload_n dX0_person_14 rfl ?_ | refine j_aload_nN dX0_person_14 rfl ?_
        refine j_getR dX0_person_15 fl_X0_38 rfl (by first | exact Fa.sh hf | assumption) (by first | exact Fq.f3 hg | assumption) ?_
        refine j_getR dX0_person_18 fl_X0_211 rfl (by first | exact Pv.sh hR | assumption) (by first | exact Pv.r1 hR | assumption) ?_
        refine j_iload_n dX0_person_21 rfl ?_
        refine j_aald (t := 27) dX0_person_22 (fun _ => rfl) (by decide) (by first | exact Pe.sl hp | exact Pe.sa hp | exact Pe.sl hq | exact Pe.sa hq | exact Pv.sw hR | exact Pv.sp hR | exact Pv.sd hR | exact Fa.s0 hf | exact Fa.s12 hf | exact Fa.s13 hf | exact Fa.s14 hf | exact Fa.s15 hf | exact Fa.s16 hf | exact Fa.s20 hf | exact Fa.s21 hf | exact Fa.s23 hf | assumption) rfl (by omega) (by decide) (by first | exact Pv.rw hR (by omega) | exact Pv.rp hR (by omega) | exact Pv.rd hR (by omega) | exact Fa.tr hf (by omega) | assumption) ?_
        first | refine j_astore_n dX0_person_23 (by decide) ?_ | refine j_astore_nN dX0_person_23 (by decide) ?_
        refine j_iload_n dX0_person_24 rfl ?_
        refine j_tabIn (tgt := 86) dX0_person_25 (by decide +kernel) (by decide +kernel) (show _ = some (61) by decide +kernel) (by decide) ?_
        first | refine j_aload_n dX0_person_86 rfl ?_ | refine j_aload_nN dX0_person_86 rfl ?_
        first | refine j_aload_n dX0_person_87 rfl ?_ | refine j_aload_nN dX0_person_87 rfl ?_
        refine j_getI dX0_person_88 fl_X0_270 rfl (by first | exact Pe.sh hp | exact Pe.sh hq | assumption) (by first | exact pg (Pe.l4 hp) | exact pg (Pe.l4 hq) | assumption) ?_
        refine j_dV1 kl_X0_102 (x_gives (Fa.sh hf) _) dX0_person_91 rfl rfl (by decide) (by first | exact Fa.sh hf | assumption) (Nat.le_of_ble_eq_true rfl) (by first | decide | omega) (by omega) (by omega) ?_
        refine j_iret dX0_person_94 ⟨_, rfl, rfl⟩ (by omega) (by omega) ?_
        exact pxR hn (by unfold oPerson; rw [if_pos c_5, if_pos e, ek, ep]; rfl)
      · first | refine j_aload_n dX0_person_8 rfl ?_ | refine j_aload_nN dX0_person_8 rfl ?_
        refine j_iconst (v := nI 2) dX0_person_9 (by decide +kernel) ?_
        refine j_dV1 kl_X0_98 (x_none (Fa.sh hf) _) dX0_person_10 rfl rfl (by decide) (by first | exact Fa.sh hf | assumption) (Nat.le_of_ble_eq_true rfl) (by first | decide | omega) (by omega) (by omega) ?_
        refine j_iret dX0_person_13 ⟨_, rfl, rfl⟩ (by omega) (by omega) ?_
        exact pxR hn (by unfold oPerson; rw [if_neg (by rw [c_5]; decide)])
    · skip
      refine Kt.go (Y := MX0_person) (ls := [some (.ref hx), some (.int p0), some (.int (nI 3)), none]) (by decide) (Nat.le_of_ble_eq_true rfl) rfl ?_
      first | refine j_aload_n dX0_person_0 rfl ?_ | refine j_aload_nN dX0_person_0 rfl ?_
      refine j_iload_n dX0_person_1 rfl ?_
      refine j_dV1 kl_X0_264 (x_isPerson hf hg hR hP hP6 _) dX0_person_2 rfl rfl (by decide) (by first | exact Fa.sh hf | assumption) (Nat.le_of_ble_eq_true rfl) (by first | decide | omega) (by omega) (by omega) ?_
      first | (with_reducible refine j_gB ?_; refine j_if_neB (tgt := 14) dX0_person_5 (by decide) (fun c_5 => ?_) (fun c_5 => ?_)) | (with_reducible refine j_gC ?_; refine j_if_neC (tgt := 14) dX0_person_5 (by decide) (fun c_5 => ?_) (fun c_5 => ?_)) | (with_reducible refine j_gN ?_; refine j_if_neN (tgt := 14) dX0_person_5 (by decide) (by omega) (fun c_5 => ?_) (fun c_5 => ?_)) | refine j_if_ne (tgt := 14) dX0_person_5 (by decide) (fun c_5 => ?_) (fun c_5 => ?_)
      · obtain ⟨p0, hp0, rfl⟩ := okN_nI c_5
        have ep : ixn (nI p0) = p0 := ixn_nI (by omega)
        have hp := hR.pe hp0
        have hq := hp
        first | refine j_aload_n dX0_person_14 rfl ?_ | refine j_aload_nN dX0_person_14 rfl ?_
        refine j_getR dX0_person_15 fl_X0_38 rfl (by first | exact Fa.sh hf | assumption) (by first | exact Fq.f3 hg | assumption) ?_
        refine j_getR dX0_person_18 fl_X0_211 rfl (by first | exact Pv.sh hR | assumption) (by first | exact Pv.r1 hR | assumption) ?_
        refine j_iload_n dX0_person_21 rfl ?_
        refine j_aald (t := 27) dX0_person_22 (fun _ => rfl) (by decide) (by first | exact Pe.sl hp | exact Pe.sa hp | exact Pe.sl hq | exact Pe.sa hq | exact Pv.sw hR | exact Pv.sp hR | exact Pv.sd hR | exact Fa.s0 hf | exact Fa.s12 hf | exact Fa.s13 hf | exact Fa.s14 hf | exact Fa.s15 hf | exact Fa.s16 hf | exact Fa.s20 hf | exact Fa.s21 hf | exact Fa.s23 hf | assumption) rfl (by omega) (by decide) (by first | exact Pv.rw hR (by omega) | exact Pv.rp hR (by omega) | exact Pv.rd hR (by omega) | exact Fa.tr hf (by omega) | assumption) ?_
        first | refine j_astore_n dX0_person_23 (by decide) ?_ | refine j_astore_nN dX0_person_23 (by decide) ?_
        refine j_iload_n dX0_person_24 rfl ?_
        refine j_tabIn (tgt := 95) dX0_person_25 (by decide +kernel) (by decide +kernel) (show _ = some (70) by decide +kernel) (by decide) ?_
        first | refine j_aload_n dX0_person_95 rfl ?_ | refine j_aload_nN dX0_person_95 rfl ?_
        first | refine j_aload_n dX0_person_96 rfl ?_ | refine j_aload_nN dX0_person_96 rfl ?_
        refine j_getI dX0_person_97 fl_X0_273 rfl (by first | exact Pe.sh hp | exact Pe.sh hq | assumption) (by first | exact pg (Pe.l5 hp) | exact pg (Pe.l5 hq) | assumption) ?_
        refine j_dV1 kl_X0_102 (x_gives (Fa.sh hf) _) dX0_person_100 rfl rfl (by decide) (by first | exact Fa.sh hf | assumption) (Nat.le_of_ble_eq_true rfl) (by first | decide | omega) (by omega) (by omega) ?_
        refine j_iret dX0_person_103 ⟨_, rfl, rfl⟩ (by omega) (by omega) ?_
        exact pxR hn (by unfold oPerson; rw [if_pos c_5, if_pos e, ek, ep]; rfl)
      · first | refine j_aload_n dX0_person_8 rfl ?_ | refine j_aload_nN dX0_person_8 rfl ?_
        refine j_iconst (v := nI 2) dX0_person_9 (by decide +kernel) ?_
        refine j_dV1 kl_X0_98 (x_none (Fa.sh hf) _) dX0_person_10 rfl rfl (by decide) (by first | exact Fa.sh hf | assumption) (Nat.le_of_ble_eq_true rfl) (by first | decide | omega) (by omega) (by omega) ?_
        refine j_iret dX0_person_13 ⟨_, rfl, rfl⟩ (by omega) (by omega) ?_
        exact pxR hn (by unfold oPerson; rw [if_neg (by rw [c_5]; decide)])
    · skip
      refine Kt.go (Y := MX0_person) (ls := [some (.ref hx), some (.int p0), some (.int (nI 4)), none]) (by decide) (Nat.le_of_ble_eq_true rfl) rfl ?_
      first | refine j_aload_n dX0_person_0 rfl ?_ | refine j_aload_nN dX0_person_0 rfl ?_
      refine j_iload_n dX0_person_1 rfl ?_
      refine j_dV1 kl_X0_264 (x_isPerson hf hg hR hP hP6 _) dX0_person_2 rfl rfl (by decide) (by first | exact Fa.sh hf | assumption) (Nat.le_of_ble_eq_true rfl) (by first | decide | omega) (by omega) (by omega) ?_
      first | (with_reducible refine j_gB ?_; refine j_if_neB (tgt := 14) dX0_person_5 (by decide) (fun c_5 => ?_) (fun c_5 => ?_)) | (with_reducible refine j_gC ?_; refine j_if_neC (tgt := 14) dX0_person_5 (by decide) (fun c_5 => ?_) (fun c_5 => ?_)) | (with_reducible refine j_gN ?_; refine j_if_neN (tgt := 14) dX0_person_5 (by decide) (by omega) (fun c_5 => ?_) (fun c_5 => ?_)) | refine j_if_ne (tgt := 14) dX0_person_5 (by decide) (fun c_5 => ?_) (fun c_5 => ?_)
      · obtain ⟨p0, hp0, rfl⟩ := okN_nI c_5
        have ep : ixn (nI p0) = p0 := ixn_nI (by omega)
        have hp := hR.pe hp0
        have hq := hp
        first | refine j_aload_n dX0_person_14 rfl ?_ | refine j_aload_nN dX0_person_14 rfl ?_
        refine j_getR dX0_person_15 fl_X0_38 rfl (by first | exact Fa.sh hf | assumption) (by first | exact Fq.f3 hg | assumption) ?_
        refine j_getR dX0_person_18 fl_X0_211 rfl (by first | exact Pv.sh hR | assumption) (by first | exact Pv.r1 hR | assumption) ?_
        refine j_iload_n dX0_person_21 rfl ?_
        refine j_aald (t := 27) dX0_person_22 (fun _ => rfl) (by decide) (by first | exact Pe.sl hp | exact Pe.sa hp | exact Pe.sl hq | exact Pe.sa hq | exact Pv.sw hR | exact Pv.sp hR | exact Pv.sd hR | exact Fa.s0 hf | exact Fa.s12 hf | exact Fa.s13 hf | exact Fa.s14 hf | exact Fa.s15 hf | exact Fa.s16 hf | exact Fa.s20 hf | exact Fa.s21 hf | exact Fa.s23 hf | assumption) rfl (by omega) (by decide) (by first | exact Pv.rw hR (by omega) | exact Pv.rp hR (by omega) | exact Pv.rd hR (by omega) | exact Fa.tr hf (by omega) | assumption) ?_
        first | refine j_astore_n dX0_person_23 (by decide) ?_ | refine j_astore_nN dX0_person_23 (by decide) ?_
        refine j_iload_n dX0_person_24 rfl ?_
        refine j_tabIn (tgt := 104) dX0_person_25 (by decide +kernel) (by decide +kernel) (show _ = some (79) by decide +kernel) (by decide) ?_
        first | refine j_aload_n dX0_person_104 rfl ?_ | refine j_aload_nN dX0_person_104 rfl ?_
        first | refine j_aload_n dX0_person_105 rfl ?_ | refine j_aload_nN dX0_person_105 rfl ?_
        refine j_dV1 kl_X0_276 (x_hair hL hp hW8 ((hPp p0 hp0).kw hW8)) dX0_person_106 rfl rfl (by decide) (by first | exact Pe.sh hp | exact Pe.sh hq | assumption) (Nat.le_of_ble_eq_true rfl) (by first | decide | omega) (by omega) (by omega) ?_
        refine j_dV1 kl_X0_102 (x_gives (Fa.sh hf) _) dX0_person_109 rfl rfl (by decide) (by first | exact Fa.sh hf | assumption) (Nat.le_of_ble_eq_true rfl) (by first | decide | omega) (by omega) (by omega) ?_
        refine j_iret dX0_person_112 ⟨_, rfl, rfl⟩ (by omega) (by omega) ?_
        exact pxR hn (by unfold oPerson; rw [if_pos c_5, if_pos e, ek, ep]; rfl)
      · first | refine j_aload_n dX0_person_8 rfl ?_ | refine j_aload_nN dX0_person_8 rfl ?_
        refine j_iconst (v := nI 2) dX0_person_9 (by decide +kernel) ?_
        refine j_dV1 kl_X0_98 (x_none (Fa.sh hf) _) dX0_person_10 rfl rfl (by decide) (by first | exact Fa.sh hf | assumption) (Nat.le_of_ble_eq_true rfl) (by first | decide | omega) (by omega) (by omega) ?_
        refine j_iret dX0_person_13 ⟨_, rfl, rfl⟩ (by omega) (by omega) ?_
        exact pxR hn (by unfold oPerson; rw [if_neg (by rw [c_5]; decide)])
  · have e2 := Bool.eq_false_iff.mpr e
    refine Kt.go (Y := MX0_person) (ls := [some (.ref hx), some (.int p0), some (.int w), none]) (by decide) (Nat.le_of_ble_eq_true rfl) rfl ?_
    first | refine j_aload_n dX0_person_0 rfl ?_ | refine j_aload_nN dX0_person_0 rfl ?_
    refine j_iload_n dX0_person_1 rfl ?_
    refine j_dV1 kl_X0_264 (x_isPerson hf hg hR hP hP6 _) dX0_person_2 rfl rfl (by decide) (by first | exact Fa.sh hf | assumption) (Nat.le_of_ble_eq_true rfl) (by first | decide | omega) (by omega) (by omega) ?_
    first | (with_reducible refine j_gB ?_; refine j_if_neB (tgt := 14) dX0_person_5 (by decide) (fun c_5 => ?_) (fun c_5 => ?_)) | (with_reducible refine j_gC ?_; refine j_if_neC (tgt := 14) dX0_person_5 (by decide) (fun c_5 => ?_) (fun c_5 => ?_)) | (with_reducible refine j_gN ?_; refine j_if_neN (tgt := 14) dX0_person_5 (by decide) (by omega) (fun c_5 => ?_) (fun c_5 => ?_)) | refine j_if_ne (tgt := 14) dX0_person_5 (by decide) (fun c_5 => ?_) (fun c_5 => ?_)
    · obtain ⟨p0, hp0, rfl⟩ := okN_nI c_5
      have hp := hR.pe hp0
      have hq := hp
      first | refine j_aload_n dX0_person_14 rfl ?_ | refine j_aload_nN dX0_person_14 rfl ?_
      refine j_getR dX0_person_15 fl_X0_38 rfl (by first | exact Fa.sh hf | assumption) (by first | exact Fq.f3 hg | assumption) ?_
      refine j_getR dX0_person_18 fl_X0_211 rfl (by first | exact Pv.sh hR | assumption) (by first | exact Pv.r1 hR | assumption) ?_
      refine j_iload_n dX0_person_21 rfl ?_
      refine j_aald (t := 27) dX0_person_22 (fun _ => rfl) (by decide) (by first | exact Pe.sl hp | exact Pe.sa hp | exact Pe.sl hq | exact Pe.sa hq | exact Pv.sw hR | exact Pv.sp hR | exact Pv.sd hR | exact Fa.s0 hf | exact Fa.s12 hf | exact Fa.s13 hf | exact Fa.s14 hf | exact Fa.s15 hf | exact Fa.s16 hf | exact Fa.s20 hf | exact Fa.s21 hf | exact Fa.s23 hf | assumption) rfl (by omega) (by decide) (by first | exact Pv.rw hR (by omega) | exact Pv.rp hR (by omega) | exact Pv.rd hR (by omega) | exact Fa.tr hf (by omega) | assumption) ?_
      first | refine j_astore_n dX0_person_23 (by decide) ?_ | refine j_astore_nN dX0_person_23 (by decide) ?_
      refine j_iload_n dX0_person_24 rfl ?_
      refine j_tabOut (tgt := 113) dX0_person_25 (okN_out (by decide) e2) (by decide) ?_
      first | refine j_aload_n dX0_person_113 rfl ?_ | refine j_aload_nN dX0_person_113 rfl ?_
      refine j_iconst (v := nI 5) dX0_person_114 (by decide +kernel) ?_
      refine j_dV1 kl_X0_98 (x_none (Fa.sh hf) _) dX0_person_115 rfl rfl (by decide) (by first | exact Fa.sh hf | assumption) (Nat.le_of_ble_eq_true rfl) (by first | decide | omega) (by omega) (by omega) ?_
      refine j_iret dX0_person_118 ⟨_, rfl, rfl⟩ (by omega) (by omega) ?_
      exact pxR hn (by unfold oPerson; rw [if_pos c_5, if_neg e])
    · first | refine j_aload_n dX0_person_8 rfl ?_ | refine j_aload_nN dX0_person_8 rfl ?_
      refine j_iconst (v := nI 2) dX0_person_9 (by decide +kernel) ?_
      refine j_dV1 kl_X0_98 (x_none (Fa.sh hf) _) dX0_person_10 rfl rfl (by decide) (by first | exact Fa.sh hf | assumption) (Nat.le_of_ble_eq_true rfl) (by first | decide | omega) (by omega) (by omega) ?_
      refine j_iret dX0_person_13 ⟨_, rfl, rfl⟩ (by omega) (by omega) ?_
      exact pxR hn (by unfold oPerson; rw [if_neg (by rw [c_5]; decide)])
theorem q_dinner (hf : Fa σ hx B) (hg : Fq σ hx A) (hR : Pv σ L A C W P Dn Hn) (hw : Wx C W P Dn) (d0 w : Int32) : Kd g l 3 MX0_dinner [.ref hx, .int d0, .int w] (put σ L C) (some (.int (oDinner C Dn d0 w).1)) (put (xS σ hx (oDinner C Dn d0 w).2) L C) := by
  obtain ⟨⟨⟨hW, hW8⟩, ⟨hP, hP6⟩, ⟨hD, hD6⟩, hdn⟩, hWv, hPp⟩ := id hw
  have hL := hR.inj
  have hn := hR.nf hf
  by_cases e : okN w 3 = true
  · obtain ⟨k, hk, rfl⟩ := okN_nI e
    have ek : ixn (nI k) = k := ixn_nI (by omega)
    have hz : k = 0 ∨ k = 1 ∨ k = 2 := by omega
    rcases hz with rfl | rfl | rfl
    · skip
      refine Kt.go (Y := MX0_dinner) (ls := [some (.ref hx), some (.int d0), some (.int (nI 0)), none]) (by decide) (Nat.le_of_ble_eq_true rfl) rfl ?_
      first | refine j_aload_n dX0_dinner_0 rfl ?_ | refine j_aload_nN dX0_dinner_0 rfl ?_
      refine j_iload_n dX0_dinner_1 rfl ?_
      refine j_dV1 kl_X0_288 (x_isDinner hf hg hR hD hD6 _) dX0_dinner_2 rfl rfl (by decide) (by first | exact Fa.sh hf | assumption) (Nat.le_of_ble_eq_true rfl) (by first | decide | omega) (by omega) (by omega) ?_
      first | (with_reducible refine j_gB ?_; refine j_if_neB (tgt := 14) dX0_dinner_5 (by decide) (fun c_5 => ?_) (fun c_5 => ?_)) | (with_reducible refine j_gC ?_; refine j_if_neC (tgt := 14) dX0_dinner_5 (by decide) (fun c_5 => ?_) (fun c_5 => ?_)) | (with_reducible refine j_gN ?_; refine j_if_neN (tgt := 14) dX0_dinner_5 (by decide) (by omega) (fun c_5 => ?_) (fun c_5 => ?_)) | refine j_if_ne (tgt := 14) dX0_dinner_5 (by decide) (fun c_5 => ?_) (fun c_5 => ?_)
      · obtain ⟨d0, hd0, rfl⟩ := okN_nI c_5
        have ed : ixn (nI d0) = d0 := ixn_nI (by omega)
        first | refine j_aload_n dX0_dinner_14 rfl ?_ | refine j_aload_nN dX0_dinner_14 rfl ?_
        refine j_getR dX0_dinner_15 fl_X0_38 rfl (by first | exact Fa.sh hf | assumption) (by first | exact Fq.f3 hg | assumption) ?_
        refine j_getR dX0_dinner_18 fl_X0_291 rfl (by first | exact Pv.sh hR | assumption) (by first | exact Pv.r2 hR | assumption) ?_
        refine j_iload_n dX0_dinner_21 rfl ?_
        refine j_aald (t := 28) dX0_dinner_22 (fun _ => rfl) (by decide) (by first | exact Pe.sl hp | exact Pe.sa hp | exact Pe.sl hq | exact Pe.sa hq | exact Pv.sw hR | exact Pv.sp hR | exact Pv.sd hR | exact Fa.s0 hf | exact Fa.s12 hf | exact Fa.s13 hf | exact Fa.s14 hf | exact Fa.s15 hf | exact Fa.s16 hf | exact Fa.s20 hf | exact Fa.s21 hf | exact Fa.s23 hf | assumption) rfl (by omega) (by decide) (by first | exact Pv.rw hR (by omega) | exact Pv.rp hR (by omega) | exact Pv.rd hR (by omega) | exact Fa.tr hf (by omega) | assumption) ?_
        first | refine j_astore_n dX0_dinner_23 (by decide) ?_ | refine j_astore_nN dX0_dinner_23 (by decide) ?_
        refine j_iload_n dX0_dinner_24 rfl ?_
        refine j_tabIn (tgt := 52) dX0_dinner_25 (by decide +kernel) (by decide +kernel) (show _ = some (27) by decide +kernel) (by decide) ?_
        first | refine j_aload_n dX0_dinner_52 rfl ?_ | refine j_aload_nN dX0_dinner_52 rfl ?_
        first | refine j_aload_n dX0_dinner_53 rfl ?_ | refine j_aload_nN dX0_dinner_53 rfl ?_
        refine j_getI dX0_dinner_54 fl_X0_295 rfl (by first | exact Pv.ds hR (by omega) | assumption) (by first | exact Pv.d0 hR (by omega) | assumption) ?_
        refine j_dV1 kl_X0_102 (x_gives (Fa.sh hf) _) dX0_dinner_57 rfl rfl (by decide) (by first | exact Fa.sh hf | assumption) (Nat.le_of_ble_eq_true rfl) (by first | decide | omega) (by omega) (by omega) ?_
        refine j_iret dX0_dinner_60 ⟨_, rfl, rfl⟩ (by omega) (by omega) ?_
        exact pxR hn (by unfold oDinner; rw [if_pos c_5, if_pos e, ek, ed])
      · first | refine j_aload_n dX0_dinner_8 rfl ?_ | refine j_aload_nN dX0_dinner_8 rfl ?_
        refine j_iconst (v := nI 2) dX0_dinner_9 (by decide +kernel) ?_
        refine j_dV1 kl_X0_98 (x_none (Fa.sh hf) _) dX0_dinner_10 rfl rfl (by decide) (by first | exact Fa.sh hf | assumption) (Nat.le_of_ble_eq_true rfl) (by first | decide | omega) (by omega) (by omega) ?_
        refine j_iret dX0_dinner_13 ⟨_, rfl, rfl⟩ (by omega) (by omega) ?_
        exact pxR hn (by unfold oDinner; rw [if_neg (by rw [c_5]; decide)])
    · skip
      refine Kt.go (Y := MX0_dinner) (ls := [some (.ref hx), some (.int d0), some (.int (nI 1)), none]) (by decide) (Nat.le_of_ble_eq_true rfl) rfl ?_
      first | refine j_aload_n dX0_dinner_0 rfl ?_ | refine j_aload_nN dX0_dinner_0 rfl ?_
      refine j_iload_n dX0_dinner_1 rfl ?_
      refine j_dV1 kl_X0_288 (x_isDinner hf hg hR hD hD6 _) dX0_dinner_2 rfl rfl (by decide) (by first | exact Fa.sh hf | assumption) (Nat.le_of_ble_eq_true rfl) (by first | decide | omega) (by omega) (by omega) ?_
      first | (with_reducible refine j_gB ?_; refine j_if_neB (tgt := 14) dX0_dinner_5 (by decide) (fun c_5 => ?_) (fun c_5 => ?_)) | (with_reducible refine j_gC ?_; refine j_if_neC (tgt := 14) dX0_dinner_5 (by decide) (fun c_5 => ?_) (fun c_5 => ?_)) | (with_reducible refine j_gN ?_; refine j_if_neN (tgt := 14) dX0_dinner_5 (by decide) (by omega) (fun c_5 => ?_) (fun c_5 => ?_)) | refine j_if_ne (tgt := 14) dX0_dinner_5 (by decide) (fun c_5 => ?_) (fun c_5 => ?_)
      · obtain ⟨d0, hd0, rfl⟩ := okN_nI c_5
        have ed : ixn (nI d0) = d0 := ixn_nI (by omega)
        first | refine j_aload_n dX0_dinner_14 rfl ?_ | refine j_aload_nN dX0_dinner_14 rfl ?_
        refine j_getR dX0_dinner_15 fl_X0_38 rfl (by first | exact Fa.sh hf | assumption) (by first | exact Fq.f3 hg | assumption) ?_
        refine j_getR dX0_dinner_18 fl_X0_291 rfl (by first | exact Pv.sh hR | assumption) (by first | exact Pv.r2 hR | assumption) ?_
        refine j_iload_n dX0_dinner_21 rfl ?_
        refine j_aald (t := 28) dX0_dinner_22 (fun _ => rfl) (by decide) (by first | exact Pe.sl hp | exact Pe.sa hp | exact Pe.sl hq | exact Pe.sa hq | exact Pv.sw hR | exact Pv.sp hR | exact Pv.sd hR | exact Fa.s0 hf | exact Fa.s12 hf | exact Fa.s13 hf | exact Fa.s14 hf | exact Fa.s15 hf | exact Fa.s16 hf | exact Fa.s20 hf | exact Fa.s21 hf | exact Fa.s23 hf | assumption) rfl (by omega) (by decide) (by first | exact Pv.rw hR (by omega) | exact Pv.rp hR (by omega) | exact Pv.rd hR (by omega) | exact Fa.tr hf (by omega) | assumption) ?_
        first | refine j_astore_n dX0_dinner_23 (by decide) ?_ | refine j_astore_nN dX0_dinner_23 (by decide) ?_
        refine j_iload_n dX0_dinner_24 rfl ?_
        refine j_tabIn (tgt := 61) dX0_dinner_25 (by decide +kernel) (by decide +kernel) (show _ = some (36) by decide +kernel) (by decide) ?_
        first | refine j_aload_n dX0_dinner_61 rfl ?_ | refine j_aload_nN dX0_dinner_61 rfl ?_
        first | refine j_aload_n dX0_dinner_62 rfl ?_ | refine j_aload_nN dX0_dinner_62 rfl ?_
        refine j_getI dX0_dinner_63 fl_X0_300 rfl (by first | exact Pv.ds hR (by omega) | assumption) (by first | exact Pv.d1 hR (by omega) | assumption) ?_
        refine j_dV1 kl_X0_102 (x_gives (Fa.sh hf) _) dX0_dinner_66 rfl rfl (by decide) (by first | exact Fa.sh hf | assumption) (Nat.le_of_ble_eq_true rfl) (by first | decide | omega) (by omega) (by omega) ?_
        refine j_iret dX0_dinner_69 ⟨_, rfl, rfl⟩ (by omega) (by omega) ?_
        exact pxR hn (by unfold oDinner; rw [if_pos c_5, if_pos e, ek, ed])
      · first | refine j_aload_n dX0_dinner_8 rfl ?_ | refine j_aload_nN dX0_dinner_8 rfl ?_
        refine j_iconst (v := nI 2) dX0_dinner_9 (by decide +kernel) ?_
        refine j_dV1 kl_X0_98 (x_none (Fa.sh hf) _) dX0_dinner_10 rfl rfl (by decide) (by first | exact Fa.sh hf | assumption) (Nat.le_of_ble_eq_true rfl) (by first | decide | omega) (by omega) (by omega) ?_
        refine j_iret dX0_dinner_13 ⟨_, rfl, rfl⟩ (by omega) (by omega) ?_
        exact pxR hn (by unfold oDinner; rw [if_neg (by rw [c_5]; decide)])
    · skip
      refine Kt.go (Y := MX0_dinner) (ls := [some (.ref hx), some (.int d0), some (.int (nI 2)), none]) (by decide) (Nat.le_of_ble_eq_true rfl) rfl ?_
      first | refine j_aload_n dX0_dinner_0 rfl ?_ | refine j_aload_nN dX0_dinner_0 rfl ?_
      refine j_iload_n dX0_dinner_1 rfl ?_
      refine j_dV1 kl_X0_288 (x_isDinner hf hg hR hD hD6 _) dX0_dinner_2 rfl rfl (by decide) (by first | exact Fa.sh hf | assumption) (Nat.le_of_ble_eq_true rfl) (by first | decide | omega) (by omega) (by omega) ?_
      first | (with_reducible refine j_gB ?_; refine j_if_neB (tgt := 14) dX0_dinner_5 (by decide) (fun c_5 => ?_) (fun c_5 => ?_)) | (with_reducible refine j_gC ?_; refine j_if_neC (tgt := 14) dX0_dinner_5 (by decide) (fun c_5 => ?_) (fun c_5 => ?_)) | (with_reducible refine j_gN ?_; refine j_if_neN (tgt := 14) dX0_dinner_5 (by decide) (by omega) (fun c_5 => ?_) (fun c_5 => ?_)) | refine j_if_ne (tgt := 14) dX0_dinner_5 (by decide) (fun c_5 => ?_) (fun c_5 => ?_)
      · obtain ⟨d0, hd0, rfl⟩ := okN_nI c_5
        have ed : ixn (nI d0) = d0 := ixn_nI (by omega)
        first | refine j_aload_n dX0_dinner_14 rfl ?_ | refine j_aload_nN dX0_dinner_14 rfl ?_
        refine j_getR dX0_dinner_15 fl_X0_38 rfl (by first | exact Fa.sh hf | assumption) (by first | exact Fq.f3 hg | assumption) ?_
        refine j_getR dX0_dinner_18 fl_X0_291 rfl (by first | exact Pv.sh hR | assumption) (by first | exact Pv.r2 hR | assumption) ?_
        refine j_iload_n dX0_dinner_21 rfl ?_
        refine j_aald (t := 28) dX0_dinner_22 (fun _ => rfl) (by decide) (by first | exact Pe.sl hp | exact Pe.sa hp | exact Pe.sl hq | exact Pe.sa hq | exact Pv.sw hR | exact Pv.sp hR | exact Pv.sd hR | exact Fa.s0 hf | exact Fa.s12 hf | exact Fa.s13 hf | exact Fa.s14 hf | exact Fa.s15 hf | exact Fa.s16 hf | exact Fa.s20 hf | exact Fa.s21 hf | exact Fa.s23 hf | assumption) rfl (by omega) (by decide) (by first | exact Pv.rw hR (by omega) | exact Pv.rp hR (by omega) | exact Pv.rd hR (by omega) | exact Fa.tr hf (by omega) | assumption) ?_
        first | refine j_astore_n dX0_dinner_23 (by decide) ?_ | refine j_astore_nN dX0_dinner_23 (by decide) ?_
        refine j_iload_n dX0_dinner_24 rfl ?_
        refine j_tabIn (tgt := 70) dX0_dinner_25 (by decide +kernel) (by decide +kernel) (show _ = some (45) by decide +kernel) (by decide) ?_
        first | refine j_aload_n dX0_dinner_70 rfl ?_ | refine j_aload_nN dX0_dinner_70 rfl ?_
        first | refine j_aload_n dX0_dinner_71 rfl ?_ | refine j_aload_nN dX0_dinner_71 rfl ?_
        refine j_getI dX0_dinner_72 fl_X0_303 rfl (by first | exact Pv.ds hR (by omega) | assumption) (by first | exact Pv.d2 hR (by omega) | assumption) ?_
        refine j_dV1 kl_X0_102 (x_gives (Fa.sh hf) _) dX0_dinner_75 rfl rfl (by decide) (by first | exact Fa.sh hf | assumption) (Nat.le_of_ble_eq_true rfl) (by first | decide | omega) (by omega) (by omega) ?_
        refine j_iret dX0_dinner_78 ⟨_, rfl, rfl⟩ (by omega) (by omega) ?_
        exact pxR hn (by unfold oDinner; rw [if_pos c_5, if_pos e, ek, ed])
      · first | refine j_aload_n dX0_dinner_8 rfl ?_ | refine j_aload_nN dX0_dinner_8 rfl ?_
        refine j_iconst (v := nI 2) dX0_dinner_9 (by decide +kernel) ?_
        refine j_dV1 kl_X0_98 (x_none (Fa.sh hf) _) dX0_dinner_10 rfl rfl (by decide) (by first | exact Fa.sh hf | assumption) (Nat.le_of_ble_eq_true rfl) (by first | decide | omega) (by omega) (by omega) ?_
        refine j_iret dX0_dinner_13 ⟨_, rfl, rfl⟩ (by omega) (by omega) ?_
        exact pxR hn (by unfold oDinner; rw [if_neg (by rw [c_5]; decide)])
  · have e2 := Bool.eq_false_iff.mpr e
    refine Kt.go (Y := MX0_dinner) (ls := [some (.ref hx), some (.int d0), some (.int w), none]) (by decide) (Nat.le_of_ble_eq_true rfl) rfl ?_
    first | refine j_aload_n dX0_dinner_0 rfl ?_ | refine j_aload_nN dX0_dinner_0 rfl ?_
    refine j_iload_n dX0_dinner_1 rfl ?_
    refine j_dV1 kl_X0_288 (x_isDinner hf hg hR hD hD6 _) dX0_dinner_2 rfl rfl (by decide) (by first | exact Fa.sh hf | assumption) (Nat.le_of_ble_eq_true rfl) (by first | decide | omega) (by omega) (by omega) ?_
    first | (with_reducible refine j_gB ?_; refine j_if_neB (tgt := 14) dX0_dinner_5 (by decide) (fun c_5 => ?_) (fun c_5 => ?_)) | (with_reducible refine j_gC ?_; refine j_if_neC (tgt := 14) dX0_dinner_5 (by decide) (fun c_5 => ?_) (fun c_5 => ?_)) | (with_reducible refine j_gN ?_; refine j_if_neN (tgt := 14) dX0_dinner_5 (by decide) (by omega) (fun c_5 => ?_) (fun c_5 => ?_)) | refine j_if_ne (tgt := 14) dX0_dinner_5 (by decide) (fun c_5 => ?_) (fun c_5 => ?_)
    · obtain ⟨d0, hd0, rfl⟩ := okN_nI c_5
      first | refine j_aload_n dX0_dinner_14 rfl ?_ | refine j_aload_nN dX0_dinner_14 rfl ?_
      refine j_getR dX0_dinner_15 fl_X0_38 rfl (by first | exact Fa.sh hf | assumption) (by first | exact Fq.f3 hg | assumption) ?_
      refine j_getR dX0_dinner_18 fl_X0_291 rfl (by first | exact Pv.sh hR | assumption) (by first | exact Pv.r2 hR | assumption) ?_
      refine j_iload_n dX0_dinner_21 rfl ?_
      refine j_aald (t := 28) dX0_dinner_22 (fun _ => rfl) (by decide) (by first | exact Pe.sl hp | exact Pe.sa hp | exact Pe.sl hq | exact Pe.sa hq | exact Pv.sw hR | exact Pv.sp hR | exact Pv.sd hR | exact Fa.s0 hf | exact Fa.s12 hf | exact Fa.s13 hf | exact Fa.s14 hf | exact Fa.s15 hf | exact Fa.s16 hf | exact Fa.s20 hf | exact Fa.s21 hf | exact Fa.s23 hf | assumption) rfl (by omega) (by decide) (by first | exact Pv.rw hR (by omega) | exact Pv.rp hR (by omega) | exact Pv.rd hR (by omega) | exact Fa.tr hf (by omega) | assumption) ?_
      first | refine j_astore_n dX0_dinner_23 (by decide) ?_ | refine j_astore_nN dX0_dinner_23 (by decide) ?_
      refine j_iload_n dX0_dinner_24 rfl ?_
      refine j_tabOut (tgt := 79) dX0_dinner_25 (okN_out (by decide) e2) (by decide) ?_
      first | refine j_aload_n dX0_dinner_79 rfl ?_ | refine j_aload_nN dX0_dinner_79 rfl ?_
      refine j_iconst (v := nI 5) dX0_dinner_80 (by decide +kernel) ?_
      refine j_dV1 kl_X0_98 (x_none (Fa.sh hf) _) dX0_dinner_81 rfl rfl (by decide) (by first | exact Fa.sh hf | assumption) (Nat.le_of_ble_eq_true rfl) (by first | decide | omega) (by omega) (by omega) ?_
      refine j_iret dX0_dinner_84 ⟨_, rfl, rfl⟩ (by omega) (by omega) ?_
      exact pxR hn (by unfold oDinner; rw [if_pos c_5, if_neg e])
    · first | refine j_aload_n dX0_dinner_8 rfl ?_ | refine j_aload_nN dX0_dinner_8 rfl ?_
      refine j_iconst (v := nI 2) dX0_dinner_9 (by decide +kernel) ?_
      refine j_dV1 kl_X0_98 (x_none (Fa.sh hf) _) dX0_dinner_10 rfl rfl (by decide) (by first | exact Fa.sh hf | assumption) (Nat.le_of_ble_eq_true rfl) (by first | decide | omega) (by omega) (by omega) ?_
      refine j_iret dX0_dinner_13 ⟨_, rfl, rfl⟩ (by omega) (by omega) ?_
      exact pxR hn (by unfold oDinner; rw [if_neg (by rw [c_5]; decide)])
theorem q_strand (hf : Fa σ hx B) (hg : Fq σ hx A) (hR : Pv σ L A C W P Dn Hn) (hw : Wx C W P Dn) (p0 k0 w : Int32) : Kd g l 3 MX0_strand [.ref hx, .int p0, .int k0, .int w] (put σ L C) (some (.int (oStrand C W P p0 k0 w).1)) (put (xS σ hx (oStrand C W P p0 k0 w).2) L C) := by
  obtain ⟨⟨⟨hW, hW8⟩, ⟨hP, hP6⟩, ⟨hD, hD6⟩, hdn⟩, hWv, hPp⟩ := id hw
  have hL := hR.inj
  have hn := hR.nf hf
  refine Kt.go (Y := MX0_strand) (ls := [some (.ref hx), some (.int p0), some (.int k0), some (.int w), none]) (by decide) (Nat.le_of_ble_eq_true rfl) rfl ?_
  first | refine j_aload_n dX0_strand_0 rfl ?_ | refine j_aload_nN dX0_strand_0 rfl ?_
  refine j_iload_n dX0_strand_1 rfl ?_
  refine j_dV1 kl_X0_264 (x_isPerson hf hg hR hP hP6 _) dX0_strand_2 rfl rfl (by decide) (by first | exact Fa.sh hf | assumption) (Nat.le_of_ble_eq_true rfl) (by first | decide | omega) (by omega) (by omega) ?_
  first | (with_reducible refine j_gB ?_; refine j_if_eqB (tgt := 16) dX0_strand_5 (by decide) (fun c_5 => ?_) (fun c_5 => ?_)) | (with_reducible refine j_gC ?_; refine j_if_eqC (tgt := 16) dX0_strand_5 (by decide) (fun c_5 => ?_) (fun c_5 => ?_)) | (with_reducible refine j_gN ?_; refine j_if_eqN (tgt := 16) dX0_strand_5 (by decide) (by omega) (fun c_5 => ?_) (fun c_5 => ?_)) | refine j_if_eq (tgt := 16) dX0_strand_5 (by decide) (fun c_5 => ?_) (fun c_5 => ?_)
  · first | refine j_aload_n dX0_strand_16 rfl ?_ | refine j_aload_nN dX0_strand_16 rfl ?_
    refine j_iconst (v := nI 2) dX0_strand_17 (by decide +kernel) ?_
    refine j_dV1 kl_X0_98 (x_none (Fa.sh hf) _) dX0_strand_18 rfl rfl (by decide) (by first | exact Fa.sh hf | assumption) (Nat.le_of_ble_eq_true rfl) (by first | decide | omega) (by omega) (by omega) ?_
    refine j_iret dX0_strand_21 ⟨_, rfl, rfl⟩ (by omega) (by omega) ?_
    exact pxR hn (by simp [oStrand, *])
  · first | refine j_aload_n dX0_strand_8 rfl ?_ | refine j_aload_nN dX0_strand_8 rfl ?_
    refine j_iload_n dX0_strand_9 rfl ?_
    refine j_dV1 kl_X0_242 (x_isWord hf hg hR hW hW8 _) dX0_strand_10 rfl rfl (by decide) (by first | exact Fa.sh hf | assumption) (Nat.le_of_ble_eq_true rfl) (by first | decide | omega) (by omega) (by omega) ?_
    first | (with_reducible refine j_gB ?_; refine j_if_neB (tgt := 22) dX0_strand_13 (by decide) (fun c_13 => ?_) (fun c_13 => ?_)) | (with_reducible refine j_gC ?_; refine j_if_neC (tgt := 22) dX0_strand_13 (by decide) (fun c_13 => ?_) (fun c_13 => ?_)) | (with_reducible refine j_gN ?_; refine j_if_neN (tgt := 22) dX0_strand_13 (by decide) (by omega) (fun c_13 => ?_) (fun c_13 => ?_)) | refine j_if_ne (tgt := 22) dX0_strand_13 (by decide) (fun c_13 => ?_) (fun c_13 => ?_)
    · refine j_iload_n dX0_strand_22 rfl ?_
      refine j_i2l dX0_strand_23 ?_
      refine j_lconst (v := 0) dX0_strand_24 (by decide +kernel) ?_
      refine j_lconst (v := 1) dX0_strand_25 (by decide +kernel) ?_
      refine j_dS1 kl_X0_162 (k_isFrom _ _ _) dX0_strand_26 rfl rfl (Nat.le_of_ble_eq_true rfl) (by first | decide | omega) (by omega) (by omega) ?_
      rw [inL_ok (n := 2) (by decide +kernel)]
      first | (with_reducible refine j_gB ?_; refine j_if_neB (tgt := 38) dX0_strand_29 (by decide) (fun c_29 => ?_) (fun c_29 => ?_)) | (with_reducible refine j_gC ?_; refine j_if_neC (tgt := 38) dX0_strand_29 (by decide) (fun c_29 => ?_) (fun c_29 => ?_)) | (with_reducible refine j_gN ?_; refine j_if_neN (tgt := 38) dX0_strand_29 (by decide) (by omega) (fun c_29 => ?_) (fun c_29 => ?_)) | refine j_if_ne (tgt := 38) dX0_strand_29 (by decide) (fun c_29 => ?_) (fun c_29 => ?_)
      · obtain ⟨p0, hp0, rfl⟩ := okN_nI c_5
        obtain ⟨k0, hk0, rfl⟩ := okN_nI c_13
        obtain ⟨w, hw2, rfl⟩ := okN_nI c_29
        have ep : ixn (nI p0) = p0 := ixn_nI (by omega)
        have ek : ixn (nI k0) = k0 := ixn_nI (by omega)
        have ew : ixn (nI w) = w := ixn_nI (by omega)
        have hp := hR.pe hp0
        have hq := hp
        first | refine j_aload_n dX0_strand_38 rfl ?_ | refine j_aload_nN dX0_strand_38 rfl ?_
        refine j_getR dX0_strand_39 fl_X0_38 rfl (by first | exact Fa.sh hf | assumption) (by first | exact Fq.f3 hg | assumption) ?_
        refine j_getR dX0_strand_42 fl_X0_211 rfl (by first | exact Pv.sh hR | assumption) (by first | exact Pv.r1 hR | assumption) ?_
        refine j_iload_n dX0_strand_45 rfl ?_
        refine j_aald (t := 27) dX0_strand_46 (fun _ => rfl) (by decide) (by first | exact Pe.sl hp | exact Pe.sa hp | exact Pe.sl hq | exact Pe.sa hq | exact Pv.sw hR | exact Pv.sp hR | exact Pv.sd hR | exact Fa.s0 hf | exact Fa.s12 hf | exact Fa.s13 hf | exact Fa.s14 hf | exact Fa.s15 hf | exact Fa.s16 hf | exact Fa.s20 hf | exact Fa.s21 hf | exact Fa.s23 hf | assumption) rfl (by omega) (by decide) (by first | exact Pv.rw hR (by omega) | exact Pv.rp hR (by omega) | exact Pv.rd hR (by omega) | exact Fa.tr hf (by omega) | assumption) ?_
        first | refine j_astore dX0_strand_47 (by decide) ?_ | refine j_astoreN dX0_strand_47 (by decide) ?_
        first | refine j_aload dX0_strand_49 rfl ?_ | refine j_aloadN dX0_strand_49 rfl ?_
        refine j_getI dX0_strand_51 fl_X0_273 rfl (by first | exact Pe.sh hp | exact Pe.sh hq | assumption) (by first | exact pg (Pe.l5 hp) | exact pg (Pe.l5 hq) | assumption) ?_
        refine j_iload_n dX0_strand_54 rfl ?_
        refine j_dS1 kl_X0_279 (k_isIn _ _ _ _ k0) dX0_strand_55 rfl rfl (Nat.le_of_ble_eq_true rfl) (by first | decide | omega) (by omega) (by omega) ?_
        first | (with_reducible refine j_gB ?_; refine j_if_neB (tgt := 70) dX0_strand_58 (by decide) (fun c_58 => ?_) (fun c_58 => ?_)) | (with_reducible refine j_gC ?_; refine j_if_neC (tgt := 70) dX0_strand_58 (by decide) (fun c_58 => ?_) (fun c_58 => ?_)) | (with_reducible refine j_gN ?_; refine j_if_neN (tgt := 70) dX0_strand_58 (by decide) (by omega) (fun c_58 => ?_) (fun c_58 => ?_)) | refine j_if_ne (tgt := 70) dX0_strand_58 (by decide) (fun c_58 => ?_) (fun c_58 => ?_)
        · first | refine j_aload_n dX0_strand_70 rfl ?_ | refine j_aload_nN dX0_strand_70 rfl ?_
          refine j_iload_n dX0_strand_71 rfl ?_
          first | (with_reducible refine j_gB ?_; refine j_if_neB (tgt := 85) dX0_strand_72 (by decide) (fun c_72 => ?_) (fun c_72 => ?_)) | (with_reducible refine j_gC ?_; refine j_if_neC (tgt := 85) dX0_strand_72 (by decide) (fun c_72 => ?_) (fun c_72 => ?_)) | (with_reducible refine j_gN ?_; refine j_if_neN (tgt := 85) dX0_strand_72 (by decide) (by omega) (fun c_72 => ?_) (fun c_72 => ?_)) | refine j_if_ne (tgt := 85) dX0_strand_72 (by decide) (fun c_72 => ?_) (fun c_72 => ?_)
          · first | refine j_aload dX0_strand_85 rfl ?_ | refine j_aloadN dX0_strand_85 rfl ?_
            refine j_getR dX0_strand_87 fl_X0_285 rfl (by first | exact Pe.sh hp | exact Pe.sh hq | assumption) (by first | exact Pe.r2 hp | exact Pe.r2 hq | assumption) ?_
            refine j_iload_n dX0_strand_90 rfl ?_
            refine j_iald dX0_strand_91 (by first | exact Pe.sl hp | exact Pe.sa hp | exact Pe.sl hq | exact Pe.sa hq | exact Pv.sw hR | exact Pv.sp hR | exact Pv.sd hR | exact Fa.s0 hf | exact Fa.s12 hf | exact Fa.s13 hf | exact Fa.s14 hf | exact Fa.s15 hf | exact Fa.s16 hf | exact Fa.s20 hf | exact Fa.s21 hf | exact Fa.s23 hf | assumption) rfl (by omega) (by decide) (by first | exact pg (Pe.ll hp (by omega)) | exact pg (Pe.lg hp (by omega)) | exact pg (Pe.ll hq (by omega)) | exact pg (Pe.lg hq (by omega)) | assumption) ?_
            refine j_dV1 kl_X0_102 (x_gives (Fa.sh hf) _) dX0_strand_92 rfl rfl (by decide) (by first | exact Fa.sh hf | assumption) (Nat.le_of_ble_eq_true rfl) (by first | decide | omega) (by omega) (by omega) ?_
            refine j_iret dX0_strand_95 ⟨_, rfl, rfl⟩ (by omega) (by omega) ?_
            first
            | exact pxR hn (by unfold oStrand; rw [ep, ek, ew, if_pos ⟨c_5, c_13⟩, if_pos c_29, if_pos c_58, if_pos c_72])
            | exact pxR hn (by unfold oStrand; rw [ep, ek, ew, if_pos ⟨c_5, c_13⟩, if_pos c_29, if_pos c_58, if_neg c_72])
            | exact pxR hn (by unfold oStrand; rw [ep, ek, ew, if_pos ⟨c_5, c_13⟩, if_pos c_29, if_neg (by rw [c_58]; decide)])
          · first | refine j_aload dX0_strand_75 rfl ?_ | refine j_aloadN dX0_strand_75 rfl ?_
            refine j_getR dX0_strand_77 fl_X0_282 rfl (by first | exact Pe.sh hp | exact Pe.sh hq | assumption) (by first | exact Pe.r1 hp | exact Pe.r1 hq | assumption) ?_
            refine j_iload_n dX0_strand_80 rfl ?_
            refine j_iald dX0_strand_81 (by first | exact Pe.sl hp | exact Pe.sa hp | exact Pe.sl hq | exact Pe.sa hq | exact Pv.sw hR | exact Pv.sp hR | exact Pv.sd hR | exact Fa.s0 hf | exact Fa.s12 hf | exact Fa.s13 hf | exact Fa.s14 hf | exact Fa.s15 hf | exact Fa.s16 hf | exact Fa.s20 hf | exact Fa.s21 hf | exact Fa.s23 hf | assumption) rfl (by omega) (by decide) (by first | exact pg (Pe.ll hp (by omega)) | exact pg (Pe.lg hp (by omega)) | exact pg (Pe.ll hq (by omega)) | exact pg (Pe.lg hq (by omega)) | assumption) ?_
            refine j_goto (tgt := 92) dX0_strand_82 (by decide) ?_
            refine j_dV1 kl_X0_102 (x_gives (Fa.sh hf) _) dX0_strand_92 rfl rfl (by decide) (by first | exact Fa.sh hf | assumption) (Nat.le_of_ble_eq_true rfl) (by first | decide | omega) (by omega) (by omega) ?_
            refine j_iret dX0_strand_95 ⟨_, rfl, rfl⟩ (by omega) (by omega) ?_
            first
            | exact pxR hn (by unfold oStrand; rw [ep, ek, ew, if_pos ⟨c_5, c_13⟩, if_pos c_29, if_pos c_58, if_pos c_72])
            | exact pxR hn (by unfold oStrand; rw [ep, ek, ew, if_pos ⟨c_5, c_13⟩, if_pos c_29, if_pos c_58, if_neg c_72])
            | exact pxR hn (by unfold oStrand; rw [ep, ek, ew, if_pos ⟨c_5, c_13⟩, if_pos c_29, if_neg (by rw [c_58]; decide)])
        · first | refine j_aload_n dX0_strand_61 rfl ?_ | refine j_aload_nN dX0_strand_61 rfl ?_
          refine j_bipush (v := nI 8) dX0_strand_62 (by decide +kernel) ?_
          refine j_dV1 kl_X0_98 (x_none (Fa.sh hf) _) dX0_strand_64 rfl rfl (by decide) (by first | exact Fa.sh hf | assumption) (Nat.le_of_ble_eq_true rfl) (by first | decide | omega) (by omega) (by omega) ?_
          refine j_goto (tgt := 95) dX0_strand_67 (by decide) ?_
          refine j_iret dX0_strand_95 ⟨_, rfl, rfl⟩ (by omega) (by omega) ?_
          first
          | exact pxR hn (by unfold oStrand; rw [ep, ek, ew, if_pos ⟨c_5, c_13⟩, if_pos c_29, if_pos c_58, if_pos c_72])
          | exact pxR hn (by unfold oStrand; rw [ep, ek, ew, if_pos ⟨c_5, c_13⟩, if_pos c_29, if_pos c_58, if_neg c_72])
          | exact pxR hn (by unfold oStrand; rw [ep, ek, ew, if_pos ⟨c_5, c_13⟩, if_pos c_29, if_neg (by rw [c_58]; decide)])
      · first | refine j_aload_n dX0_strand_32 rfl ?_ | refine j_aload_nN dX0_strand_32 rfl ?_
        refine j_iconst (v := nI 5) dX0_strand_33 (by decide +kernel) ?_
        refine j_dV1 kl_X0_98 (x_none (Fa.sh hf) _) dX0_strand_34 rfl rfl (by decide) (by first | exact Fa.sh hf | assumption) (Nat.le_of_ble_eq_true rfl) (by first | decide | omega) (by omega) (by omega) ?_
        refine j_iret dX0_strand_37 ⟨_, rfl, rfl⟩ (by omega) (by omega) ?_
        exact pxR hn (by simp [oStrand, *])
    · first | refine j_aload_n dX0_strand_16 rfl ?_ | refine j_aload_nN dX0_strand_16 rfl ?_
      refine j_iconst (v := nI 2) dX0_strand_17 (by decide +kernel) ?_
      refine j_dV1 kl_X0_98 (x_none (Fa.sh hf) _) dX0_strand_18 rfl rfl (by decide) (by first | exact Fa.sh hf | assumption) (Nat.le_of_ble_eq_true rfl) (by first | decide | omega) (by omega) (by omega) ?_
      refine j_iret dX0_strand_21 ⟨_, rfl, rfl⟩ (by omega) (by omega) ?_
      exact pxR hn (by simp [oStrand, *])
theorem q_longest (hf : Fa σ hx B) (hg : Fq σ hx A) (hR : Pv σ L A C W P Dn Hn) (hw : Wx C W P Dn) (p0 : Int32) : Kd g l 3 MX0_longest [.ref hx, .int p0] (put σ L C) (some (.int (oLongest C W P p0).1)) (put (xS σ hx (oLongest C W P p0).2) L C) := by
  obtain ⟨⟨⟨hW, hW8⟩, ⟨hP, hP6⟩, ⟨hD, hD6⟩, hdn⟩, hWv, hPp⟩ := id hw
  have hL := hR.inj
  have hn := hR.nf hf
  refine Kt.go (Y := MX0_longest) (ls := [some (.ref hx), some (.int p0)]) (by decide) (Nat.le_of_ble_eq_true rfl) rfl ?_
  first | refine j_aload_n dX0_longest_0 rfl ?_ | refine j_aload_nN dX0_longest_0 rfl ?_
  refine j_iload_n dX0_longest_1 rfl ?_
  refine j_dV1 kl_X0_264 (x_isPerson hf hg hR hP hP6 _) dX0_longest_2 rfl rfl (by decide) (by first | exact Fa.sh hf | assumption) (Nat.le_of_ble_eq_true rfl) (by first | decide | omega) (by omega) (by omega) ?_
  first | (with_reducible refine j_gB ?_; refine j_if_eqB (tgt := 28) dX0_longest_5 (by decide) (fun c_5 => ?_) (fun c_5 => ?_)) | (with_reducible refine j_gC ?_; refine j_if_eqC (tgt := 28) dX0_longest_5 (by decide) (fun c_5 => ?_) (fun c_5 => ?_)) | (with_reducible refine j_gN ?_; refine j_if_eqN (tgt := 28) dX0_longest_5 (by decide) (by omega) (fun c_5 => ?_) (fun c_5 => ?_)) | refine j_if_eq (tgt := 28) dX0_longest_5 (by decide) (fun c_5 => ?_) (fun c_5 => ?_)
  · first | refine j_aload_n dX0_longest_28 rfl ?_ | refine j_aload_nN dX0_longest_28 rfl ?_
    refine j_iconst (v := nI 2) dX0_longest_29 (by decide +kernel) ?_
    refine j_dV1 kl_X0_98 (x_none (Fa.sh hf) _) dX0_longest_30 rfl rfl (by decide) (by first | exact Fa.sh hf | assumption) (Nat.le_of_ble_eq_true rfl) (by first | decide | omega) (by omega) (by omega) ?_
    refine j_iret dX0_longest_33 ⟨_, rfl, rfl⟩ (by omega) (by omega) ?_
    first
    | exact pxR hn (by unfold oLongest; rw [if_neg (by rw [c_5]; decide)])
    | exact pxR hn (by
        unfold oLongest
        rw [if_pos c_5, ep]
        cases z : mLongest C W p0 (C (43 + p0)) with
        | none => rfl
        | some k =>
          have := lgo_lt _ _ z
          show (nI k, nI 0) = (nI k, if nI k = -1 then nI 8 else nI 0)
          rw [if_neg (nI_m1 (by omega))])
  · obtain ⟨p0, hp0, rfl⟩ := okN_nI c_5
    have ep : ixn (nI p0) = p0 := ixn_nI (by omega)
    have hp := hR.pe hp0
    have hq := hp
    obtain ⟨s, t, e1, e2, e3, e4, e5, e6, -⟩ := (hPp p0 hp0).sets hW8
    first | refine j_aload_n dX0_longest_8 rfl ?_ | refine j_aload_nN dX0_longest_8 rfl ?_
    first | refine j_aload_n dX0_longest_9 rfl ?_ | refine j_aload_nN dX0_longest_9 rfl ?_
    refine j_getR dX0_longest_10 fl_X0_38 rfl (by first | exact Fa.sh hf | assumption) (by first | exact Fq.f3 hg | assumption) ?_
    refine j_getR dX0_longest_13 fl_X0_211 rfl (by first | exact Pv.sh hR | assumption) (by first | exact Pv.r1 hR | assumption) ?_
    refine j_iload_n dX0_longest_16 rfl ?_
    refine j_aald (t := 27) dX0_longest_17 (fun _ => rfl) (by decide) (by first | exact Pe.sl hp | exact Pe.sa hp | exact Pe.sl hq | exact Pe.sa hq | exact Pv.sw hR | exact Pv.sp hR | exact Pv.sd hR | exact Fa.s0 hf | exact Fa.s12 hf | exact Fa.s13 hf | exact Fa.s14 hf | exact Fa.s15 hf | exact Fa.s16 hf | exact Fa.s20 hf | exact Fa.s21 hf | exact Fa.s23 hf | assumption) rfl (by omega) (by decide) (by first | exact Pv.rw hR (by omega) | exact Pv.rp hR (by omega) | exact Pv.rd hR (by omega) | exact Fa.tr hf (by omega) | assumption) ?_
    refine j_iconst (v := -1) dX0_longest_18 (by decide +kernel) ?_
    refine j_dV1 kl_X0_306 (x_longestOf hL hp hW8 ((hPp p0 hp0).kw hW8) (set := C (43 + p0)) (fun j hj => by rw [e1]; exact hs_m1)) dX0_longest_19 rfl rfl (by decide) (by first | exact Pe.sh hp | exact Pe.sh hq | assumption) (Nat.le_of_ble_eq_true rfl) (by first | decide | omega) (by omega) (by omega) ?_
    refine j_dV1 kl_X0_309 (x_orNothing (Fa.sh hf) _) dX0_longest_22 rfl rfl (by decide) (by first | exact Fa.sh hf | assumption) (Nat.le_of_ble_eq_true rfl) (by first | decide | omega) (by omega) (by omega) ?_
    refine j_goto (tgt := 33) dX0_longest_25 (by decide) ?_
    refine j_iret dX0_longest_33 ⟨_, rfl, rfl⟩ (by omega) (by omega) ?_
    first
    | exact pxR hn (by unfold oLongest; rw [if_neg (by rw [c_5]; decide)])
    | exact pxR hn (by
        unfold oLongest
        rw [if_pos c_5, ep]
        cases z : mLongest C W p0 (C (43 + p0)) with
        | none => rfl
        | some k =>
          have := lgo_lt _ _ z
          show (nI k, nI 0) = (nI k, if nI k = -1 then nI 8 else nI 0)
          rw [if_neg (nI_m1 (by omega))])
theorem q_day (hf : Fa σ hx B) (hg : Fq σ hx A) (hR : Pv σ L A C W P Dn Hn) (hw : Wx C W P Dn) (n : Int32) : Kd g l 5 MX0_day [.ref hx, .int n] (put σ L C) (some (.int (oDay C W P Dn n).1)) (put (xS σ hx (oDay C W P Dn n).2.1) L (oDay C W P Dn n).2.2) := by
  obtain ⟨⟨⟨hW, hW8⟩, ⟨hP, hP6⟩, ⟨hD, hD6⟩, hdn⟩, hWv, hPp⟩ := id hw
  have hL := hR.inj
  have hn := hR.nf hf
  refine Kt.go (Y := MX0_day) (ls := [some (.ref hx), some (.int n)]) (by decide) (Nat.le_of_ble_eq_true rfl) rfl ?_
  refine j_iload_n dX0_day_0 rfl ?_
  refine j_i2l dX0_day_1 ?_
  refine j_lconst (v := 1) dX0_day_2 (by decide +kernel) ?_
  refine j_ldc2 (v := 99) dX0_day_3 q1173 ?_
  refine j_dS1 kl_X0_162 (k_isFrom _ _ _) dX0_day_6 rfl rfl (Nat.le_of_ble_eq_true rfl) (by first | decide | omega) (by omega) (by omega) ?_
  first | (with_reducible refine j_gB ?_; refine j_if_neB (tgt := 18) dX0_day_9 (by decide) (fun c_9 => ?_) (fun c_9 => ?_)) | (with_reducible refine j_gC ?_; refine j_if_neC (tgt := 18) dX0_day_9 (by decide) (fun c_9 => ?_) (fun c_9 => ?_)) | (with_reducible refine j_gN ?_; refine j_if_neN (tgt := 18) dX0_day_9 (by decide) (by omega) (fun c_9 => ?_) (fun c_9 => ?_)) | refine j_if_ne (tgt := 18) dX0_day_9 (by decide) (fun c_9 => ?_) (fun c_9 => ?_)
  · obtain ⟨n, hn1, hn9, rfl⟩ := inL_1t (n := 99) (by decide +kernel) c_9
    have en : ixn (nI n) = n := ixn_nI (by omega)
    first | refine j_aload_n dX0_day_18 rfl ?_ | refine j_aload_nN dX0_day_18 rfl ?_
    refine j_getR dX0_day_19 fl_X0_38 rfl (by first | exact Fa.sh hf | assumption) (by first | exact Fq.f3 hg | assumption) ?_
    refine j_getI dX0_day_22 fl_X0_227 rfl (by first | exact Pv.sh hR | assumption) (by first | exact pg (Pv.li hR 10 6 rfl (by decide)) | assumption) ?_
    refine j_iload_n dX0_day_25 rfl ?_
    refine j_iadd dX0_day_26 ?_
    refine j_sipush (v := nI 9999) dX0_day_27 (by decide +kernel) ?_
    first | (with_reducible refine j_gNN ?_; refine j_icmp_leN (tgt := 42) dX0_day_30 (by decide) (by omega) (by omega) (fun c_30 => ?_) (fun c_30 => ?_)) | refine j_icmp_le (tgt := 42) dX0_day_30 (by decide) (fun c_30 => ?_) (fun c_30 => ?_)
    · first | refine j_aload_n dX0_day_42 rfl ?_ | refine j_aload_nN dX0_day_42 rfl ?_
      first | refine j_aload_n dX0_day_43 rfl ?_ | refine j_aload_nN dX0_day_43 rfl ?_
      refine j_getR dX0_day_44 fl_X0_38 rfl (by first | exact Fa.sh hf | assumption) (by first | exact Fq.f3 hg | assumption) ?_
      refine j_iload_n dX0_day_47 rfl ?_
      refine j_dV1 kl_X0_317 (x_days hR hw (by omega)) dX0_day_48 rfl rfl (by decide) (by first | exact Pv.sh hR | assumption) (Nat.le_of_ble_eq_true rfl) (by first | decide | omega) (by omega) (by omega) ?_
      refine j_dV1 kl_X0_102 (x_gives (Fa.sh hf) _) dX0_day_51 rfl rfl (by decide) (by first | exact Fa.sh hf | assumption) (Nat.le_of_ble_eq_true rfl) (by first | decide | omega) (by omega) (by omega) ?_
      refine j_iret dX0_day_54 ⟨_, rfl, rfl⟩ (by omega) (by omega) ?_
      first
      | exact pxD hn (by unfold oDay; rw [if_neg (by rw [c_9]; decide)])
      | exact pxD hn (by unfold oDay; rw [if_pos c_9, if_pos (Int32.not_le.mp c_30)])
      | exact pxD hn (by unfold oDay; rw [if_pos c_9, if_neg (Int32.not_lt.mpr c_30), en])
    · first | refine j_aload_n dX0_day_33 rfl ?_ | refine j_aload_nN dX0_day_33 rfl ?_
      refine j_bipush (v := nI 7) dX0_day_34 (by decide +kernel) ?_
      refine j_dV1 kl_X0_98 (x_none (Fa.sh hf) _) dX0_day_36 rfl rfl (by decide) (by first | exact Fa.sh hf | assumption) (Nat.le_of_ble_eq_true rfl) (by first | decide | omega) (by omega) (by omega) ?_
      refine j_goto (tgt := 54) dX0_day_39 (by decide) ?_
      refine j_iret dX0_day_54 ⟨_, rfl, rfl⟩ (by omega) (by omega) ?_
      first
      | exact pxD hn (by unfold oDay; rw [if_neg (by rw [c_9]; decide)])
      | exact pxD hn (by unfold oDay; rw [if_pos c_9, if_pos (Int32.not_le.mp c_30)])
      | exact pxD hn (by unfold oDay; rw [if_pos c_9, if_neg (Int32.not_lt.mpr c_30), en])
  · first | refine j_aload_n dX0_day_12 rfl ?_ | refine j_aload_nN dX0_day_12 rfl ?_
    refine j_iconst (v := nI 5) dX0_day_13 (by decide +kernel) ?_
    refine j_dV1 kl_X0_98 (x_none (Fa.sh hf) _) dX0_day_14 rfl rfl (by decide) (by first | exact Fa.sh hf | assumption) (Nat.le_of_ble_eq_true rfl) (by first | decide | omega) (by omega) (by omega) ?_
    refine j_iret dX0_day_17 ⟨_, rfl, rfl⟩ (by omega) (by omega) ?_
    first
    | exact pxD hn (by unfold oDay; rw [if_neg (by rw [c_9]; decide)])
    | exact pxD hn (by unfold oDay; rw [if_pos c_9, if_pos (Int32.not_le.mp c_30)])
    | exact pxD hn (by unfold oDay; rw [if_pos c_9, if_neg (Int32.not_lt.mpr c_30), en])
theorem q_say (hf : Fa σ hx B) (hg : Fq σ hx A) (hR : Pv σ L A C W P Dn Hn) (hw : Wx C W P Dn) (p0 k0 q0 : Int32) : Kd g l 3 MX0_say [.ref hx, .int p0, .int k0, .int q0] (put σ L C) (some (.int (oSay C W P p0 k0 q0).1)) (put (xS σ hx (oSay C W P p0 k0 q0).2.1) L (oSay C W P p0 k0 q0).2.2) := by
  obtain ⟨⟨⟨hW, hW8⟩, ⟨hP, hP6⟩, ⟨hD, hD6⟩, hdn⟩, hWv, hPp⟩ := id hw
  have hL := hR.inj
  have hn := hR.nf hf
  refine Kt.go (Y := MX0_say) (ls := [some (.ref hx), some (.int p0), some (.int k0), some (.int q0)]) (by decide) (Nat.le_of_ble_eq_true rfl) rfl ?_
  first | refine j_aload_n dX0_say_0 rfl ?_ | refine j_aload_nN dX0_say_0 rfl ?_
  refine j_iload_n dX0_say_1 rfl ?_
  refine j_dV1 kl_X0_264 (x_isPerson hf hg hR hP hP6 _) dX0_say_2 rfl rfl (by decide) (by first | exact Fa.sh hf | assumption) (Nat.le_of_ble_eq_true rfl) (by first | decide | omega) (by omega) (by omega) ?_
  first | (with_reducible refine j_gB ?_; refine j_if_eqB (tgt := 24) dX0_say_5 (by decide) (fun c_5 => ?_) (fun c_5 => ?_)) | (with_reducible refine j_gC ?_; refine j_if_eqC (tgt := 24) dX0_say_5 (by decide) (fun c_5 => ?_) (fun c_5 => ?_)) | (with_reducible refine j_gN ?_; refine j_if_eqN (tgt := 24) dX0_say_5 (by decide) (by omega) (fun c_5 => ?_) (fun c_5 => ?_)) | refine j_if_eq (tgt := 24) dX0_say_5 (by decide) (fun c_5 => ?_) (fun c_5 => ?_)
  · first | refine j_aload_n dX0_say_24 rfl ?_ | refine j_aload_nN dX0_say_24 rfl ?_
    refine j_iconst (v := nI 2) dX0_say_25 (by decide +kernel) ?_
    refine j_dV1 kl_X0_98 (x_none (Fa.sh hf) _) dX0_say_26 rfl rfl (by decide) (by first | exact Fa.sh hf | assumption) (Nat.le_of_ble_eq_true rfl) (by first | decide | omega) (by omega) (by omega) ?_
    refine j_iret dX0_say_29 ⟨_, rfl, rfl⟩ (by omega) (by omega) ?_
    exact pxD hn (by simp [oSay, *])
  · first | refine j_aload_n dX0_say_8 rfl ?_ | refine j_aload_nN dX0_say_8 rfl ?_
    refine j_iload_n dX0_say_9 rfl ?_
    refine j_dV1 kl_X0_242 (x_isWord hf hg hR hW hW8 _) dX0_say_10 rfl rfl (by decide) (by first | exact Fa.sh hf | assumption) (Nat.le_of_ble_eq_true rfl) (by first | decide | omega) (by omega) (by omega) ?_
    first | (with_reducible refine j_gB ?_; refine j_if_eqB (tgt := 24) dX0_say_13 (by decide) (fun c_13 => ?_) (fun c_13 => ?_)) | (with_reducible refine j_gC ?_; refine j_if_eqC (tgt := 24) dX0_say_13 (by decide) (fun c_13 => ?_) (fun c_13 => ?_)) | (with_reducible refine j_gN ?_; refine j_if_eqN (tgt := 24) dX0_say_13 (by decide) (by omega) (fun c_13 => ?_) (fun c_13 => ?_)) | refine j_if_eq (tgt := 24) dX0_say_13 (by decide) (fun c_13 => ?_) (fun c_13 => ?_)
    · first | refine j_aload_n dX0_say_24 rfl ?_ | refine j_aload_nN dX0_say_24 rfl ?_
      refine j_iconst (v := nI 2) dX0_say_25 (by decide +kernel) ?_
      refine j_dV1 kl_X0_98 (x_none (Fa.sh hf) _) dX0_say_26 rfl rfl (by decide) (by first | exact Fa.sh hf | assumption) (Nat.le_of_ble_eq_true rfl) (by first | decide | omega) (by omega) (by omega) ?_
      refine j_iret dX0_say_29 ⟨_, rfl, rfl⟩ (by omega) (by omega) ?_
      exact pxD hn (by simp [oSay, *])
    · first | refine j_aload_n dX0_say_16 rfl ?_ | refine j_aload_nN dX0_say_16 rfl ?_
      refine j_iload_n dX0_say_17 rfl ?_
      refine j_dV1 kl_X0_264 (x_isPerson hf hg hR hP hP6 _) dX0_say_18 rfl rfl (by decide) (by first | exact Fa.sh hf | assumption) (Nat.le_of_ble_eq_true rfl) (by first | decide | omega) (by omega) (by omega) ?_
      first | (with_reducible refine j_gB ?_; refine j_if_neB (tgt := 30) dX0_say_21 (by decide) (fun c_21 => ?_) (fun c_21 => ?_)) | (with_reducible refine j_gC ?_; refine j_if_neC (tgt := 30) dX0_say_21 (by decide) (fun c_21 => ?_) (fun c_21 => ?_)) | (with_reducible refine j_gN ?_; refine j_if_neN (tgt := 30) dX0_say_21 (by decide) (by omega) (fun c_21 => ?_) (fun c_21 => ?_)) | refine j_if_ne (tgt := 30) dX0_say_21 (by decide) (fun c_21 => ?_) (fun c_21 => ?_)
      · obtain ⟨p0, hp0, rfl⟩ := okN_nI c_5
        obtain ⟨k0, hk0, rfl⟩ := okN_nI c_13
        obtain ⟨q0, hq0, rfl⟩ := okN_nI c_21
        have ep : ixn (nI p0) = p0 := ixn_nI (by omega)
        have ek : ixn (nI k0) = k0 := ixn_nI (by omega)
        have eq : ixn (nI q0) = q0 := ixn_nI (by omega)
        have hp := hR.pe hp0
        have hq := hR.pe hq0
        first | refine j_aload_n dX0_say_30 rfl ?_ | refine j_aload_nN dX0_say_30 rfl ?_
        refine j_getR dX0_say_31 fl_X0_38 rfl (by first | exact Fa.sh hf | assumption) (by first | exact Fq.f3 hg | assumption) ?_
        refine j_iload_n dX0_say_34 rfl ?_
        refine j_iload_n dX0_say_35 rfl ?_
        refine j_iload_n dX0_say_36 rfl ?_
        refine j_dV1 kl_X0_320 (x_says hR hP6 hp0 hq0) dX0_say_37 rfl rfl (by decide) (by first | exact Pv.sh hR | assumption) (Nat.le_of_ble_eq_true rfl) (by first | decide | omega) (by omega) (by omega) ?_
        first | (with_reducible refine j_gB ?_; refine j_if_eqB (tgt := 62) dX0_say_40 (by decide) (fun c_40 => ?_) (fun c_40 => ?_)) | (with_reducible refine j_gC ?_; refine j_if_eqC (tgt := 62) dX0_say_40 (by decide) (fun c_40 => ?_) (fun c_40 => ?_)) | (with_reducible refine j_gN ?_; refine j_if_eqN (tgt := 62) dX0_say_40 (by decide) (by omega) (fun c_40 => ?_) (fun c_40 => ?_)) | refine j_if_eq (tgt := 62) dX0_say_40 (by decide) (fun c_40 => ?_) (fun c_40 => ?_)
        · first | refine j_aload_n dX0_say_62 rfl ?_ | refine j_aload_nN dX0_say_62 rfl ?_
          refine j_bipush (v := nI 9) dX0_say_63 (by decide +kernel) ?_
          refine j_dV1 kl_X0_98 (x_none (Fa.sh hf) _) dX0_say_65 rfl rfl (by decide) (by first | exact Fa.sh hf | assumption) (Nat.le_of_ble_eq_true rfl) (by first | decide | omega) (by omega) (by omega) ?_
          refine j_iret dX0_say_68 ⟨_, rfl, rfl⟩ (by omega) (by omega) ?_
          first
          | exact pxD hn (by unfold oSay; rw [if_pos ⟨c_5, c_13, c_21⟩, ep, ek, eq, if_pos c_40])
          | (have e : mSays C p0 k0 q0 = C := by rw [mSays, c_40]; rfl
             rw [e]
             exact pxD hn (by unfold oSay; rw [if_pos ⟨c_5, c_13, c_21⟩, ep, ek, eq, if_neg (by rw [c_40]; decide)]))
        · have hpq : p0 ≠ q0 := fun z => by rw [mSaysB, decide_eq_false (fun y => y z)] at c_40; cases c_40
          have hC1 : mSays C p0 k0 q0 = mSaysC C p0 k0 q0 := by rw [mSays, c_40]; rfl
          have hP1 : Pp (mSays C p0 k0 q0) W p0 := by rw [hC1]; exact says_pp hW8 hk0 (by omega) (by omega) (by omega) hpq (hPp p0 hp0)
          first | refine j_aload_n dX0_say_43 rfl ?_ | refine j_aload_nN dX0_say_43 rfl ?_
          first | refine j_aload_n dX0_say_44 rfl ?_ | refine j_aload_nN dX0_say_44 rfl ?_
          refine j_getR dX0_say_45 fl_X0_38 rfl (by first | exact Fa.sh hf | assumption) (by first | exact Fq.f3 hg | assumption) ?_
          refine j_getR dX0_say_48 fl_X0_211 rfl (by first | exact Pv.sh hR | assumption) (by first | exact Pv.r1 hR | assumption) ?_
          refine j_iload_n dX0_say_51 rfl ?_
          refine j_aald (t := 27) dX0_say_52 (fun _ => rfl) (by decide) (by first | exact Pe.sl hp | exact Pe.sa hp | exact Pe.sl hq | exact Pe.sa hq | exact Pv.sw hR | exact Pv.sp hR | exact Pv.sd hR | exact Fa.s0 hf | exact Fa.s12 hf | exact Fa.s13 hf | exact Fa.s14 hf | exact Fa.s15 hf | exact Fa.s16 hf | exact Fa.s20 hf | exact Fa.s21 hf | exact Fa.s23 hf | assumption) rfl (by omega) (by decide) (by first | exact Pv.rw hR (by omega) | exact Pv.rp hR (by omega) | exact Pv.rd hR (by omega) | exact Fa.tr hf (by omega) | assumption) ?_
          refine j_dV1 kl_X0_276 (x_hair hL hp hW8 (hP1.kw hW8)) dX0_say_53 rfl rfl (by decide) (by first | exact Pe.sh hp | exact Pe.sh hq | assumption) (Nat.le_of_ble_eq_true rfl) (by first | decide | omega) (by omega) (by omega) ?_
          refine j_dV1 kl_X0_102 (x_gives (Fa.sh hf) _) dX0_say_56 rfl rfl (by decide) (by first | exact Fa.sh hf | assumption) (Nat.le_of_ble_eq_true rfl) (by first | decide | omega) (by omega) (by omega) ?_
          refine j_goto (tgt := 68) dX0_say_59 (by decide) ?_
          refine j_iret dX0_say_68 ⟨_, rfl, rfl⟩ (by omega) (by omega) ?_
          first
          | exact pxD hn (by unfold oSay; rw [if_pos ⟨c_5, c_13, c_21⟩, ep, ek, eq, if_pos c_40])
          | (have e : mSays C p0 k0 q0 = C := by rw [mSays, c_40]; rfl
             rw [e]
             exact pxD hn (by unfold oSay; rw [if_pos ⟨c_5, c_13, c_21⟩, ep, ek, eq, if_neg (by rw [c_40]; decide)]))
      · first | refine j_aload_n dX0_say_24 rfl ?_ | refine j_aload_nN dX0_say_24 rfl ?_
        refine j_iconst (v := nI 2) dX0_say_25 (by decide +kernel) ?_
        refine j_dV1 kl_X0_98 (x_none (Fa.sh hf) _) dX0_say_26 rfl rfl (by decide) (by first | exact Fa.sh hf | assumption) (Nat.le_of_ble_eq_true rfl) (by first | decide | omega) (by omega) (by omega) ?_
        refine j_iret dX0_say_29 ⟨_, rfl, rfl⟩ (by omega) (by omega) ?_
        exact pxD hn (by simp [oSay, *])
theorem q_keep (hf : Fa σ hx B) (hg : Fq σ hx A) (hR : Pv σ L A C W P Dn Hn) (hw : Wx C W P Dn) (p0 k0 : Int32) : Kd g l 3 MX0_keep [.ref hx, .int p0, .int k0] (put σ L C) (some (.int (oKeep C W P p0 k0).1)) (put (xS σ hx (oKeep C W P p0 k0).2.1) L (oKeep C W P p0 k0).2.2) := by
  obtain ⟨⟨⟨hW, hW8⟩, ⟨hP, hP6⟩, ⟨hD, hD6⟩, hdn⟩, hWv, hPp⟩ := id hw
  have hL := hR.inj
  have hn := hR.nf hf
  refine Kt.go (Y := MX0_keep) (ls := [some (.ref hx), some (.int p0), some (.int k0), none]) (by decide) (Nat.le_of_ble_eq_true rfl) rfl ?_
  first | refine j_aload_n dX0_keep_0 rfl ?_ | refine j_aload_nN dX0_keep_0 rfl ?_
  refine j_iload_n dX0_keep_1 rfl ?_
  refine j_dV1 kl_X0_264 (x_isPerson hf hg hR hP hP6 _) dX0_keep_2 rfl rfl (by decide) (by first | exact Fa.sh hf | assumption) (Nat.le_of_ble_eq_true rfl) (by first | decide | omega) (by omega) (by omega) ?_
  first | (with_reducible refine j_gB ?_; refine j_if_eqB (tgt := 16) dX0_keep_5 (by decide) (fun c_5 => ?_) (fun c_5 => ?_)) | (with_reducible refine j_gC ?_; refine j_if_eqC (tgt := 16) dX0_keep_5 (by decide) (fun c_5 => ?_) (fun c_5 => ?_)) | (with_reducible refine j_gN ?_; refine j_if_eqN (tgt := 16) dX0_keep_5 (by decide) (by omega) (fun c_5 => ?_) (fun c_5 => ?_)) | refine j_if_eq (tgt := 16) dX0_keep_5 (by decide) (fun c_5 => ?_) (fun c_5 => ?_)
  · first | refine j_aload_n dX0_keep_16 rfl ?_ | refine j_aload_nN dX0_keep_16 rfl ?_
    refine j_iconst (v := nI 2) dX0_keep_17 (by decide +kernel) ?_
    refine j_dV1 kl_X0_98 (x_none (Fa.sh hf) _) dX0_keep_18 rfl rfl (by decide) (by first | exact Fa.sh hf | assumption) (Nat.le_of_ble_eq_true rfl) (by first | decide | omega) (by omega) (by omega) ?_
    refine j_iret dX0_keep_21 ⟨_, rfl, rfl⟩ (by omega) (by omega) ?_
    exact pxD hn (by simp [oKeep, *])
  · first | refine j_aload_n dX0_keep_8 rfl ?_ | refine j_aload_nN dX0_keep_8 rfl ?_
    refine j_iload_n dX0_keep_9 rfl ?_
    refine j_dV1 kl_X0_242 (x_isWord hf hg hR hW hW8 _) dX0_keep_10 rfl rfl (by decide) (by first | exact Fa.sh hf | assumption) (Nat.le_of_ble_eq_true rfl) (by first | decide | omega) (by omega) (by omega) ?_
    first | (with_reducible refine j_gB ?_; refine j_if_neB (tgt := 22) dX0_keep_13 (by decide) (fun c_13 => ?_) (fun c_13 => ?_)) | (with_reducible refine j_gC ?_; refine j_if_neC (tgt := 22) dX0_keep_13 (by decide) (fun c_13 => ?_) (fun c_13 => ?_)) | (with_reducible refine j_gN ?_; refine j_if_neN (tgt := 22) dX0_keep_13 (by decide) (by omega) (fun c_13 => ?_) (fun c_13 => ?_)) | refine j_if_ne (tgt := 22) dX0_keep_13 (by decide) (fun c_13 => ?_) (fun c_13 => ?_)
    · obtain ⟨p0, hp0, rfl⟩ := okN_nI c_5
      obtain ⟨k0, hk0, rfl⟩ := okN_nI c_13
      have ep : ixn (nI p0) = p0 := ixn_nI (by omega)
      have ek : ixn (nI k0) = k0 := ixn_nI (by omega)
      have hp := hR.pe hp0
      have hq := hp
      first | refine j_aload_n dX0_keep_22 rfl ?_ | refine j_aload_nN dX0_keep_22 rfl ?_
      refine j_getR dX0_keep_23 fl_X0_38 rfl (by first | exact Fa.sh hf | assumption) (by first | exact Fq.f3 hg | assumption) ?_
      refine j_getR dX0_keep_26 fl_X0_211 rfl (by first | exact Pv.sh hR | assumption) (by first | exact Pv.r1 hR | assumption) ?_
      refine j_iload_n dX0_keep_29 rfl ?_
      refine j_aald (t := 27) dX0_keep_30 (fun _ => rfl) (by decide) (by first | exact Pe.sl hp | exact Pe.sa hp | exact Pe.sl hq | exact Pe.sa hq | exact Pv.sw hR | exact Pv.sp hR | exact Pv.sd hR | exact Fa.s0 hf | exact Fa.s12 hf | exact Fa.s13 hf | exact Fa.s14 hf | exact Fa.s15 hf | exact Fa.s16 hf | exact Fa.s20 hf | exact Fa.s21 hf | exact Fa.s23 hf | assumption) rfl (by omega) (by decide) (by first | exact Pv.rw hR (by omega) | exact Pv.rp hR (by omega) | exact Pv.rd hR (by omega) | exact Fa.tr hf (by omega) | assumption) ?_
      first | refine j_astore_n dX0_keep_31 (by decide) ?_ | refine j_astore_nN dX0_keep_31 (by decide) ?_
      first | refine j_aload_n dX0_keep_32 rfl ?_ | refine j_aload_nN dX0_keep_32 rfl ?_
      refine j_iload_n dX0_keep_33 rfl ?_
      refine j_dV1 kl_X0_324 (x_keeps hL hp (by omega)) dX0_keep_34 rfl rfl (by decide) (by first | exact Pe.sh hp | exact Pe.sh hq | assumption) (Nat.le_of_ble_eq_true rfl) (by first | decide | omega) (by omega) (by omega) ?_
      first | (with_reducible refine j_gB ?_; refine j_if_eqB (tgt := 54) dX0_keep_37 (by decide) (fun c_37 => ?_) (fun c_37 => ?_)) | (with_reducible refine j_gC ?_; refine j_if_eqC (tgt := 54) dX0_keep_37 (by decide) (fun c_37 => ?_) (fun c_37 => ?_)) | (with_reducible refine j_gN ?_; refine j_if_eqN (tgt := 54) dX0_keep_37 (by decide) (by omega) (fun c_37 => ?_) (fun c_37 => ?_)) | refine j_if_eq (tgt := 54) dX0_keep_37 (by decide) (fun c_37 => ?_) (fun c_37 => ?_)
      · first | refine j_aload_n dX0_keep_54 rfl ?_ | refine j_aload_nN dX0_keep_54 rfl ?_
        refine j_bipush (v := nI 9) dX0_keep_55 (by decide +kernel) ?_
        refine j_dV1 kl_X0_98 (x_none (Fa.sh hf) _) dX0_keep_57 rfl rfl (by decide) (by first | exact Fa.sh hf | assumption) (Nat.le_of_ble_eq_true rfl) (by first | decide | omega) (by omega) (by omega) ?_
        refine j_iret dX0_keep_60 ⟨_, rfl, rfl⟩ (by omega) (by omega) ?_
        first
        | exact pxD hn (by unfold oKeep; rw [if_pos ⟨c_5, c_13⟩, ep, ek, if_pos c_37, e1, sz_pop e5])
        | (have e : mKeep C p0 k0 = C := by rw [mKeep, c_37]; rfl
           rw [e]
           exact pxD hn (by unfold oKeep; rw [if_pos ⟨c_5, c_13⟩, ep, ek, if_neg (by rw [c_37]; decide)]))
      · have hb1 : hs (C (37 + p0)) k0 = true := by unfold mKeepB at c_37; exact (Bool.and_eq_true_iff.mp c_37).1
        have hC1 : mKeep C p0 k0 = mStrand C p0 k0 := by rw [mKeep, c_37]; rfl
        have hP1 : Pp (mKeep C p0 k0) W p0 := by rw [hC1]; exact strand_pp hW8 hk0 (by omega) (by omega) hb1 (hPp p0 hp0)
        obtain ⟨s, t, e1, e2, e3, e4, e5, e6, -⟩ := hP1.sets hW8
        first | refine j_aload_n dX0_keep_40 rfl ?_ | refine j_aload_nN dX0_keep_40 rfl ?_
        first | refine j_aload_n dX0_keep_41 rfl ?_ | refine j_aload_nN dX0_keep_41 rfl ?_
        refine j_getI dX0_keep_42 fl_X0_273 rfl (by first | exact Pe.sh hp | exact Pe.sh hq | assumption) (by first | exact pg (Pe.l5 hp) | exact pg (Pe.l5 hq) | assumption) ?_
        rw [e1]
        refine j_dS1 kl_X0_326 (k_bits e5) dX0_keep_45 rfl rfl (Nat.le_of_ble_eq_true rfl) (by first | decide | omega) (by omega) (by omega) ?_
        refine j_dV1 kl_X0_102 (x_gives (Fa.sh hf) _) dX0_keep_48 rfl rfl (by decide) (by first | exact Fa.sh hf | assumption) (Nat.le_of_ble_eq_true rfl) (by first | decide | omega) (by omega) (by omega) ?_
        refine j_goto (tgt := 60) dX0_keep_51 (by decide) ?_
        refine j_iret dX0_keep_60 ⟨_, rfl, rfl⟩ (by omega) (by omega) ?_
        first
        | exact pxD hn (by unfold oKeep; rw [if_pos ⟨c_5, c_13⟩, ep, ek, if_pos c_37, e1, sz_pop e5])
        | (have e : mKeep C p0 k0 = C := by rw [mKeep, c_37]; rfl
           rw [e]
           exact pxD hn (by unfold oKeep; rw [if_pos ⟨c_5, c_13⟩, ep, ek, if_neg (by rw [c_37]; decide)]))
    · first | refine j_aload_n dX0_keep_16 rfl ?_ | refine j_aload_nN dX0_keep_16 rfl ?_
      refine j_iconst (v := nI 2) dX0_keep_17 (by decide +kernel) ?_
      refine j_dV1 kl_X0_98 (x_none (Fa.sh hf) _) dX0_keep_18 rfl rfl (by decide) (by first | exact Fa.sh hf | assumption) (Nat.le_of_ble_eq_true rfl) (by first | decide | omega) (by omega) (by omega) ?_
      refine j_iret dX0_keep_21 ⟨_, rfl, rfl⟩ (by omega) (by omega) ?_
      exact pxD hn (by simp [oKeep, *])
theorem q_learn (hf : Fa σ hx B) (hg : Fq σ hx A) (hR : Pv σ L A C W P Dn Hn) (hw : Wx C W P Dn) (p0 k0 : Int32) : Kd g l 3 MX0_learn [.ref hx, .int p0, .int k0] (put σ L C) (some (.int (oLearn C W P p0 k0).1)) (put (xS σ hx (oLearn C W P p0 k0).2.1) L (oLearn C W P p0 k0).2.2) := by
  obtain ⟨⟨⟨hW, hW8⟩, ⟨hP, hP6⟩, ⟨hD, hD6⟩, hdn⟩, hWv, hPp⟩ := id hw
  have hL := hR.inj
  have hn := hR.nf hf
  refine Kt.go (Y := MX0_learn) (ls := [some (.ref hx), some (.int p0), some (.int k0), none]) (by decide) (Nat.le_of_ble_eq_true rfl) rfl ?_
  first | refine j_aload_n dX0_learn_0 rfl ?_ | refine j_aload_nN dX0_learn_0 rfl ?_
  refine j_iload_n dX0_learn_1 rfl ?_
  refine j_dV1 kl_X0_264 (x_isPerson hf hg hR hP hP6 _) dX0_learn_2 rfl rfl (by decide) (by first | exact Fa.sh hf | assumption) (Nat.le_of_ble_eq_true rfl) (by first | decide | omega) (by omega) (by omega) ?_
  first | (with_reducible refine j_gB ?_; refine j_if_eqB (tgt := 16) dX0_learn_5 (by decide) (fun c_5 => ?_) (fun c_5 => ?_)) | (with_reducible refine j_gC ?_; refine j_if_eqC (tgt := 16) dX0_learn_5 (by decide) (fun c_5 => ?_) (fun c_5 => ?_)) | (with_reducible refine j_gN ?_; refine j_if_eqN (tgt := 16) dX0_learn_5 (by decide) (by omega) (fun c_5 => ?_) (fun c_5 => ?_)) | refine j_if_eq (tgt := 16) dX0_learn_5 (by decide) (fun c_5 => ?_) (fun c_5 => ?_)
  · first | refine j_aload_n dX0_learn_16 rfl ?_ | refine j_aload_nN dX0_learn_16 rfl ?_
    refine j_iconst (v := nI 2) dX0_learn_17 (by decide +kernel) ?_
    refine j_dV1 kl_X0_98 (x_none (Fa.sh hf) _) dX0_learn_18 rfl rfl (by decide) (by first | exact Fa.sh hf | assumption) (Nat.le_of_ble_eq_true rfl) (by first | decide | omega) (by omega) (by omega) ?_
    refine j_iret dX0_learn_21 ⟨_, rfl, rfl⟩ (by omega) (by omega) ?_
    exact pxD hn (by simp [oLearn, *])
  · first | refine j_aload_n dX0_learn_8 rfl ?_ | refine j_aload_nN dX0_learn_8 rfl ?_
    refine j_iload_n dX0_learn_9 rfl ?_
    refine j_dV1 kl_X0_242 (x_isWord hf hg hR hW hW8 _) dX0_learn_10 rfl rfl (by decide) (by first | exact Fa.sh hf | assumption) (Nat.le_of_ble_eq_true rfl) (by first | decide | omega) (by omega) (by omega) ?_
    first | (with_reducible refine j_gB ?_; refine j_if_neB (tgt := 22) dX0_learn_13 (by decide) (fun c_13 => ?_) (fun c_13 => ?_)) | (with_reducible refine j_gC ?_; refine j_if_neC (tgt := 22) dX0_learn_13 (by decide) (fun c_13 => ?_) (fun c_13 => ?_)) | (with_reducible refine j_gN ?_; refine j_if_neN (tgt := 22) dX0_learn_13 (by decide) (by omega) (fun c_13 => ?_) (fun c_13 => ?_)) | refine j_if_ne (tgt := 22) dX0_learn_13 (by decide) (fun c_13 => ?_) (fun c_13 => ?_)
    · obtain ⟨p0, hp0, rfl⟩ := okN_nI c_5
      obtain ⟨k0, hk0, rfl⟩ := okN_nI c_13
      have ep : ixn (nI p0) = p0 := ixn_nI (by omega)
      have ek : ixn (nI k0) = k0 := ixn_nI (by omega)
      have hp := hR.pe hp0
      have hq := hp
      first | refine j_aload_n dX0_learn_22 rfl ?_ | refine j_aload_nN dX0_learn_22 rfl ?_
      refine j_getR dX0_learn_23 fl_X0_38 rfl (by first | exact Fa.sh hf | assumption) (by first | exact Fq.f3 hg | assumption) ?_
      refine j_getR dX0_learn_26 fl_X0_211 rfl (by first | exact Pv.sh hR | assumption) (by first | exact Pv.r1 hR | assumption) ?_
      refine j_iload_n dX0_learn_29 rfl ?_
      refine j_aald (t := 27) dX0_learn_30 (fun _ => rfl) (by decide) (by first | exact Pe.sl hp | exact Pe.sa hp | exact Pe.sl hq | exact Pe.sa hq | exact Pv.sw hR | exact Pv.sp hR | exact Pv.sd hR | exact Fa.s0 hf | exact Fa.s12 hf | exact Fa.s13 hf | exact Fa.s14 hf | exact Fa.s15 hf | exact Fa.s16 hf | exact Fa.s20 hf | exact Fa.s21 hf | exact Fa.s23 hf | assumption) rfl (by omega) (by decide) (by first | exact Pv.rw hR (by omega) | exact Pv.rp hR (by omega) | exact Pv.rd hR (by omega) | exact Fa.tr hf (by omega) | assumption) ?_
      first | refine j_astore_n dX0_learn_31 (by decide) ?_ | refine j_astore_nN dX0_learn_31 (by decide) ?_
      first | refine j_aload_n dX0_learn_32 rfl ?_ | refine j_aload_nN dX0_learn_32 rfl ?_
      refine j_getI dX0_learn_33 fl_X0_270 rfl (by first | exact Pe.sh hp | exact Pe.sh hq | assumption) (by first | exact pg (Pe.l4 hp) | exact pg (Pe.l4 hq) | assumption) ?_
      refine j_iload_n dX0_learn_36 rfl ?_
      refine j_dS1 kl_X0_279 (k_isIn _ _ _ _ k0) dX0_learn_37 rfl rfl (Nat.le_of_ble_eq_true rfl) (by first | decide | omega) (by omega) (by omega) ?_
      first | (with_reducible refine j_gB ?_; refine j_if_eqB (tgt := 50) dX0_learn_40 (by decide) (fun c_40 => ?_) (fun c_40 => ?_)) | (with_reducible refine j_gC ?_; refine j_if_eqC (tgt := 50) dX0_learn_40 (by decide) (fun c_40 => ?_) (fun c_40 => ?_)) | (with_reducible refine j_gN ?_; refine j_if_eqN (tgt := 50) dX0_learn_40 (by decide) (by omega) (fun c_40 => ?_) (fun c_40 => ?_)) | refine j_if_eq (tgt := 50) dX0_learn_40 (by decide) (fun c_40 => ?_) (fun c_40 => ?_)
      · first | refine j_aload_n dX0_learn_50 rfl ?_ | refine j_aload_nN dX0_learn_50 rfl ?_
        refine j_dup dX0_learn_51 rfl ?_
        refine j_getI dX0_learn_52 fl_X0_270 rfl (by first | exact Pe.sh hp | exact Pe.sh hq | assumption) (by first | exact pg (Pe.l4 hp) | exact pg (Pe.l4 hq) | assumption) ?_
        refine j_iconst (v := nI 1) dX0_learn_55 (by decide +kernel) ?_
        refine j_iload_n dX0_learn_56 rfl ?_
        refine j_ishl dX0_learn_57 ?_
        refine j_ior dX0_learn_58 ?_
        refine j_putI dX0_learn_59 fl_X0_270 rfl (by first | exact Pe.sh hp | exact Pe.sh hq | assumption) rfl rfl rfl ?_
        first | refine j_sg (put_w hL (Pe.l4 hp)) ?_ | refine j_sg (put_w hL (Pe.l4 hq)) ?_ | skip
        first | refine j_aload_n dX0_learn_62 rfl ?_ | refine j_aload_nN dX0_learn_62 rfl ?_
        have fr : Fr C (up C (37 + p0) (C (37 + p0) ||| bt k0)) := Fr.rf.up (by omega)
        refine j_sg (σ' := put σ L (up C (37 + p0) (C (37 + p0) ||| bt k0))) rfl ?_
        have hR1 := hR.fr fr hW8
        obtain ⟨m, m1, m2, -⟩ := mPeopleWith_nI (C := up C (37 + p0) (C (37 + p0) ||| bt k0)) (r := 37) (k := k0) hP6
        have hm : m < 256 := Nat.lt_of_lt_of_le m1 (pw_le (n := 8) (by omega))
        first | refine j_aload_n dX0_learn_63 rfl ?_ | refine j_aload_nN dX0_learn_63 rfl ?_
        refine j_getR dX0_learn_64 fl_X0_38 rfl (by first | exact Fa.sh hf | assumption) (by first | exact Fq.f3 hg | assumption) ?_
        refine j_iload_n dX0_learn_67 rfl ?_
        refine j_iconst (v := nI 0) dX0_learn_68 (by decide +kernel) ?_
        refine j_dV1 kl_X0_257 (x_peopleK hR1 ((fr 1 (by omega)).trans hP) hP6) dX0_learn_69 rfl rfl (by decide) (by first | exact Pv.sh hR | assumption) (Nat.le_of_ble_eq_true rfl) (by first | decide | omega) (by omega) (by omega) ?_
        rw [m2]
        refine j_dS1 kl_X0_326 (k_bits hm) dX0_learn_72 rfl rfl (Nat.le_of_ble_eq_true rfl) (by first | decide | omega) (by omega) (by omega) ?_
        refine j_dV1 kl_X0_102 (x_gives (Fa.sh hf) _) dX0_learn_75 rfl rfl (by decide) (by first | exact Fa.sh hf | assumption) (Nat.le_of_ble_eq_true rfl) (by first | decide | omega) (by omega) (by omega) ?_
        refine j_iret dX0_learn_78 ⟨_, rfl, rfl⟩ (by omega) (by omega) ?_
        first
        | exact pxD hn (by unfold oLearn; rw [if_pos ⟨c_5, c_13⟩, ep, ek, if_pos c_40])
        | exact pxD hn (by unfold oLearn; rw [if_pos ⟨c_5, c_13⟩, ep, ek, if_neg (by rw [c_40]; decide), m2, sz_pop hm])
      · first | refine j_aload_n dX0_learn_43 rfl ?_ | refine j_aload_nN dX0_learn_43 rfl ?_
        refine j_bipush (v := nI 9) dX0_learn_44 (by decide +kernel) ?_
        refine j_dV1 kl_X0_98 (x_none (Fa.sh hf) _) dX0_learn_46 rfl rfl (by decide) (by first | exact Fa.sh hf | assumption) (Nat.le_of_ble_eq_true rfl) (by first | decide | omega) (by omega) (by omega) ?_
        refine j_iret dX0_learn_49 ⟨_, rfl, rfl⟩ (by omega) (by omega) ?_
        first
        | exact pxD hn (by unfold oLearn; rw [if_pos ⟨c_5, c_13⟩, ep, ek, if_pos c_40])
        | exact pxD hn (by unfold oLearn; rw [if_pos ⟨c_5, c_13⟩, ep, ek, if_neg (by rw [c_40]; decide), m2, sz_pop hm])
    · first | refine j_aload_n dX0_learn_16 rfl ?_ | refine j_aload_nN dX0_learn_16 rfl ?_
      refine j_iconst (v := nI 2) dX0_learn_17 (by decide +kernel) ?_
      refine j_dV1 kl_X0_98 (x_none (Fa.sh hf) _) dX0_learn_18 rfl rfl (by decide) (by first | exact Fa.sh hf | assumption) (Nat.le_of_ble_eq_true rfl) (by first | decide | omega) (by omega) (by omega) ?_
      refine j_iret dX0_learn_21 ⟨_, rfl, rfl⟩ (by omega) (by omega) ?_
      exact pxD hn (by simp [oLearn, *])
theorem q_cut (hf : Fa σ hx B) (hg : Fq σ hx A) (hR : Pv σ L A C W P Dn Hn) (hw : Wx C W P Dn) (p0 q0 : Int32) : Kd g l 3 MX0_cut [.ref hx, .int p0, .int q0] (put σ L C) (some (.int (oCut C W P p0 q0).1)) (put (xS σ hx (oCut C W P p0 q0).2.1) L (oCut C W P p0 q0).2.2) := by
  obtain ⟨⟨⟨hW, hW8⟩, ⟨hP, hP6⟩, ⟨hD, hD6⟩, hdn⟩, hWv, hPp⟩ := id hw
  have hL := hR.inj
  have hn := hR.nf hf
  refine Kt.go (Y := MX0_cut) (ls := [some (.ref hx), some (.int p0), some (.int q0), none]) (by decide) (Nat.le_of_ble_eq_true rfl) rfl ?_
  first | refine j_aload_n dX0_cut_0 rfl ?_ | refine j_aload_nN dX0_cut_0 rfl ?_
  refine j_iload_n dX0_cut_1 rfl ?_
  refine j_dV1 kl_X0_264 (x_isPerson hf hg hR hP hP6 _) dX0_cut_2 rfl rfl (by decide) (by first | exact Fa.sh hf | assumption) (Nat.le_of_ble_eq_true rfl) (by first | decide | omega) (by omega) (by omega) ?_
  first | (with_reducible refine j_gB ?_; refine j_if_eqB (tgt := 16) dX0_cut_5 (by decide) (fun c_5 => ?_) (fun c_5 => ?_)) | (with_reducible refine j_gC ?_; refine j_if_eqC (tgt := 16) dX0_cut_5 (by decide) (fun c_5 => ?_) (fun c_5 => ?_)) | (with_reducible refine j_gN ?_; refine j_if_eqN (tgt := 16) dX0_cut_5 (by decide) (by omega) (fun c_5 => ?_) (fun c_5 => ?_)) | refine j_if_eq (tgt := 16) dX0_cut_5 (by decide) (fun c_5 => ?_) (fun c_5 => ?_)
  · first | refine j_aload_n dX0_cut_16 rfl ?_ | refine j_aload_nN dX0_cut_16 rfl ?_
    refine j_iconst (v := nI 2) dX0_cut_17 (by decide +kernel) ?_
    refine j_dV1 kl_X0_98 (x_none (Fa.sh hf) _) dX0_cut_18 rfl rfl (by decide) (by first | exact Fa.sh hf | assumption) (Nat.le_of_ble_eq_true rfl) (by first | decide | omega) (by omega) (by omega) ?_
    refine j_iret dX0_cut_21 ⟨_, rfl, rfl⟩ (by omega) (by omega) ?_
    exact pxD hn (by simp [oCut, *])
  · first | refine j_aload_n dX0_cut_8 rfl ?_ | refine j_aload_nN dX0_cut_8 rfl ?_
    refine j_iload_n dX0_cut_9 rfl ?_
    refine j_dV1 kl_X0_264 (x_isPerson hf hg hR hP hP6 _) dX0_cut_10 rfl rfl (by decide) (by first | exact Fa.sh hf | assumption) (Nat.le_of_ble_eq_true rfl) (by first | decide | omega) (by omega) (by omega) ?_
    first | (with_reducible refine j_gB ?_; refine j_if_neB (tgt := 22) dX0_cut_13 (by decide) (fun c_13 => ?_) (fun c_13 => ?_)) | (with_reducible refine j_gC ?_; refine j_if_neC (tgt := 22) dX0_cut_13 (by decide) (fun c_13 => ?_) (fun c_13 => ?_)) | (with_reducible refine j_gN ?_; refine j_if_neN (tgt := 22) dX0_cut_13 (by decide) (by omega) (fun c_13 => ?_) (fun c_13 => ?_)) | refine j_if_ne (tgt := 22) dX0_cut_13 (by decide) (fun c_13 => ?_) (fun c_13 => ?_)
    · obtain ⟨p0, hp0, rfl⟩ := okN_nI c_5
      obtain ⟨q0, hq0, rfl⟩ := okN_nI c_13
      have ep : ixn (nI p0) = p0 := ixn_nI (by omega)
      have eq : ixn (nI q0) = q0 := ixn_nI (by omega)
      obtain ⟨m, m1, m2, -⟩ := cutS_T (C := C) (p := p0) (b := q0) W hW8
      have hm := pw8 hW8
      first | refine j_aload_n dX0_cut_22 rfl ?_ | refine j_aload_nN dX0_cut_22 rfl ?_
      refine j_getR dX0_cut_23 fl_X0_38 rfl (by first | exact Fa.sh hf | assumption) (by first | exact Fq.f3 hg | assumption) ?_
      refine j_iload_n dX0_cut_26 rfl ?_
      refine j_iload_n dX0_cut_27 rfl ?_
      refine j_dV1 kl_X0_329 (x_cuts hR hw hp0 hq0) dX0_cut_28 rfl rfl (by decide) (by first | exact Pv.sh hR | assumption) (Nat.le_of_ble_eq_true rfl) (by first | decide | omega) (by omega) (by omega) ?_
      refine j_istore_n dX0_cut_31 (by decide) ?_
      refine j_iload_n dX0_cut_32 rfl ?_
      refine j_iconst (v := -1) dX0_cut_33 (by decide +kernel) ?_
      first | (with_reducible refine j_gNN ?_; refine j_icmp_neN (tgt := 46) dX0_cut_34 (by decide) (by omega) (by omega) (fun c_34 => ?_) (fun c_34 => ?_)) | refine j_icmp_ne (tgt := 46) dX0_cut_34 (by decide) (fun c_34 => ?_) (fun c_34 => ?_)
      · first | refine j_aload_n dX0_cut_46 rfl ?_ | refine j_aload_nN dX0_cut_46 rfl ?_
        refine j_iload_n dX0_cut_47 rfl ?_
        refine j_dV1 kl_X0_102 (x_gives (Fa.sh hf) _) dX0_cut_48 rfl rfl (by decide) (by first | exact Fa.sh hf | assumption) (Nat.le_of_ble_eq_true rfl) (by first | decide | omega) (by omega) (by omega) ?_
        refine j_iret dX0_cut_51 ⟨_, rfl, rfl⟩ (by omega) (by omega) ?_
        first
        | (have z : mCutV C W p0 q0 < 0 := by rw [c_34]; decide
           exact pxD hn (by unfold oCut; rw [if_pos ⟨c_5, c_13⟩, ep, eq, if_pos z]))
        | (have z : ¬ mCutV C W p0 q0 < 0 := by
             unfold mCutV at c_34 ⊢
             split
             · rw [mCutS, m2]; exact nI_pos (by omega)
             · next y => rw [if_neg y] at c_34; exact absurd rfl c_34
           exact pxD hn (by unfold oCut; rw [if_pos ⟨c_5, c_13⟩, ep, eq, if_neg z]))
      · first | refine j_aload_n dX0_cut_37 rfl ?_ | refine j_aload_nN dX0_cut_37 rfl ?_
        refine j_bipush (v := nI 9) dX0_cut_38 (by decide +kernel) ?_
        refine j_dV1 kl_X0_98 (x_none (Fa.sh hf) _) dX0_cut_40 rfl rfl (by decide) (by first | exact Fa.sh hf | assumption) (Nat.le_of_ble_eq_true rfl) (by first | decide | omega) (by omega) (by omega) ?_
        refine j_goto (tgt := 51) dX0_cut_43 (by decide) ?_
        refine j_iret dX0_cut_51 ⟨_, rfl, rfl⟩ (by omega) (by omega) ?_
        first
        | (have z : mCutV C W p0 q0 < 0 := by rw [c_34]; decide
           exact pxD hn (by unfold oCut; rw [if_pos ⟨c_5, c_13⟩, ep, eq, if_pos z]))
        | (have z : ¬ mCutV C W p0 q0 < 0 := by
             unfold mCutV at c_34 ⊢
             split
             · rw [mCutS, m2]; exact nI_pos (by omega)
             · next y => rw [if_neg y] at c_34; exact absurd rfl c_34
           exact pxD hn (by unfold oCut; rw [if_pos ⟨c_5, c_13⟩, ep, eq, if_neg z]))
    · first | refine j_aload_n dX0_cut_16 rfl ?_ | refine j_aload_nN dX0_cut_16 rfl ?_
      refine j_iconst (v := nI 2) dX0_cut_17 (by decide +kernel) ?_
      refine j_dV1 kl_X0_98 (x_none (Fa.sh hf) _) dX0_cut_18 rfl rfl (by decide) (by first | exact Fa.sh hf | assumption) (Nat.le_of_ble_eq_true rfl) (by first | decide | omega) (by omega) (by omega) ?_
      refine j_iret dX0_cut_21 ⟨_, rfl, rfl⟩ (by omega) (by omega) ?_
      exact pxD hn (by simp [oCut, *])
theorem q_train (hf : Fa σ hx B) (hg : Fq σ hx A) (hR : Pv σ L A C W P Dn Hn) (hw : Wx C W P Dn) (p0 t0 : Int32) : Kd g l 3 MX0_train [.ref hx, .int p0, .int t0] (put σ L C) (some (.int (bI (oTrain C P p0 t0).1))) (put (xS σ hx (oTrain C P p0 t0).2.1) L (oTrain C P p0 t0).2.2) := by
  obtain ⟨⟨⟨hW, hW8⟩, ⟨hP, hP6⟩, ⟨hD, hD6⟩, hdn⟩, hWv, hPp⟩ := id hw
  have hL := hR.inj
  have hn := hR.nf hf
  refine Kt.go (Y := MX0_train) (ls := [some (.ref hx), some (.int p0), some (.int t0)]) (by decide) (Nat.le_of_ble_eq_true rfl) rfl ?_
  first | refine j_aload_n dX0_train_0 rfl ?_ | refine j_aload_nN dX0_train_0 rfl ?_
  refine j_iload_n dX0_train_1 rfl ?_
  refine j_dV1 kl_X0_264 (x_isPerson hf hg hR hP hP6 _) dX0_train_2 rfl rfl (by decide) (by first | exact Fa.sh hf | assumption) (Nat.le_of_ble_eq_true rfl) (by first | decide | omega) (by omega) (by omega) ?_
  first | (with_reducible refine j_gB ?_; refine j_if_neB (tgt := 14) dX0_train_5 (by decide) (fun c_5 => ?_) (fun c_5 => ?_)) | (with_reducible refine j_gC ?_; refine j_if_neC (tgt := 14) dX0_train_5 (by decide) (fun c_5 => ?_) (fun c_5 => ?_)) | (with_reducible refine j_gN ?_; refine j_if_neN (tgt := 14) dX0_train_5 (by decide) (by omega) (fun c_5 => ?_) (fun c_5 => ?_)) | refine j_if_ne (tgt := 14) dX0_train_5 (by decide) (fun c_5 => ?_) (fun c_5 => ?_)
  · refine j_iload_n dX0_train_14 rfl ?_
    refine j_i2l dX0_train_15 ?_
    refine j_lconst (v := 0) dX0_train_16 (by decide +kernel) ?_
    refine j_ldc2 (v := 999) dX0_train_17 q1253 ?_
    refine j_dS1 kl_X0_162 (k_isFrom _ _ _) dX0_train_20 rfl rfl (Nat.le_of_ble_eq_true rfl) (by first | decide | omega) (by omega) (by omega) ?_
    rw [inL_ok (n := 1000) (by decide +kernel)]
    first | (with_reducible refine j_gB ?_; refine j_if_neB (tgt := 32) dX0_train_23 (by decide) (fun c_23 => ?_) (fun c_23 => ?_)) | (with_reducible refine j_gC ?_; refine j_if_neC (tgt := 32) dX0_train_23 (by decide) (fun c_23 => ?_) (fun c_23 => ?_)) | (with_reducible refine j_gN ?_; refine j_if_neN (tgt := 32) dX0_train_23 (by decide) (by omega) (fun c_23 => ?_) (fun c_23 => ?_)) | refine j_if_ne (tgt := 32) dX0_train_23 (by decide) (fun c_23 => ?_) (fun c_23 => ?_)
    · obtain ⟨p0, hp0, rfl⟩ := okN_nI c_5
      have ep : ixn (nI p0) = p0 := ixn_nI (by omega)
      have hp := hR.pe hp0
      have hq := hp
      first | refine j_aload_n dX0_train_32 rfl ?_ | refine j_aload_nN dX0_train_32 rfl ?_
      refine j_getR dX0_train_33 fl_X0_38 rfl (by first | exact Fa.sh hf | assumption) (by first | exact Fq.f3 hg | assumption) ?_
      refine j_getR dX0_train_36 fl_X0_211 rfl (by first | exact Pv.sh hR | assumption) (by first | exact Pv.r1 hR | assumption) ?_
      refine j_iload_n dX0_train_39 rfl ?_
      refine j_aald (t := 27) dX0_train_40 (fun _ => rfl) (by decide) (by first | exact Pe.sl hp | exact Pe.sa hp | exact Pe.sl hq | exact Pe.sa hq | exact Pv.sw hR | exact Pv.sp hR | exact Pv.sd hR | exact Fa.s0 hf | exact Fa.s12 hf | exact Fa.s13 hf | exact Fa.s14 hf | exact Fa.s15 hf | exact Fa.s16 hf | exact Fa.s20 hf | exact Fa.s21 hf | exact Fa.s23 hf | assumption) rfl (by omega) (by decide) (by first | exact Pv.rw hR (by omega) | exact Pv.rp hR (by omega) | exact Pv.rd hR (by omega) | exact Fa.tr hf (by omega) | assumption) ?_
      refine j_iload_n dX0_train_41 rfl ?_
      refine j_putI dX0_train_42 fl_X0_267 rfl (by first | exact Pe.sh hp | exact Pe.sh hq | assumption) rfl rfl rfl ?_
      first | refine j_sg (put_w hL (Pe.l3 hp)) ?_ | refine j_sg (put_w hL (Pe.l3 hq)) ?_ | skip
      first | refine j_aload_n dX0_train_45 rfl ?_ | refine j_aload_nN dX0_train_45 rfl ?_
      refine j_iconst (v := nI 0) dX0_train_46 (by decide +kernel) ?_
      refine j_dV1 kl_X0_105 (x_is (Fa.sh hf) _) dX0_train_47 rfl rfl (by decide) (by first | exact Fa.sh hf | assumption) (Nat.le_of_ble_eq_true rfl) (by first | decide | omega) (by omega) (by omega) ?_
      refine j_iret dX0_train_50 ⟨_, rfl, bI_nar _⟩ (by omega) (by omega) ?_
      exact pxB hn (b := true) (by decide) (by unfold oTrain; rw [if_pos c_5, if_pos c_23, ep])
    · first | refine j_aload_n dX0_train_26 rfl ?_ | refine j_aload_nN dX0_train_26 rfl ?_
      refine j_iconst (v := nI 5) dX0_train_27 (by decide +kernel) ?_
      refine j_dV1 kl_X0_105 (x_is (Fa.sh hf) _) dX0_train_28 rfl rfl (by decide) (by first | exact Fa.sh hf | assumption) (Nat.le_of_ble_eq_true rfl) (by first | decide | omega) (by omega) (by omega) ?_
      refine j_iret dX0_train_31 ⟨_, rfl, bI_nar _⟩ (by omega) (by omega) ?_
      exact pxB hn (b := false) (by decide) (by simp [oTrain, *])
  · first | refine j_aload_n dX0_train_8 rfl ?_ | refine j_aload_nN dX0_train_8 rfl ?_
    refine j_iconst (v := nI 2) dX0_train_9 (by decide +kernel) ?_
    refine j_dV1 kl_X0_105 (x_is (Fa.sh hf) _) dX0_train_10 rfl rfl (by decide) (by first | exact Fa.sh hf | assumption) (Nat.le_of_ble_eq_true rfl) (by first | decide | omega) (by omega) (by omega) ?_
    refine j_iret dX0_train_13 ⟨_, rfl, bI_nar _⟩ (by omega) (by omega) ?_
    exact pxB hn (b := false) (by decide) (by simp [oTrain, *])
theorem q_trade (hf : Fa σ hx B) (hg : Fq σ hx A) (hR : Pv σ L A C W P Dn Hn) (hw : Wx C W P Dn) (hb : Bb C P) (p0 : Int32) (bo : Bool) : Kd g l 3 MX0_trade [.ref hx, .int p0, .int (bI bo)] (put σ L C) (some (.int (bI (oTrade C P p0 bo).1))) (put (xS σ hx (oTrade C P p0 bo).2.1) L (oTrade C P p0 bo).2.2) := by
  obtain ⟨⟨⟨hW, hW8⟩, ⟨hP, hP6⟩, ⟨hD, hD6⟩, hdn⟩, hWv, hPp⟩ := id hw
  have hL := hR.inj
  have hn := hR.nf hf
  refine Kt.go (Y := MX0_trade) (ls := [some (.ref hx), some (.int p0), some (.int (bI bo)), none]) (by decide) (Nat.le_of_ble_eq_true rfl) rfl ?_
  first | refine j_aload_n dX0_trade_0 rfl ?_ | refine j_aload_nN dX0_trade_0 rfl ?_
  refine j_iload_n dX0_trade_1 rfl ?_
  refine j_dV1 kl_X0_264 (x_isPerson hf hg hR hP hP6 _) dX0_trade_2 rfl rfl (by decide) (by first | exact Fa.sh hf | assumption) (Nat.le_of_ble_eq_true rfl) (by first | decide | omega) (by omega) (by omega) ?_
  first | (with_reducible refine j_gB ?_; refine j_if_neB (tgt := 14) dX0_trade_5 (by decide) (fun c_5 => ?_) (fun c_5 => ?_)) | (with_reducible refine j_gC ?_; refine j_if_neC (tgt := 14) dX0_trade_5 (by decide) (fun c_5 => ?_) (fun c_5 => ?_)) | (with_reducible refine j_gN ?_; refine j_if_neN (tgt := 14) dX0_trade_5 (by decide) (by omega) (fun c_5 => ?_) (fun c_5 => ?_)) | refine j_if_ne (tgt := 14) dX0_trade_5 (by decide) (fun c_5 => ?_) (fun c_5 => ?_)
  · obtain ⟨p0, hp0, rfl⟩ := okN_nI c_5
    have ep : ixn (nI p0) = p0 := ixn_nI (by omega)
    have hp := hR.pe hp0
    have hq := hp
    first | refine j_aload_n dX0_trade_14 rfl ?_ | refine j_aload_nN dX0_trade_14 rfl ?_
    refine j_getR dX0_trade_15 fl_X0_38 rfl (by first | exact Fa.sh hf | assumption) (by first | exact Fq.f3 hg | assumption) ?_
    refine j_getR dX0_trade_18 fl_X0_211 rfl (by first | exact Pv.sh hR | assumption) (by first | exact Pv.r1 hR | assumption) ?_
    refine j_iload_n dX0_trade_21 rfl ?_
    refine j_aald (t := 27) dX0_trade_22 (fun _ => rfl) (by decide) (by first | exact Pe.sl hp | exact Pe.sa hp | exact Pe.sl hq | exact Pe.sa hq | exact Pv.sw hR | exact Pv.sp hR | exact Pv.sd hR | exact Fa.s0 hf | exact Fa.s12 hf | exact Fa.s13 hf | exact Fa.s14 hf | exact Fa.s15 hf | exact Fa.s16 hf | exact Fa.s20 hf | exact Fa.s21 hf | exact Fa.s23 hf | assumption) rfl (by omega) (by decide) (by first | exact Pv.rw hR (by omega) | exact Pv.rp hR (by omega) | exact Pv.rd hR (by omega) | exact Fa.tr hf (by omega) | assumption) ?_
    first | refine j_astore_n dX0_trade_23 (by decide) ?_ | refine j_astore_nN dX0_trade_23 (by decide) ?_
    first | refine j_aload_n dX0_trade_24 rfl ?_ | refine j_aload_nN dX0_trade_24 rfl ?_
    refine j_getI dX0_trade_25 fl_X0_214 rfl (by first | exact Pe.sh hp | exact Pe.sh hq | assumption) (by first | exact pg (Pe.l6 hp) | exact pg (Pe.l6 hq) | assumption) ?_
    refine j_iload_n dX0_trade_28 rfl ?_
    first | (with_reducible refine j_gNN ?_; refine j_icmp_neN (tgt := 39) dX0_trade_29 (by decide) (by omega) (by omega) (fun c_29 => ?_) (fun c_29 => ?_)) | refine j_icmp_ne (tgt := 39) dX0_trade_29 (by decide) (fun c_29 => ?_) (fun c_29 => ?_)
    · first | refine j_aload_n dX0_trade_39 rfl ?_ | refine j_aload_nN dX0_trade_39 rfl ?_
      refine j_iload_n dX0_trade_40 rfl ?_
      refine j_putI dX0_trade_41 fl_X0_214 rfl (by first | exact Pe.sh hp | exact Pe.sh hq | assumption) rfl (by first | rfl | exact bI_nar _ | exact zb_nar (by assumption)) (by first | rfl | exact bI_fit _ | exact zb_fit (by assumption)) ?_
      first | refine j_sg (put_w hL (Pe.l6 hp)) ?_ | refine j_sg (put_w hL (Pe.l6 hq)) ?_ | skip
      first | refine j_aload_n dX0_trade_44 rfl ?_ | refine j_aload_nN dX0_trade_44 rfl ?_
      refine j_iconst (v := nI 0) dX0_trade_45 (by decide +kernel) ?_
      refine j_dV1 kl_X0_105 (x_is (Fa.sh hf) _) dX0_trade_46 rfl rfl (by decide) (by first | exact Fa.sh hf | assumption) (Nat.le_of_ble_eq_true rfl) (by first | decide | omega) (by omega) (by omega) ?_
      refine j_iret dX0_trade_49 ⟨_, rfl, bI_nar _⟩ (by omega) (by omega) ?_
      exact pxB hn (b := true) (by decide) (by
        unfold oTrade
        rw [if_pos c_5, ep, if_neg]
        intro z
        apply c_29
        rcases hb p0 hp0 with y | y
        · rw [y] at z ⊢
          cases bo with
          | false => rfl
          | true => exact absurd z (by decide)
        · rw [y] at z ⊢
          cases bo with
          | true => rfl
          | false => exact absurd z (by decide))
    · first | refine j_aload_n dX0_trade_32 rfl ?_ | refine j_aload_nN dX0_trade_32 rfl ?_
      refine j_bipush (v := nI 9) dX0_trade_33 (by decide +kernel) ?_
      refine j_dV1 kl_X0_105 (x_is (Fa.sh hf) _) dX0_trade_35 rfl rfl (by decide) (by first | exact Fa.sh hf | assumption) (Nat.le_of_ble_eq_true rfl) (by first | decide | omega) (by omega) (by omega) ?_
      refine j_iret dX0_trade_38 ⟨_, rfl, bI_nar _⟩ (by omega) (by omega) ?_
      exact pxB hn (b := false) (by decide) (by
        unfold oTrade
        rw [if_pos c_5, ep, if_pos]
        rw [c_29]
        cases bo <;> decide)
  · first | refine j_aload_n dX0_trade_8 rfl ?_ | refine j_aload_nN dX0_trade_8 rfl ?_
    refine j_iconst (v := nI 2) dX0_trade_9 (by decide +kernel) ?_
    refine j_dV1 kl_X0_105 (x_is (Fa.sh hf) _) dX0_trade_10 rfl rfl (by decide) (by first | exact Fa.sh hf | assumption) (Nat.le_of_ble_eq_true rfl) (by first | decide | omega) (by omega) (by omega) ?_
    refine j_iret dX0_trade_13 ⟨_, rfl, bI_nar _⟩ (by omega) (by omega) ?_
    exact pxB hn (b := false) (by decide) (by simp [oTrade, *])
theorem q_rule (hf : Fa σ hx B) (hg : Fq σ hx A) (hR : Pv σ L A C W P Dn Hn) (hw : Wx C W P Dn) (w m : Int32) : Kd g l 3 MX0_rule [.ref hx, .int w, .int m] (put σ L C) (some (.int (bI (oRule C w m).1))) (put (xS σ hx (oRule C w m).2.1) L (oRule C w m).2.2) := by
  obtain ⟨⟨⟨hW, hW8⟩, ⟨hP, hP6⟩, ⟨hD, hD6⟩, hdn⟩, hWv, hPp⟩ := id hw
  have hL := hR.inj
  have hn := hR.nf hf
  refine Kt.go (Y := MX0_rule) (ls := [some (.ref hx), some (.int w), some (.int m)]) (by decide) (Nat.le_of_ble_eq_true rfl) rfl ?_
  refine j_iload_n dX0_rule_0 rfl ?_
  refine j_iconst (v := nI 4) dX0_rule_1 (by decide +kernel) ?_
  first | (with_reducible refine j_gNN ?_; refine j_icmp_neN (tgt := 28) dX0_rule_2 (by decide) (by omega) (by omega) (fun c_2 => ?_) (fun c_2 => ?_)) | refine j_icmp_ne (tgt := 28) dX0_rule_2 (by decide) (fun c_2 => ?_) (fun c_2 => ?_)
  · refine j_iload_n dX0_rule_28 rfl ?_
    refine j_iconst (v := nI 5) dX0_rule_29 (by decide +kernel) ?_
    first | (with_reducible refine j_gNN ?_; refine j_icmp_neN (tgt := 56) dX0_rule_30 (by decide) (by omega) (by omega) (fun c_30 => ?_) (fun c_30 => ?_)) | refine j_icmp_ne (tgt := 56) dX0_rule_30 (by decide) (fun c_30 => ?_) (fun c_30 => ?_)
    · first | refine j_aload_n dX0_rule_56 rfl ?_ | refine j_aload_nN dX0_rule_56 rfl ?_
      refine j_iconst (v := nI 5) dX0_rule_57 (by decide +kernel) ?_
      refine j_dV1 kl_X0_105 (x_is (Fa.sh hf) _) dX0_rule_58 rfl rfl (by decide) (by first | exact Fa.sh hf | assumption) (Nat.le_of_ble_eq_true rfl) (by first | decide | omega) (by omega) (by omega) ?_
      refine j_iret dX0_rule_61 ⟨_, rfl, bI_nar _⟩ (by omega) (by omega) ?_
      exact pxB hn (b := false) (by decide) (by
        unfold oRule
        rw [if_neg]
        intro z
        rcases z with ⟨z1, z2⟩ | ⟨z1, z2⟩
        · first
          | exact absurd z1 c_2
          | (rw [z2] at c_14; cases c_14)
        · first
          | exact absurd z1 c_30
          | (rw [z2] at c_42; cases c_42)
          | (rw [c_2] at z1; exact absurd z1 (by decide)))
    · refine j_iload_n dX0_rule_33 rfl ?_
      refine j_i2l dX0_rule_34 ?_
      refine j_lconst (v := 0) dX0_rule_35 (by decide +kernel) ?_
      refine j_ldc2 (v := 16) dX0_rule_36 q1262 ?_
      refine j_dS1 kl_X0_162 (k_isFrom _ _ _) dX0_rule_39 rfl rfl (Nat.le_of_ble_eq_true rfl) (by first | decide | omega) (by omega) (by omega) ?_
      rw [inL_ok (n := 17) (by decide +kernel)]
      first | (with_reducible refine j_gB ?_; refine j_if_eqB (tgt := 56) dX0_rule_42 (by decide) (fun c_42 => ?_) (fun c_42 => ?_)) | (with_reducible refine j_gC ?_; refine j_if_eqC (tgt := 56) dX0_rule_42 (by decide) (fun c_42 => ?_) (fun c_42 => ?_)) | (with_reducible refine j_gN ?_; refine j_if_eqN (tgt := 56) dX0_rule_42 (by decide) (by omega) (fun c_42 => ?_) (fun c_42 => ?_)) | refine j_if_eq (tgt := 56) dX0_rule_42 (by decide) (fun c_42 => ?_) (fun c_42 => ?_)
      · first | refine j_aload_n dX0_rule_56 rfl ?_ | refine j_aload_nN dX0_rule_56 rfl ?_
        refine j_iconst (v := nI 5) dX0_rule_57 (by decide +kernel) ?_
        refine j_dV1 kl_X0_105 (x_is (Fa.sh hf) _) dX0_rule_58 rfl rfl (by decide) (by first | exact Fa.sh hf | assumption) (Nat.le_of_ble_eq_true rfl) (by first | decide | omega) (by omega) (by omega) ?_
        refine j_iret dX0_rule_61 ⟨_, rfl, bI_nar _⟩ (by omega) (by omega) ?_
        exact pxB hn (b := false) (by decide) (by
          unfold oRule
          rw [if_neg]
          intro z
          rcases z with ⟨z1, z2⟩ | ⟨z1, z2⟩
          · first
            | exact absurd z1 c_2
            | (rw [z2] at c_14; cases c_14)
          · first
            | exact absurd z1 c_30
            | (rw [z2] at c_42; cases c_42)
            | (rw [c_2] at z1; exact absurd z1 (by decide)))
      · first | refine j_aload_n dX0_rule_45 rfl ?_ | refine j_aload_nN dX0_rule_45 rfl ?_
        refine j_getR dX0_rule_46 fl_X0_38 rfl (by first | exact Fa.sh hf | assumption) (by first | exact Fq.f3 hg | assumption) ?_
        refine j_iload_n dX0_rule_49 rfl ?_
        refine j_putI dX0_rule_50 fl_X0_224 rfl (by first | exact Pv.sh hR | assumption) rfl rfl rfl ?_
        first | refine j_sg (put_w hL (Pv.li hR 9 5 rfl (by decide))) ?_ | skip
        refine j_goto (tgt := 62) dX0_rule_53 (by decide) ?_
        first | refine j_aload_n dX0_rule_62 rfl ?_ | refine j_aload_nN dX0_rule_62 rfl ?_
        refine j_iconst (v := nI 0) dX0_rule_63 (by decide +kernel) ?_
        refine j_dV1 kl_X0_105 (x_is (Fa.sh hf) _) dX0_rule_64 rfl rfl (by decide) (by first | exact Fa.sh hf | assumption) (Nat.le_of_ble_eq_true rfl) (by first | decide | omega) (by omega) (by omega) ?_
        refine j_iret dX0_rule_67 ⟨_, rfl, bI_nar _⟩ (by omega) (by omega) ?_
        first
        | (subst c_2
           exact pxB hn (b := true) (by decide) (by unfold oRule; rw [if_pos (Or.inl ⟨rfl, c_14⟩)]; rfl))
        | (subst c_30
           exact pxB hn (b := true) (by decide) (by unfold oRule; rw [if_pos (Or.inr ⟨rfl, c_42⟩)]; rfl))
  · refine j_iload_n dX0_rule_5 rfl ?_
    refine j_i2l dX0_rule_6 ?_
    refine j_lconst (v := 0) dX0_rule_7 (by decide +kernel) ?_
    refine j_ldc2 (v := 99) dX0_rule_8 q1173 ?_
    refine j_dS1 kl_X0_162 (k_isFrom _ _ _) dX0_rule_11 rfl rfl (Nat.le_of_ble_eq_true rfl) (by first | decide | omega) (by omega) (by omega) ?_
    rw [inL_ok (n := 100) (by decide +kernel)]
    first | (with_reducible refine j_gB ?_; refine j_if_eqB (tgt := 28) dX0_rule_14 (by decide) (fun c_14 => ?_) (fun c_14 => ?_)) | (with_reducible refine j_gC ?_; refine j_if_eqC (tgt := 28) dX0_rule_14 (by decide) (fun c_14 => ?_) (fun c_14 => ?_)) | (with_reducible refine j_gN ?_; refine j_if_eqN (tgt := 28) dX0_rule_14 (by decide) (by omega) (fun c_14 => ?_) (fun c_14 => ?_)) | refine j_if_eq (tgt := 28) dX0_rule_14 (by decide) (fun c_14 => ?_) (fun c_14 => ?_)
    · refine j_iload_n dX0_rule_28 rfl ?_
      refine j_iconst (v := nI 5) dX0_rule_29 (by decide +kernel) ?_
      first | (with_reducible refine j_gNN ?_; refine j_icmp_neN (tgt := 56) dX0_rule_30 (by decide) (by omega) (by omega) (fun c_30 => ?_) (fun c_30 => ?_)) | refine j_icmp_ne (tgt := 56) dX0_rule_30 (by decide) (fun c_30 => ?_) (fun c_30 => ?_)
      · first | refine j_aload_n dX0_rule_56 rfl ?_ | refine j_aload_nN dX0_rule_56 rfl ?_
        refine j_iconst (v := nI 5) dX0_rule_57 (by decide +kernel) ?_
        refine j_dV1 kl_X0_105 (x_is (Fa.sh hf) _) dX0_rule_58 rfl rfl (by decide) (by first | exact Fa.sh hf | assumption) (Nat.le_of_ble_eq_true rfl) (by first | decide | omega) (by omega) (by omega) ?_
        refine j_iret dX0_rule_61 ⟨_, rfl, bI_nar _⟩ (by omega) (by omega) ?_
        exact pxB hn (b := false) (by decide) (by
          unfold oRule
          rw [if_neg]
          intro z
          rcases z with ⟨z1, z2⟩ | ⟨z1, z2⟩
          · first
            | exact absurd z1 c_2
            | (rw [z2] at c_14; cases c_14)
          · first
            | exact absurd z1 c_30
            | (rw [z2] at c_42; cases c_42)
            | (rw [c_2] at z1; exact absurd z1 (by decide)))
      · refine j_iload_n dX0_rule_33 rfl ?_
        refine j_i2l dX0_rule_34 ?_
        refine j_lconst (v := 0) dX0_rule_35 (by decide +kernel) ?_
        refine j_ldc2 (v := 16) dX0_rule_36 q1262 ?_
        refine j_dS1 kl_X0_162 (k_isFrom _ _ _) dX0_rule_39 rfl rfl (Nat.le_of_ble_eq_true rfl) (by first | decide | omega) (by omega) (by omega) ?_
        rw [inL_ok (n := 17) (by decide +kernel)]
        first | (with_reducible refine j_gB ?_; refine j_if_eqB (tgt := 56) dX0_rule_42 (by decide) (fun c_42 => ?_) (fun c_42 => ?_)) | (with_reducible refine j_gC ?_; refine j_if_eqC (tgt := 56) dX0_rule_42 (by decide) (fun c_42 => ?_) (fun c_42 => ?_)) | (with_reducible refine j_gN ?_; refine j_if_eqN (tgt := 56) dX0_rule_42 (by decide) (by omega) (fun c_42 => ?_) (fun c_42 => ?_)) | refine j_if_eq (tgt := 56) dX0_rule_42 (by decide) (fun c_42 => ?_) (fun c_42 => ?_)
        · first | refine j_aload_n dX0_rule_56 rfl ?_ | refine j_aload_nN dX0_rule_56 rfl ?_
          refine j_iconst (v := nI 5) dX0_rule_57 (by decide +kernel) ?_
          refine j_dV1 kl_X0_105 (x_is (Fa.sh hf) _) dX0_rule_58 rfl rfl (by decide) (by first | exact Fa.sh hf | assumption) (Nat.le_of_ble_eq_true rfl) (by first | decide | omega) (by omega) (by omega) ?_
          refine j_iret dX0_rule_61 ⟨_, rfl, bI_nar _⟩ (by omega) (by omega) ?_
          exact pxB hn (b := false) (by decide) (by
            unfold oRule
            rw [if_neg]
            intro z
            rcases z with ⟨z1, z2⟩ | ⟨z1, z2⟩
            · first
              | exact absurd z1 c_2
              | (rw [z2] at c_14; cases c_14)
            · first
              | exact absurd z1 c_30
              | (rw [z2] at c_42; cases c_42)
              | (rw [c_2] at z1; exact absurd z1 (by decide)))
        · first | refine j_aload_n dX0_rule_45 rfl ?_ | refine j_aload_nN dX0_rule_45 rfl ?_
          refine j_getR dX0_rule_46 fl_X0_38 rfl (by first | exact Fa.sh hf | assumption) (by first | exact Fq.f3 hg | assumption) ?_
          refine j_iload_n dX0_rule_49 rfl ?_
          refine j_putI dX0_rule_50 fl_X0_224 rfl (by first | exact Pv.sh hR | assumption) rfl rfl rfl ?_
          first | refine j_sg (put_w hL (Pv.li hR 9 5 rfl (by decide))) ?_ | skip
          refine j_goto (tgt := 62) dX0_rule_53 (by decide) ?_
          first | refine j_aload_n dX0_rule_62 rfl ?_ | refine j_aload_nN dX0_rule_62 rfl ?_
          refine j_iconst (v := nI 0) dX0_rule_63 (by decide +kernel) ?_
          refine j_dV1 kl_X0_105 (x_is (Fa.sh hf) _) dX0_rule_64 rfl rfl (by decide) (by first | exact Fa.sh hf | assumption) (Nat.le_of_ble_eq_true rfl) (by first | decide | omega) (by omega) (by omega) ?_
          refine j_iret dX0_rule_67 ⟨_, rfl, bI_nar _⟩ (by omega) (by omega) ?_
          first
          | (subst c_2
             exact pxB hn (b := true) (by decide) (by unfold oRule; rw [if_pos (Or.inl ⟨rfl, c_14⟩)]; rfl))
          | (subst c_30
             exact pxB hn (b := true) (by decide) (by unfold oRule; rw [if_pos (Or.inr ⟨rfl, c_42⟩)]; rfl))
    · first | refine j_aload_n dX0_rule_17 rfl ?_ | refine j_aload_nN dX0_rule_17 rfl ?_
      refine j_getR dX0_rule_18 fl_X0_38 rfl (by first | exact Fa.sh hf | assumption) (by first | exact Fq.f3 hg | assumption) ?_
      refine j_iload_n dX0_rule_21 rfl ?_
      refine j_putI dX0_rule_22 fl_X0_221 rfl (by first | exact Pv.sh hR | assumption) rfl rfl rfl ?_
      first | refine j_sg (put_w hL (Pv.li hR 8 4 rfl (by decide))) ?_ | skip
      refine j_goto (tgt := 62) dX0_rule_25 (by decide) ?_
      first | refine j_aload_n dX0_rule_62 rfl ?_ | refine j_aload_nN dX0_rule_62 rfl ?_
      refine j_iconst (v := nI 0) dX0_rule_63 (by decide +kernel) ?_
      refine j_dV1 kl_X0_105 (x_is (Fa.sh hf) _) dX0_rule_64 rfl rfl (by decide) (by first | exact Fa.sh hf | assumption) (Nat.le_of_ble_eq_true rfl) (by first | decide | omega) (by omega) (by omega) ?_
      refine j_iret dX0_rule_67 ⟨_, rfl, bI_nar _⟩ (by omega) (by omega) ?_
      first
      | (subst c_2
         exact pxB hn (b := true) (by decide) (by unfold oRule; rw [if_pos (Or.inl ⟨rfl, c_14⟩)]; rfl))
      | (subst c_30
         exact pxB hn (b := true) (by decide) (by unfold oRule; rw [if_pos (Or.inr ⟨rfl, c_42⟩)]; rfl))
theorem q_cancel (hf : Fa σ hx B) (hg : Fq σ hx A) (hR : Pv σ L A C W P Dn Hn) (hw : Wx C W P Dn) : Kd g l 3 MX0_cancel [.ref hx] (put σ L C) (some (.int (oCancel C Dn).1)) (put (xS σ hx (oCancel C Dn).2.1) L (oCancel C Dn).2.2) := by
  obtain ⟨⟨⟨hW, hW8⟩, ⟨hP, hP6⟩, ⟨hD, hD6⟩, hdn⟩, hWv, hPp⟩ := id hw
  have hL := hR.inj
  have hn := hR.nf hf
  refine Kt.go (Y := MX0_cancel) (ls := [some (.ref hx)]) (by decide) (Nat.le_of_ble_eq_true rfl) rfl ?_
  first | refine j_aload_n dX0_cancel_0 rfl ?_ | refine j_aload_nN dX0_cancel_0 rfl ?_
  refine j_getR dX0_cancel_1 fl_X0_38 rfl (by first | exact Fa.sh hf | assumption) (by first | exact Fq.f3 hg | assumption) ?_
  refine j_getI dX0_cancel_4 fl_X0_155 rfl (by first | exact Pv.sh hR | assumption) (by first | exact pg (Pv.li hR 6 2 rfl (by decide)) | assumption) ?_
  rw [hD]
  first | (with_reducible refine j_gB ?_; refine j_if_neB (tgt := 17) dX0_cancel_7 (by decide) (fun c_7 => ?_) (fun c_7 => ?_)) | (with_reducible refine j_gC ?_; refine j_if_neC (tgt := 17) dX0_cancel_7 (by decide) (fun c_7 => ?_) (fun c_7 => ?_)) | (with_reducible refine j_gN ?_; refine j_if_neN (tgt := 17) dX0_cancel_7 (by decide) (by omega) (fun c_7 => ?_) (fun c_7 => ?_)) | refine j_if_ne (tgt := 17) dX0_cancel_7 (by decide) (fun c_7 => ?_) (fun c_7 => ?_)
  · first | refine j_aload_n dX0_cancel_17 rfl ?_ | refine j_aload_nN dX0_cancel_17 rfl ?_
    refine j_getR dX0_cancel_18 fl_X0_38 rfl (by first | exact Fa.sh hf | assumption) (by first | exact Fq.f3 hg | assumption) ?_
    refine j_dup dX0_cancel_21 rfl ?_
    refine j_getI dX0_cancel_22 fl_X0_155 rfl (by first | exact Pv.sh hR | assumption) (by first | exact pg (Pv.li hR 6 2 rfl (by decide)) | assumption) ?_
    refine j_iconst (v := nI 1) dX0_cancel_25 (by decide +kernel) ?_
    first | (with_reducible refine j_gNN ?_; refine j_isubN dX0_cancel_26 (by omega) ?_) | refine j_isub dX0_cancel_26 ?_
    refine j_putI dX0_cancel_27 fl_X0_155 rfl (by first | exact Pv.sh hR | assumption) rfl rfl rfl ?_
    first | refine j_sg (put_w hL (Pv.li hR 6 2 rfl (by decide))) ?_ | skip
    first | refine j_aload_n dX0_cancel_30 rfl ?_ | refine j_aload_nN dX0_cancel_30 rfl ?_
    first | refine j_aload_n dX0_cancel_31 rfl ?_ | refine j_aload_nN dX0_cancel_31 rfl ?_
    refine j_getR dX0_cancel_32 fl_X0_38 rfl (by first | exact Fa.sh hf | assumption) (by first | exact Fq.f3 hg | assumption) ?_
    refine j_getI dX0_cancel_35 fl_X0_155 rfl (by first | exact Pv.sh hR | assumption) (by first | exact pg (Pv.li hR 6 2 rfl (by decide)) | assumption) ?_
    rw [up_eq]
    refine j_dV1 kl_X0_102 (x_gives (Fa.sh hf) _) dX0_cancel_38 rfl rfl (by decide) (by first | exact Fa.sh hf | assumption) (Nat.le_of_ble_eq_true rfl) (by first | decide | omega) (by omega) (by omega) ?_
    refine j_iret dX0_cancel_41 ⟨_, rfl, rfl⟩ (by omega) (by omega) ?_
    exact pxD hn (by unfold oCancel; rw [if_neg c_7, hD, nI_sub (show 1 ≤ Dn by omega)])
  · first | refine j_aload_n dX0_cancel_10 rfl ?_ | refine j_aload_nN dX0_cancel_10 rfl ?_
    refine j_bipush (v := nI 8) dX0_cancel_11 (by decide +kernel) ?_
    refine j_dV1 kl_X0_98 (x_none (Fa.sh hf) _) dX0_cancel_13 rfl rfl (by decide) (by first | exact Fa.sh hf | assumption) (Nat.le_of_ble_eq_true rfl) (by first | decide | omega) (by omega) (by omega) ?_
    refine j_iret dX0_cancel_16 ⟨_, rfl, rfl⟩ (by omega) (by omega) ?_
    exact pxD hn (by unfold oCancel; rw [if_pos c_7])
end X7
