/-! X: lived -/
set_option maxRecDepth 100000
section X31s
variable {g : Gx} {l : Launch} {σ τ : Sg} {L : Nat → Nat → Option Nat} {A B : Nat → Nat} {C U : Nat → Int32} {W P Dn Hn hx : Nat}
theorem q_lived (hf : Fa σ hx B) (hR : Pv σ L A C W P Dn Hn) {b : Bool} (hU : ∀ k, k < 5 → σ.2.1 (B 21) k = U k) (hb : σ.2.1 hx 22 = bI b) (w : Int32) : Kd g l 1 MX0_lived [.ref hx, .int w] (put σ L C) (some (.int (oLived U b w).1)) (put (xS σ hx (oLived U b w).2) L C) := by
  have hn := hR.nf hf
  have s21 : (put σ L C).1 (B 21) = some (20, 5) := (hf.2.1 21 _ _ rfl).2
  have b21 : ∀ k, k < 5 → (put σ L C).2.1 (B 21) k = U k := fun k hk => (pgn (hR.noL (hf.2.1 21 _ _ rfl).2 (by decide) (by decide) (by decide) k)).trans (hU k hk)
  have h22 : (put σ L C).2.1 hx 22 = bI b := (pgn (hn 22)).trans hb
  by_cases hw : okN w 5 = true
  · obtain ⟨k, hk, rfl⟩ := okN_nI hw
    have ek : ixn (nI k) = k := ixn_nI (by omega)
    have bk := b21 k hk
    skip
    refine Kt.go (Y := MX0_lived) (ls := [some (.ref hx), some (.int (nI k))]) (by decide) (Nat.le_of_ble_eq_true rfl) rfl ?_
    refine j_iload_n dX0_lived_0 rfl ?_
    first | (with_reducible refine j_gC ?_; refine j_if_ltC (tgt := 9) dX0_lived_1 (by decide) (fun c_1 => ?_) (fun c_1 => ?_)) | refine j_if_lt (tgt := 9) dX0_lived_1 (by decide) (fun c_1 => ?_) (fun c_1 => ?_)
    · exact absurd c_1 (nI_pos (by omega))
    · refine j_iload_n dX0_lived_4 rfl ?_
      refine j_iconst (v := nI 4) dX0_lived_5 (by decide +kernel) ?_
      first | (with_reducible refine j_gNN ?_; refine j_icmp_leN (tgt := 15) dX0_lived_6 (by decide) (by omega) (by omega) (fun c_6 => ?_) (fun c_6 => ?_)) | refine j_icmp_le (tgt := 15) dX0_lived_6 (by decide) (fun c_6 => ?_) (fun c_6 => ?_)
      · first | refine j_aload_n dX0_lived_15 rfl ?_ | refine j_aload_nN dX0_lived_15 rfl ?_
        refine j_getI dX0_lived_16 fl_X0_534 rfl (by first | exact h22 | exact s21 | exact bk | exact Fa.sh hf | assumption) (by first | exact h22 | exact s21 | exact bk | assumption) ?_
        first | (with_reducible refine j_gB ?_; refine j_if_eqB (tgt := 35) dX0_lived_19 (by decide) (fun c_19 => ?_) (fun c_19 => ?_)) | (with_reducible refine j_gC ?_; refine j_if_eqC (tgt := 35) dX0_lived_19 (by decide) (fun c_19 => ?_) (fun c_19 => ?_)) | (with_reducible refine j_gN ?_; refine j_if_eqN (tgt := 35) dX0_lived_19 (by decide) (by omega) (fun c_19 => ?_) (fun c_19 => ?_)) | refine j_if_eq (tgt := 35) dX0_lived_19 (by decide) (fun c_19 => ?_) (fun c_19 => ?_)
        · first | refine j_aload_n dX0_lived_35 rfl ?_ | refine j_aload_nN dX0_lived_35 rfl ?_
          refine j_bipush (v := nI 8) dX0_lived_36 (by decide +kernel) ?_
          refine j_dV1 kl_X0_98 (x_none (Fa.sh hf) _) dX0_lived_38 rfl rfl (by decide) (by first | exact h22 | exact s21 | exact bk | exact Fa.sh hf | assumption) (Nat.le_of_ble_eq_true rfl) (by first | decide | omega) (by omega) (by omega) ?_
          refine j_iret dX0_lived_41 ⟨_, rfl, rfl⟩ (by omega) (by omega) ?_
          first
          | exact pxR hn (by rw [oLived, if_pos hw, ek, if_pos c_19])
          | exact pxR hn (by rw [oLived, if_pos hw, if_neg (by rw [c_19]; decide)])
        · first | refine j_aload_n dX0_lived_22 rfl ?_ | refine j_aload_nN dX0_lived_22 rfl ?_
          first | refine j_aload_n dX0_lived_23 rfl ?_ | refine j_aload_nN dX0_lived_23 rfl ?_
          refine j_getR dX0_lived_24 fl_X0_79 rfl (by first | exact h22 | exact s21 | exact bk | exact Fa.sh hf | assumption) (by first | exact h22 | exact s21 | exact bk | exact Fa.f21 hf | assumption) ?_
          refine j_iload_n dX0_lived_27 rfl ?_
          refine j_iald dX0_lived_28 (by first | exact h22 | exact s21 | exact bk | exact Pe.sl hp | exact Pe.sa hp | exact Pe.sl hq | exact Pe.sa hq | exact Pv.sw hR | exact Pv.sp hR | exact Pv.sd hR | exact Fa.s0 hf | exact Fa.s12 hf | exact Fa.s13 hf | exact Fa.s14 hf | exact Fa.s15 hf | exact Fa.s16 hf | exact Fa.s20 hf | exact Fa.s21 hf | exact Fa.s23 hf | assumption) rfl (by omega) (by decide) (by first | exact h22 | exact s21 | exact bk | exact pg (Pe.ll hp (by omega)) | exact pg (Pe.lg hp (by omega)) | exact pg (Pe.ll hq (by omega)) | exact pg (Pe.lg hq (by omega)) | assumption) ?_
          refine j_dV1 kl_X0_102 (x_gives (Fa.sh hf) _) dX0_lived_29 rfl rfl (by decide) (by first | exact h22 | exact s21 | exact bk | exact Fa.sh hf | assumption) (Nat.le_of_ble_eq_true rfl) (by first | decide | omega) (by omega) (by omega) ?_
          refine j_goto (tgt := 41) dX0_lived_32 (by decide) ?_
          refine j_iret dX0_lived_41 ⟨_, rfl, rfl⟩ (by omega) (by omega) ?_
          first
          | exact pxR hn (by rw [oLived, if_pos hw, ek, if_pos c_19])
          | exact pxR hn (by rw [oLived, if_pos hw, if_neg (by rw [c_19]; decide)])
      · exact absurd c_6 (by omega)
  · have ho : okN w 5 = false := Bool.eq_false_iff.mpr hw
    skip
    refine Kt.go (Y := MX0_lived) (ls := [some (.ref hx), some (.int w)]) (by decide) (Nat.le_of_ble_eq_true rfl) rfl ?_
    refine j_iload_n dX0_lived_0 rfl ?_
    first | (with_reducible refine j_gC ?_; refine j_if_ltC (tgt := 9) dX0_lived_1 (by decide) (fun c_1 => ?_) (fun c_1 => ?_)) | refine j_if_lt (tgt := 9) dX0_lived_1 (by decide) (fun c_1 => ?_) (fun c_1 => ?_)
    · first | refine j_aload_n dX0_lived_9 rfl ?_ | refine j_aload_nN dX0_lived_9 rfl ?_
      refine j_iconst (v := nI 5) dX0_lived_10 (by decide +kernel) ?_
      refine j_dV1 kl_X0_98 (x_none (Fa.sh hf) _) dX0_lived_11 rfl rfl (by decide) (by first | exact h22 | exact s21 | exact Fa.sh hf | assumption) (Nat.le_of_ble_eq_true rfl) (by first | decide | omega) (by omega) (by omega) ?_
      refine j_iret dX0_lived_14 ⟨_, rfl, rfl⟩ (by omega) (by omega) ?_
      exact pxR hn (by rw [oLived, if_neg hw])
    · refine j_iload_n dX0_lived_4 rfl ?_
      refine j_iconst (v := nI 4) dX0_lived_5 (by decide +kernel) ?_
      first | (with_reducible refine j_gNN ?_; refine j_icmp_leN (tgt := 15) dX0_lived_6 (by decide) (by omega) (by omega) (fun c_6 => ?_) (fun c_6 => ?_)) | refine j_icmp_le (tgt := 15) dX0_lived_6 (by decide) (fun c_6 => ?_) (fun c_6 => ?_)
      · exfalso
        have z4 : (nI 4).toInt = 4 := by decide +kernel
        have z0 : (0 : Int32).toInt = 0 := by decide +kernel
        rw [Int32.lt_iff_toInt_lt, z0] at c_1
        rw [Int32.le_iff_toInt_le, z4] at c_6
        rcases okN_out (by decide) ho with z | z <;> omega
      · first | refine j_aload_n dX0_lived_9 rfl ?_ | refine j_aload_nN dX0_lived_9 rfl ?_
        refine j_iconst (v := nI 5) dX0_lived_10 (by decide +kernel) ?_
        refine j_dV1 kl_X0_98 (x_none (Fa.sh hf) _) dX0_lived_11 rfl rfl (by decide) (by first | exact h22 | exact s21 | exact Fa.sh hf | assumption) (Nat.le_of_ble_eq_true rfl) (by first | decide | omega) (by omega) (by omega) ?_
        refine j_iret dX0_lived_14 ⟨_, rfl, rfl⟩ (by omega) (by omega) ?_
        exact pxR hn (by rw [oLived, if_neg hw])
end X31s
