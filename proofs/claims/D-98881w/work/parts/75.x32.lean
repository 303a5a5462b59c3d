/-! X: YEARS: behind ends -/
set_option maxRecDepth 100000
/-- the steps stand in a flat table: T k the object, kf k its kind, tf k where it leads -/
def Tb (σ : Sg) (hx st n : Nat) (T : Nat → Nat) (sx : Nat → Option Nat) (kf tf : Nat → Nat) : Prop := σ.2.2.2 hx 4 = some st ∧ σ.1 st = some (29, 60) ∧ σ.2.1 hx 5 = nI n ∧ n ≤ 60 ∧ ∀ k, k < n → σ.2.2.2 st k = some (T k) ∧ σ.1 (T k) = some (12, 0) ∧ sx (T k) = some k ∧ σ.2.1 (T k) 0 = nI (kf k) ∧ kf k ≤ 20 ∧ (kf k = 20 ∨ kf k = 17 → σ.2.1 (T k) 6 = nI (tf k) ∧ tf k < n)
/-- behind the ends that are come to -/
def bE (n : Nat) (kf tf : Nat → Nat) : Nat → (Nat → Int32) → Nat → Option ((Nat → Int32) × Nat)
  | 0, _, _ => none
  | f + 1, V, k => if k < n ∧ kf k = 20 then (if kf (tf k) = 18 then (if V (tf k + 100) - nI 1 ≤ 0 then bE n kf tf f (up V (tf k + 100) (V (tf k + 100) - nI 1)) (k + 1) else bE n kf tf f (up V (tf k + 100) (V (tf k + 100) - nI 1)) (tf k + 1)) else bE n kf tf f V (k + 1)) else some (V, k)
section X32s
variable {g : Gx} {l : Launch} {σ τ : Sg} {L : Nat → Nat → Option Nat} {A B : Nat → Nat} {C V : Nat → Int32} {W P Dn Hn hx st n : Nat} {T kf tf : Nat → Nat} {sx : Nat → Option Nat}
theorem x_behind (hf : Fa σ hx B) (hR0 : Pv σ L A C W P Dn Hn) (hy : Yf σ hx B sx) (hT : Tb σ hx st n T sx kf tf) (f0 : Int32) : ∀ f V k V' k', bE n kf tf f V k = some (V', k') → k ≤ 60 → ∀ x3 x4, Td g l 0 MX0_behindEnds [.ref hx, .int f0] (put (yx σ hx B sx V') L C) (some (.int (nI k'))) 2 [some (.ref hx), some (.int f0), some (.int (nI k)), x3, x4] [] (put (yx σ hx B sx V) L C) := by
  obtain ⟨t4, ts, t5, tn, tT⟩ := hT
  have hn := hR0.nf hf
  have zs : ∀ U D, (put (yx σ hx B sx U) L D).1 hx = some (0, 0) := fun _ _ => hf.1
  have z4 : ∀ U D, (put (yx σ hx B sx U) L D).2.2.2 hx 4 = some st := fun _ _ => t4
  have zt : ∀ U D, (put (yx σ hx B sx U) L D).1 st = some (29, 60) := fun _ _ => ts
  have z5 : ∀ U, (put (yx σ hx B sx U) L C).2.1 hx 5 = nI n := fun U => (pgn (hn 5)).trans ((pgn (by rw [yX_x]; rfl)).trans t5)
  have rd : ∀ U a k, σ.1 a = some (12, 0) → k ≠ 7 → (put (yx σ hx B sx U) L C).2.1 a k = σ.2.1 a k := fun U a k s12 hk => (pgn (hR0.noL s12 (by decide) (by decide) (by decide) k)).trans (pgn (yX_s hf s12 hk))
  have y7 : ∀ a j, sx a = some j → yX hx (B 20) sx a 7 = some (j + 100) := fun a j hj => by
    have s12 := hy.2 a j hj
    unfold yX
    rw [if_neg (fun e => by rw [e, hf.1] at s12; cases s12), if_neg (fun e => by rw [e, (hf.2.1 20 _ _ rfl).2] at s12; cases s12), if_pos rfl, hj]
    rfl
  have r7 : ∀ U a j, sx a = some j → (put (yx σ hx B sx U) L C).2.1 a 7 = U (j + 100) := fun U a j hj => (pgn (hR0.noL (hy.2 a j hj) (by decide) (by decide) (by decide) 7)).trans (pg (y7 a j hj))
  have w7 : ∀ U a j (x : Int32), sx a = some j → sI (put (yx σ hx B sx U) L C) a 7 x = put (yx σ hx B sx (up U (j + 100) x)) L C := fun U a j x hj => by
    rw [put_n (hR0.noL (hy.2 a j hj) (by decide) (by decide) (by decide) 7)]
    unfold yx
    rw [put_w (yX_inj hf.n20 hy.1) (y7 a j hj)]
  intro f
  induction f with
  | zero => intro V k V' k' h; cases h
  | succ f ih =>
    intro V k V' k' h hk x3 x4
    rw [bE] at h
    have z5V := z5 V
    by_cases hkn : k < n
    · obtain ⟨a1, a2, a3, a4, a5, a6⟩ := tT k hkn
      have z0 := (rd V (T k) 0 a2 (by decide)).trans a4
      have zT : ∀ U D, (put (yx σ hx B sx U) L D).2.2.2 st k = some (T k) := fun _ _ => a1
      have zk : ∀ U D, (put (yx σ hx B sx U) L D).1 (T k) = some (12, 0) := fun _ _ => a2
      by_cases hk20 : kf k = 20
      · obtain ⟨b6, btn⟩ := a6 (Or.inl hk20)
        obtain ⟨c1, c2, c3, c4, c5, -⟩ := tT (tf k) btn
        rw [if_pos ⟨hkn, hk20⟩] at h
        have zb6 : ∀ U, (put (yx σ hx B sx U) L C).2.1 (T k) 6 = nI (tf k) := fun U => (rd U (T k) 6 a2 (by decide)).trans b6
        have zT2 : ∀ U D, (put (yx σ hx B sx U) L D).2.2.2 st (tf k) = some (T (tf k)) := fun _ _ => c1
        have zk2 : ∀ U D, (put (yx σ hx B sx U) L D).1 (T (tf k)) = some (12, 0) := fun _ _ => c2
        have z02 := (rd V (T (tf k)) 0 c2 (by decide)).trans c4
        have z72 := r7 V (T (tf k)) (tf k) c3
        have z73 : ∀ v, (put (yx σ hx B sx (up V (tf k + 100) v)) L C).2.1 (T (tf k)) 7 = v := fun v => (r7 _ _ _ c3).trans (up_eq _ _ _)
        by_cases h18 : kf (tf k) = 18
        · rw [if_pos h18] at h
          refine j_iload_n dX0_behindEnds_2 rfl ?_
          first | refine j_aload_n dX0_behindEnds_3 rfl ?_ | refine j_aload_nN dX0_behindEnds_3 rfl ?_
          refine j_getI dX0_behindEnds_4 fl_X0_200 rfl (by first | exact zs _ _ | exact z4 _ _ | exact zt _ _ | exact z5V | exact z0 | exact zT _ _ | exact zk _ _ | exact zb6 _ | exact zT2 _ _ | exact zk2 _ _ | exact z02 | exact z72 | exact z73 _ | exact Fa.sh hf | assumption) (by first | exact zs _ _ | exact z4 _ _ | exact zt _ _ | exact z5V | exact z0 | exact zT _ _ | exact zk _ _ | exact zb6 _ | exact zT2 _ _ | exact zk2 _ _ | exact z02 | exact z72 | exact z73 _ | assumption) ?_
          first | (with_reducible refine j_gNN ?_; refine j_icmp_geN (tgt := 101) dX0_behindEnds_7 (by decide) (by omega) (by omega) (fun c_7 => ?_) (fun c_7 => ?_)) | refine j_icmp_ge (tgt := 101) dX0_behindEnds_7 (by decide) (fun c_7 => ?_) (fun c_7 => ?_)
          · exact absurd c_7 (by omega)
          · first | refine j_aload_n dX0_behindEnds_10 rfl ?_ | refine j_aload_nN dX0_behindEnds_10 rfl ?_
            refine j_getR dX0_behindEnds_11 fl_X0_196 rfl (by first | exact zs _ _ | exact z4 _ _ | exact zt _ _ | exact z5V | exact z0 | exact zT _ _ | exact zk _ _ | exact zb6 _ | exact zT2 _ _ | exact zk2 _ _ | exact z02 | exact z72 | exact z73 _ | exact Fa.sh hf | assumption) (by first | exact zs _ _ | exact z4 _ _ | exact zt _ _ | exact z5V | exact z0 | exact zT _ _ | exact zk _ _ | exact zb6 _ | exact zT2 _ _ | exact zk2 _ _ | exact z02 | exact z72 | exact z73 _ | assumption) ?_
            refine j_iload_n dX0_behindEnds_14 rfl ?_
            refine j_aald (t := 29) dX0_behindEnds_15 (fun _ => rfl) (by decide) (by first | exact zs _ _ | exact z4 _ _ | exact zt _ _ | exact z5V | exact z0 | exact zT _ _ | exact zk _ _ | exact zb6 _ | exact zT2 _ _ | exact zk2 _ _ | exact z02 | exact z72 | exact z73 _ | exact Pe.sl hp | exact Pe.sa hp | exact Pe.sl hq | exact Pe.sa hq | exact Pv.sw hR | exact Pv.sp hR | exact Pv.sd hR | exact Fa.s0 hf | exact Fa.s12 hf | exact Fa.s13 hf | exact Fa.s14 hf | exact Fa.s15 hf | exact Fa.s16 hf | exact Fa.s20 hf | exact Fa.s21 hf | exact Fa.s23 hf | assumption) rfl (by omega) (by decide) (by first | exact zs _ _ | exact z4 _ _ | exact zt _ _ | exact z5V | exact z0 | exact zT _ _ | exact zk _ _ | exact zb6 _ | exact zT2 _ _ | exact zk2 _ _ | exact z02 | exact z72 | exact z73 _ | exact Pv.rw hR (by omega) | exact Pv.rp hR (by omega) | exact Pv.rd hR (by omega) | exact Fa.tr hf (by omega) | assumption) ?_
            refine j_getI dX0_behindEnds_16 fl_X0_485 rfl (by first | exact zs _ _ | exact z4 _ _ | exact zt _ _ | exact z5V | exact z0 | exact zT _ _ | exact zk _ _ | exact zb6 _ | exact zT2 _ _ | exact zk2 _ _ | exact z02 | exact z72 | exact z73 _ | assumption) (by first | exact zs _ _ | exact z4 _ _ | exact zt _ _ | exact z5V | exact z0 | exact zT _ _ | exact zk _ _ | exact zb6 _ | exact zT2 _ _ | exact zk2 _ _ | exact z02 | exact z72 | exact z73 _ | assumption) ?_
            refine j_bipush (v := nI 20) dX0_behindEnds_19 (by decide +kernel) ?_
            first | (with_reducible refine j_gNN ?_; refine j_icmp_neN (tgt := 101) dX0_behindEnds_21 (by decide) (by omega) (by omega) (fun c_21 => ?_) (fun c_21 => ?_)) | refine j_icmp_ne (tgt := 101) dX0_behindEnds_21 (by decide) (fun c_21 => ?_) (fun c_21 => ?_)
            · exact absurd hk20 c_21
            · first | refine j_aload_n dX0_behindEnds_24 rfl ?_ | refine j_aload_nN dX0_behindEnds_24 rfl ?_
              refine j_getR dX0_behindEnds_25 fl_X0_196 rfl (by first | exact zs _ _ | exact z4 _ _ | exact zt _ _ | exact z5V | exact z0 | exact zT _ _ | exact zk _ _ | exact zb6 _ | exact zT2 _ _ | exact zk2 _ _ | exact z02 | exact z72 | exact z73 _ | exact Fa.sh hf | assumption) (by first | exact zs _ _ | exact z4 _ _ | exact zt _ _ | exact z5V | exact z0 | exact zT _ _ | exact zk _ _ | exact zb6 _ | exact zT2 _ _ | exact zk2 _ _ | exact z02 | exact z72 | exact z73 _ | assumption) ?_
              first | refine j_aload_n dX0_behindEnds_28 rfl ?_ | refine j_aload_nN dX0_behindEnds_28 rfl ?_
              refine j_getR dX0_behindEnds_29 fl_X0_196 rfl (by first | exact zs _ _ | exact z4 _ _ | exact zt _ _ | exact z5V | exact z0 | exact zT _ _ | exact zk _ _ | exact zb6 _ | exact zT2 _ _ | exact zk2 _ _ | exact z02 | exact z72 | exact z73 _ | exact Fa.sh hf | assumption) (by first | exact zs _ _ | exact z4 _ _ | exact zt _ _ | exact z5V | exact z0 | exact zT _ _ | exact zk _ _ | exact zb6 _ | exact zT2 _ _ | exact zk2 _ _ | exact z02 | exact z72 | exact z73 _ | assumption) ?_
              refine j_iload_n dX0_behindEnds_32 rfl ?_
              refine j_aald (t := 29) dX0_behindEnds_33 (fun _ => rfl) (by decide) (by first | exact zs _ _ | exact z4 _ _ | exact zt _ _ | exact z5V | exact z0 | exact zT _ _ | exact zk _ _ | exact zb6 _ | exact zT2 _ _ | exact zk2 _ _ | exact z02 | exact z72 | exact z73 _ | exact Pe.sl hp | exact Pe.sa hp | exact Pe.sl hq | exact Pe.sa hq | exact Pv.sw hR | exact Pv.sp hR | exact Pv.sd hR | exact Fa.s0 hf | exact Fa.s12 hf | exact Fa.s13 hf | exact Fa.s14 hf | exact Fa.s15 hf | exact Fa.s16 hf | exact Fa.s20 hf | exact Fa.s21 hf | exact Fa.s23 hf | assumption) rfl (by omega) (by decide) (by first | exact zs _ _ | exact z4 _ _ | exact zt _ _ | exact z5V | exact z0 | exact zT _ _ | exact zk _ _ | exact zb6 _ | exact zT2 _ _ | exact zk2 _ _ | exact z02 | exact z72 | exact z73 _ | exact Pv.rw hR (by omega) | exact Pv.rp hR (by omega) | exact Pv.rd hR (by omega) | exact Fa.tr hf (by omega) | assumption) ?_
              refine j_getI dX0_behindEnds_34 fl_X0_516 rfl (by first | exact zs _ _ | exact z4 _ _ | exact zt _ _ | exact z5V | exact z0 | exact zT _ _ | exact zk _ _ | exact zb6 _ | exact zT2 _ _ | exact zk2 _ _ | exact z02 | exact z72 | exact z73 _ | assumption) (by first | exact zs _ _ | exact z4 _ _ | exact zt _ _ | exact z5V | exact z0 | exact zT _ _ | exact zk _ _ | exact zb6 _ | exact zT2 _ _ | exact zk2 _ _ | exact z02 | exact z72 | exact z73 _ | assumption) ?_
              refine j_aald (t := 29) dX0_behindEnds_37 (fun _ => rfl) (by decide) (by first | exact zs _ _ | exact z4 _ _ | exact zt _ _ | exact z5V | exact z0 | exact zT _ _ | exact zk _ _ | exact zb6 _ | exact zT2 _ _ | exact zk2 _ _ | exact z02 | exact z72 | exact z73 _ | exact Pe.sl hp | exact Pe.sa hp | exact Pe.sl hq | exact Pe.sa hq | exact Pv.sw hR | exact Pv.sp hR | exact Pv.sd hR | exact Fa.s0 hf | exact Fa.s12 hf | exact Fa.s13 hf | exact Fa.s14 hf | exact Fa.s15 hf | exact Fa.s16 hf | exact Fa.s20 hf | exact Fa.s21 hf | exact Fa.s23 hf | assumption) rfl (by omega) (by decide) (by first | exact zs _ _ | exact z4 _ _ | exact zt _ _ | exact z5V | exact z0 | exact zT _ _ | exact zk _ _ | exact zb6 _ | exact zT2 _ _ | exact zk2 _ _ | exact z02 | exact z72 | exact z73 _ | exact Pv.rw hR (by omega) | exact Pv.rp hR (by omega) | exact Pv.rd hR (by omega) | exact Fa.tr hf (by omega) | assumption) ?_
              first | refine j_astore_n dX0_behindEnds_38 (by decide) ?_ | refine j_astore_nN dX0_behindEnds_38 (by decide) ?_
              refine j_iconst (v := nI 0) dX0_behindEnds_39 (by decide +kernel) ?_
              refine j_istore dX0_behindEnds_40 (by decide) ?_
              first | refine j_aload_n dX0_behindEnds_42 rfl ?_ | refine j_aload_nN dX0_behindEnds_42 rfl ?_
              refine j_getI dX0_behindEnds_43 fl_X0_485 rfl (by first | exact zs _ _ | exact z4 _ _ | exact zt _ _ | exact z5V | exact z0 | exact zT _ _ | exact zk _ _ | exact zb6 _ | exact zT2 _ _ | exact zk2 _ _ | exact z02 | exact z72 | exact z73 _ | assumption) (by first | exact zs _ _ | exact z4 _ _ | exact zt _ _ | exact z5V | exact z0 | exact zT _ _ | exact zk _ _ | exact zb6 _ | exact zT2 _ _ | exact zk2 _ _ | exact z02 | exact z72 | exact z73 _ | assumption) ?_
              refine j_bipush (v := nI 18) dX0_behindEnds_46 (by decide +kernel) ?_
              first | (with_reducible refine j_gNN ?_; refine j_icmp_neN (tgt := 75) dX0_behindEnds_48 (by decide) (by omega) (by omega) (fun c_48 => ?_) (fun c_48 => ?_)) | refine j_icmp_ne (tgt := 75) dX0_behindEnds_48 (by decide) (fun c_48 => ?_) (fun c_48 => ?_)
              · exact absurd h18 c_48
              · first | refine j_aload_n dX0_behindEnds_51 rfl ?_ | refine j_aload_nN dX0_behindEnds_51 rfl ?_
                refine j_dup dX0_behindEnds_52 rfl ?_
                refine j_getI dX0_behindEnds_53 fl_X0_507 rfl (by first | exact zs _ _ | exact z4 _ _ | exact zt _ _ | exact z5V | exact z0 | exact zT _ _ | exact zk _ _ | exact zb6 _ | exact zT2 _ _ | exact zk2 _ _ | exact z02 | exact z72 | exact z73 _ | assumption) (by first | exact zs _ _ | exact z4 _ _ | exact zt _ _ | exact z5V | exact z0 | exact zT _ _ | exact zk _ _ | exact zb6 _ | exact zT2 _ _ | exact zk2 _ _ | exact z02 | exact z72 | exact z73 _ | assumption) ?_
                refine j_iconst (v := nI 1) dX0_behindEnds_56 (by decide +kernel) ?_
                refine j_isub dX0_behindEnds_57 ?_
                refine j_putI dX0_behindEnds_58 fl_X0_507 rfl (by first | exact zs _ _ | exact z4 _ _ | exact zt _ _ | exact z5V | exact z0 | exact zT _ _ | exact zk _ _ | exact zb6 _ | exact zT2 _ _ | exact zk2 _ _ | exact z02 | exact z72 | exact z73 _ | assumption) rfl rfl rfl ?_
                rw [w7 _ _ _ _ c3]
                first | refine j_aload_n dX0_behindEnds_61 rfl ?_ | refine j_aload_nN dX0_behindEnds_61 rfl ?_
                refine j_getI dX0_behindEnds_62 fl_X0_507 rfl (by first | exact zs _ _ | exact z4 _ _ | exact zt _ _ | exact z5V | exact z0 | exact zT _ _ | exact zk _ _ | exact zb6 _ | exact zT2 _ _ | exact zk2 _ _ | exact z02 | exact z72 | exact z73 _ | assumption) (by first | exact zs _ _ | exact z4 _ _ | exact zt _ _ | exact z5V | exact z0 | exact zT _ _ | exact zk _ _ | exact zb6 _ | exact zT2 _ _ | exact zk2 _ _ | exact z02 | exact z72 | exact z73 _ | assumption) ?_
                first | (with_reducible refine j_gC ?_; refine j_if_leC (tgt := 72) dX0_behindEnds_65 (by decide) (fun c_65 => ?_) (fun c_65 => ?_)) | refine j_if_le (tgt := 72) dX0_behindEnds_65 (by decide) (fun c_65 => ?_) (fun c_65 => ?_)
                · refine j_iconst (v := nI 0) dX0_behindEnds_72 (by decide +kernel) ?_
                  refine j_istore dX0_behindEnds_73 (by decide) ?_
                  refine j_iload dX0_behindEnds_75 rfl ?_
                  first | (with_reducible refine j_gB ?_; refine j_if_eqB (tgt := 94) dX0_behindEnds_77 (by decide) (fun c_77 => ?_) (fun c_77 => ?_)) | (with_reducible refine j_gC ?_; refine j_if_eqC (tgt := 94) dX0_behindEnds_77 (by decide) (fun c_77 => ?_) (fun c_77 => ?_)) | (with_reducible refine j_gN ?_; refine j_if_eqN (tgt := 94) dX0_behindEnds_77 (by decide) (by omega) (fun c_77 => ?_) (fun c_77 => ?_)) | refine j_if_eq (tgt := 94) dX0_behindEnds_77 (by decide) (fun c_77 => ?_) (fun c_77 => ?_)
                  · refine j_iload_n dX0_behindEnds_94 rfl ?_
                    refine j_iconst (v := nI 1) dX0_behindEnds_95 (by decide +kernel) ?_
                    first | (with_reducible refine j_gNN ?_; refine j_iaddN dX0_behindEnds_96 ?_) | refine j_iadd dX0_behindEnds_96 ?_
                    refine j_istore_n dX0_behindEnds_97 (by decide) ?_
                    refine j_goto (tgt := 2) dX0_behindEnds_98 (by decide) ?_
                    first
                    | exact absurd c_77 Nat.one_ne_zero
                    | exact absurd rfl c_77
                    | (have z : V (tf k + 100) - nI 1 ≤ 0 := c_65
                       rw [if_pos z] at h
                       exact ih _ (k + 1) V' k' h (by omega) _ _)
                    | (have z : ¬ V (tf k + 100) - nI 1 ≤ 0 := c_65
                       rw [if_neg z] at h
                       exact ih _ (tf k + 1) V' k' h (by omega) _ _)
                  · first | refine j_aload_n dX0_behindEnds_80 rfl ?_ | refine j_aload_nN dX0_behindEnds_80 rfl ?_
                    refine j_getR dX0_behindEnds_81 fl_X0_196 rfl (by first | exact zs _ _ | exact z4 _ _ | exact zt _ _ | exact z5V | exact z0 | exact zT _ _ | exact zk _ _ | exact zb6 _ | exact zT2 _ _ | exact zk2 _ _ | exact z02 | exact z72 | exact z73 _ | exact Fa.sh hf | assumption) (by first | exact zs _ _ | exact z4 _ _ | exact zt _ _ | exact z5V | exact z0 | exact zT _ _ | exact zk _ _ | exact zb6 _ | exact zT2 _ _ | exact zk2 _ _ | exact z02 | exact z72 | exact z73 _ | assumption) ?_
                    refine j_iload_n dX0_behindEnds_84 rfl ?_
                    refine j_aald (t := 29) dX0_behindEnds_85 (fun _ => rfl) (by decide) (by first | exact zs _ _ | exact z4 _ _ | exact zt _ _ | exact z5V | exact z0 | exact zT _ _ | exact zk _ _ | exact zb6 _ | exact zT2 _ _ | exact zk2 _ _ | exact z02 | exact z72 | exact z73 _ | exact Pe.sl hp | exact Pe.sa hp | exact Pe.sl hq | exact Pe.sa hq | exact Pv.sw hR | exact Pv.sp hR | exact Pv.sd hR | exact Fa.s0 hf | exact Fa.s12 hf | exact Fa.s13 hf | exact Fa.s14 hf | exact Fa.s15 hf | exact Fa.s16 hf | exact Fa.s20 hf | exact Fa.s21 hf | exact Fa.s23 hf | assumption) rfl (by omega) (by decide) (by first | exact zs _ _ | exact z4 _ _ | exact zt _ _ | exact z5V | exact z0 | exact zT _ _ | exact zk _ _ | exact zb6 _ | exact zT2 _ _ | exact zk2 _ _ | exact z02 | exact z72 | exact z73 _ | exact Pv.rw hR (by omega) | exact Pv.rp hR (by omega) | exact Pv.rd hR (by omega) | exact Fa.tr hf (by omega) | assumption) ?_
                    refine j_getI dX0_behindEnds_86 fl_X0_516 rfl (by first | exact zs _ _ | exact z4 _ _ | exact zt _ _ | exact z5V | exact z0 | exact zT _ _ | exact zk _ _ | exact zb6 _ | exact zT2 _ _ | exact zk2 _ _ | exact z02 | exact z72 | exact z73 _ | assumption) (by first | exact zs _ _ | exact z4 _ _ | exact zt _ _ | exact z5V | exact z0 | exact zT _ _ | exact zk _ _ | exact zb6 _ | exact zT2 _ _ | exact zk2 _ _ | exact z02 | exact z72 | exact z73 _ | assumption) ?_
                    refine j_iconst (v := nI 1) dX0_behindEnds_89 (by decide +kernel) ?_
                    first | (with_reducible refine j_gNN ?_; refine j_iaddN dX0_behindEnds_90 ?_) | refine j_iadd dX0_behindEnds_90 ?_
                    refine j_goto (tgt := 97) dX0_behindEnds_91 (by decide) ?_
                    refine j_istore_n dX0_behindEnds_97 (by decide) ?_
                    refine j_goto (tgt := 2) dX0_behindEnds_98 (by decide) ?_
                    first
                    | exact absurd c_77 Nat.one_ne_zero
                    | exact absurd rfl c_77
                    | (have z : V (tf k + 100) - nI 1 ≤ 0 := c_65
                       rw [if_pos z] at h
                       exact ih _ (k + 1) V' k' h (by omega) _ _)
                    | (have z : ¬ V (tf k + 100) - nI 1 ≤ 0 := c_65
                       rw [if_neg z] at h
                       exact ih _ (tf k + 1) V' k' h (by omega) _ _)
                · refine j_iconst (v := nI 1) dX0_behindEnds_68 (by decide +kernel) ?_
                  refine j_goto (tgt := 73) dX0_behindEnds_69 (by decide) ?_
                  refine j_istore dX0_behindEnds_73 (by decide) ?_
                  refine j_iload dX0_behindEnds_75 rfl ?_
                  first | (with_reducible refine j_gB ?_; refine j_if_eqB (tgt := 94) dX0_behindEnds_77 (by decide) (fun c_77 => ?_) (fun c_77 => ?_)) | (with_reducible refine j_gC ?_; refine j_if_eqC (tgt := 94) dX0_behindEnds_77 (by decide) (fun c_77 => ?_) (fun c_77 => ?_)) | (with_reducible refine j_gN ?_; refine j_if_eqN (tgt := 94) dX0_behindEnds_77 (by decide) (by omega) (fun c_77 => ?_) (fun c_77 => ?_)) | refine j_if_eq (tgt := 94) dX0_behindEnds_77 (by decide) (fun c_77 => ?_) (fun c_77 => ?_)
                  · refine j_iload_n dX0_behindEnds_94 rfl ?_
                    refine j_iconst (v := nI 1) dX0_behindEnds_95 (by decide +kernel) ?_
                    first | (with_reducible refine j_gNN ?_; refine j_iaddN dX0_behindEnds_96 ?_) | refine j_iadd dX0_behindEnds_96 ?_
                    refine j_istore_n dX0_behindEnds_97 (by decide) ?_
                    refine j_goto (tgt := 2) dX0_behindEnds_98 (by decide) ?_
                    first
                    | exact absurd c_77 Nat.one_ne_zero
                    | exact absurd rfl c_77
                    | (have z : V (tf k + 100) - nI 1 ≤ 0 := c_65
                       rw [if_pos z] at h
                       exact ih _ (k + 1) V' k' h (by omega) _ _)
                    | (have z : ¬ V (tf k + 100) - nI 1 ≤ 0 := c_65
                       rw [if_neg z] at h
                       exact ih _ (tf k + 1) V' k' h (by omega) _ _)
                  · first | refine j_aload_n dX0_behindEnds_80 rfl ?_ | refine j_aload_nN dX0_behindEnds_80 rfl ?_
                    refine j_getR dX0_behindEnds_81 fl_X0_196 rfl (by first | exact zs _ _ | exact z4 _ _ | exact zt _ _ | exact z5V | exact z0 | exact zT _ _ | exact zk _ _ | exact zb6 _ | exact zT2 _ _ | exact zk2 _ _ | exact z02 | exact z72 | exact z73 _ | exact Fa.sh hf | assumption) (by first | exact zs _ _ | exact z4 _ _ | exact zt _ _ | exact z5V | exact z0 | exact zT _ _ | exact zk _ _ | exact zb6 _ | exact zT2 _ _ | exact zk2 _ _ | exact z02 | exact z72 | exact z73 _ | assumption) ?_
                    refine j_iload_n dX0_behindEnds_84 rfl ?_
                    refine j_aald (t := 29) dX0_behindEnds_85 (fun _ => rfl) (by decide) (by first | exact zs _ _ | exact z4 _ _ | exact zt _ _ | exact z5V | exact z0 | exact zT _ _ | exact zk _ _ | exact zb6 _ | exact zT2 _ _ | exact zk2 _ _ | exact z02 | exact z72 | exact z73 _ | exact Pe.sl hp | exact Pe.sa hp | exact Pe.sl hq | exact Pe.sa hq | exact Pv.sw hR | exact Pv.sp hR | exact Pv.sd hR | exact Fa.s0 hf | exact Fa.s12 hf | exact Fa.s13 hf | exact Fa.s14 hf | exact Fa.s15 hf | exact Fa.s16 hf | exact Fa.s20 hf | exact Fa.s21 hf | exact Fa.s23 hf | assumption) rfl (by omega) (by decide) (by first | exact zs _ _ | exact z4 _ _ | exact zt _ _ | exact z5V | exact z0 | exact zT _ _ | exact zk _ _ | exact zb6 _ | exact zT2 _ _ | exact zk2 _ _ | exact z02 | exact z72 | exact z73 _ | exact Pv.rw hR (by omega) | exact Pv.rp hR (by omega) | exact Pv.rd hR (by omega) | exact Fa.tr hf (by omega) | assumption) ?_
                    refine j_getI dX0_behindEnds_86 fl_X0_516 rfl (by first | exact zs _ _ | exact z4 _ _ | exact zt _ _ | exact z5V | exact z0 | exact zT _ _ | exact zk _ _ | exact zb6 _ | exact zT2 _ _ | exact zk2 _ _ | exact z02 | exact z72 | exact z73 _ | assumption) (by first | exact zs _ _ | exact z4 _ _ | exact zt _ _ | exact z5V | exact z0 | exact zT _ _ | exact zk _ _ | exact zb6 _ | exact zT2 _ _ | exact zk2 _ _ | exact z02 | exact z72 | exact z73 _ | assumption) ?_
                    refine j_iconst (v := nI 1) dX0_behindEnds_89 (by decide +kernel) ?_
                    first | (with_reducible refine j_gNN ?_; refine j_iaddN dX0_behindEnds_90 ?_) | refine j_iadd dX0_behindEnds_90 ?_
                    refine j_goto (tgt := 97) dX0_behindEnds_91 (by decide) ?_
                    refine j_istore_n dX0_behindEnds_97 (by decide) ?_
                    refine j_goto (tgt := 2) dX0_behindEnds_98 (by decide) ?_
                    first
                    | exact absurd c_77 Nat.one_ne_zero
                    | exact absurd rfl c_77
                    | (have z : V (tf k + 100) - nI 1 ≤ 0 := c_65
                       rw [if_pos z] at h
                       exact ih _ (k + 1) V' k' h (by omega) _ _)
                    | (have z : ¬ V (tf k + 100) - nI 1 ≤ 0 := c_65
                       rw [if_neg z] at h
                       exact ih _ (tf k + 1) V' k' h (by omega) _ _)
        · rw [if_neg h18] at h
          refine j_iload_n dX0_behindEnds_2 rfl ?_
          first | refine j_aload_n dX0_behindEnds_3 rfl ?_ | refine j_aload_nN dX0_behindEnds_3 rfl ?_
          refine j_getI dX0_behindEnds_4 fl_X0_200 rfl (by first | exact zs _ _ | exact z4 _ _ | exact zt _ _ | exact z5V | exact z0 | exact zT _ _ | exact zk _ _ | exact zb6 _ | exact zT2 _ _ | exact zk2 _ _ | exact z02 | exact z72 | exact z73 _ | exact Fa.sh hf | assumption) (by first | exact zs _ _ | exact z4 _ _ | exact zt _ _ | exact z5V | exact z0 | exact zT _ _ | exact zk _ _ | exact zb6 _ | exact zT2 _ _ | exact zk2 _ _ | exact z02 | exact z72 | exact z73 _ | assumption) ?_
          first | (with_reducible refine j_gNN ?_; refine j_icmp_geN (tgt := 101) dX0_behindEnds_7 (by decide) (by omega) (by omega) (fun c_7 => ?_) (fun c_7 => ?_)) | refine j_icmp_ge (tgt := 101) dX0_behindEnds_7 (by decide) (fun c_7 => ?_) (fun c_7 => ?_)
          · exact absurd c_7 (by omega)
          · first | refine j_aload_n dX0_behindEnds_10 rfl ?_ | refine j_aload_nN dX0_behindEnds_10 rfl ?_
            refine j_getR dX0_behindEnds_11 fl_X0_196 rfl (by first | exact zs _ _ | exact z4 _ _ | exact zt _ _ | exact z5V | exact z0 | exact zT _ _ | exact zk _ _ | exact zb6 _ | exact zT2 _ _ | exact zk2 _ _ | exact z02 | exact z72 | exact z73 _ | exact Fa.sh hf | assumption) (by first | exact zs _ _ | exact z4 _ _ | exact zt _ _ | exact z5V | exact z0 | exact zT _ _ | exact zk _ _ | exact zb6 _ | exact zT2 _ _ | exact zk2 _ _ | exact z02 | exact z72 | exact z73 _ | assumption) ?_
            refine j_iload_n dX0_behindEnds_14 rfl ?_
            refine j_aald (t := 29) dX0_behindEnds_15 (fun _ => rfl) (by decide) (by first | exact zs _ _ | exact z4 _ _ | exact zt _ _ | exact z5V | exact z0 | exact zT _ _ | exact zk _ _ | exact zb6 _ | exact zT2 _ _ | exact zk2 _ _ | exact z02 | exact z72 | exact z73 _ | exact Pe.sl hp | exact Pe.sa hp | exact Pe.sl hq | exact Pe.sa hq | exact Pv.sw hR | exact Pv.sp hR | exact Pv.sd hR | exact Fa.s0 hf | exact Fa.s12 hf | exact Fa.s13 hf | exact Fa.s14 hf | exact Fa.s15 hf | exact Fa.s16 hf | exact Fa.s20 hf | exact Fa.s21 hf | exact Fa.s23 hf | assumption) rfl (by omega) (by decide) (by first | exact zs _ _ | exact z4 _ _ | exact zt _ _ | exact z5V | exact z0 | exact zT _ _ | exact zk _ _ | exact zb6 _ | exact zT2 _ _ | exact zk2 _ _ | exact z02 | exact z72 | exact z73 _ | exact Pv.rw hR (by omega) | exact Pv.rp hR (by omega) | exact Pv.rd hR (by omega) | exact Fa.tr hf (by omega) | assumption) ?_
            refine j_getI dX0_behindEnds_16 fl_X0_485 rfl (by first | exact zs _ _ | exact z4 _ _ | exact zt _ _ | exact z5V | exact z0 | exact zT _ _ | exact zk _ _ | exact zb6 _ | exact zT2 _ _ | exact zk2 _ _ | exact z02 | exact z72 | exact z73 _ | assumption) (by first | exact zs _ _ | exact z4 _ _ | exact zt _ _ | exact z5V | exact z0 | exact zT _ _ | exact zk _ _ | exact zb6 _ | exact zT2 _ _ | exact zk2 _ _ | exact z02 | exact z72 | exact z73 _ | assumption) ?_
            refine j_bipush (v := nI 20) dX0_behindEnds_19 (by decide +kernel) ?_
            first | (with_reducible refine j_gNN ?_; refine j_icmp_neN (tgt := 101) dX0_behindEnds_21 (by decide) (by omega) (by omega) (fun c_21 => ?_) (fun c_21 => ?_)) | refine j_icmp_ne (tgt := 101) dX0_behindEnds_21 (by decide) (fun c_21 => ?_) (fun c_21 => ?_)
            · exact absurd hk20 c_21
            · first | refine j_aload_n dX0_behindEnds_24 rfl ?_ | refine j_aload_nN dX0_behindEnds_24 rfl ?_
              refine j_getR dX0_behindEnds_25 fl_X0_196 rfl (by first | exact zs _ _ | exact z4 _ _ | exact zt _ _ | exact z5V | exact z0 | exact zT _ _ | exact zk _ _ | exact zb6 _ | exact zT2 _ _ | exact zk2 _ _ | exact z02 | exact z72 | exact z73 _ | exact Fa.sh hf | assumption) (by first | exact zs _ _ | exact z4 _ _ | exact zt _ _ | exact z5V | exact z0 | exact zT _ _ | exact zk _ _ | exact zb6 _ | exact zT2 _ _ | exact zk2 _ _ | exact z02 | exact z72 | exact z73 _ | assumption) ?_
              first | refine j_aload_n dX0_behindEnds_28 rfl ?_ | refine j_aload_nN dX0_behindEnds_28 rfl ?_
              refine j_getR dX0_behindEnds_29 fl_X0_196 rfl (by first | exact zs _ _ | exact z4 _ _ | exact zt _ _ | exact z5V | exact z0 | exact zT _ _ | exact zk _ _ | exact zb6 _ | exact zT2 _ _ | exact zk2 _ _ | exact z02 | exact z72 | exact z73 _ | exact Fa.sh hf | assumption) (by first | exact zs _ _ | exact z4 _ _ | exact zt _ _ | exact z5V | exact z0 | exact zT _ _ | exact zk _ _ | exact zb6 _ | exact zT2 _ _ | exact zk2 _ _ | exact z02 | exact z72 | exact z73 _ | assumption) ?_
              refine j_iload_n dX0_behindEnds_32 rfl ?_
              refine j_aald (t := 29) dX0_behindEnds_33 (fun _ => rfl) (by decide) (by first | exact zs _ _ | exact z4 _ _ | exact zt _ _ | exact z5V | exact z0 | exact zT _ _ | exact zk _ _ | exact zb6 _ | exact zT2 _ _ | exact zk2 _ _ | exact z02 | exact z72 | exact z73 _ | exact Pe.sl hp | exact Pe.sa hp | exact Pe.sl hq | exact Pe.sa hq | exact Pv.sw hR | exact Pv.sp hR | exact Pv.sd hR | exact Fa.s0 hf | exact Fa.s12 hf | exact Fa.s13 hf | exact Fa.s14 hf | exact Fa.s15 hf | exact Fa.s16 hf | exact Fa.s20 hf | exact Fa.s21 hf | exact Fa.s23 hf | assumption) rfl (by omega) (by decide) (by first | exact zs _ _ | exact z4 _ _ | exact zt _ _ | exact z5V | exact z0 | exact zT _ _ | exact zk _ _ | exact zb6 _ | exact zT2 _ _ | exact zk2 _ _ | exact z02 | exact z72 | exact z73 _ | exact Pv.rw hR (by omega) | exact Pv.rp hR (by omega) | exact Pv.rd hR (by omega) | exact Fa.tr hf (by omega) | assumption) ?_
              refine j_getI dX0_behindEnds_34 fl_X0_516 rfl (by first | exact zs _ _ | exact z4 _ _ | exact zt _ _ | exact z5V | exact z0 | exact zT _ _ | exact zk _ _ | exact zb6 _ | exact zT2 _ _ | exact zk2 _ _ | exact z02 | exact z72 | exact z73 _ | assumption) (by first | exact zs _ _ | exact z4 _ _ | exact zt _ _ | exact z5V | exact z0 | exact zT _ _ | exact zk _ _ | exact zb6 _ | exact zT2 _ _ | exact zk2 _ _ | exact z02 | exact z72 | exact z73 _ | assumption) ?_
              refine j_aald (t := 29) dX0_behindEnds_37 (fun _ => rfl) (by decide) (by first | exact zs _ _ | exact z4 _ _ | exact zt _ _ | exact z5V | exact z0 | exact zT _ _ | exact zk _ _ | exact zb6 _ | exact zT2 _ _ | exact zk2 _ _ | exact z02 | exact z72 | exact z73 _ | exact Pe.sl hp | exact Pe.sa hp | exact Pe.sl hq | exact Pe.sa hq | exact Pv.sw hR | exact Pv.sp hR | exact Pv.sd hR | exact Fa.s0 hf | exact Fa.s12 hf | exact Fa.s13 hf | exact Fa.s14 hf | exact Fa.s15 hf | exact Fa.s16 hf | exact Fa.s20 hf | exact Fa.s21 hf | exact Fa.s23 hf | assumption) rfl (by omega) (by decide) (by first | exact zs _ _ | exact z4 _ _ | exact zt _ _ | exact z5V | exact z0 | exact zT _ _ | exact zk _ _ | exact zb6 _ | exact zT2 _ _ | exact zk2 _ _ | exact z02 | exact z72 | exact z73 _ | exact Pv.rw hR (by omega) | exact Pv.rp hR (by omega) | exact Pv.rd hR (by omega) | exact Fa.tr hf (by omega) | assumption) ?_
              first | refine j_astore_n dX0_behindEnds_38 (by decide) ?_ | refine j_astore_nN dX0_behindEnds_38 (by decide) ?_
              refine j_iconst (v := nI 0) dX0_behindEnds_39 (by decide +kernel) ?_
              refine j_istore dX0_behindEnds_40 (by decide) ?_
              first | refine j_aload_n dX0_behindEnds_42 rfl ?_ | refine j_aload_nN dX0_behindEnds_42 rfl ?_
              refine j_getI dX0_behindEnds_43 fl_X0_485 rfl (by first | exact zs _ _ | exact z4 _ _ | exact zt _ _ | exact z5V | exact z0 | exact zT _ _ | exact zk _ _ | exact zb6 _ | exact zT2 _ _ | exact zk2 _ _ | exact z02 | exact z72 | exact z73 _ | assumption) (by first | exact zs _ _ | exact z4 _ _ | exact zt _ _ | exact z5V | exact z0 | exact zT _ _ | exact zk _ _ | exact zb6 _ | exact zT2 _ _ | exact zk2 _ _ | exact z02 | exact z72 | exact z73 _ | assumption) ?_
              refine j_bipush (v := nI 18) dX0_behindEnds_46 (by decide +kernel) ?_
              first | (with_reducible refine j_gNN ?_; refine j_icmp_neN (tgt := 75) dX0_behindEnds_48 (by decide) (by omega) (by omega) (fun c_48 => ?_) (fun c_48 => ?_)) | refine j_icmp_ne (tgt := 75) dX0_behindEnds_48 (by decide) (fun c_48 => ?_) (fun c_48 => ?_)
              · refine j_iload dX0_behindEnds_75 rfl ?_
                first | (with_reducible refine j_gB ?_; refine j_if_eqB (tgt := 94) dX0_behindEnds_77 (by decide) (fun c_77 => ?_) (fun c_77 => ?_)) | (with_reducible refine j_gC ?_; refine j_if_eqC (tgt := 94) dX0_behindEnds_77 (by decide) (fun c_77 => ?_) (fun c_77 => ?_)) | (with_reducible refine j_gN ?_; refine j_if_eqN (tgt := 94) dX0_behindEnds_77 (by decide) (by omega) (fun c_77 => ?_) (fun c_77 => ?_)) | refine j_if_eq (tgt := 94) dX0_behindEnds_77 (by decide) (fun c_77 => ?_) (fun c_77 => ?_)
                · refine j_iload_n dX0_behindEnds_94 rfl ?_
                  refine j_iconst (v := nI 1) dX0_behindEnds_95 (by decide +kernel) ?_
                  first | (with_reducible refine j_gNN ?_; refine j_iaddN dX0_behindEnds_96 ?_) | refine j_iadd dX0_behindEnds_96 ?_
                  refine j_istore_n dX0_behindEnds_97 (by decide) ?_
                  refine j_goto (tgt := 2) dX0_behindEnds_98 (by decide) ?_
                  exact ih V (k + 1) V' k' h (by omega) _ _
                · exact absurd c_77 (by decide)
              · exact absurd c_48 h18
      · rw [if_neg (fun q => hk20 q.2)] at h
        cases h
        refine j_iload_n dX0_behindEnds_2 rfl ?_
        first | refine j_aload_n dX0_behindEnds_3 rfl ?_ | refine j_aload_nN dX0_behindEnds_3 rfl ?_
        refine j_getI dX0_behindEnds_4 fl_X0_200 rfl (by first | exact zs _ _ | exact z4 _ _ | exact zt _ _ | exact z5V | exact z0 | exact zT _ _ | exact zk _ _ | exact Fa.sh hf | assumption) (by first | exact zs _ _ | exact z4 _ _ | exact zt _ _ | exact z5V | exact z0 | exact zT _ _ | exact zk _ _ | assumption) ?_
        first | (with_reducible refine j_gNN ?_; refine j_icmp_geN (tgt := 101) dX0_behindEnds_7 (by decide) (by omega) (by omega) (fun c_7 => ?_) (fun c_7 => ?_)) | refine j_icmp_ge (tgt := 101) dX0_behindEnds_7 (by decide) (fun c_7 => ?_) (fun c_7 => ?_)
        · exact absurd c_7 (by omega)
        · first | refine j_aload_n dX0_behindEnds_10 rfl ?_ | refine j_aload_nN dX0_behindEnds_10 rfl ?_
          refine j_getR dX0_behindEnds_11 fl_X0_196 rfl (by first | exact zs _ _ | exact z4 _ _ | exact zt _ _ | exact z5V | exact z0 | exact zT _ _ | exact zk _ _ | exact Fa.sh hf | assumption) (by first | exact zs _ _ | exact z4 _ _ | exact zt _ _ | exact z5V | exact z0 | exact zT _ _ | exact zk _ _ | assumption) ?_
          refine j_iload_n dX0_behindEnds_14 rfl ?_
          refine j_aald (t := 29) dX0_behindEnds_15 (fun _ => rfl) (by decide) (by first | exact zs _ _ | exact z4 _ _ | exact zt _ _ | exact z5V | exact z0 | exact zT _ _ | exact zk _ _ | exact Pe.sl hp | exact Pe.sa hp | exact Pe.sl hq | exact Pe.sa hq | exact Pv.sw hR | exact Pv.sp hR | exact Pv.sd hR | exact Fa.s0 hf | exact Fa.s12 hf | exact Fa.s13 hf | exact Fa.s14 hf | exact Fa.s15 hf | exact Fa.s16 hf | exact Fa.s20 hf | exact Fa.s21 hf | exact Fa.s23 hf | assumption) rfl (by omega) (by decide) (by first | exact zs _ _ | exact z4 _ _ | exact zt _ _ | exact z5V | exact z0 | exact zT _ _ | exact zk _ _ | exact Pv.rw hR (by omega) | exact Pv.rp hR (by omega) | exact Pv.rd hR (by omega) | exact Fa.tr hf (by omega) | assumption) ?_
          refine j_getI dX0_behindEnds_16 fl_X0_485 rfl (by first | exact zs _ _ | exact z4 _ _ | exact zt _ _ | exact z5V | exact z0 | exact zT _ _ | exact zk _ _ | assumption) (by first | exact zs _ _ | exact z4 _ _ | exact zt _ _ | exact z5V | exact z0 | exact zT _ _ | exact zk _ _ | assumption) ?_
          refine j_bipush (v := nI 20) dX0_behindEnds_19 (by decide +kernel) ?_
          first | (with_reducible refine j_gNN ?_; refine j_icmp_neN (tgt := 101) dX0_behindEnds_21 (by decide) (by omega) (by omega) (fun c_21 => ?_) (fun c_21 => ?_)) | refine j_icmp_ne (tgt := 101) dX0_behindEnds_21 (by decide) (fun c_21 => ?_) (fun c_21 => ?_)
          · refine j_iload_n dX0_behindEnds_101 rfl ?_
            refine j_iret dX0_behindEnds_102 ⟨_, rfl, rfl⟩ (by omega) (by omega) ?_
            exact ⟨rfl, rfl⟩
          · exact absurd c_21 hk20
    · rw [if_neg (fun q => hkn q.1)] at h
      cases h
      refine j_iload_n dX0_behindEnds_2 rfl ?_
      first | refine j_aload_n dX0_behindEnds_3 rfl ?_ | refine j_aload_nN dX0_behindEnds_3 rfl ?_
      refine j_getI dX0_behindEnds_4 fl_X0_200 rfl (by first | exact zs _ _ | exact z5V | exact Fa.sh hf | assumption) (by first | exact zs _ _ | exact z5V | assumption) ?_
      first | (with_reducible refine j_gNN ?_; refine j_icmp_geN (tgt := 101) dX0_behindEnds_7 (by decide) (by omega) (by omega) (fun c_7 => ?_) (fun c_7 => ?_)) | refine j_icmp_ge (tgt := 101) dX0_behindEnds_7 (by decide) (fun c_7 => ?_) (fun c_7 => ?_)
      · refine j_iload_n dX0_behindEnds_101 rfl ?_
        refine j_iret dX0_behindEnds_102 ⟨_, rfl, rfl⟩ (by omega) (by omega) ?_
        exact ⟨rfl, rfl⟩
      · exact absurd c_7 (by omega)
end X32s
