/-! X: YEARS: livesBy -/
set_option maxRecDepth 100000
theorem Sx.fr {σ : Sg} {a w kd : Nat} {C D : Nat → Int32} (h : Sx σ a C w kd) (hw : 145 ≤ w) (f : Fr C D) : Sx σ a D w kd := by
  unfold Sx at h ⊢
  rw [f w (by omega), f (w + 1) (by omega), f (w + 2) (by omega), f (w + 3) (by omega), f (w + 6) (by omega), f (w + 7) (by omega)]
  exact h
theorem bE_out {n : Nat} {kf tf : Nat → Nat} (ht : ∀ k, k < n → kf k = 20 → tf k < n) : ∀ f V k V' k', bE n kf tf f V k = some (V', k') → k ≤ n → k' ≤ n ∧ ∀ i, i < 100 → V' i = V i := by
  intro f
  induction f with
  | zero => intro V k V' k' h; cases h
  | succ f ih =>
    intro V k V' k' h hk
    rw [bE] at h
    split at h
    · next q =>
      have z := ht k q.1 q.2
      split at h
      · split at h
        · obtain ⟨z1, z2⟩ := ih _ _ _ _ h (by omega)
          exact ⟨z1, fun i hi => (z2 i hi).trans (up_ne (by omega))⟩
        · obtain ⟨z1, z2⟩ := ih _ _ _ _ h (by omega)
          exact ⟨z1, fun i hi => (z2 i hi).trans (up_ne (by omega))⟩
      · exact ih _ _ _ _ h (by omega)
    · cases h; exact ⟨hk, fun _ _ => rfl⟩
/-- every step of the table stands as the Model's step -/
def Ts (σ : Sg) (C : Nat → Int32) (W P n : Nat) (T kf wf : Nat → Nat) : Prop := ∀ k, k < n → kf k ≠ 20 → 12 ≤ kf k ∧ wf k < 30 ∧ Sx σ (T k) C (177 + 9 * wf k) (kf k - 12) ∧ Sw C W P (177 + 9 * wf k)
/-- the numbers of a run are put to zero -/
def zr5 (V : Nat → Int32) (i : Nat) : Nat → Int32 := itr (fun j U => up U (39 + j) 0) i V
section X35s
variable {g : Gx} {l : Launch} {σ τ : Sg} {L : Nat → Nat → Option Nat} {A B : Nat → Nat} {C V : Nat → Int32} {W P Dn Hn hx st n : Nat} {T kf tf wf : Nat → Nat} {sx : Nat → Option Nat}
theorem x_be (hf : Fa σ hx B) (hR0 : Pv σ L A C W P Dn Hn) (hy : Yf σ hx B sx) (hT : Tb σ hx st n T sx kf tf) {f k k' : Nat} {V' : Nat → Int32} (h : bE n kf tf f V k = some (V', k')) (hk : k ≤ 60) : Kd g l 0 MX0_behindEnds [.ref hx, .int (nI k)] (put (yx σ hx B sx V) L C) (some (.int (nI k'))) (put (yx σ hx B sx V') L C) := by
  refine Kt.go (Y := MX0_behindEnds) (ls := [some (.ref hx), some (.int (nI k)), none, none, none]) (by decide) (Nat.le_of_ble_eq_true rfl) rfl ?_
  refine j_iload_n dX0_behindEnds_0 rfl ?_
  refine j_istore_n dX0_behindEnds_1 (by decide) ?_
  exact x_behind hf hR0 hy hT _ f V k V' k' h hk _ _
theorem x_run (hf : Fa σ hx B) (hg : Fq σ hx A) {C0 : Nat → Int32} (hR0 : Pv σ L A C0 W P Dn Hn) (hy : Yf σ hx B sx) (hT : Tb σ hx st n T sx kf tf) (hS : Ts σ C0 W P n T kf wf) (s0 : Int32) : ∀ k z z', Xr W P Dn n kf tf wf k z z' → Wx z.1 W P Dn → Iz C0 z → k ≤ n → ∀ x3, Td g l 7 MX0_livesBy [.ref hx, .int s0] (put (yx σ hx B sx z'.2) L z'.1) none 32 [some (.ref hx), some (.int s0), some (.int (nI k)), x3] [] (put (yx σ hx B sx z.2) L z.1) := by
  obtain ⟨t4, ts, t5, tn, tT⟩ := id hT
  have hn := hR0.nf hf
  have ht20 : ∀ k, k < n → kf k = 20 → tf k < n := fun k q e => ((tT k q).2.2.2.2.2 (Or.inl e)).2
  have zs : ∀ U D, (put (yx σ hx B sx U) L D).1 hx = some (0, 0) := fun _ _ => hf.1
  have z4 : ∀ U D, (put (yx σ hx B sx U) L D).2.2.2 hx 4 = some st := fun _ _ => t4
  have zt : ∀ U D, (put (yx σ hx B sx U) L D).1 st = some (29, 60) := fun _ _ => ts
  have z5 : ∀ U D, (put (yx σ hx B sx U) L D).2.1 hx 5 = nI n := fun U D => (pgn (hn 5)).trans ((pgn (by rw [yX_x]; rfl)).trans t5)
  have z19 : ∀ U D, (put (yx σ hx B sx U) L D).2.1 hx 19 = U 38 := fun U D => (pgn (hn 19)).trans (pg yX_x)
  have w19 : ∀ U D (x : Int32), sI (put (yx σ hx B sx U) L D) hx 19 x = put (yx σ hx B sx (up U 38 x)) L D := fun U D x => by
    rw [put_n (hn 19)]
    unfold yx
    rw [put_w (yX_inj hf.n20 hy.1) (i := 38) yX_x]
  have zb : ∀ U D, (put (yx σ hx B sx U) L D).1 (B 20) = some (20, 5) := fun _ _ => (hf.2.1 20 _ _ rfl).2
  have zr : ∀ U D, (put (yx σ hx B sx U) L D).2.2.2 hx 20 = some (B 20) := fun _ _ => (hf.2.1 20 _ _ rfl).1
  have b0 : ∀ U D, (put (yx σ hx B sx U) L D).2.1 (B 20) 0 = U 39 := fun U D => (pgn (hR0.noL (hf.2.1 20 _ _ rfl).2 (by decide) (by decide) (by decide) 0)).trans (pg (yX_b hf (show 0 < 5 by decide)))
  have hwb : ∀ U D i (x : Int32), i < 5 → sI (put (yx σ hx B sx U) L D) (B 20) i x = put (yx σ hx B sx (up U (39 + i) x)) L D := fun U D i x hi => by
    rw [put_n (hR0.noL (hf.2.1 20 _ _ rfl).2 (by decide) (by decide) (by decide) i)]
    unfold yx
    rw [put_w (yX_inj hf.n20 hy.1) (yX_b hf hi)]
  have rd : ∀ U D a k, σ.1 a = some (12, 0) → k ≠ 7 → (put (yx σ hx B sx U) L D).2.1 a k = σ.2.1 a k := fun U D a k s12 hk => (pgn (hR0.noL s12 (by decide) (by decide) (by decide) k)).trans (pgn (yX_s hf s12 hk))
  intro k z z' ⟨F, h⟩
  induction F generalizing k z with
  | zero => exact h.elim
  | succ F ihF =>
  rcases h with ⟨hk, rfl⟩ | ⟨hk, h300, rfl⟩ | ⟨hk, h300, hk19, rfl⟩ | ⟨hk, h300, hk19, f, V', k', hb, hX⟩
  · intro hw hI hkn x3
    obtain ⟨C, V⟩ := z'
    dsimp only at *
    refine j_iload_n dX0_livesBy_32 rfl ?_
    first | refine j_aload_n dX0_livesBy_33 rfl ?_ | refine j_aload_nN dX0_livesBy_33 rfl ?_
    refine j_getI dX0_livesBy_34 fl_X0_200 rfl (by first | exact zs _ _ | exact z5 _ _ | exact Fa.sh hf | assumption) (by first | exact zs _ _ | exact z5 _ _ | assumption) ?_
    first | (with_reducible refine j_gNN ?_; refine j_icmp_geN (tgt := 140) dX0_livesBy_37 (by decide) (by omega) (by omega) (fun c_37 => ?_) (fun c_37 => ?_)) | refine j_icmp_ge (tgt := 140) dX0_livesBy_37 (by decide) (fun c_37 => ?_) (fun c_37 => ?_)
    · refine j_vret dX0_livesBy_140 rfl (by omega) (by omega) ?_
      exact ⟨rfl, rfl⟩
    · exact absurd c_37 (by omega)
  · intro hw hI hkn x3
    obtain ⟨C, V⟩ := z
    dsimp only at *
    refine j_iload_n dX0_livesBy_32 rfl ?_
    first | refine j_aload_n dX0_livesBy_33 rfl ?_ | refine j_aload_nN dX0_livesBy_33 rfl ?_
    refine j_getI dX0_livesBy_34 fl_X0_200 rfl (by first | exact zs _ _ | exact z5 _ _ | exact z19 _ _ | exact zb _ _ | exact zr _ _ | exact Fa.sh hf | assumption) (by first | exact zs _ _ | exact z5 _ _ | exact z19 _ _ | exact zb _ _ | exact zr _ _ | assumption) ?_
    first | (with_reducible refine j_gNN ?_; refine j_icmp_geN (tgt := 140) dX0_livesBy_37 (by decide) (by omega) (by omega) (fun c_37 => ?_) (fun c_37 => ?_)) | refine j_icmp_ge (tgt := 140) dX0_livesBy_37 (by decide) (fun c_37 => ?_) (fun c_37 => ?_)
    · exact absurd c_37 (by omega)
    · first | refine j_aload_n dX0_livesBy_40 rfl ?_ | refine j_aload_nN dX0_livesBy_40 rfl ?_
      refine j_getI dX0_livesBy_41 fl_X0_519 rfl (by first | exact zs _ _ | exact z5 _ _ | exact z19 _ _ | exact zb _ _ | exact zr _ _ | exact Fa.sh hf | assumption) (by first | exact zs _ _ | exact z5 _ _ | exact z19 _ _ | exact zb _ _ | exact zr _ _ | assumption) ?_
      refine j_sipush (v := nI 300) dX0_livesBy_44 (by decide +kernel) ?_
      first | (with_reducible refine j_gNN ?_; refine j_icmp_neN (tgt := 58) dX0_livesBy_47 (by decide) (by omega) (by omega) (fun c_47 => ?_) (fun c_47 => ?_)) | refine j_icmp_ne (tgt := 58) dX0_livesBy_47 (by decide) (fun c_47 => ?_) (fun c_47 => ?_)
      · exact absurd h300 c_47
      · first | refine j_aload_n dX0_livesBy_50 rfl ?_ | refine j_aload_nN dX0_livesBy_50 rfl ?_
        refine j_getR dX0_livesBy_51 fl_X0_76 rfl (by first | exact zs _ _ | exact z5 _ _ | exact z19 _ _ | exact zb _ _ | exact zr _ _ | exact Fa.sh hf | assumption) (by first | exact zs _ _ | exact z5 _ _ | exact z19 _ _ | exact zb _ _ | exact zr _ _ | exact Fa.f20 hf | assumption) ?_
        refine j_iconst (v := nI 4) dX0_livesBy_54 (by decide +kernel) ?_
        refine j_iconst (v := nI 1) dX0_livesBy_55 (by decide +kernel) ?_
        refine j_iast dX0_livesBy_56 (by first | exact zs _ _ | exact z5 _ _ | exact z19 _ _ | exact zb _ _ | exact zr _ _ | exact Pe.sl hp | exact Pe.sa hp | exact Pe.sl hq | exact Pe.sa hq | exact Pv.sw hR | exact Pv.sp hR | exact Pv.sd hR | exact Fa.s0 hf | exact Fa.s12 hf | exact Fa.s13 hf | exact Fa.s14 hf | exact Fa.s15 hf | exact Fa.s16 hf | exact Fa.s20 hf | exact Fa.s21 hf | exact Fa.s23 hf | assumption) rfl (by omega) (by decide) ?_
        first | refine j_sg (put_w hL (Pe.ll hp (by omega))) ?_ | refine j_sg (put_w hL (Pe.ll hq (by omega))) ?_ | refine j_sg (put_w hL (Pe.lg hp (by omega))) ?_ | refine j_sg (put_w hL (Pe.lg hq (by omega))) ?_ | skip
        rw [hwb _ _ 4 _ (by decide)]
        refine j_vret dX0_livesBy_57 rfl (by omega) (by omega) ?_
        exact ⟨rfl, rfl⟩
  · intro hw hI hkn x3
    obtain ⟨C, V⟩ := z
    dsimp only at *
    obtain ⟨a1, a2, a3, a4, a5, a6⟩ := tT k hk
    have zT : ∀ U D, (put (yx σ hx B sx U) L D).2.2.2 st k = some (T k) := fun _ _ => a1
    have zk : ∀ U D, (put (yx σ hx B sx U) L D).1 (T k) = some (12, 0) := fun _ _ => a2
    have z0 : ∀ U D, (put (yx σ hx B sx U) L D).2.1 (T k) 0 = nI (kf k) := fun U D => (rd U D (T k) 0 a2 (by decide)).trans a4
    refine j_iload_n dX0_livesBy_32 rfl ?_
    first | refine j_aload_n dX0_livesBy_33 rfl ?_ | refine j_aload_nN dX0_livesBy_33 rfl ?_
    refine j_getI dX0_livesBy_34 fl_X0_200 rfl (by first | exact zs _ _ | exact z5 _ _ | exact z19 _ _ | exact zb _ _ | exact zr _ _ | exact z4 _ _ | exact zt _ _ | exact zT _ _ | exact zk _ _ | exact z0 _ _ | exact Fa.sh hf | assumption) (by first | exact zs _ _ | exact z5 _ _ | exact z19 _ _ | exact zb _ _ | exact zr _ _ | exact z4 _ _ | exact zt _ _ | exact zT _ _ | exact zk _ _ | exact z0 _ _ | assumption) ?_
    first | (with_reducible refine j_gNN ?_; refine j_icmp_geN (tgt := 140) dX0_livesBy_37 (by decide) (by omega) (by omega) (fun c_37 => ?_) (fun c_37 => ?_)) | refine j_icmp_ge (tgt := 140) dX0_livesBy_37 (by decide) (fun c_37 => ?_) (fun c_37 => ?_)
    · exact absurd c_37 (by omega)
    · first | refine j_aload_n dX0_livesBy_40 rfl ?_ | refine j_aload_nN dX0_livesBy_40 rfl ?_
      refine j_getI dX0_livesBy_41 fl_X0_519 rfl (by first | exact zs _ _ | exact z5 _ _ | exact z19 _ _ | exact zb _ _ | exact zr _ _ | exact z4 _ _ | exact zt _ _ | exact zT _ _ | exact zk _ _ | exact z0 _ _ | exact Fa.sh hf | assumption) (by first | exact zs _ _ | exact z5 _ _ | exact z19 _ _ | exact zb _ _ | exact zr _ _ | exact z4 _ _ | exact zt _ _ | exact zT _ _ | exact zk _ _ | exact z0 _ _ | assumption) ?_
      refine j_sipush (v := nI 300) dX0_livesBy_44 (by decide +kernel) ?_
      first | (with_reducible refine j_gNN ?_; refine j_icmp_neN (tgt := 58) dX0_livesBy_47 (by decide) (by omega) (by omega) (fun c_47 => ?_) (fun c_47 => ?_)) | refine j_icmp_ne (tgt := 58) dX0_livesBy_47 (by decide) (fun c_47 => ?_) (fun c_47 => ?_)
      · first | refine j_aload_n dX0_livesBy_58 rfl ?_ | refine j_aload_nN dX0_livesBy_58 rfl ?_
        refine j_getR dX0_livesBy_59 fl_X0_196 rfl (by first | exact zs _ _ | exact z5 _ _ | exact z19 _ _ | exact zb _ _ | exact zr _ _ | exact z4 _ _ | exact zt _ _ | exact zT _ _ | exact zk _ _ | exact z0 _ _ | exact Fa.sh hf | assumption) (by first | exact zs _ _ | exact z5 _ _ | exact z19 _ _ | exact zb _ _ | exact zr _ _ | exact z4 _ _ | exact zt _ _ | exact zT _ _ | exact zk _ _ | exact z0 _ _ | assumption) ?_
        refine j_iload_n dX0_livesBy_62 rfl ?_
        refine j_aald (t := 29) dX0_livesBy_63 (fun _ => rfl) (by decide) (by first | exact zs _ _ | exact z5 _ _ | exact z19 _ _ | exact zb _ _ | exact zr _ _ | exact z4 _ _ | exact zt _ _ | exact zT _ _ | exact zk _ _ | exact z0 _ _ | exact Pe.sl hp | exact Pe.sa hp | exact Pe.sl hq | exact Pe.sa hq | exact Pv.sw hR | exact Pv.sp hR | exact Pv.sd hR | exact Fa.s0 hf | exact Fa.s12 hf | exact Fa.s13 hf | exact Fa.s14 hf | exact Fa.s15 hf | exact Fa.s16 hf | exact Fa.s20 hf | exact Fa.s21 hf | exact Fa.s23 hf | assumption) rfl (by omega) (by decide) (by first | exact zs _ _ | exact z5 _ _ | exact z19 _ _ | exact zb _ _ | exact zr _ _ | exact z4 _ _ | exact zt _ _ | exact zT _ _ | exact zk _ _ | exact z0 _ _ | exact Pv.rw hR (by omega) | exact Pv.rp hR (by omega) | exact Pv.rd hR (by omega) | exact Fa.tr hf (by omega) | assumption) ?_
        first | refine j_astore_n dX0_livesBy_64 (by decide) ?_ | refine j_astore_nN dX0_livesBy_64 (by decide) ?_
        first | refine j_aload_n dX0_livesBy_65 rfl ?_ | refine j_aload_nN dX0_livesBy_65 rfl ?_
        refine j_dup dX0_livesBy_66 rfl ?_
        refine j_getI dX0_livesBy_67 fl_X0_519 rfl (by first | exact zs _ _ | exact z5 _ _ | exact z19 _ _ | exact zb _ _ | exact zr _ _ | exact z4 _ _ | exact zt _ _ | exact zT _ _ | exact zk _ _ | exact z0 _ _ | exact Fa.sh hf | assumption) (by first | exact zs _ _ | exact z5 _ _ | exact z19 _ _ | exact zb _ _ | exact zr _ _ | exact z4 _ _ | exact zt _ _ | exact zT _ _ | exact zk _ _ | exact z0 _ _ | assumption) ?_
        refine j_iconst (v := nI 1) dX0_livesBy_70 (by decide +kernel) ?_
        first | (with_reducible refine j_gNN ?_; refine j_iaddN dX0_livesBy_71 ?_) | refine j_iadd dX0_livesBy_71 ?_
        refine j_putI dX0_livesBy_72 fl_X0_519 rfl (by first | exact zs _ _ | exact z5 _ _ | exact z19 _ _ | exact zb _ _ | exact zr _ _ | exact z4 _ _ | exact zt _ _ | exact zT _ _ | exact zk _ _ | exact z0 _ _ | exact Fa.sh hf | assumption) rfl rfl rfl ?_
        rw [w19]
        first | refine j_aload_n dX0_livesBy_75 rfl ?_ | refine j_aload_nN dX0_livesBy_75 rfl ?_
        refine j_getI dX0_livesBy_76 fl_X0_485 rfl (by first | exact zs _ _ | exact z5 _ _ | exact z19 _ _ | exact zb _ _ | exact zr _ _ | exact z4 _ _ | exact zt _ _ | exact zT _ _ | exact zk _ _ | exact z0 _ _ | assumption) (by first | exact zs _ _ | exact z5 _ _ | exact z19 _ _ | exact zb _ _ | exact zr _ _ | exact z4 _ _ | exact zt _ _ | exact zT _ _ | exact zk _ _ | exact z0 _ _ | assumption) ?_
        refine j_bipush (v := nI 19) dX0_livesBy_79 (by decide +kernel) ?_
        first | (with_reducible refine j_gNN ?_; refine j_icmp_neN (tgt := 85) dX0_livesBy_81 (by decide) (by omega) (by omega) (fun c_81 => ?_) (fun c_81 => ?_)) | refine j_icmp_ne (tgt := 85) dX0_livesBy_81 (by decide) (fun c_81 => ?_) (fun c_81 => ?_)
        · exact absurd hk19 c_81
        · refine j_vret dX0_livesBy_84 rfl (by omega) (by omega) ?_
          exact ⟨rfl, rfl⟩
      · exact absurd c_47 h300
  · intro hw hI hkn x3
    have ih := ihF k' _ hX
    obtain ⟨C, V⟩ := z
    dsimp only at *
    have hFr : Fr C0 C := hI.1
    obtain ⟨-, r, hr2, hr⟩ := id hI
    dsimp only at hr
    have hW8 := hw.1.1.2
    have hR1 := hR0.fr hFr hW8
    obtain ⟨a1, a2, a3, a4, a5, a6⟩ := tT k hk
    obtain ⟨b1, b2, b3', b4'⟩ := hS k hk (by omega)
    have b3 := b3'.fr (by omega) hFr
    have b4 := b4'.fr (by omega) hFr
    have zT : ∀ U D, (put (yx σ hx B sx U) L D).2.2.2 st k = some (T k) := fun _ _ => a1
    have zk : ∀ U D, (put (yx σ hx B sx U) L D).1 (T k) = some (12, 0) := fun _ _ => a2
    have z0 : ∀ U D, (put (yx σ hx B sx U) L D).2.1 (T k) 0 = nI (kf k) := fun U D => (rd U D (T k) 0 a2 (by decide)).trans a4
    have r1 : up V 38 (V 38 + nI 1) 37 = nI r := (up_ne (by decide)).trans hr
    have hI1 : Iz C0 (C, up V 38 (V 38 + nI 1)) := ⟨hFr, r, hr2, r1⟩
    generalize hV1 : up V 38 (V 38 + nI 1) = V1 at *
    by_cases k17 : kf k < 17
    · have e : xStp W P Dn kf tf wf k (C, V1) = (((yDoes W P Dn (177 + 9 * wf k) C V1).2.1, if (yDoes W P Dn (177 + 9 * wf k) C V1).1 then (yDoes W P Dn (177 + 9 * wf k) C V1).2.2 else up (yDoes W P Dn (177 + 9 * wf k) C V1).2.2 39 ((yDoes W P Dn (177 + 9 * wf k) C V1).2.2 39 + nI 1)), k + 1) := by
        unfold xStp
        rw [if_pos k17]
      rw [e] at hb ih
      dsimp only at hb ih
      have hd := x_stepDoes (g := g) (l := l) hf hg hR1 hw hy b4 b3 (by omega) r1 hr2
      have dw := yDoes_wx (V := V1) hw b4
      have dI := yDoes_iz hw.1 b4 hI1
      clear e
      generalize yDoes W P Dn (177 + 9 * wf k) C V1 = O at *
      obtain ⟨O1, OC, OV⟩ := O
      dsimp only at *
      have hR2 := hR0.fr dI.1 hW8
      cases O1 with
      | true =>
        rw [if_pos rfl] at hb
        obtain ⟨k1, k2⟩ := bE_out ht20 _ _ _ _ _ hb (by omega)
        have iI : Iz C0 (OC, V') := ⟨dI.1, dI.2.choose, dI.2.choose_spec.1, (k2 37 (by decide)).trans dI.2.choose_spec.2⟩
        rw [bI_t] at hd
        skip
        refine j_iload_n dX0_livesBy_32 rfl ?_
        first | refine j_aload_n dX0_livesBy_33 rfl ?_ | refine j_aload_nN dX0_livesBy_33 rfl ?_
        refine j_getI dX0_livesBy_34 fl_X0_200 rfl (by first | exact zs _ _ | exact z5 _ _ | exact z19 _ _ | exact zb _ _ | exact zr _ _ | exact z4 _ _ | exact zt _ _ | exact zT _ _ | exact zk _ _ | exact z0 _ _ | exact b0 _ _ | exact Fa.sh hf | assumption) (by first | exact zs _ _ | exact z5 _ _ | exact z19 _ _ | exact zb _ _ | exact zr _ _ | exact z4 _ _ | exact zt _ _ | exact zT _ _ | exact zk _ _ | exact z0 _ _ | exact b0 _ _ | assumption) ?_
        first | (with_reducible refine j_gNN ?_; refine j_icmp_geN (tgt := 140) dX0_livesBy_37 (by decide) (by omega) (by omega) (fun c_37 => ?_) (fun c_37 => ?_)) | refine j_icmp_ge (tgt := 140) dX0_livesBy_37 (by decide) (fun c_37 => ?_) (fun c_37 => ?_)
        · exact absurd c_37 (by omega)
        · first | refine j_aload_n dX0_livesBy_40 rfl ?_ | refine j_aload_nN dX0_livesBy_40 rfl ?_
          refine j_getI dX0_livesBy_41 fl_X0_519 rfl (by first | exact zs _ _ | exact z5 _ _ | exact z19 _ _ | exact zb _ _ | exact zr _ _ | exact z4 _ _ | exact zt _ _ | exact zT _ _ | exact zk _ _ | exact z0 _ _ | exact b0 _ _ | exact Fa.sh hf | assumption) (by first | exact zs _ _ | exact z5 _ _ | exact z19 _ _ | exact zb _ _ | exact zr _ _ | exact z4 _ _ | exact zt _ _ | exact zT _ _ | exact zk _ _ | exact z0 _ _ | exact b0 _ _ | assumption) ?_
          refine j_sipush (v := nI 300) dX0_livesBy_44 (by decide +kernel) ?_
          first | (with_reducible refine j_gNN ?_; refine j_icmp_neN (tgt := 58) dX0_livesBy_47 (by decide) (by omega) (by omega) (fun c_47 => ?_) (fun c_47 => ?_)) | refine j_icmp_ne (tgt := 58) dX0_livesBy_47 (by decide) (fun c_47 => ?_) (fun c_47 => ?_)
          · first | refine j_aload_n dX0_livesBy_58 rfl ?_ | refine j_aload_nN dX0_livesBy_58 rfl ?_
            refine j_getR dX0_livesBy_59 fl_X0_196 rfl (by first | exact zs _ _ | exact z5 _ _ | exact z19 _ _ | exact zb _ _ | exact zr _ _ | exact z4 _ _ | exact zt _ _ | exact zT _ _ | exact zk _ _ | exact z0 _ _ | exact b0 _ _ | exact Fa.sh hf | assumption) (by first | exact zs _ _ | exact z5 _ _ | exact z19 _ _ | exact zb _ _ | exact zr _ _ | exact z4 _ _ | exact zt _ _ | exact zT _ _ | exact zk _ _ | exact z0 _ _ | exact b0 _ _ | assumption) ?_
            refine j_iload_n dX0_livesBy_62 rfl ?_
            refine j_aald (t := 29) dX0_livesBy_63 (fun _ => rfl) (by decide) (by first | exact zs _ _ | exact z5 _ _ | exact z19 _ _ | exact zb _ _ | exact zr _ _ | exact z4 _ _ | exact zt _ _ | exact zT _ _ | exact zk _ _ | exact z0 _ _ | exact b0 _ _ | exact Pe.sl hp | exact Pe.sa hp | exact Pe.sl hq | exact Pe.sa hq | exact Pv.sw hR | exact Pv.sp hR | exact Pv.sd hR | exact Fa.s0 hf | exact Fa.s12 hf | exact Fa.s13 hf | exact Fa.s14 hf | exact Fa.s15 hf | exact Fa.s16 hf | exact Fa.s20 hf | exact Fa.s21 hf | exact Fa.s23 hf | assumption) rfl (by omega) (by decide) (by first | exact zs _ _ | exact z5 _ _ | exact z19 _ _ | exact zb _ _ | exact zr _ _ | exact z4 _ _ | exact zt _ _ | exact zT _ _ | exact zk _ _ | exact z0 _ _ | exact b0 _ _ | exact Pv.rw hR (by omega) | exact Pv.rp hR (by omega) | exact Pv.rd hR (by omega) | exact Fa.tr hf (by omega) | assumption) ?_
            first | refine j_astore_n dX0_livesBy_64 (by decide) ?_ | refine j_astore_nN dX0_livesBy_64 (by decide) ?_
            first | refine j_aload_n dX0_livesBy_65 rfl ?_ | refine j_aload_nN dX0_livesBy_65 rfl ?_
            refine j_dup dX0_livesBy_66 rfl ?_
            refine j_getI dX0_livesBy_67 fl_X0_519 rfl (by first | exact zs _ _ | exact z5 _ _ | exact z19 _ _ | exact zb _ _ | exact zr _ _ | exact z4 _ _ | exact zt _ _ | exact zT _ _ | exact zk _ _ | exact z0 _ _ | exact b0 _ _ | exact Fa.sh hf | assumption) (by first | exact zs _ _ | exact z5 _ _ | exact z19 _ _ | exact zb _ _ | exact zr _ _ | exact z4 _ _ | exact zt _ _ | exact zT _ _ | exact zk _ _ | exact z0 _ _ | exact b0 _ _ | assumption) ?_
            refine j_iconst (v := nI 1) dX0_livesBy_70 (by decide +kernel) ?_
            first | (with_reducible refine j_gNN ?_; refine j_iaddN dX0_livesBy_71 ?_) | refine j_iadd dX0_livesBy_71 ?_
            refine j_putI dX0_livesBy_72 fl_X0_519 rfl (by first | exact zs _ _ | exact z5 _ _ | exact z19 _ _ | exact zb _ _ | exact zr _ _ | exact z4 _ _ | exact zt _ _ | exact zT _ _ | exact zk _ _ | exact z0 _ _ | exact b0 _ _ | exact Fa.sh hf | assumption) rfl rfl rfl ?_
            rw [w19, hV1]
            first | refine j_aload_n dX0_livesBy_75 rfl ?_ | refine j_aload_nN dX0_livesBy_75 rfl ?_
            refine j_getI dX0_livesBy_76 fl_X0_485 rfl (by first | exact zs _ _ | exact z5 _ _ | exact z19 _ _ | exact zb _ _ | exact zr _ _ | exact z4 _ _ | exact zt _ _ | exact zT _ _ | exact zk _ _ | exact z0 _ _ | exact b0 _ _ | assumption) (by first | exact zs _ _ | exact z5 _ _ | exact z19 _ _ | exact zb _ _ | exact zr _ _ | exact z4 _ _ | exact zt _ _ | exact zT _ _ | exact zk _ _ | exact z0 _ _ | exact b0 _ _ | assumption) ?_
            refine j_bipush (v := nI 19) dX0_livesBy_79 (by decide +kernel) ?_
            first | (with_reducible refine j_gNN ?_; refine j_icmp_neN (tgt := 85) dX0_livesBy_81 (by decide) (by omega) (by omega) (fun c_81 => ?_) (fun c_81 => ?_)) | refine j_icmp_ne (tgt := 85) dX0_livesBy_81 (by decide) (fun c_81 => ?_) (fun c_81 => ?_)
            · first | refine j_aload_n dX0_livesBy_85 rfl ?_ | refine j_aload_nN dX0_livesBy_85 rfl ?_
              first | refine j_aload_n dX0_livesBy_86 rfl ?_ | refine j_aload_nN dX0_livesBy_86 rfl ?_
              refine j_dV1 kl_X0_522 (hd) dX0_livesBy_87 rfl rfl (by decide) (by first | exact zs _ _ | exact z5 _ _ | exact z19 _ _ | exact zb _ _ | exact zr _ _ | exact z4 _ _ | exact zt _ _ | exact zT _ _ | exact zk _ _ | exact z0 _ _ | exact b0 _ _ | exact Fa.sh hf | assumption) (Nat.le_of_ble_eq_true rfl) (by first | decide | omega) (by omega) (by omega) ?_
              first | (with_reducible refine j_gB ?_; refine j_if_neB (tgt := 103) dX0_livesBy_90 (by decide) (fun c_90 => ?_) (fun c_90 => ?_)) | (with_reducible refine j_gC ?_; refine j_if_neC (tgt := 103) dX0_livesBy_90 (by decide) (fun c_90 => ?_) (fun c_90 => ?_)) | (with_reducible refine j_gN ?_; refine j_if_neN (tgt := 103) dX0_livesBy_90 (by decide) (by omega) (fun c_90 => ?_) (fun c_90 => ?_)) | refine j_if_ne (tgt := 103) dX0_livesBy_90 (by decide) (fun c_90 => ?_) (fun c_90 => ?_)
              · first | refine j_aload_n dX0_livesBy_103 rfl ?_ | refine j_aload_nN dX0_livesBy_103 rfl ?_
                first | refine j_aload_n dX0_livesBy_104 rfl ?_ | refine j_aload_nN dX0_livesBy_104 rfl ?_
                refine j_getI dX0_livesBy_105 fl_X0_485 rfl (by first | exact zs _ _ | exact z5 _ _ | exact z19 _ _ | exact zb _ _ | exact zr _ _ | exact z4 _ _ | exact zt _ _ | exact zT _ _ | exact zk _ _ | exact z0 _ _ | exact b0 _ _ | assumption) (by first | exact zs _ _ | exact z5 _ _ | exact z19 _ _ | exact zb _ _ | exact zr _ _ | exact z4 _ _ | exact zt _ _ | exact zT _ _ | exact zk _ _ | exact z0 _ _ | exact b0 _ _ | assumption) ?_
                refine j_bipush (v := nI 17) dX0_livesBy_108 (by decide +kernel) ?_
                first | (with_reducible refine j_gNN ?_; refine j_icmp_neN (tgt := 130) dX0_livesBy_110 (by decide) (by omega) (by omega) (fun c_110 => ?_) (fun c_110 => ?_)) | refine j_icmp_ne (tgt := 130) dX0_livesBy_110 (by decide) (fun c_110 => ?_) (fun c_110 => ?_)
                · refine j_iload_n dX0_livesBy_130 rfl ?_
                  refine j_iconst (v := nI 1) dX0_livesBy_131 (by decide +kernel) ?_
                  first | (with_reducible refine j_gNN ?_; refine j_iaddN dX0_livesBy_132 ?_) | refine j_iadd dX0_livesBy_132 ?_
                  refine j_dV1 kl_X0_528 (x_be hf hR2 hy hT hb (by omega)) dX0_livesBy_133 rfl rfl (by decide) (by first | exact zs _ _ | exact z5 _ _ | exact z19 _ _ | exact zb _ _ | exact zr _ _ | exact z4 _ _ | exact zt _ _ | exact zT _ _ | exact zk _ _ | exact z0 _ _ | exact b0 _ _ | exact Fa.sh hf | assumption) (Nat.le_of_ble_eq_true rfl) (by first | decide | omega) (by omega) (by omega) ?_
                  refine j_istore_n dX0_livesBy_136 (by decide) ?_
                  refine j_goto (tgt := 32) dX0_livesBy_137 (by decide) ?_
                  exact ih dw iI k1 _
                · exact absurd c_110 (by omega)
              · exact absurd c_90 (by decide)
            · exact absurd c_81 (by omega)
          · exact absurd c_47 h300
      | false =>
        rw [if_neg (by decide)] at hb
        obtain ⟨k1, k2⟩ := bE_out ht20 _ _ _ _ _ hb (by omega)
        have iI : Iz C0 (OC, V') := ⟨dI.1, dI.2.choose, dI.2.choose_spec.1, (k2 37 (by decide)).trans ((up_ne (by decide)).trans dI.2.choose_spec.2)⟩
        rw [bI_f] at hd
        skip
        refine j_iload_n dX0_livesBy_32 rfl ?_
        first | refine j_aload_n dX0_livesBy_33 rfl ?_ | refine j_aload_nN dX0_livesBy_33 rfl ?_
        refine j_getI dX0_livesBy_34 fl_X0_200 rfl (by first | exact zs _ _ | exact z5 _ _ | exact z19 _ _ | exact zb _ _ | exact zr _ _ | exact z4 _ _ | exact zt _ _ | exact zT _ _ | exact zk _ _ | exact z0 _ _ | exact b0 _ _ | exact Fa.sh hf | assumption) (by first | exact zs _ _ | exact z5 _ _ | exact z19 _ _ | exact zb _ _ | exact zr _ _ | exact z4 _ _ | exact zt _ _ | exact zT _ _ | exact zk _ _ | exact z0 _ _ | exact b0 _ _ | assumption) ?_
        first | (with_reducible refine j_gNN ?_; refine j_icmp_geN (tgt := 140) dX0_livesBy_37 (by decide) (by omega) (by omega) (fun c_37 => ?_) (fun c_37 => ?_)) | refine j_icmp_ge (tgt := 140) dX0_livesBy_37 (by decide) (fun c_37 => ?_) (fun c_37 => ?_)
        · exact absurd c_37 (by omega)
        · first | refine j_aload_n dX0_livesBy_40 rfl ?_ | refine j_aload_nN dX0_livesBy_40 rfl ?_
          refine j_getI dX0_livesBy_41 fl_X0_519 rfl (by first | exact zs _ _ | exact z5 _ _ | exact z19 _ _ | exact zb _ _ | exact zr _ _ | exact z4 _ _ | exact zt _ _ | exact zT _ _ | exact zk _ _ | exact z0 _ _ | exact b0 _ _ | exact Fa.sh hf | assumption) (by first | exact zs _ _ | exact z5 _ _ | exact z19 _ _ | exact zb _ _ | exact zr _ _ | exact z4 _ _ | exact zt _ _ | exact zT _ _ | exact zk _ _ | exact z0 _ _ | exact b0 _ _ | assumption) ?_
          refine j_sipush (v := nI 300) dX0_livesBy_44 (by decide +kernel) ?_
          first | (with_reducible refine j_gNN ?_; refine j_icmp_neN (tgt := 58) dX0_livesBy_47 (by decide) (by omega) (by omega) (fun c_47 => ?_) (fun c_47 => ?_)) | refine j_icmp_ne (tgt := 58) dX0_livesBy_47 (by decide) (fun c_47 => ?_) (fun c_47 => ?_)
          · first | refine j_aload_n dX0_livesBy_58 rfl ?_ | refine j_aload_nN dX0_livesBy_58 rfl ?_
            refine j_getR dX0_livesBy_59 fl_X0_196 rfl (by first | exact zs _ _ | exact z5 _ _ | exact z19 _ _ | exact zb _ _ | exact zr _ _ | exact z4 _ _ | exact zt _ _ | exact zT _ _ | exact zk _ _ | exact z0 _ _ | exact b0 _ _ | exact Fa.sh hf | assumption) (by first | exact zs _ _ | exact z5 _ _ | exact z19 _ _ | exact zb _ _ | exact zr _ _ | exact z4 _ _ | exact zt _ _ | exact zT _ _ | exact zk _ _ | exact z0 _ _ | exact b0 _ _ | assumption) ?_
            refine j_iload_n dX0_livesBy_62 rfl ?_
            refine j_aald (t := 29) dX0_livesBy_63 (fun _ => rfl) (by decide) (by first | exact zs _ _ | exact z5 _ _ | exact z19 _ _ | exact zb _ _ | exact zr _ _ | exact z4 _ _ | exact zt _ _ | exact zT _ _ | exact zk _ _ | exact z0 _ _ | exact b0 _ _ | exact Pe.sl hp | exact Pe.sa hp | exact Pe.sl hq | exact Pe.sa hq | exact Pv.sw hR | exact Pv.sp hR | exact Pv.sd hR | exact Fa.s0 hf | exact Fa.s12 hf | exact Fa.s13 hf | exact Fa.s14 hf | exact Fa.s15 hf | exact Fa.s16 hf | exact Fa.s20 hf | exact Fa.s21 hf | exact Fa.s23 hf | assumption) rfl (by omega) (by decide) (by first | exact zs _ _ | exact z5 _ _ | exact z19 _ _ | exact zb _ _ | exact zr _ _ | exact z4 _ _ | exact zt _ _ | exact zT _ _ | exact zk _ _ | exact z0 _ _ | exact b0 _ _ | exact Pv.rw hR (by omega) | exact Pv.rp hR (by omega) | exact Pv.rd hR (by omega) | exact Fa.tr hf (by omega) | assumption) ?_
            first | refine j_astore_n dX0_livesBy_64 (by decide) ?_ | refine j_astore_nN dX0_livesBy_64 (by decide) ?_
            first | refine j_aload_n dX0_livesBy_65 rfl ?_ | refine j_aload_nN dX0_livesBy_65 rfl ?_
            refine j_dup dX0_livesBy_66 rfl ?_
            refine j_getI dX0_livesBy_67 fl_X0_519 rfl (by first | exact zs _ _ | exact z5 _ _ | exact z19 _ _ | exact zb _ _ | exact zr _ _ | exact z4 _ _ | exact zt _ _ | exact zT _ _ | exact zk _ _ | exact z0 _ _ | exact b0 _ _ | exact Fa.sh hf | assumption) (by first | exact zs _ _ | exact z5 _ _ | exact z19 _ _ | exact zb _ _ | exact zr _ _ | exact z4 _ _ | exact zt _ _ | exact zT _ _ | exact zk _ _ | exact z0 _ _ | exact b0 _ _ | assumption) ?_
            refine j_iconst (v := nI 1) dX0_livesBy_70 (by decide +kernel) ?_
            first | (with_reducible refine j_gNN ?_; refine j_iaddN dX0_livesBy_71 ?_) | refine j_iadd dX0_livesBy_71 ?_
            refine j_putI dX0_livesBy_72 fl_X0_519 rfl (by first | exact zs _ _ | exact z5 _ _ | exact z19 _ _ | exact zb _ _ | exact zr _ _ | exact z4 _ _ | exact zt _ _ | exact zT _ _ | exact zk _ _ | exact z0 _ _ | exact b0 _ _ | exact Fa.sh hf | assumption) rfl rfl rfl ?_
            rw [w19, hV1]
            first | refine j_aload_n dX0_livesBy_75 rfl ?_ | refine j_aload_nN dX0_livesBy_75 rfl ?_
            refine j_getI dX0_livesBy_76 fl_X0_485 rfl (by first | exact zs _ _ | exact z5 _ _ | exact z19 _ _ | exact zb _ _ | exact zr _ _ | exact z4 _ _ | exact zt _ _ | exact zT _ _ | exact zk _ _ | exact z0 _ _ | exact b0 _ _ | assumption) (by first | exact zs _ _ | exact z5 _ _ | exact z19 _ _ | exact zb _ _ | exact zr _ _ | exact z4 _ _ | exact zt _ _ | exact zT _ _ | exact zk _ _ | exact z0 _ _ | exact b0 _ _ | assumption) ?_
            refine j_bipush (v := nI 19) dX0_livesBy_79 (by decide +kernel) ?_
            first | (with_reducible refine j_gNN ?_; refine j_icmp_neN (tgt := 85) dX0_livesBy_81 (by decide) (by omega) (by omega) (fun c_81 => ?_) (fun c_81 => ?_)) | refine j_icmp_ne (tgt := 85) dX0_livesBy_81 (by decide) (fun c_81 => ?_) (fun c_81 => ?_)
            · first | refine j_aload_n dX0_livesBy_85 rfl ?_ | refine j_aload_nN dX0_livesBy_85 rfl ?_
              first | refine j_aload_n dX0_livesBy_86 rfl ?_ | refine j_aload_nN dX0_livesBy_86 rfl ?_
              refine j_dV1 kl_X0_522 (hd) dX0_livesBy_87 rfl rfl (by decide) (by first | exact zs _ _ | exact z5 _ _ | exact z19 _ _ | exact zb _ _ | exact zr _ _ | exact z4 _ _ | exact zt _ _ | exact zT _ _ | exact zk _ _ | exact z0 _ _ | exact b0 _ _ | exact Fa.sh hf | assumption) (Nat.le_of_ble_eq_true rfl) (by first | decide | omega) (by omega) (by omega) ?_
              first | (with_reducible refine j_gB ?_; refine j_if_neB (tgt := 103) dX0_livesBy_90 (by decide) (fun c_90 => ?_) (fun c_90 => ?_)) | (with_reducible refine j_gC ?_; refine j_if_neC (tgt := 103) dX0_livesBy_90 (by decide) (fun c_90 => ?_) (fun c_90 => ?_)) | (with_reducible refine j_gN ?_; refine j_if_neN (tgt := 103) dX0_livesBy_90 (by decide) (by omega) (fun c_90 => ?_) (fun c_90 => ?_)) | refine j_if_ne (tgt := 103) dX0_livesBy_90 (by decide) (fun c_90 => ?_) (fun c_90 => ?_)
              · exact absurd rfl c_90
              · first | refine j_aload_n dX0_livesBy_93 rfl ?_ | refine j_aload_nN dX0_livesBy_93 rfl ?_
                refine j_getR dX0_livesBy_94 fl_X0_76 rfl (by first | exact zs _ _ | exact z5 _ _ | exact z19 _ _ | exact zb _ _ | exact zr _ _ | exact z4 _ _ | exact zt _ _ | exact zT _ _ | exact zk _ _ | exact z0 _ _ | exact b0 _ _ | exact Fa.sh hf | assumption) (by first | exact zs _ _ | exact z5 _ _ | exact z19 _ _ | exact zb _ _ | exact zr _ _ | exact z4 _ _ | exact zt _ _ | exact zT _ _ | exact zk _ _ | exact z0 _ _ | exact b0 _ _ | exact Fa.f20 hf | assumption) ?_
                refine j_iconst (v := nI 0) dX0_livesBy_97 (by decide +kernel) ?_
                refine j_dup2 dX0_livesBy_98 rfl rfl ?_
                refine j_iald dX0_livesBy_99 (by first | exact zs _ _ | exact z5 _ _ | exact z19 _ _ | exact zb _ _ | exact zr _ _ | exact z4 _ _ | exact zt _ _ | exact zT _ _ | exact zk _ _ | exact z0 _ _ | exact b0 _ _ | exact Pe.sl hp | exact Pe.sa hp | exact Pe.sl hq | exact Pe.sa hq | exact Pv.sw hR | exact Pv.sp hR | exact Pv.sd hR | exact Fa.s0 hf | exact Fa.s12 hf | exact Fa.s13 hf | exact Fa.s14 hf | exact Fa.s15 hf | exact Fa.s16 hf | exact Fa.s20 hf | exact Fa.s21 hf | exact Fa.s23 hf | assumption) rfl (by omega) (by decide) (by first | exact zs _ _ | exact z5 _ _ | exact z19 _ _ | exact zb _ _ | exact zr _ _ | exact z4 _ _ | exact zt _ _ | exact zT _ _ | exact zk _ _ | exact z0 _ _ | exact b0 _ _ | exact pg (Pe.ll hp (by omega)) | exact pg (Pe.lg hp (by omega)) | exact pg (Pe.ll hq (by omega)) | exact pg (Pe.lg hq (by omega)) | assumption) ?_
                refine j_iconst (v := nI 1) dX0_livesBy_100 (by decide +kernel) ?_
                first | (with_reducible refine j_gNN ?_; refine j_iaddN dX0_livesBy_101 ?_) | refine j_iadd dX0_livesBy_101 ?_
                refine j_iast dX0_livesBy_102 (by first | exact zs _ _ | exact z5 _ _ | exact z19 _ _ | exact zb _ _ | exact zr _ _ | exact z4 _ _ | exact zt _ _ | exact zT _ _ | exact zk _ _ | exact z0 _ _ | exact b0 _ _ | exact Pe.sl hp | exact Pe.sa hp | exact Pe.sl hq | exact Pe.sa hq | exact Pv.sw hR | exact Pv.sp hR | exact Pv.sd hR | exact Fa.s0 hf | exact Fa.s12 hf | exact Fa.s13 hf | exact Fa.s14 hf | exact Fa.s15 hf | exact Fa.s16 hf | exact Fa.s20 hf | exact Fa.s21 hf | exact Fa.s23 hf | assumption) rfl (by omega) (by decide) ?_
                first | refine j_sg (put_w hL (Pe.ll hp (by omega))) ?_ | refine j_sg (put_w hL (Pe.ll hq (by omega))) ?_ | refine j_sg (put_w hL (Pe.lg hp (by omega))) ?_ | refine j_sg (put_w hL (Pe.lg hq (by omega))) ?_ | skip
                rw [hwb _ _ 0 _ (by decide)]
                first | refine j_aload_n dX0_livesBy_103 rfl ?_ | refine j_aload_nN dX0_livesBy_103 rfl ?_
                first | refine j_aload_n dX0_livesBy_104 rfl ?_ | refine j_aload_nN dX0_livesBy_104 rfl ?_
                refine j_getI dX0_livesBy_105 fl_X0_485 rfl (by first | exact zs _ _ | exact z5 _ _ | exact z19 _ _ | exact zb _ _ | exact zr _ _ | exact z4 _ _ | exact zt _ _ | exact zT _ _ | exact zk _ _ | exact z0 _ _ | exact b0 _ _ | assumption) (by first | exact zs _ _ | exact z5 _ _ | exact z19 _ _ | exact zb _ _ | exact zr _ _ | exact z4 _ _ | exact zt _ _ | exact zT _ _ | exact zk _ _ | exact z0 _ _ | exact b0 _ _ | assumption) ?_
                refine j_bipush (v := nI 17) dX0_livesBy_108 (by decide +kernel) ?_
                first | (with_reducible refine j_gNN ?_; refine j_icmp_neN (tgt := 130) dX0_livesBy_110 (by decide) (by omega) (by omega) (fun c_110 => ?_) (fun c_110 => ?_)) | refine j_icmp_ne (tgt := 130) dX0_livesBy_110 (by decide) (fun c_110 => ?_) (fun c_110 => ?_)
                · refine j_iload_n dX0_livesBy_130 rfl ?_
                  refine j_iconst (v := nI 1) dX0_livesBy_131 (by decide +kernel) ?_
                  first | (with_reducible refine j_gNN ?_; refine j_iaddN dX0_livesBy_132 ?_) | refine j_iadd dX0_livesBy_132 ?_
                  refine j_dV1 kl_X0_528 (x_be hf hR2 hy hT hb (by omega)) dX0_livesBy_133 rfl rfl (by decide) (by first | exact zs _ _ | exact z5 _ _ | exact z19 _ _ | exact zb _ _ | exact zr _ _ | exact z4 _ _ | exact zt _ _ | exact zT _ _ | exact zk _ _ | exact z0 _ _ | exact b0 _ _ | exact Fa.sh hf | assumption) (Nat.le_of_ble_eq_true rfl) (by first | decide | omega) (by omega) (by omega) ?_
                  refine j_istore_n dX0_livesBy_136 (by decide) ?_
                  refine j_goto (tgt := 32) dX0_livesBy_137 (by decide) ?_
                  exact ih dw iI k1 _
                · exact absurd c_110 (by omega)
            · exact absurd c_81 (by omega)
          · exact absurd c_47 h300
    · by_cases k18 : kf k = 17
      · obtain ⟨z6', ztn⟩ := a6 (Or.inr k18)
        have z6 : ∀ U D, (put (yx σ hx B sx U) L D).2.1 (T k) 6 = nI (tf k) := fun U D => (rd U D (T k) 6 a2 (by decide)).trans z6'
        have e : xStp W P Dn kf tf wf k (C, V1) = ((C, V1), if yHolds W (177 + 9 * wf k) C then k + 1 else tf k + 1) := by
          unfold xStp
          rw [if_neg k17, if_pos k18]
        rw [e] at hb ih
        dsimp only at hb ih
        have e5 : kf k - 12 = 5 := by omega
        rw [e5] at b3
        have hd := x_stepWhen (g := g) (l := l) (V := V1) (L := L) (A := A) (W := W) (P := P) (Dn := Dn) (Hn := Hn) (sx := sx) hf hR1 b3
        have hh := x_holds (g := g) (l := l) (V := V1) hf hg hR1 hw hy b4 b3
        generalize yHolds W (177 + 9 * wf k) C = bh at *
        cases bh with
        | true =>
          rw [if_pos rfl] at hb
          obtain ⟨k1, k2⟩ := bE_out ht20 _ _ _ _ _ hb (by omega)
          have iI : Iz C0 (C, V') := ⟨hFr, r, hr2, (k2 37 (by decide)).trans r1⟩
          rw [bI_t] at hh
          skip
          refine j_iload_n dX0_livesBy_32 rfl ?_
          first | refine j_aload_n dX0_livesBy_33 rfl ?_ | refine j_aload_nN dX0_livesBy_33 rfl ?_
          refine j_getI dX0_livesBy_34 fl_X0_200 rfl (by first | exact zs _ _ | exact z5 _ _ | exact z19 _ _ | exact zb _ _ | exact zr _ _ | exact z4 _ _ | exact zt _ _ | exact zT _ _ | exact zk _ _ | exact z0 _ _ | exact b0 _ _ | exact z6 _ _ | exact Fa.sh hf | assumption) (by first | exact zs _ _ | exact z5 _ _ | exact z19 _ _ | exact zb _ _ | exact zr _ _ | exact z4 _ _ | exact zt _ _ | exact zT _ _ | exact zk _ _ | exact z0 _ _ | exact b0 _ _ | exact z6 _ _ | assumption) ?_
          first | (with_reducible refine j_gNN ?_; refine j_icmp_geN (tgt := 140) dX0_livesBy_37 (by decide) (by omega) (by omega) (fun c_37 => ?_) (fun c_37 => ?_)) | refine j_icmp_ge (tgt := 140) dX0_livesBy_37 (by decide) (fun c_37 => ?_) (fun c_37 => ?_)
          · exact absurd c_37 (by omega)
          · first | refine j_aload_n dX0_livesBy_40 rfl ?_ | refine j_aload_nN dX0_livesBy_40 rfl ?_
            refine j_getI dX0_livesBy_41 fl_X0_519 rfl (by first | exact zs _ _ | exact z5 _ _ | exact z19 _ _ | exact zb _ _ | exact zr _ _ | exact z4 _ _ | exact zt _ _ | exact zT _ _ | exact zk _ _ | exact z0 _ _ | exact b0 _ _ | exact z6 _ _ | exact Fa.sh hf | assumption) (by first | exact zs _ _ | exact z5 _ _ | exact z19 _ _ | exact zb _ _ | exact zr _ _ | exact z4 _ _ | exact zt _ _ | exact zT _ _ | exact zk _ _ | exact z0 _ _ | exact b0 _ _ | exact z6 _ _ | assumption) ?_
            refine j_sipush (v := nI 300) dX0_livesBy_44 (by decide +kernel) ?_
            first | (with_reducible refine j_gNN ?_; refine j_icmp_neN (tgt := 58) dX0_livesBy_47 (by decide) (by omega) (by omega) (fun c_47 => ?_) (fun c_47 => ?_)) | refine j_icmp_ne (tgt := 58) dX0_livesBy_47 (by decide) (fun c_47 => ?_) (fun c_47 => ?_)
            · first | refine j_aload_n dX0_livesBy_58 rfl ?_ | refine j_aload_nN dX0_livesBy_58 rfl ?_
              refine j_getR dX0_livesBy_59 fl_X0_196 rfl (by first | exact zs _ _ | exact z5 _ _ | exact z19 _ _ | exact zb _ _ | exact zr _ _ | exact z4 _ _ | exact zt _ _ | exact zT _ _ | exact zk _ _ | exact z0 _ _ | exact b0 _ _ | exact z6 _ _ | exact Fa.sh hf | assumption) (by first | exact zs _ _ | exact z5 _ _ | exact z19 _ _ | exact zb _ _ | exact zr _ _ | exact z4 _ _ | exact zt _ _ | exact zT _ _ | exact zk _ _ | exact z0 _ _ | exact b0 _ _ | exact z6 _ _ | assumption) ?_
              refine j_iload_n dX0_livesBy_62 rfl ?_
              refine j_aald (t := 29) dX0_livesBy_63 (fun _ => rfl) (by decide) (by first | exact zs _ _ | exact z5 _ _ | exact z19 _ _ | exact zb _ _ | exact zr _ _ | exact z4 _ _ | exact zt _ _ | exact zT _ _ | exact zk _ _ | exact z0 _ _ | exact b0 _ _ | exact z6 _ _ | exact Pe.sl hp | exact Pe.sa hp | exact Pe.sl hq | exact Pe.sa hq | exact Pv.sw hR | exact Pv.sp hR | exact Pv.sd hR | exact Fa.s0 hf | exact Fa.s12 hf | exact Fa.s13 hf | exact Fa.s14 hf | exact Fa.s15 hf | exact Fa.s16 hf | exact Fa.s20 hf | exact Fa.s21 hf | exact Fa.s23 hf | assumption) rfl (by omega) (by decide) (by first | exact zs _ _ | exact z5 _ _ | exact z19 _ _ | exact zb _ _ | exact zr _ _ | exact z4 _ _ | exact zt _ _ | exact zT _ _ | exact zk _ _ | exact z0 _ _ | exact b0 _ _ | exact z6 _ _ | exact Pv.rw hR (by omega) | exact Pv.rp hR (by omega) | exact Pv.rd hR (by omega) | exact Fa.tr hf (by omega) | assumption) ?_
              first | refine j_astore_n dX0_livesBy_64 (by decide) ?_ | refine j_astore_nN dX0_livesBy_64 (by decide) ?_
              first | refine j_aload_n dX0_livesBy_65 rfl ?_ | refine j_aload_nN dX0_livesBy_65 rfl ?_
              refine j_dup dX0_livesBy_66 rfl ?_
              refine j_getI dX0_livesBy_67 fl_X0_519 rfl (by first | exact zs _ _ | exact z5 _ _ | exact z19 _ _ | exact zb _ _ | exact zr _ _ | exact z4 _ _ | exact zt _ _ | exact zT _ _ | exact zk _ _ | exact z0 _ _ | exact b0 _ _ | exact z6 _ _ | exact Fa.sh hf | assumption) (by first | exact zs _ _ | exact z5 _ _ | exact z19 _ _ | exact zb _ _ | exact zr _ _ | exact z4 _ _ | exact zt _ _ | exact zT _ _ | exact zk _ _ | exact z0 _ _ | exact b0 _ _ | exact z6 _ _ | assumption) ?_
              refine j_iconst (v := nI 1) dX0_livesBy_70 (by decide +kernel) ?_
              first | (with_reducible refine j_gNN ?_; refine j_iaddN dX0_livesBy_71 ?_) | refine j_iadd dX0_livesBy_71 ?_
              refine j_putI dX0_livesBy_72 fl_X0_519 rfl (by first | exact zs _ _ | exact z5 _ _ | exact z19 _ _ | exact zb _ _ | exact zr _ _ | exact z4 _ _ | exact zt _ _ | exact zT _ _ | exact zk _ _ | exact z0 _ _ | exact b0 _ _ | exact z6 _ _ | exact Fa.sh hf | assumption) rfl rfl rfl ?_
              rw [w19, hV1]
              first | refine j_aload_n dX0_livesBy_75 rfl ?_ | refine j_aload_nN dX0_livesBy_75 rfl ?_
              refine j_getI dX0_livesBy_76 fl_X0_485 rfl (by first | exact zs _ _ | exact z5 _ _ | exact z19 _ _ | exact zb _ _ | exact zr _ _ | exact z4 _ _ | exact zt _ _ | exact zT _ _ | exact zk _ _ | exact z0 _ _ | exact b0 _ _ | exact z6 _ _ | assumption) (by first | exact zs _ _ | exact z5 _ _ | exact z19 _ _ | exact zb _ _ | exact zr _ _ | exact z4 _ _ | exact zt _ _ | exact zT _ _ | exact zk _ _ | exact z0 _ _ | exact b0 _ _ | exact z6 _ _ | assumption) ?_
              refine j_bipush (v := nI 19) dX0_livesBy_79 (by decide +kernel) ?_
              first | (with_reducible refine j_gNN ?_; refine j_icmp_neN (tgt := 85) dX0_livesBy_81 (by decide) (by omega) (by omega) (fun c_81 => ?_) (fun c_81 => ?_)) | refine j_icmp_ne (tgt := 85) dX0_livesBy_81 (by decide) (fun c_81 => ?_) (fun c_81 => ?_)
              · first | refine j_aload_n dX0_livesBy_85 rfl ?_ | refine j_aload_nN dX0_livesBy_85 rfl ?_
                first | refine j_aload_n dX0_livesBy_86 rfl ?_ | refine j_aload_nN dX0_livesBy_86 rfl ?_
                refine j_dV1 kl_X0_522 (hd) dX0_livesBy_87 rfl rfl (by decide) (by first | exact zs _ _ | exact z5 _ _ | exact z19 _ _ | exact zb _ _ | exact zr _ _ | exact z4 _ _ | exact zt _ _ | exact zT _ _ | exact zk _ _ | exact z0 _ _ | exact b0 _ _ | exact z6 _ _ | exact Fa.sh hf | assumption) (Nat.le_of_ble_eq_true rfl) (by first | decide | omega) (by omega) (by omega) ?_
                first | (with_reducible refine j_gB ?_; refine j_if_neB (tgt := 103) dX0_livesBy_90 (by decide) (fun c_90 => ?_) (fun c_90 => ?_)) | (with_reducible refine j_gC ?_; refine j_if_neC (tgt := 103) dX0_livesBy_90 (by decide) (fun c_90 => ?_) (fun c_90 => ?_)) | (with_reducible refine j_gN ?_; refine j_if_neN (tgt := 103) dX0_livesBy_90 (by decide) (by omega) (fun c_90 => ?_) (fun c_90 => ?_)) | refine j_if_ne (tgt := 103) dX0_livesBy_90 (by decide) (fun c_90 => ?_) (fun c_90 => ?_)
                · first | refine j_aload_n dX0_livesBy_103 rfl ?_ | refine j_aload_nN dX0_livesBy_103 rfl ?_
                  first | refine j_aload_n dX0_livesBy_104 rfl ?_ | refine j_aload_nN dX0_livesBy_104 rfl ?_
                  refine j_getI dX0_livesBy_105 fl_X0_485 rfl (by first | exact zs _ _ | exact z5 _ _ | exact z19 _ _ | exact zb _ _ | exact zr _ _ | exact z4 _ _ | exact zt _ _ | exact zT _ _ | exact zk _ _ | exact z0 _ _ | exact b0 _ _ | exact z6 _ _ | assumption) (by first | exact zs _ _ | exact z5 _ _ | exact z19 _ _ | exact zb _ _ | exact zr _ _ | exact z4 _ _ | exact zt _ _ | exact zT _ _ | exact zk _ _ | exact z0 _ _ | exact b0 _ _ | exact z6 _ _ | assumption) ?_
                  refine j_bipush (v := nI 17) dX0_livesBy_108 (by decide +kernel) ?_
                  first | (with_reducible refine j_gNN ?_; refine j_icmp_neN (tgt := 130) dX0_livesBy_110 (by decide) (by omega) (by omega) (fun c_110 => ?_) (fun c_110 => ?_)) | refine j_icmp_ne (tgt := 130) dX0_livesBy_110 (by decide) (fun c_110 => ?_) (fun c_110 => ?_)
                  · exact absurd k18 c_110
                  · first | refine j_aload_n dX0_livesBy_113 rfl ?_ | refine j_aload_nN dX0_livesBy_113 rfl ?_
                    first | refine j_aload_n dX0_livesBy_114 rfl ?_ | refine j_aload_nN dX0_livesBy_114 rfl ?_
                    refine j_dV1 kl_X0_525 (hh) dX0_livesBy_115 rfl rfl (by decide) (by first | exact zs _ _ | exact z5 _ _ | exact z19 _ _ | exact zb _ _ | exact zr _ _ | exact z4 _ _ | exact zt _ _ | exact zT _ _ | exact zk _ _ | exact z0 _ _ | exact b0 _ _ | exact z6 _ _ | exact Fa.sh hf | assumption) (Nat.le_of_ble_eq_true rfl) (by first | decide | omega) (by omega) (by omega) ?_
                    first | (with_reducible refine j_gB ?_; refine j_if_neB (tgt := 130) dX0_livesBy_118 (by decide) (fun c_118 => ?_) (fun c_118 => ?_)) | (with_reducible refine j_gC ?_; refine j_if_neC (tgt := 130) dX0_livesBy_118 (by decide) (fun c_118 => ?_) (fun c_118 => ?_)) | (with_reducible refine j_gN ?_; refine j_if_neN (tgt := 130) dX0_livesBy_118 (by decide) (by omega) (fun c_118 => ?_) (fun c_118 => ?_)) | refine j_if_ne (tgt := 130) dX0_livesBy_118 (by decide) (fun c_118 => ?_) (fun c_118 => ?_)
                    · refine j_iload_n dX0_livesBy_130 rfl ?_
                      refine j_iconst (v := nI 1) dX0_livesBy_131 (by decide +kernel) ?_
                      first | (with_reducible refine j_gNN ?_; refine j_iaddN dX0_livesBy_132 ?_) | refine j_iadd dX0_livesBy_132 ?_
                      refine j_dV1 kl_X0_528 (x_be hf hR1 hy hT hb (by omega)) dX0_livesBy_133 rfl rfl (by decide) (by first | exact zs _ _ | exact z5 _ _ | exact z19 _ _ | exact zb _ _ | exact zr _ _ | exact z4 _ _ | exact zt _ _ | exact zT _ _ | exact zk _ _ | exact z0 _ _ | exact b0 _ _ | exact z6 _ _ | exact Fa.sh hf | assumption) (Nat.le_of_ble_eq_true rfl) (by first | decide | omega) (by omega) (by omega) ?_
                      refine j_istore_n dX0_livesBy_136 (by decide) ?_
                      refine j_goto (tgt := 32) dX0_livesBy_137 (by decide) ?_
                      exact ih hw iI k1 _
                    · exact absurd c_118 (by decide)
                · exact absurd c_90 (by decide)
              · exact absurd c_81 (by omega)
            · exact absurd c_47 h300
        | false =>
          rw [if_neg (by decide)] at hb
          obtain ⟨k1, k2⟩ := bE_out ht20 _ _ _ _ _ hb (by omega)
          have iI : Iz C0 (C, V') := ⟨hFr, r, hr2, (k2 37 (by decide)).trans r1⟩
          rw [bI_f] at hh
          skip
          refine j_iload_n dX0_livesBy_32 rfl ?_
          first | refine j_aload_n dX0_livesBy_33 rfl ?_ | refine j_aload_nN dX0_livesBy_33 rfl ?_
          refine j_getI dX0_livesBy_34 fl_X0_200 rfl (by first | exact zs _ _ | exact z5 _ _ | exact z19 _ _ | exact zb _ _ | exact zr _ _ | exact z4 _ _ | exact zt _ _ | exact zT _ _ | exact zk _ _ | exact z0 _ _ | exact b0 _ _ | exact z6 _ _ | exact Fa.sh hf | assumption) (by first | exact zs _ _ | exact z5 _ _ | exact z19 _ _ | exact zb _ _ | exact zr _ _ | exact z4 _ _ | exact zt _ _ | exact zT _ _ | exact zk _ _ | exact z0 _ _ | exact b0 _ _ | exact z6 _ _ | assumption) ?_
          first | (with_reducible refine j_gNN ?_; refine j_icmp_geN (tgt := 140) dX0_livesBy_37 (by decide) (by omega) (by omega) (fun c_37 => ?_) (fun c_37 => ?_)) | refine j_icmp_ge (tgt := 140) dX0_livesBy_37 (by decide) (fun c_37 => ?_) (fun c_37 => ?_)
          · exact absurd c_37 (by omega)
          · first | refine j_aload_n dX0_livesBy_40 rfl ?_ | refine j_aload_nN dX0_livesBy_40 rfl ?_
            refine j_getI dX0_livesBy_41 fl_X0_519 rfl (by first | exact zs _ _ | exact z5 _ _ | exact z19 _ _ | exact zb _ _ | exact zr _ _ | exact z4 _ _ | exact zt _ _ | exact zT _ _ | exact zk _ _ | exact z0 _ _ | exact b0 _ _ | exact z6 _ _ | exact Fa.sh hf | assumption) (by first | exact zs _ _ | exact z5 _ _ | exact z19 _ _ | exact zb _ _ | exact zr _ _ | exact z4 _ _ | exact zt _ _ | exact zT _ _ | exact zk _ _ | exact z0 _ _ | exact b0 _ _ | exact z6 _ _ | assumption) ?_
            refine j_sipush (v := nI 300) dX0_livesBy_44 (by decide +kernel) ?_
            first | (with_reducible refine j_gNN ?_; refine j_icmp_neN (tgt := 58) dX0_livesBy_47 (by decide) (by omega) (by omega) (fun c_47 => ?_) (fun c_47 => ?_)) | refine j_icmp_ne (tgt := 58) dX0_livesBy_47 (by decide) (fun c_47 => ?_) (fun c_47 => ?_)
            · first | refine j_aload_n dX0_livesBy_58 rfl ?_ | refine j_aload_nN dX0_livesBy_58 rfl ?_
              refine j_getR dX0_livesBy_59 fl_X0_196 rfl (by first | exact zs _ _ | exact z5 _ _ | exact z19 _ _ | exact zb _ _ | exact zr _ _ | exact z4 _ _ | exact zt _ _ | exact zT _ _ | exact zk _ _ | exact z0 _ _ | exact b0 _ _ | exact z6 _ _ | exact Fa.sh hf | assumption) (by first | exact zs _ _ | exact z5 _ _ | exact z19 _ _ | exact zb _ _ | exact zr _ _ | exact z4 _ _ | exact zt _ _ | exact zT _ _ | exact zk _ _ | exact z0 _ _ | exact b0 _ _ | exact z6 _ _ | assumption) ?_
              refine j_iload_n dX0_livesBy_62 rfl ?_
              refine j_aald (t := 29) dX0_livesBy_63 (fun _ => rfl) (by decide) (by first | exact zs _ _ | exact z5 _ _ | exact z19 _ _ | exact zb _ _ | exact zr _ _ | exact z4 _ _ | exact zt _ _ | exact zT _ _ | exact zk _ _ | exact z0 _ _ | exact b0 _ _ | exact z6 _ _ | exact Pe.sl hp | exact Pe.sa hp | exact Pe.sl hq | exact Pe.sa hq | exact Pv.sw hR | exact Pv.sp hR | exact Pv.sd hR | exact Fa.s0 hf | exact Fa.s12 hf | exact Fa.s13 hf | exact Fa.s14 hf | exact Fa.s15 hf | exact Fa.s16 hf | exact Fa.s20 hf | exact Fa.s21 hf | exact Fa.s23 hf | assumption) rfl (by omega) (by decide) (by first | exact zs _ _ | exact z5 _ _ | exact z19 _ _ | exact zb _ _ | exact zr _ _ | exact z4 _ _ | exact zt _ _ | exact zT _ _ | exact zk _ _ | exact z0 _ _ | exact b0 _ _ | exact z6 _ _ | exact Pv.rw hR (by omega) | exact Pv.rp hR (by omega) | exact Pv.rd hR (by omega) | exact Fa.tr hf (by omega) | assumption) ?_
              first | refine j_astore_n dX0_livesBy_64 (by decide) ?_ | refine j_astore_nN dX0_livesBy_64 (by decide) ?_
              first | refine j_aload_n dX0_livesBy_65 rfl ?_ | refine j_aload_nN dX0_livesBy_65 rfl ?_
              refine j_dup dX0_livesBy_66 rfl ?_
              refine j_getI dX0_livesBy_67 fl_X0_519 rfl (by first | exact zs _ _ | exact z5 _ _ | exact z19 _ _ | exact zb _ _ | exact zr _ _ | exact z4 _ _ | exact zt _ _ | exact zT _ _ | exact zk _ _ | exact z0 _ _ | exact b0 _ _ | exact z6 _ _ | exact Fa.sh hf | assumption) (by first | exact zs _ _ | exact z5 _ _ | exact z19 _ _ | exact zb _ _ | exact zr _ _ | exact z4 _ _ | exact zt _ _ | exact zT _ _ | exact zk _ _ | exact z0 _ _ | exact b0 _ _ | exact z6 _ _ | assumption) ?_
              refine j_iconst (v := nI 1) dX0_livesBy_70 (by decide +kernel) ?_
              first | (with_reducible refine j_gNN ?_; refine j_iaddN dX0_livesBy_71 ?_) | refine j_iadd dX0_livesBy_71 ?_
              refine j_putI dX0_livesBy_72 fl_X0_519 rfl (by first | exact zs _ _ | exact z5 _ _ | exact z19 _ _ | exact zb _ _ | exact zr _ _ | exact z4 _ _ | exact zt _ _ | exact zT _ _ | exact zk _ _ | exact z0 _ _ | exact b0 _ _ | exact z6 _ _ | exact Fa.sh hf | assumption) rfl rfl rfl ?_
              rw [w19, hV1]
              first | refine j_aload_n dX0_livesBy_75 rfl ?_ | refine j_aload_nN dX0_livesBy_75 rfl ?_
              refine j_getI dX0_livesBy_76 fl_X0_485 rfl (by first | exact zs _ _ | exact z5 _ _ | exact z19 _ _ | exact zb _ _ | exact zr _ _ | exact z4 _ _ | exact zt _ _ | exact zT _ _ | exact zk _ _ | exact z0 _ _ | exact b0 _ _ | exact z6 _ _ | assumption) (by first | exact zs _ _ | exact z5 _ _ | exact z19 _ _ | exact zb _ _ | exact zr _ _ | exact z4 _ _ | exact zt _ _ | exact zT _ _ | exact zk _ _ | exact z0 _ _ | exact b0 _ _ | exact z6 _ _ | assumption) ?_
              refine j_bipush (v := nI 19) dX0_livesBy_79 (by decide +kernel) ?_
              first | (with_reducible refine j_gNN ?_; refine j_icmp_neN (tgt := 85) dX0_livesBy_81 (by decide) (by omega) (by omega) (fun c_81 => ?_) (fun c_81 => ?_)) | refine j_icmp_ne (tgt := 85) dX0_livesBy_81 (by decide) (fun c_81 => ?_) (fun c_81 => ?_)
              · first | refine j_aload_n dX0_livesBy_85 rfl ?_ | refine j_aload_nN dX0_livesBy_85 rfl ?_
                first | refine j_aload_n dX0_livesBy_86 rfl ?_ | refine j_aload_nN dX0_livesBy_86 rfl ?_
                refine j_dV1 kl_X0_522 (hd) dX0_livesBy_87 rfl rfl (by decide) (by first | exact zs _ _ | exact z5 _ _ | exact z19 _ _ | exact zb _ _ | exact zr _ _ | exact z4 _ _ | exact zt _ _ | exact zT _ _ | exact zk _ _ | exact z0 _ _ | exact b0 _ _ | exact z6 _ _ | exact Fa.sh hf | assumption) (Nat.le_of_ble_eq_true rfl) (by first | decide | omega) (by omega) (by omega) ?_
                first | (with_reducible refine j_gB ?_; refine j_if_neB (tgt := 103) dX0_livesBy_90 (by decide) (fun c_90 => ?_) (fun c_90 => ?_)) | (with_reducible refine j_gC ?_; refine j_if_neC (tgt := 103) dX0_livesBy_90 (by decide) (fun c_90 => ?_) (fun c_90 => ?_)) | (with_reducible refine j_gN ?_; refine j_if_neN (tgt := 103) dX0_livesBy_90 (by decide) (by omega) (fun c_90 => ?_) (fun c_90 => ?_)) | refine j_if_ne (tgt := 103) dX0_livesBy_90 (by decide) (fun c_90 => ?_) (fun c_90 => ?_)
                · first | refine j_aload_n dX0_livesBy_103 rfl ?_ | refine j_aload_nN dX0_livesBy_103 rfl ?_
                  first | refine j_aload_n dX0_livesBy_104 rfl ?_ | refine j_aload_nN dX0_livesBy_104 rfl ?_
                  refine j_getI dX0_livesBy_105 fl_X0_485 rfl (by first | exact zs _ _ | exact z5 _ _ | exact z19 _ _ | exact zb _ _ | exact zr _ _ | exact z4 _ _ | exact zt _ _ | exact zT _ _ | exact zk _ _ | exact z0 _ _ | exact b0 _ _ | exact z6 _ _ | assumption) (by first | exact zs _ _ | exact z5 _ _ | exact z19 _ _ | exact zb _ _ | exact zr _ _ | exact z4 _ _ | exact zt _ _ | exact zT _ _ | exact zk _ _ | exact z0 _ _ | exact b0 _ _ | exact z6 _ _ | assumption) ?_
                  refine j_bipush (v := nI 17) dX0_livesBy_108 (by decide +kernel) ?_
                  first | (with_reducible refine j_gNN ?_; refine j_icmp_neN (tgt := 130) dX0_livesBy_110 (by decide) (by omega) (by omega) (fun c_110 => ?_) (fun c_110 => ?_)) | refine j_icmp_ne (tgt := 130) dX0_livesBy_110 (by decide) (fun c_110 => ?_) (fun c_110 => ?_)
                  · exact absurd k18 c_110
                  · first | refine j_aload_n dX0_livesBy_113 rfl ?_ | refine j_aload_nN dX0_livesBy_113 rfl ?_
                    first | refine j_aload_n dX0_livesBy_114 rfl ?_ | refine j_aload_nN dX0_livesBy_114 rfl ?_
                    refine j_dV1 kl_X0_525 (hh) dX0_livesBy_115 rfl rfl (by decide) (by first | exact zs _ _ | exact z5 _ _ | exact z19 _ _ | exact zb _ _ | exact zr _ _ | exact z4 _ _ | exact zt _ _ | exact zT _ _ | exact zk _ _ | exact z0 _ _ | exact b0 _ _ | exact z6 _ _ | exact Fa.sh hf | assumption) (Nat.le_of_ble_eq_true rfl) (by first | decide | omega) (by omega) (by omega) ?_
                    first | (with_reducible refine j_gB ?_; refine j_if_neB (tgt := 130) dX0_livesBy_118 (by decide) (fun c_118 => ?_) (fun c_118 => ?_)) | (with_reducible refine j_gC ?_; refine j_if_neC (tgt := 130) dX0_livesBy_118 (by decide) (fun c_118 => ?_) (fun c_118 => ?_)) | (with_reducible refine j_gN ?_; refine j_if_neN (tgt := 130) dX0_livesBy_118 (by decide) (by omega) (fun c_118 => ?_) (fun c_118 => ?_)) | refine j_if_ne (tgt := 130) dX0_livesBy_118 (by decide) (fun c_118 => ?_) (fun c_118 => ?_)
                    · exact absurd rfl c_118
                    · first | refine j_aload_n dX0_livesBy_121 rfl ?_ | refine j_aload_nN dX0_livesBy_121 rfl ?_
                      refine j_getI dX0_livesBy_122 fl_X0_516 rfl (by first | exact zs _ _ | exact z5 _ _ | exact z19 _ _ | exact zb _ _ | exact zr _ _ | exact z4 _ _ | exact zt _ _ | exact zT _ _ | exact zk _ _ | exact z0 _ _ | exact b0 _ _ | exact z6 _ _ | assumption) (by first | exact zs _ _ | exact z5 _ _ | exact z19 _ _ | exact zb _ _ | exact zr _ _ | exact z4 _ _ | exact zt _ _ | exact zT _ _ | exact zk _ _ | exact z0 _ _ | exact b0 _ _ | exact z6 _ _ | assumption) ?_
                      refine j_iconst (v := nI 1) dX0_livesBy_125 (by decide +kernel) ?_
                      first | (with_reducible refine j_gNN ?_; refine j_iaddN dX0_livesBy_126 ?_) | refine j_iadd dX0_livesBy_126 ?_
                      refine j_goto (tgt := 133) dX0_livesBy_127 (by decide) ?_
                      refine j_dV1 kl_X0_528 (x_be hf hR1 hy hT hb (by omega)) dX0_livesBy_133 rfl rfl (by decide) (by first | exact zs _ _ | exact z5 _ _ | exact z19 _ _ | exact zb _ _ | exact zr _ _ | exact z4 _ _ | exact zt _ _ | exact zT _ _ | exact zk _ _ | exact z0 _ _ | exact b0 _ _ | exact z6 _ _ | exact Fa.sh hf | assumption) (Nat.le_of_ble_eq_true rfl) (by first | decide | omega) (by omega) (by omega) ?_
                      refine j_istore_n dX0_livesBy_136 (by decide) ?_
                      refine j_goto (tgt := 32) dX0_livesBy_137 (by decide) ?_
                      exact ih hw iI k1 _
                · exact absurd c_90 (by decide)
              · exact absurd c_81 (by omega)
            · exact absurd c_47 h300
      · have e : xStp W P Dn kf tf wf k (C, V1) = ((C, up V1 (k + 100) (C (177 + 9 * wf k + 1))), k + 1) := by
          unfold xStp
          rw [if_neg k17, if_neg k18]
        rw [e] at hb ih
        dsimp only at hb ih
        have e6 : kf k - 12 = 6 := by omega
        rw [e6] at b3
        have hd := x_stepLoop (g := g) (l := l) (V := V1) (L := L) (A := A) (W := W) (P := P) (Dn := Dn) (Hn := Hn) hf hR1 hy b3 a3
        obtain ⟨k1, k2⟩ := bE_out ht20 _ _ _ _ _ hb (by omega)
        have iI : Iz C0 (C, V') := ⟨hFr, r, hr2, (k2 37 (by decide)).trans ((up_ne (by omega)).trans r1)⟩
        skip
        refine j_iload_n dX0_livesBy_32 rfl ?_
        first | refine j_aload_n dX0_livesBy_33 rfl ?_ | refine j_aload_nN dX0_livesBy_33 rfl ?_
        refine j_getI dX0_livesBy_34 fl_X0_200 rfl (by first | exact zs _ _ | exact z5 _ _ | exact z19 _ _ | exact zb _ _ | exact zr _ _ | exact z4 _ _ | exact zt _ _ | exact zT _ _ | exact zk _ _ | exact z0 _ _ | exact b0 _ _ | exact Fa.sh hf | assumption) (by first | exact zs _ _ | exact z5 _ _ | exact z19 _ _ | exact zb _ _ | exact zr _ _ | exact z4 _ _ | exact zt _ _ | exact zT _ _ | exact zk _ _ | exact z0 _ _ | exact b0 _ _ | assumption) ?_
        first | (with_reducible refine j_gNN ?_; refine j_icmp_geN (tgt := 140) dX0_livesBy_37 (by decide) (by omega) (by omega) (fun c_37 => ?_) (fun c_37 => ?_)) | refine j_icmp_ge (tgt := 140) dX0_livesBy_37 (by decide) (fun c_37 => ?_) (fun c_37 => ?_)
        · exact absurd c_37 (by omega)
        · first | refine j_aload_n dX0_livesBy_40 rfl ?_ | refine j_aload_nN dX0_livesBy_40 rfl ?_
          refine j_getI dX0_livesBy_41 fl_X0_519 rfl (by first | exact zs _ _ | exact z5 _ _ | exact z19 _ _ | exact zb _ _ | exact zr _ _ | exact z4 _ _ | exact zt _ _ | exact zT _ _ | exact zk _ _ | exact z0 _ _ | exact b0 _ _ | exact Fa.sh hf | assumption) (by first | exact zs _ _ | exact z5 _ _ | exact z19 _ _ | exact zb _ _ | exact zr _ _ | exact z4 _ _ | exact zt _ _ | exact zT _ _ | exact zk _ _ | exact z0 _ _ | exact b0 _ _ | assumption) ?_
          refine j_sipush (v := nI 300) dX0_livesBy_44 (by decide +kernel) ?_
          first | (with_reducible refine j_gNN ?_; refine j_icmp_neN (tgt := 58) dX0_livesBy_47 (by decide) (by omega) (by omega) (fun c_47 => ?_) (fun c_47 => ?_)) | refine j_icmp_ne (tgt := 58) dX0_livesBy_47 (by decide) (fun c_47 => ?_) (fun c_47 => ?_)
          · first | refine j_aload_n dX0_livesBy_58 rfl ?_ | refine j_aload_nN dX0_livesBy_58 rfl ?_
            refine j_getR dX0_livesBy_59 fl_X0_196 rfl (by first | exact zs _ _ | exact z5 _ _ | exact z19 _ _ | exact zb _ _ | exact zr _ _ | exact z4 _ _ | exact zt _ _ | exact zT _ _ | exact zk _ _ | exact z0 _ _ | exact b0 _ _ | exact Fa.sh hf | assumption) (by first | exact zs _ _ | exact z5 _ _ | exact z19 _ _ | exact zb _ _ | exact zr _ _ | exact z4 _ _ | exact zt _ _ | exact zT _ _ | exact zk _ _ | exact z0 _ _ | exact b0 _ _ | assumption) ?_
            refine j_iload_n dX0_livesBy_62 rfl ?_
            refine j_aald (t := 29) dX0_livesBy_63 (fun _ => rfl) (by decide) (by first | exact zs _ _ | exact z5 _ _ | exact z19 _ _ | exact zb _ _ | exact zr _ _ | exact z4 _ _ | exact zt _ _ | exact zT _ _ | exact zk _ _ | exact z0 _ _ | exact b0 _ _ | exact Pe.sl hp | exact Pe.sa hp | exact Pe.sl hq | exact Pe.sa hq | exact Pv.sw hR | exact Pv.sp hR | exact Pv.sd hR | exact Fa.s0 hf | exact Fa.s12 hf | exact Fa.s13 hf | exact Fa.s14 hf | exact Fa.s15 hf | exact Fa.s16 hf | exact Fa.s20 hf | exact Fa.s21 hf | exact Fa.s23 hf | assumption) rfl (by omega) (by decide) (by first | exact zs _ _ | exact z5 _ _ | exact z19 _ _ | exact zb _ _ | exact zr _ _ | exact z4 _ _ | exact zt _ _ | exact zT _ _ | exact zk _ _ | exact z0 _ _ | exact b0 _ _ | exact Pv.rw hR (by omega) | exact Pv.rp hR (by omega) | exact Pv.rd hR (by omega) | exact Fa.tr hf (by omega) | assumption) ?_
            first | refine j_astore_n dX0_livesBy_64 (by decide) ?_ | refine j_astore_nN dX0_livesBy_64 (by decide) ?_
            first | refine j_aload_n dX0_livesBy_65 rfl ?_ | refine j_aload_nN dX0_livesBy_65 rfl ?_
            refine j_dup dX0_livesBy_66 rfl ?_
            refine j_getI dX0_livesBy_67 fl_X0_519 rfl (by first | exact zs _ _ | exact z5 _ _ | exact z19 _ _ | exact zb _ _ | exact zr _ _ | exact z4 _ _ | exact zt _ _ | exact zT _ _ | exact zk _ _ | exact z0 _ _ | exact b0 _ _ | exact Fa.sh hf | assumption) (by first | exact zs _ _ | exact z5 _ _ | exact z19 _ _ | exact zb _ _ | exact zr _ _ | exact z4 _ _ | exact zt _ _ | exact zT _ _ | exact zk _ _ | exact z0 _ _ | exact b0 _ _ | assumption) ?_
            refine j_iconst (v := nI 1) dX0_livesBy_70 (by decide +kernel) ?_
            first | (with_reducible refine j_gNN ?_; refine j_iaddN dX0_livesBy_71 ?_) | refine j_iadd dX0_livesBy_71 ?_
            refine j_putI dX0_livesBy_72 fl_X0_519 rfl (by first | exact zs _ _ | exact z5 _ _ | exact z19 _ _ | exact zb _ _ | exact zr _ _ | exact z4 _ _ | exact zt _ _ | exact zT _ _ | exact zk _ _ | exact z0 _ _ | exact b0 _ _ | exact Fa.sh hf | assumption) rfl rfl rfl ?_
            rw [w19, hV1]
            first | refine j_aload_n dX0_livesBy_75 rfl ?_ | refine j_aload_nN dX0_livesBy_75 rfl ?_
            refine j_getI dX0_livesBy_76 fl_X0_485 rfl (by first | exact zs _ _ | exact z5 _ _ | exact z19 _ _ | exact zb _ _ | exact zr _ _ | exact z4 _ _ | exact zt _ _ | exact zT _ _ | exact zk _ _ | exact z0 _ _ | exact b0 _ _ | assumption) (by first | exact zs _ _ | exact z5 _ _ | exact z19 _ _ | exact zb _ _ | exact zr _ _ | exact z4 _ _ | exact zt _ _ | exact zT _ _ | exact zk _ _ | exact z0 _ _ | exact b0 _ _ | assumption) ?_
            refine j_bipush (v := nI 19) dX0_livesBy_79 (by decide +kernel) ?_
            first | (with_reducible refine j_gNN ?_; refine j_icmp_neN (tgt := 85) dX0_livesBy_81 (by decide) (by omega) (by omega) (fun c_81 => ?_) (fun c_81 => ?_)) | refine j_icmp_ne (tgt := 85) dX0_livesBy_81 (by decide) (fun c_81 => ?_) (fun c_81 => ?_)
            · first | refine j_aload_n dX0_livesBy_85 rfl ?_ | refine j_aload_nN dX0_livesBy_85 rfl ?_
              first | refine j_aload_n dX0_livesBy_86 rfl ?_ | refine j_aload_nN dX0_livesBy_86 rfl ?_
              refine j_dV1 kl_X0_522 (hd) dX0_livesBy_87 rfl rfl (by decide) (by first | exact zs _ _ | exact z5 _ _ | exact z19 _ _ | exact zb _ _ | exact zr _ _ | exact z4 _ _ | exact zt _ _ | exact zT _ _ | exact zk _ _ | exact z0 _ _ | exact b0 _ _ | exact Fa.sh hf | assumption) (Nat.le_of_ble_eq_true rfl) (by first | decide | omega) (by omega) (by omega) ?_
              first | (with_reducible refine j_gB ?_; refine j_if_neB (tgt := 103) dX0_livesBy_90 (by decide) (fun c_90 => ?_) (fun c_90 => ?_)) | (with_reducible refine j_gC ?_; refine j_if_neC (tgt := 103) dX0_livesBy_90 (by decide) (fun c_90 => ?_) (fun c_90 => ?_)) | (with_reducible refine j_gN ?_; refine j_if_neN (tgt := 103) dX0_livesBy_90 (by decide) (by omega) (fun c_90 => ?_) (fun c_90 => ?_)) | refine j_if_ne (tgt := 103) dX0_livesBy_90 (by decide) (fun c_90 => ?_) (fun c_90 => ?_)
              · first | refine j_aload_n dX0_livesBy_103 rfl ?_ | refine j_aload_nN dX0_livesBy_103 rfl ?_
                first | refine j_aload_n dX0_livesBy_104 rfl ?_ | refine j_aload_nN dX0_livesBy_104 rfl ?_
                refine j_getI dX0_livesBy_105 fl_X0_485 rfl (by first | exact zs _ _ | exact z5 _ _ | exact z19 _ _ | exact zb _ _ | exact zr _ _ | exact z4 _ _ | exact zt _ _ | exact zT _ _ | exact zk _ _ | exact z0 _ _ | exact b0 _ _ | assumption) (by first | exact zs _ _ | exact z5 _ _ | exact z19 _ _ | exact zb _ _ | exact zr _ _ | exact z4 _ _ | exact zt _ _ | exact zT _ _ | exact zk _ _ | exact z0 _ _ | exact b0 _ _ | assumption) ?_
                refine j_bipush (v := nI 17) dX0_livesBy_108 (by decide +kernel) ?_
                first | (with_reducible refine j_gNN ?_; refine j_icmp_neN (tgt := 130) dX0_livesBy_110 (by decide) (by omega) (by omega) (fun c_110 => ?_) (fun c_110 => ?_)) | refine j_icmp_ne (tgt := 130) dX0_livesBy_110 (by decide) (fun c_110 => ?_) (fun c_110 => ?_)
                · refine j_iload_n dX0_livesBy_130 rfl ?_
                  refine j_iconst (v := nI 1) dX0_livesBy_131 (by decide +kernel) ?_
                  first | (with_reducible refine j_gNN ?_; refine j_iaddN dX0_livesBy_132 ?_) | refine j_iadd dX0_livesBy_132 ?_
                  refine j_dV1 kl_X0_528 (x_be hf hR1 hy hT hb (by omega)) dX0_livesBy_133 rfl rfl (by decide) (by first | exact zs _ _ | exact z5 _ _ | exact z19 _ _ | exact zb _ _ | exact zr _ _ | exact z4 _ _ | exact zt _ _ | exact zT _ _ | exact zk _ _ | exact z0 _ _ | exact b0 _ _ | exact Fa.sh hf | assumption) (Nat.le_of_ble_eq_true rfl) (by first | decide | omega) (by omega) (by omega) ?_
                  refine j_istore_n dX0_livesBy_136 (by decide) ?_
                  refine j_goto (tgt := 32) dX0_livesBy_137 (by decide) ?_
                  exact ih hw iI k1 _
                · exact absurd c_110 k18
              · exact absurd c_90 (by decide)
            · exact absurd c_81 (by omega)
          · exact absurd c_47 h300
/-- a whole run -/
theorem x_livesBy (hf : Fa σ hx B) (hg : Fq σ hx A) (hR0 : Pv σ L A C W P Dn Hn) (hw : Wx C W P Dn) (hy : Yf σ hx B sx) (hT : Tb σ hx st n T sx kf tf) (hS : Ts σ C W P n T kf wf) {N seed : Nat} (hB : FB C W P kf tf wf 31 0 N 0 n) (hs : seed < 65536) : ∃ V', Vq (yRun C W P Dn N seed).2 V' ∧ Kd g l 7 MX0_livesBy [.ref hx, .int (nI seed)] (put (yx σ hx B sx V) L C) none (put (yx σ hx B sx V') L (yRun C W P Dn N seed).1) := by
  have hn := hR0.nf hf
  have e5 : ∀ U i, 39 ≤ i → i < 44 → zr5 U 5 i = 0 := fun U i h1 h2 => by
    have : i = 39 ∨ i = 40 ∨ i = 41 ∨ i = 42 ∨ i = 43 := by omega
    unfold zr5
    rcases this with rfl | rfl | rfl | rfl | rfl <;> rfl
  have e3 : ∀ U i, i < 39 → ∀ j, zr5 U j i = U i := fun U i h1 j => by
    unfold zr5
    induction j with
    | zero => rfl
    | succ j ih => rw [itr, up_ne (by omega)]; exact ih
  have hV : Vq (y0 seed) (zr5 (up (up V 37 (nI seed)) 38 (nI 0)) 5) := fun i h1 h2 => by
    by_cases c : i < 39
    · rw [e3 _ _ c]
      have : i = 37 ∨ i = 38 := by omega
      rcases this with rfl | rfl
      · rfl
      · rfl
    · rw [e5 _ _ (by omega) h2]
      unfold y0
      rw [if_neg (by omega)]
      rfl
  obtain ⟨V', v1, v2⟩ := x_law0 (Dn := Dn) hB hw.1 (C := C) (U := y0 seed) (V := zr5 (up (up V 37 (nI seed)) 38 (nI 0)) 5) ⟨Fr.rf, seed, hs, rfl⟩ hV rfl
  refine ⟨V', v1, ?_⟩
  have run := x_run (g := g) (l := l) hf hg hR0 hy hT hS (nI seed) 0 _ _ v2 hw ⟨Fr.rf, seed, hs, (e3 _ 37 (by decide) 5)⟩ (Nat.zero_le _)
  dsimp only at run
  have zs : ∀ U D, (put (yx σ hx B sx U) L D).1 hx = some (0, 0) := fun _ _ => hf.1
  have w18 : ∀ U D (x : Int32), sI (put (yx σ hx B sx U) L D) hx 18 x = put (yx σ hx B sx (up U 37 x)) L D := fun U D x => by
    rw [put_n (hn 18)]
    unfold yx
    rw [put_w (yX_inj hf.n20 hy.1) (i := 37) yX_x]
  have w19 : ∀ U D (x : Int32), sI (put (yx σ hx B sx U) L D) hx 19 x = put (yx σ hx B sx (up U 38 x)) L D := fun U D x => by
    rw [put_n (hn 19)]
    unfold yx
    rw [put_w (yX_inj hf.n20 hy.1) (i := 38) yX_x]
  have zb : ∀ U D, (put (yx σ hx B sx U) L D).1 (B 20) = some (20, 5) := fun _ _ => (hf.2.1 20 _ _ rfl).2
  have zr : ∀ U D, (put (yx σ hx B sx U) L D).2.2.2 hx 20 = some (B 20) := fun _ _ => (hf.2.1 20 _ _ rfl).1
  have hwb : ∀ U D i (x : Int32), i < 5 → sI (put (yx σ hx B sx U) L D) (B 20) i x = put (yx σ hx B sx (up U (39 + i) x)) L D := fun U D i x hi => by
    rw [put_n (hR0.noL (hf.2.1 20 _ _ rfl).2 (by decide) (by decide) (by decide) i)]
    unfold yx
    rw [put_w (yX_inj hf.n20 hy.1) (yX_b hf hi)]
  generalize hU0 : up (up V 37 (nI seed)) 38 (nI 0) = U0 at *
  rw [show yAll W P Dn 31 0 N (C, y0 seed) = yRun C W P Dn N seed from rfl] at run
  generalize (yRun C W P Dn N seed).1 = D' at *
  refine Kt.go (Y := MX0_livesBy) (ls := [some (.ref hx), some (.int (nI seed)), none, none]) (by decide) (Nat.le_of_ble_eq_true rfl) rfl ?_
  have key : ∀ i, i ≤ 5 → Td g l 7 MX0_livesBy [.ref hx, .int (nI seed)] (put (yx σ hx B sx V') L D') none 12 [some (.ref hx), some (.int (nI seed)), some (.int (nI i)), none] [] (put (yx σ hx B sx (zr5 U0 i)) L C) := by
    refine loop_up fun i hi ih => ?_
    refine j_iload_n dX0_livesBy_12 rfl ?_
    refine j_iconst (v := nI 5) dX0_livesBy_13 (by decide +kernel) ?_
    first | (with_reducible refine j_gNN ?_; refine j_icmp_geN (tgt := 30) dX0_livesBy_14 (by decide) (by omega) (by omega) (fun c_14 => ?_) (fun c_14 => ?_)) | refine j_icmp_ge (tgt := 30) dX0_livesBy_14 (by decide) (fun c_14 => ?_) (fun c_14 => ?_)
    · refine j_iconst (v := nI 0) dX0_livesBy_30 (by decide +kernel) ?_
      refine j_istore_n dX0_livesBy_31 (by decide) ?_
      have e : i = 5 := by omega
      subst e
      exact run _
    · first | refine j_aload_n dX0_livesBy_17 rfl ?_ | refine j_aload_nN dX0_livesBy_17 rfl ?_
      refine j_getR dX0_livesBy_18 fl_X0_76 rfl (by first | exact zs _ _ | exact zb _ _ | exact zr _ _ | exact Fa.sh hf | assumption) (by first | exact zs _ _ | exact zb _ _ | exact zr _ _ | exact Fa.f20 hf | assumption) ?_
      refine j_iload_n dX0_livesBy_21 rfl ?_
      refine j_iconst (v := nI 0) dX0_livesBy_22 (by decide +kernel) ?_
      refine j_iast dX0_livesBy_23 (by first | exact zs _ _ | exact zb _ _ | exact zr _ _ | exact Pe.sl hp | exact Pe.sa hp | exact Pe.sl hq | exact Pe.sa hq | exact Pv.sw hR | exact Pv.sp hR | exact Pv.sd hR | exact Fa.s0 hf | exact Fa.s12 hf | exact Fa.s13 hf | exact Fa.s14 hf | exact Fa.s15 hf | exact Fa.s16 hf | exact Fa.s20 hf | exact Fa.s21 hf | exact Fa.s23 hf | assumption) rfl (by omega) (by decide) ?_
      first | refine j_sg (put_w hL (Pe.ll hp (by omega))) ?_ | refine j_sg (put_w hL (Pe.ll hq (by omega))) ?_ | refine j_sg (put_w hL (Pe.lg hp (by omega))) ?_ | refine j_sg (put_w hL (Pe.lg hq (by omega))) ?_ | skip
      rw [hwb _ _ i _ (by omega)]
      first | refine j_iincN dX0_livesBy_24 rfl (by decide) ?_ | refine j_iinc dX0_livesBy_24 rfl rfl (by decide) ?_
      refine j_goto (tgt := 12) dX0_livesBy_27 (by decide) ?_
      exact ih (by omega)
  first | refine j_aload_n dX0_livesBy_0 rfl ?_ | refine j_aload_nN dX0_livesBy_0 rfl ?_
  refine j_iload_n dX0_livesBy_1 rfl ?_
  refine j_putI dX0_livesBy_2 fl_X0_475 rfl (by first | exact zs _ _ | exact zb _ _ | exact zr _ _ | exact Fa.sh hf | assumption) rfl rfl rfl ?_
  rw [w18]
  first | refine j_aload_n dX0_livesBy_5 rfl ?_ | refine j_aload_nN dX0_livesBy_5 rfl ?_
  refine j_iconst (v := nI 0) dX0_livesBy_6 (by decide +kernel) ?_
  refine j_putI dX0_livesBy_7 fl_X0_519 rfl (by first | exact zs _ _ | exact zb _ _ | exact zr _ _ | exact Fa.sh hf | assumption) rfl rfl rfl ?_
  rw [w19, hU0]
  refine j_iconst (v := nI 0) dX0_livesBy_10 (by decide +kernel) ?_
  refine j_istore_n dX0_livesBy_11 (by decide) ?_
  exact key 0 (by decide)
end X35s
