/-! X: YEARS: does -/
set_option maxRecDepth 100000
section X30s
variable {g : Gx} {l : Launch} {σ τ : Sg} {L : Nat → Nat → Option Nat} {A B : Nat → Nat} {C V : Nat → Int32} {W P Dn Hn p k q hx : Nat} {sx : Nat → Option Nat}
theorem x_stepDoes (hf : Fa σ hx B) (hg : Fq σ hx A) (hR0 : Pv σ L A C W P Dn Hn) (hw : Wx C W P Dn) (hy : Yf σ hx B sx) {a w kd : Nat} (hS : Sw C W P w) (hX : Sx σ a C w kd) (hk4 : kd ≤ 4) {r : Nat} (hr : V 37 = nI r) (hr2 : r < 65536) : Kd g l 6 MX0_does [.ref hx, .ref a] (put (yx σ hx B sx V) L C) (some (.int (bI (yDoes W P Dn w C V).1))) (put (yx σ hx B sx (yDoes W P Dn w C V).2.2) L (yDoes W P Dn w C V).2.1) := by
  obtain ⟨⟨⟨hW, hW8⟩, ⟨hP, hP6⟩, ⟨hD, hD6⟩, hdn⟩, hWv, hPp⟩ := id hw
  have hR := hR0.yx (V := V) hD6 hf hy
  have hL := hR.inj
  obtain ⟨s12, e0, i0, i1, i2, i3, i4, -⟩ := hX
  have rd : ∀ k, k ≠ 7 → (put (yx σ hx B sx V) L C).2.1 a k = σ.2.1 a k := fun k hk => (pgn (hR0.noL s12 (by decide) (by decide) (by decide) k)).trans (pgn (yX_s hf s12 hk))
  have r0 : (put (yx σ hx B sx V) L C).2.1 a 0 = nI (12 + kd) := (rd 0 (by decide)).trans i0
  have r1 := rd 1 (by decide)
  have r2 := rd 2 (by decide)
  have r3 := rd 3 (by decide)
  have zs : ∀ U D, (put (yx σ hx B sx U) L D).1 hx = some (0, 0) := fun _ _ => hf.1
  have zg : ∀ U D, (put (yx σ hx B sx U) L D).2.2.2 hx 3 = some (A 0) := fun _ _ => hg
  have za : ∀ U D, (put (yx σ hx B sx U) L D).1 a = some (12, 0) := fun _ _ => s12
  have n1 : ¬ nI 1 = (0 : Int32) := by decide
  have n2 : ¬ nI 2 = (0 : Int32) := by decide
  have n3 : ¬ nI 3 = (0 : Int32) := by decide
  have n4 : ¬ nI 4 = (0 : Int32) := by decide
  have hkd : kd = 0 ∨ kd = 1 ∨ kd = 2 ∨ kd = 3 ∨ kd = 4 := by omega
  rcases hkd with rfl | rfl | rfl | rfl | rfl
  · obtain ⟨n, hn, en⟩ := hS.1 e0
    have q1 := r1.trans ((i1 (by decide) (by decide)).trans en)
    have e : yDoes W P Dn w C V = yDay W P Dn n C V := by unfold yDoes; rw [if_pos (show C w = 0 from e0), en, ixn_nI (by omega)]
    rw [e]
    skip
    refine Kt.go (Y := MX0_does) (ls := [some (.ref hx), some (.ref a)]) (by decide) (Nat.le_of_ble_eq_true rfl) rfl ?_
    first | refine j_aload_n dX0_does_0 rfl ?_ | refine j_aload_nN dX0_does_0 rfl ?_
    refine j_getI dX0_does_1 fl_X0_485 rfl (by first | exact zs _ _ | exact zg _ _ | exact za _ _ | exact r0 | exact q1 | assumption) (by first | exact zs _ _ | exact zg _ _ | exact za _ _ | exact r0 | exact q1 | assumption) ?_
    refine j_tabIn (tgt := 48) dX0_does_4 (by decide +kernel) (by decide +kernel) (show _ = some (44) by decide +kernel) (by decide) ?_
    first | refine j_aload_n dX0_does_48 rfl ?_ | refine j_aload_nN dX0_does_48 rfl ?_
    first | refine j_aload_n dX0_does_49 rfl ?_ | refine j_aload_nN dX0_does_49 rfl ?_
    refine j_getI dX0_does_50 fl_X0_488 rfl (by first | exact zs _ _ | exact zg _ _ | exact za _ _ | exact r0 | exact q1 | assumption) (by first | exact zs _ _ | exact zg _ _ | exact za _ _ | exact r0 | exact q1 | assumption) ?_
    refine j_dV1 kl_X0_491 (x_daysGo hf hg hR0 hw hy hn) dX0_does_53 rfl rfl (by decide) (by first | exact zs _ _ | exact zg _ _ | exact za _ _ | exact r0 | exact q1 | exact Fa.sh hf | assumption) (Nat.le_of_ble_eq_true rfl) (by first | decide | omega) (by omega) (by omega) ?_
    refine j_iret dX0_does_56 ⟨_, rfl, bI_nar _⟩ (by omega) (by omega) ?_
    exact ⟨rfl, rfl⟩
  · obtain ⟨p, k, hp6, hk, ep, ek⟩ := hS.2.1 e0
    have q1 := r1.trans ((i1 (by decide) (by decide)).trans ep)
    have q2 := r2.trans ((i2 (by decide)).trans ek)
    have hp := hR.pe hp6
    have hq := hp
    have e : yDoes W P Dn w C V = (mKeepB C p k, mKeep C p k, V) := by unfold yDoes; rw [e0, if_neg n1, if_pos rfl, ep, ek, ixn_nI (by omega), ixn_nI (by omega)]
    rw [e]
    skip
    refine Kt.go (Y := MX0_does) (ls := [some (.ref hx), some (.ref a)]) (by decide) (Nat.le_of_ble_eq_true rfl) rfl ?_
    first | refine j_aload_n dX0_does_0 rfl ?_ | refine j_aload_nN dX0_does_0 rfl ?_
    refine j_getI dX0_does_1 fl_X0_485 rfl (by first | exact zs _ _ | exact zg _ _ | exact za _ _ | exact r0 | exact q1 | exact q2 | assumption) (by first | exact zs _ _ | exact zg _ _ | exact za _ _ | exact r0 | exact q1 | exact q2 | assumption) ?_
    refine j_tabIn (tgt := 57) dX0_does_4 (by decide +kernel) (by decide +kernel) (show _ = some (53) by decide +kernel) (by decide) ?_
    first | refine j_aload_n dX0_does_57 rfl ?_ | refine j_aload_nN dX0_does_57 rfl ?_
    refine j_getR dX0_does_58 fl_X0_38 rfl (by first | exact zs _ _ | exact zg _ _ | exact za _ _ | exact r0 | exact q1 | exact q2 | exact Fa.sh hf | assumption) (by first | exact zs _ _ | exact zg _ _ | exact za _ _ | exact r0 | exact q1 | exact q2 | exact Fq.f3 hg | assumption) ?_
    refine j_getR dX0_does_61 fl_X0_211 rfl (by first | exact zs _ _ | exact zg _ _ | exact za _ _ | exact r0 | exact q1 | exact q2 | exact Pv.sh hR | assumption) (by first | exact zs _ _ | exact zg _ _ | exact za _ _ | exact r0 | exact q1 | exact q2 | exact Pv.r1 hR | assumption) ?_
    first | refine j_aload_n dX0_does_64 rfl ?_ | refine j_aload_nN dX0_does_64 rfl ?_
    refine j_getI dX0_does_65 fl_X0_488 rfl (by first | exact zs _ _ | exact zg _ _ | exact za _ _ | exact r0 | exact q1 | exact q2 | assumption) (by first | exact zs _ _ | exact zg _ _ | exact za _ _ | exact r0 | exact q1 | exact q2 | assumption) ?_
    refine j_aald (t := 27) dX0_does_68 (fun _ => rfl) (by decide) (by first | exact zs _ _ | exact zg _ _ | exact za _ _ | exact r0 | exact q1 | exact q2 | exact Pe.sl hp | exact Pe.sa hp | exact Pe.sl hq | exact Pe.sa hq | exact Pv.sw hR | exact Pv.sp hR | exact Pv.sd hR | exact Fa.s0 hf | exact Fa.s12 hf | exact Fa.s13 hf | exact Fa.s14 hf | exact Fa.s15 hf | exact Fa.s16 hf | exact Fa.s20 hf | exact Fa.s21 hf | exact Fa.s23 hf | assumption) rfl (by omega) (by decide) (by first | exact zs _ _ | exact zg _ _ | exact za _ _ | exact r0 | exact q1 | exact q2 | exact Pv.rw hR (by omega) | exact Pv.rp hR (by omega) | exact Pv.rd hR (by omega) | exact Fa.tr hf (by omega) | assumption) ?_
    first | refine j_aload_n dX0_does_69 rfl ?_ | refine j_aload_nN dX0_does_69 rfl ?_
    refine j_getI dX0_does_70 fl_X0_494 rfl (by first | exact zs _ _ | exact zg _ _ | exact za _ _ | exact r0 | exact q1 | exact q2 | assumption) (by first | exact zs _ _ | exact zg _ _ | exact za _ _ | exact r0 | exact q1 | exact q2 | assumption) ?_
    refine j_dV1 kl_X0_324 (x_keeps hL hp (show k < 8 by omega)) dX0_does_73 rfl rfl (by decide) (by first | exact zs _ _ | exact zg _ _ | exact za _ _ | exact r0 | exact q1 | exact q2 | exact Pe.sh hp | exact Pe.sh hq | assumption) (Nat.le_of_ble_eq_true rfl) (by first | decide | omega) (by omega) (by omega) ?_
    refine j_iret dX0_does_76 ⟨_, rfl, bI_nar _⟩ (by omega) (by omega) ?_
    exact ⟨rfl, rfl⟩
  · obtain ⟨p, k, q, hp6, hk, hq6, ep, ek, eq⟩ := hS.2.2.1 e0
    have q1 := r1.trans ((i1 (by decide) (by decide)).trans ep)
    have q2 := r2.trans ((i2 (by decide)).trans ek)
    have q3 := r3.trans ((i3 rfl).trans eq)
    have e : yDoes W P Dn w C V = ySay p k q C V := by unfold yDoes; rw [e0, if_neg n2, if_neg (show ¬ nI 2 = nI 1 by decide), if_pos rfl, ep, ek, eq, ixn_nI (by omega), ixn_nI (by omega), ixn_nI (by omega)]
    rw [e]
    skip
    refine Kt.go (Y := MX0_does) (ls := [some (.ref hx), some (.ref a)]) (by decide) (Nat.le_of_ble_eq_true rfl) rfl ?_
    first | refine j_aload_n dX0_does_0 rfl ?_ | refine j_aload_nN dX0_does_0 rfl ?_
    refine j_getI dX0_does_1 fl_X0_485 rfl (by first | exact zs _ _ | exact zg _ _ | exact za _ _ | exact r0 | exact q1 | exact q2 | exact q3 | assumption) (by first | exact zs _ _ | exact zg _ _ | exact za _ _ | exact r0 | exact q1 | exact q2 | exact q3 | assumption) ?_
    refine j_tabIn (tgt := 77) dX0_does_4 (by decide +kernel) (by decide +kernel) (show _ = some (73) by decide +kernel) (by decide) ?_
    first | refine j_aload_n dX0_does_77 rfl ?_ | refine j_aload_nN dX0_does_77 rfl ?_
    first | refine j_aload_n dX0_does_78 rfl ?_ | refine j_aload_nN dX0_does_78 rfl ?_
    refine j_getI dX0_does_79 fl_X0_488 rfl (by first | exact zs _ _ | exact zg _ _ | exact za _ _ | exact r0 | exact q1 | exact q2 | exact q3 | assumption) (by first | exact zs _ _ | exact zg _ _ | exact za _ _ | exact r0 | exact q1 | exact q2 | exact q3 | assumption) ?_
    first | refine j_aload_n dX0_does_82 rfl ?_ | refine j_aload_nN dX0_does_82 rfl ?_
    refine j_getI dX0_does_83 fl_X0_494 rfl (by first | exact zs _ _ | exact zg _ _ | exact za _ _ | exact r0 | exact q1 | exact q2 | exact q3 | assumption) (by first | exact zs _ _ | exact zg _ _ | exact za _ _ | exact r0 | exact q1 | exact q2 | exact q3 | assumption) ?_
    first | refine j_aload_n dX0_does_86 rfl ?_ | refine j_aload_nN dX0_does_86 rfl ?_
    refine j_getI dX0_does_87 fl_X0_497 rfl (by first | exact zs _ _ | exact zg _ _ | exact za _ _ | exact r0 | exact q1 | exact q2 | exact q3 | assumption) (by first | exact zs _ _ | exact zg _ _ | exact za _ _ | exact r0 | exact q1 | exact q2 | exact q3 | assumption) ?_
    refine j_dV1 kl_X0_482 (x_saysBy hf hg hR0 hD6 hP6 hy hp6 hq6) dX0_does_90 rfl rfl (by decide) (by first | exact zs _ _ | exact zg _ _ | exact za _ _ | exact r0 | exact q1 | exact q2 | exact q3 | exact Fa.sh hf | assumption) (Nat.le_of_ble_eq_true rfl) (by first | decide | omega) (by omega) (by omega) ?_
    refine j_iret dX0_does_93 ⟨_, rfl, bI_nar _⟩ (by omega) (by omega) ?_
    exact ⟨rfl, rfl⟩
  · obtain ⟨p, q, hp6, hq6, ep, eq⟩ := hS.2.2.2.1 e0
    have q1 := r1.trans ((i1 (by decide) (by decide)).trans ep)
    have q2 := r2.trans ((i4 rfl).trans eq)
    have e : yDoes W P Dn w C V = yCut W p q C V := by unfold yDoes; rw [e0, if_neg n3, if_neg (show ¬ nI 3 = nI 1 by decide), if_neg (show ¬ nI 3 = nI 2 by decide), if_pos rfl, ep, eq, ixn_nI (by omega), ixn_nI (by omega)]
    rw [e]
    skip
    refine Kt.go (Y := MX0_does) (ls := [some (.ref hx), some (.ref a)]) (by decide) (Nat.le_of_ble_eq_true rfl) rfl ?_
    first | refine j_aload_n dX0_does_0 rfl ?_ | refine j_aload_nN dX0_does_0 rfl ?_
    refine j_getI dX0_does_1 fl_X0_485 rfl (by first | exact zs _ _ | exact zg _ _ | exact za _ _ | exact r0 | exact q1 | exact q2 | assumption) (by first | exact zs _ _ | exact zg _ _ | exact za _ _ | exact r0 | exact q1 | exact q2 | assumption) ?_
    refine j_tabIn (tgt := 94) dX0_does_4 (by decide +kernel) (by decide +kernel) (show _ = some (90) by decide +kernel) (by decide) ?_
    first | refine j_aload_n dX0_does_94 rfl ?_ | refine j_aload_nN dX0_does_94 rfl ?_
    first | refine j_aload_n dX0_does_95 rfl ?_ | refine j_aload_nN dX0_does_95 rfl ?_
    refine j_getI dX0_does_96 fl_X0_488 rfl (by first | exact zs _ _ | exact zg _ _ | exact za _ _ | exact r0 | exact q1 | exact q2 | assumption) (by first | exact zs _ _ | exact zg _ _ | exact za _ _ | exact r0 | exact q1 | exact q2 | assumption) ?_
    first | refine j_aload_n dX0_does_99 rfl ?_ | refine j_aload_nN dX0_does_99 rfl ?_
    refine j_getI dX0_does_100 fl_X0_494 rfl (by first | exact zs _ _ | exact zg _ _ | exact za _ _ | exact r0 | exact q1 | exact q2 | assumption) (by first | exact zs _ _ | exact zg _ _ | exact za _ _ | exact r0 | exact q1 | exact q2 | assumption) ?_
    refine j_dV1 kl_X0_500 (x_cutsBy hf hg hR0 hw hy hp6 hq6) dX0_does_103 rfl rfl (by decide) (by first | exact zs _ _ | exact zg _ _ | exact za _ _ | exact r0 | exact q1 | exact q2 | exact Fa.sh hf | assumption) (Nat.le_of_ble_eq_true rfl) (by first | decide | omega) (by omega) (by omega) ?_
    refine j_iret dX0_does_106 ⟨_, rfl, bI_nar _⟩ (by omega) (by omega) ?_
    exact ⟨rfl, rfl⟩
  · have e : yDoes W P Dn w C V = yAny W P C V := by unfold yDoes; rw [e0, if_neg n4, if_neg (show ¬ nI 4 = nI 1 by decide), if_neg (show ¬ nI 4 = nI 2 by decide), if_neg (show ¬ nI 4 = nI 3 by decide)]
    rw [e]
    skip
    refine Kt.go (Y := MX0_does) (ls := [some (.ref hx), some (.ref a)]) (by decide) (Nat.le_of_ble_eq_true rfl) rfl ?_
    first | refine j_aload_n dX0_does_0 rfl ?_ | refine j_aload_nN dX0_does_0 rfl ?_
    refine j_getI dX0_does_1 fl_X0_485 rfl (by first | exact zs _ _ | exact zg _ _ | exact za _ _ | exact r0 | assumption) (by first | exact zs _ _ | exact zg _ _ | exact za _ _ | exact r0 | assumption) ?_
    refine j_tabIn (tgt := 107) dX0_does_4 (by decide +kernel) (by decide +kernel) (show _ = some (103) by decide +kernel) (by decide) ?_
    first | refine j_aload_n dX0_does_107 rfl ?_ | refine j_aload_nN dX0_does_107 rfl ?_
    refine j_dV1 kl_X0_503 (x_saysAny hf hg hR0 hw.1 hy hr hr2) dX0_does_108 rfl rfl (by decide) (by first | exact zs _ _ | exact zg _ _ | exact za _ _ | exact r0 | exact Fa.sh hf | assumption) (Nat.le_of_ble_eq_true rfl) (by first | decide | omega) (by omega) (by omega) ?_
    refine j_iret dX0_does_111 ⟨_, rfl, bI_nar _⟩ (by omega) (by omega) ?_
    exact ⟨rfl, rfl⟩
theorem x_stepWhen (hf : Fa σ hx B) (hR0 : Pv σ L A C W P Dn Hn) {a w : Nat} (hX : Sx σ a C w 5) : Kd g l 6 MX0_does [.ref hx, .ref a] (put (yx σ hx B sx V) L C) (some (.int (nI 1))) (put (yx σ hx B sx V) L C) := by
  obtain ⟨s12, e0, i0, -⟩ := hX
  have r0 : (put (yx σ hx B sx V) L C).2.1 a 0 = nI 17 := ((pgn (hR0.noL s12 (by decide) (by decide) (by decide) 0)).trans (pgn (yX_s hf s12 (by decide)))).trans i0
  have za : ∀ U D, (put (yx σ hx B sx U) L D).1 a = some (12, 0) := fun _ _ => s12
  refine Kt.go (Y := MX0_does) (ls := [some (.ref hx), some (.ref a)]) (by decide) (Nat.le_of_ble_eq_true rfl) rfl ?_
  first | refine j_aload_n dX0_does_0 rfl ?_ | refine j_aload_nN dX0_does_0 rfl ?_
  refine j_getI dX0_does_1 fl_X0_485 rfl (by first | exact za _ _ | exact r0 | assumption) (by first | exact za _ _ | exact r0 | assumption) ?_
  refine j_tabIn (tgt := 122) dX0_does_4 (by decide +kernel) (by decide +kernel) (show _ = some (118) by decide +kernel) (by decide) ?_
  refine j_iconst (v := nI 1) dX0_does_122 (by decide +kernel) ?_
  refine j_iret dX0_does_123 ⟨_, rfl, rfl⟩ (by omega) (by omega) ?_
  exact ⟨rfl, rfl⟩
theorem x_stepLoop (hf : Fa σ hx B) (hR0 : Pv σ L A C W P Dn Hn) (hy : Yf σ hx B sx) {a w j : Nat} (hX : Sx σ a C w 6) (hj : sx a = some j) : Kd g l 6 MX0_does [.ref hx, .ref a] (put (yx σ hx B sx V) L C) (some (.int (nI 1))) (put (yx σ hx B sx (up V (j + 100) (C (w + 1)))) L C) := by
  obtain ⟨s12, e0, i0, i1, -⟩ := hX
  have rd : ∀ k, k ≠ 7 → (put (yx σ hx B sx V) L C).2.1 a k = σ.2.1 a k := fun k hk => (pgn (hR0.noL s12 (by decide) (by decide) (by decide) k)).trans (pgn (yX_s hf s12 hk))
  have r0 : (put (yx σ hx B sx V) L C).2.1 a 0 = nI 18 := (rd 0 (by decide)).trans i0
  have r1 : (put (yx σ hx B sx V) L C).2.1 a 1 = C (w + 1) := (rd 1 (by decide)).trans (i1 (by decide) (by decide))
  have za : ∀ U D, (put (yx σ hx B sx U) L D).1 a = some (12, 0) := fun _ _ => s12
  have y7 : yX hx (B 20) sx a 7 = some (j + 100) := by
    unfold yX
    rw [if_neg (fun e => by rw [e, hf.1] at s12; cases s12), if_neg (fun e => by rw [e, (hf.2.1 20 _ _ rfl).2] at s12; cases s12), if_pos rfl, hj]
    rfl
  have w7 : ∀ x : Int32, sI (put (yx σ hx B sx V) L C) a 7 x = put (yx σ hx B sx (up V (j + 100) x)) L C := fun x => by
    rw [put_n (hR0.noL s12 (by decide) (by decide) (by decide) 7)]
    unfold yx
    rw [put_w (yX_inj hf.n20 hy.1) y7]
  refine Kt.go (Y := MX0_does) (ls := [some (.ref hx), some (.ref a)]) (by decide) (Nat.le_of_ble_eq_true rfl) rfl ?_
  first | refine j_aload_n dX0_does_0 rfl ?_ | refine j_aload_nN dX0_does_0 rfl ?_
  refine j_getI dX0_does_1 fl_X0_485 rfl (by first | exact za _ _ | exact r0 | exact r1 | assumption) (by first | exact za _ _ | exact r0 | exact r1 | assumption) ?_
  refine j_tabIn (tgt := 112) dX0_does_4 (by decide +kernel) (by decide +kernel) (show _ = some (108) by decide +kernel) (by decide) ?_
  first | refine j_aload_n dX0_does_112 rfl ?_ | refine j_aload_nN dX0_does_112 rfl ?_
  first | refine j_aload_n dX0_does_113 rfl ?_ | refine j_aload_nN dX0_does_113 rfl ?_
  refine j_getI dX0_does_114 fl_X0_488 rfl (by first | exact za _ _ | exact r0 | exact r1 | assumption) (by first | exact za _ _ | exact r0 | exact r1 | assumption) ?_
  refine j_putI dX0_does_117 fl_X0_507 rfl (by first | exact za _ _ | exact r0 | exact r1 | assumption) rfl rfl rfl ?_
  rw [w7]
  refine j_iconst (v := nI 1) dX0_does_120 (by decide +kernel) ?_
  refine j_iret dX0_does_121 ⟨_, rfl, rfl⟩ (by omega) (by omega) ?_
  exact ⟨rfl, rfl⟩
end X30s
