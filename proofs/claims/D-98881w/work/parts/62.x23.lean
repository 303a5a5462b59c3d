/-! X: A PROVINCE's TWIN MADE; DAYS AHEAD -/
set_option maxRecDepth 100000
section X23s
variable {g : Gx} {l : Launch} {σ τ : Sg} {L L2 : Nat → Nat → Option Nat} {A A2 : Nat → Nat} {C D S : Nat → Int32} {W P Dn Hn p : Nat} {nw np : Nat → Int64}
def vtQ (ρ : Sg) (C : Nat → Int32) (W P Dn Hn : Nat) (nw np : Nat → Int64) (r : Option Value) (τ : Sg) : Prop := ∃ A2 σ2, r = some (.ref (A2 0)) ∧ τ = put σ2 (pL A2 P) C ∧ TwF ρ C W P Dn Hn nw np A2 σ2
theorem x_vtwin (hR : Pv σ L A C W P Dn Hn) (hw : Wx C W P Dn) (hH : C 3 = nI Hn) (hb : Bb C P) (hN : Nm σ A W P nw np) : Kt g l 2 MX6_twin [.ref (A 0)] (put σ L C) 22 171 (vtQ (put σ L C) C W P Dn Hn nw np) (fun _ _ _ => False) := by
  obtain ⟨⟨⟨hW, hW8⟩, ⟨hP, hP6⟩, ⟨hD, hD6⟩, hdn⟩, hWv, hPp⟩ := id hw
  have sA0 : σ.1 (A 0) = some (6, 0) := Pv.sh hR (D := C)
  have sA1 : σ.1 (A 1) = some (26, 8) := Pv.sw hR (D := C)
  have sA2 : σ.1 (A 2) = some (27, 6) := Pv.sp hR (D := C)
  have sA3 : σ.1 (A 3) = some (28, 6) := Pv.sd hR (D := C)
  refine Kt.go (Y := MX6_twin) (ls := [some (.ref (A 0)), none, none]) (by decide) (Nat.le_of_ble_eq_true rfl) rfl ?_
  have fin : ∀ τ A2, TwI (put σ L C) A C np P τ A2 → ∀ x2, Tj g l 2 MX6_twin [.ref (A 0)] 22 171 (vtQ (put σ L C) C W P Dn Hn nw np) (fun _ _ _ => False) (4 + 3 * P) (33 + 23 * P) 58 [some (.ref (A 0)), some (.ref (A2 0)), x2] [] τ := by
    intro τ A2 hT x2
    have hold : ∀ a, σ.1 a ≠ none → τ.1 a = σ.1 a ∧ τ.2.1 a = (put σ L C).2.1 a ∧ τ.2.2.1 a = σ.2.2.1 a ∧ τ.2.2.2 a = σ.2.2.2 a := fun a ha => hT.2.2.2.2.2.2.2.1 a ha id
    have o0 := hold (A 0) (by rw [sA0]; simp)
    have hinj := hT.2.1
    have hnw := hT.1
    have n00 : A 0 ≠ A2 0 := fun e => by
      have := hnw 0 (by unfold uj; omega)
      rw [← e] at this
      rw [show (put σ L C).1 (A 0) = some (6, 0) from sA0] at this
      cases this
    have t0 : τ.1 (A 0) = some (6, 0) := o0.1.trans sA0
    have v0 : τ.1 (A2 0) = some (6, 0) := hT.2.2.1.1
    have i4 : ∀ i, i < 9 → τ.2.1 (A 0) (i + 4) = C i := fun i hi => by rw [o0.2.1]; exact pg (hR.li (i + 4) i rfl hi)
    have f4 : ∀ x, (sI τ (A2 0) 4 x).1 (A 0) = some (6, 0) := fun x => t0
    have g4 : ∀ x, (sI τ (A2 0) 4 x).1 (A2 0) = some (6, 0) := fun x => v0
    have f5 : ∀ x y, (sI (sI τ (A2 0) 4 x) (A2 0) 5 y).1 (A 0) = some (6, 0) := fun x y => t0
    have g5 : ∀ x y, (sI (sI τ (A2 0) 4 x) (A2 0) 5 y).1 (A2 0) = some (6, 0) := fun x y => v0
    have j5 : ∀ x, (sI τ (A2 0) 4 x).2.1 (A 0) 5 = C 1 := fun x => by rw [sI_n n00]; exact i4 1 (by decide)
    have j7 : ∀ x y, (sI (sI τ (A2 0) 4 x) (A2 0) 5 y).2.1 (A 0) 7 = C 3 := fun x y => by rw [sI_n n00, sI_n n00]; exact i4 3 (by decide)
    have hU : Ui A2 P := fun i j hi hj e => hinj i j (by unfold ui at hi; unfold uj; omega) (by unfold ui at hj; unfold uj; omega) e
    have hL2 := pL_inj hU hP6
    have hF := tw_fin hR hw hN hT hL2 hU
    obtain ⟨D0, hD0⟩ := put_ex hL2 (sI (sI (sI τ (A2 0) 4 (C 0)) (A2 0) 5 (C 1)) (A2 0) 7 (C 3))
    have hd : ∀ i, i < 9 → D0 i = (sI (sI (sI τ (A2 0) 4 (C 0)) (A2 0) 5 (C 1)) (A2 0) 7 (C 3)).2.1 (A2 0) (i + 4) := fun i hi => by
      rw [← hD0]
      exact (pg (pL_0 hi)).symm
    have d0 : D0 0 = C 0 := by rw [hd 0 (by decide), sI_at, if_neg (by omega), sI_at, if_neg (by omega), sI_at, if_pos ⟨rfl, rfl⟩]
    have d1 : D0 1 = C 1 := by rw [hd 1 (by decide), sI_at, if_neg (by omega), sI_at, if_pos ⟨rfl, rfl⟩]
    have d3 : D0 3 = C 3 := by rw [hd 3 (by decide), sI_at, if_pos ⟨rfl, rfl⟩]
    have hl : ∀ a, σ.1 a ≠ none → ∀ j, pL A2 P a j = none := fun a ha j => by
      cases e : pL A2 P a j with
      | none => rfl
      | some i =>
        obtain ⟨⟨x, x1, x2⟩, -⟩ := pL_u hP6 e
        exact absurd (by rw [x2]; exact hnw x (by unfold ui at x1; unfold uj; omega)) ha
    have hTg : Tg (pL A2 P) (sI (sI (sI τ (A2 0) 4 (C 0)) (A2 0) 5 (C 1)) (A2 0) 7 (C 3)) A2 P := by
      obtain ⟨h1, h2, ⟨s0, s1, s2, s3⟩, ⟨r0, r1, r2, r3⟩, h5, h6, h7, h8, h9, h10⟩ := hT
      refine ⟨hL2, ⟨s0, s2, s3⟩, ⟨r1, r2⟩, fun i hi => pL_0 hi, fun p hp => ⟨(h7 p hp).1, ?_⟩, fun a k i h => (pL_u hP6 h).2⟩
      have pe := pL_e (P := P) hU hP6 hp (h7 p hp).2.1
      exact ⟨pe.1, pe.2.1, pe.2.2⟩
    have hSo : So (pL A2 P) (sI (sI (sI τ (A2 0) 4 (C 0)) (A2 0) 5 (C 1)) (A2 0) 7 (C 3)) A C P := by
      have o2 := hold (A 2) (by rw [sA2]; simp)
      have o3 := hold (A 3) (by rw [sA3]; simp)
      refine ⟨⟨t0, o2.1.trans sA2, o3.1.trans sA3⟩, ⟨by show τ.2.2.2 (A 0) 1 = _; rw [o0.2.2.2]; exact Pv.r1 hR (D := C), by show τ.2.2.2 (A 0) 2 = _; rw [o0.2.2.2]; exact Pv.r2 hR (D := C)⟩, fun i hi => ?_, fun j => hl _ (by rw [sA0]; simp) j, fun p hp => ⟨?_, ?_⟩, fun k y hk hy => ?_⟩
      · rw [sI_n n00, sI_n n00, sI_n n00]; exact i4 i hi
      · show τ.2.2.2 (A 2) p = _
        rw [o2.2.2.2]; exact Pv.rp hR hp (D := C)
      · have pr := (hR.pe hp).pr (C := C)
        have pr2 := pr.xt hT.2.2.2.2.2.2.2.1 id id id
        have nb : ∀ a, (put σ L C).1 a ≠ none → a ≠ A2 0 := fun a ha e => ha (by rw [e]; exact hnw 0 (by unfold uj; omega))
        have q1 := nb _ (by rw [pr.1.1]; simp)
        have q2 := nb _ (by rw [pr.1.2.1]; simp)
        have q3 := nb _ (by rw [pr.1.2.2]; simp)
        refine Pr.ps (σ := sI (sI (sI τ (A2 0) 4 (C 0)) (A2 0) 5 (C 1)) (A2 0) 7 (C 3)) ⟨pr2.1, pr2.2.1, ?_, fun j hj => ?_, fun j hj => ?_⟩ (fun j => ⟨hl _ (by rw [show σ.1 _ = _ from pr.1.1]; simp) j, hl _ (by rw [show σ.1 _ = _ from pr.1.2.1]; simp) j, hl _ (by rw [show σ.1 _ = _ from pr.1.2.2]; simp) j⟩)
        · rw [sI_n q1, sI_n q1, sI_n q1]; exact pr2.2.2.1
        · rw [sI_n q2, sI_n q2, sI_n q2]; exact pr2.2.2.2.1 j hj
        · rw [sI_n q3, sI_n q3, sI_n q3]; exact pr2.2.2.2.2 j hj
      · have hy' : σ.2.2.2 (A 3) k = some y := by
          have : τ.2.2.2 (A 3) k = some y := hy
          rw [o3.2.2.2] at this
          exact this
        have z := hR.2.2.2.2.2.2.2.2.2.2 k y hk hy'
        exact (hold y (by rw [z]; simp)).1.trans z
    first | refine j_aload_n dX6_twin_58 rfl ?_ | refine j_aload_nN dX6_twin_58 rfl ?_
    first | refine j_aload_n dX6_twin_59 rfl ?_ | refine j_aload_nN dX6_twin_59 rfl ?_
    refine j_getI dX6_twin_60 fl_X6_56 rfl (by first | exact t0 | exact v0 | exact f4 _ | exact g4 _ | exact f5 _ _ | exact g5 _ _ | exact i4 0 (by decide) | exact j5 _ | exact j7 _ _ | exact Pv.sh hR | assumption) (by first | exact t0 | exact v0 | exact f4 _ | exact g4 _ | exact f5 _ _ | exact g5 _ _ | exact i4 0 (by decide) | exact j5 _ | exact j7 _ _ | exact pg (Pv.li hR 4 0 rfl (by decide)) | assumption) ?_
    refine j_putI dX6_twin_63 fl_X6_56 rfl (by first | exact t0 | exact v0 | exact f4 _ | exact g4 _ | exact f5 _ _ | exact g5 _ _ | exact i4 0 (by decide) | exact j5 _ | exact j7 _ _ | exact Pv.sh hR | assumption) rfl rfl rfl ?_
    first | refine j_sg (put_w hL (Pv.li hR 4 0 rfl (by decide))) ?_ | skip
    first | refine j_aload_n dX6_twin_66 rfl ?_ | refine j_aload_nN dX6_twin_66 rfl ?_
    first | refine j_aload_n dX6_twin_67 rfl ?_ | refine j_aload_nN dX6_twin_67 rfl ?_
    refine j_getI dX6_twin_68 fl_X6_49 rfl (by first | exact t0 | exact v0 | exact f4 _ | exact g4 _ | exact f5 _ _ | exact g5 _ _ | exact i4 0 (by decide) | exact j5 _ | exact j7 _ _ | exact Pv.sh hR | assumption) (by first | exact t0 | exact v0 | exact f4 _ | exact g4 _ | exact f5 _ _ | exact g5 _ _ | exact i4 0 (by decide) | exact j5 _ | exact j7 _ _ | exact pg (Pv.li hR 5 1 rfl (by decide)) | assumption) ?_
    refine j_putI dX6_twin_71 fl_X6_49 rfl (by first | exact t0 | exact v0 | exact f4 _ | exact g4 _ | exact f5 _ _ | exact g5 _ _ | exact i4 0 (by decide) | exact j5 _ | exact j7 _ _ | exact Pv.sh hR | assumption) rfl rfl rfl ?_
    first | refine j_sg (put_w hL (Pv.li hR 5 1 rfl (by decide))) ?_ | skip
    first | refine j_aload_n dX6_twin_74 rfl ?_ | refine j_aload_nN dX6_twin_74 rfl ?_
    first | refine j_aload_n dX6_twin_75 rfl ?_ | refine j_aload_nN dX6_twin_75 rfl ?_
    refine j_getI dX6_twin_76 fl_X6_59 rfl (by first | exact t0 | exact v0 | exact f4 _ | exact g4 _ | exact f5 _ _ | exact g5 _ _ | exact i4 0 (by decide) | exact j5 _ | exact j7 _ _ | exact Pv.sh hR | assumption) (by first | exact t0 | exact v0 | exact f4 _ | exact g4 _ | exact f5 _ _ | exact g5 _ _ | exact i4 0 (by decide) | exact j5 _ | exact j7 _ _ | exact pg (Pv.li hR 7 3 rfl (by decide)) | assumption) ?_
    refine j_putI dX6_twin_79 fl_X6_59 rfl (by first | exact t0 | exact v0 | exact f4 _ | exact g4 _ | exact f5 _ _ | exact g5 _ _ | exact i4 0 (by decide) | exact j5 _ | exact j7 _ _ | exact Pv.sh hR | assumption) rfl rfl rfl ?_
    first | refine j_sg (put_w hL (Pv.li hR 7 3 rfl (by decide))) ?_ | skip
    refine j_sg hD0.symm ?_
    first | refine j_aload_n dX6_twin_82 rfl ?_ | refine j_aload_nN dX6_twin_82 rfl ?_
    first | refine j_aload_n dX6_twin_83 rfl ?_ | refine j_aload_nN dX6_twin_83 rfl ?_
    refine j_dV1 kl_X6_62 (x_ptk hTg hSo hP hP6 hb d0 d1 d3) dX6_twin_84 rfl rfl (by decide) (show (put _ (pL A2 P) D0).1 (A2 0) = some (6, 0) from v0) (Nat.le_of_ble_eq_true rfl) (by decide) (by omega) (by omega) ?_
    refine j_aret (v := some (A2 0)) dX6_twin_87 ⟨_, rfl, Or.inl ⟨_, rfl⟩⟩ (by omega) (by omega) ?_
    exact ⟨A2, _, rfl, rfl, hF⟩
  have key : ∀ j, j ≤ P → ∀ ρ A2, TwI (put σ L C) A C np j ρ A2 → Tj g l 2 MX6_twin [.ref (A 0)] 22 171 (vtQ (put σ L C) C W P Dn Hn nw np) (fun _ _ _ => False) (4 + 3 * j) (33 + 23 * j) 29 [some (.ref (A 0)), some (.ref (A2 0)), some (.int (nI j))] [] ρ := by
    refine loop_up fun j hj ih => ?_
    intro ρ A2 hT
    have hold : ∀ a, σ.1 a ≠ none → ρ.1 a = σ.1 a ∧ ρ.2.1 a = (put σ L C).2.1 a ∧ ρ.2.2.1 a = σ.2.2.1 a ∧ ρ.2.2.2 a = σ.2.2.2 a := fun a ha => hT.2.2.2.2.2.2.2.1 a ha id
    have o0 := hold (A 0) (by rw [sA0]; simp)
    have o2 := hold (A 2) (by rw [sA2]; simp)
    have t0 : ρ.1 (A 0) = some (6, 0) := o0.1.trans sA0
    have t2 : ρ.1 (A 2) = some (27, 6) := o2.1.trans sA2
    have t5 : ρ.2.1 (A 0) 5 = nI P := by rw [o0.2.1]; exact (pg (hR.li 5 1 rfl (by decide))).trans hP
    have t1r : ρ.2.2.2 (A 0) 1 = some (A 2) := by rw [o0.2.2.2]; exact Pv.r1 hR (D := C)
    by_cases hjP : j < P
    · have t2r : ρ.2.2.2 (A 2) j = some (A (20 + j)) := by rw [o2.2.2.2]; exact Pv.rp hR hjP (D := C)
      have pr := ((hR.pe hjP).pr (C := C)).xt hT.2.2.2.2.2.2.2.1 id id id
      have hnm : ρ.2.2.1 (A (20 + j)) 0 = np j := (congrFun (hold (A (20 + j)) (by rw [show σ.1 _ = _ from (hR.pe hjP).1.1]; simp)).2.2.1 0).trans (hN.2 j hjP)
      have v0 := hT.2.2.1.1
      have v1 := hT.2.2.2.1.2.1
      have sp := pr.1.1
      refine j_iload_n dX6_twin_29 rfl ?_
      first | refine j_aload_n dX6_twin_30 rfl ?_ | refine j_aload_nN dX6_twin_30 rfl ?_
      refine j_getI dX6_twin_31 fl_X6_49 rfl (by first | exact t0 | exact t2 | exact t5 | exact t1r | exact t2r | exact v0 | exact v1 | exact sp | exact Pv.sh hR | assumption) (by first | exact t0 | exact t2 | exact t5 | exact t1r | exact t2r | exact v0 | exact v1 | exact sp | exact pg (Pv.li hR 5 1 rfl (by decide)) | assumption) ?_
      first | (with_reducible refine j_gNN ?_; refine j_icmp_geN (tgt := 58) dX6_twin_34 (by decide) (by omega) (by omega) (fun c_34 => ?_) (fun c_34 => ?_)) | refine j_icmp_ge (tgt := 58) dX6_twin_34 (by decide) (fun c_34 => ?_) (fun c_34 => ?_)
      · exact absurd hjP (Nat.not_lt.mpr c_34)
      · first | refine j_aload_n dX6_twin_37 rfl ?_ | refine j_aload_nN dX6_twin_37 rfl ?_
        refine j_getR dX6_twin_38 fl_X6_19 rfl (by first | exact t0 | exact t2 | exact t5 | exact t1r | exact t2r | exact v0 | exact v1 | exact sp | exact Pv.sh hR | assumption) (by first | exact t0 | exact t2 | exact t5 | exact t1r | exact t2r | exact v0 | exact v1 | exact sp | exact Pv.r1 hR | assumption) ?_
        refine j_iload_n dX6_twin_41 rfl ?_
        first | refine j_aload_n dX6_twin_42 rfl ?_ | refine j_aload_nN dX6_twin_42 rfl ?_
        refine j_getR dX6_twin_43 fl_X6_19 rfl (by first | exact t0 | exact t2 | exact t5 | exact t1r | exact t2r | exact v0 | exact v1 | exact sp | exact Pv.sh hR | assumption) (by first | exact t0 | exact t2 | exact t5 | exact t1r | exact t2r | exact v0 | exact v1 | exact sp | exact Pv.r1 hR | assumption) ?_
        refine j_iload_n dX6_twin_46 rfl ?_
        refine j_aald (t := 27) dX6_twin_47 (fun _ => rfl) (by decide) (by first | exact t0 | exact t2 | exact t5 | exact t1r | exact t2r | exact v0 | exact v1 | exact sp | exact Pv.sw hR | exact Pv.sp hR | exact Pv.sd hR | assumption) rfl (by omega) (by decide) (by first | exact t0 | exact t2 | exact t5 | exact t1r | exact t2r | exact v0 | exact v1 | exact sp | exact Pv.rw hR (by omega) | exact Pv.rp hR (by omega) | exact Pv.rd hR (by omega) | assumption) ?_
        refine j_callV kl_X6_52 (x_ptwin pr (by omega) (hb j hjP) hnm) dX6_twin_48 rfl rfl (by decide) (by first | exact t0 | exact t2 | exact t5 | exact t1r | exact t2r | exact v0 | exact v1 | exact sp | assumption) (Nat.le_of_ble_eq_true rfl) (by first | decide | omega) (by omega) (by omega) (fun v τ hq => ?_) (fun _ _ _ hq => hq.elim)
        obtain ⟨q, q1, q2, rfl, z1, z2, z3, d1, d2, d3, hsh, hrf, hq0, hi4, hla, haa, hx⟩ := hq
        refine j_eq (st' := [.ref q, .int (nI j), .ref (A2 2)]) rfl rfl rfl ?_
        have hn := hT.nx (by omega) z1 z2 z3 d1 d2 d3 (show Pr τ q q1 q2 j C from ⟨hsh, hrf, hi4, hla, haa⟩) hq0 hx
        have s22 : τ.1 (A2 2) = some (27, 6) := (hx (A2 2) (by rw [hT.2.2.1.2.2.1]; simp) id).1.trans hT.2.2.1.2.2.1
        refine j_aast (t := 27) (ci := 8) dX6_twin_51 (fun _ => rfl) (by decide) (by decide) s22 hsh.1 rfl (show j < 6 by omega) (by decide) ?_
        first | refine j_iincN dX6_twin_52 rfl (by decide) ?_ | refine j_iinc dX6_twin_52 rfl rfl (by decide) ?_
        refine j_goto (tgt := 29) dX6_twin_55 (by decide) ?_
        have z := ih hjP _ _ hn
        rw [show 4 + 3 * (j + 1) = 4 + 3 * j + 3 by omega, show 33 + 23 * (j + 1) = 33 + 23 * j + 23 by omega, up_ne (show 0 ≠ 40 + j by omega), up_ne (show 0 ≠ 30 + j by omega), up_ne (show 0 ≠ 20 + j by omega)] at z
        exact z
    · have e : j = P := by omega
      subst e
      refine j_iload_n dX6_twin_29 rfl ?_
      first | refine j_aload_n dX6_twin_30 rfl ?_ | refine j_aload_nN dX6_twin_30 rfl ?_
      refine j_getI dX6_twin_31 fl_X6_49 rfl (by first | exact t0 | exact t5 | exact Pv.sh hR | assumption) (by first | exact t0 | exact t5 | exact pg (Pv.li hR 5 1 rfl (by decide)) | assumption) ?_
      first | (with_reducible refine j_gNN ?_; refine j_icmp_geN (tgt := 58) dX6_twin_34 (by decide) (by omega) (by omega) (fun c_34 => ?_) (fun c_34 => ?_)) | refine j_icmp_ge (tgt := 58) dX6_twin_34 (by decide) (fun c_34 => ?_) (fun c_34 => ?_)
      · exact fin ρ A2 hT _
      · exact absurd c_34 hjP
  have nA : ∀ a x, σ.1 a = some x → ∀ q, (put σ L C).1 q = none → a ≠ q := fun a x ha q hq => ne_new (σ := put σ L C) ha hq
  refine j_newZ (ci := 6) (z := 13) dX6_twin_0 (by decide) rfl q1290 q395 q184 (by omega) (by omega) (fun v hv hvA => ?_)
  have nv : A 0 ≠ v := nA _ _ sA0 _ hv
  have b0 : (sN (put σ L C) v 6 0).1 (A 0) = some (6, 0) := (up_ne nv).trans sA0
  have b3 : (sN (put σ L C) v 6 0).2.2.2 (A 0) 3 = some (A 4) := (congrFun (up_ne nv) 3).trans (Pv.r3 hR (D := C))
  have bv : (sN (put σ L C) v 6 0).1 v = some (6, 0) := up_eq _ _ _
  refine j_dup dX6_twin_3 rfl ?_
  first | refine j_aload_n dX6_twin_4 rfl ?_ | refine j_aload_nN dX6_twin_4 rfl ?_
  refine j_getR dX6_twin_5 fl_X6_36 rfl b0 b3 ?_
  refine j_callI kl_X6_40 (x_vinit (sy := A 4) (up_eq (put σ L C).1 v (some (6, 0)))) dX6_twin_8 rfl rfl (Nat.le_of_ble_eq_true rfl) (by first | decide | omega) (by omega) (by omega) (fun v τ hq => ?_) (fun _ _ _ hq => hq.elim)
  obtain ⟨rfl, q1, q2, q3, z1, z2, z3, d12, d13, d23, rfl⟩ := hq
  refine j_eq (st' := [.ref v]) rfl rfl rfl ?_
  have n1 : v ≠ q1 := ne_new (σ := sN (put σ L C) v 6 0) bv z1
  have n2 : v ≠ q2 := ne_new (σ := sN (put σ L C) v 6 0) bv z2
  have n3 : v ≠ q3 := ne_new (σ := sN (put σ L C) v 6 0) bv z3
  have y1 : (put σ L C).1 q1 = none := (up_ne (Ne.symm n1)).symm.trans z1
  have y2 : (put σ L C).1 q2 = none := (up_ne (Ne.symm n2)).symm.trans z2
  have y3 : (put σ L C).1 q3 = none := (up_ne (Ne.symm n3)).symm.trans z3
  obtain ⟨⟨v1, v2, v3, v4⟩, ⟨v5, v6, v7, v8⟩, v9, v10, v11⟩ := vin_ok (σ := sN (put σ L C) v 6 0) (sy := A 4) n1 n2 n3 d12 d13 d23
  have hX : Xt (fun a => a = v) (put σ L C) (vinS (sN (put σ L C) v 6 0) v q1 q2 q3 (A 4)) := (Xt.n hv).tr (vin_x rfl z1 z2 z3 d12 d13 d23)
  generalize hρ : vinS (sN (put σ L C) v 6 0) v q1 q2 q3 (A 4) = ρ at *
  have hold : ∀ a, σ.1 a ≠ none → ρ.1 a = σ.1 a ∧ ρ.2.1 a = (put σ L C).2.1 a ∧ ρ.2.2.1 a = σ.2.2.1 a ∧ ρ.2.2.2 a = σ.2.2.2 a := fun a ha => hX a ha (fun e => ha (by rw [e]; exact hv))
  have o0 := hold (A 0) (by rw [sA0]; simp)
  have o1 := hold (A 1) (by rw [sA1]; simp)
  have c0 : ρ.1 (A 0) = some (6, 0) := o0.1.trans sA0
  have c1 : ρ.1 (A 1) = some (26, 8) := o1.1.trans sA1
  have c0r : ρ.2.2.2 (A 0) 0 = some (A 1) := by rw [o0.2.2.2]; exact Pv.r0 hR (D := C)
  have cv : ρ.1 v = some (6, 0) := v1.trans bv
  have n01 : A 1 ≠ q1 := nA _ _ sA1 _ y1
  have hI : TwI (put σ L C) A C np 0 (sUR ρ q1 (va_cpy (ρ.2.2.2 (A 1)) (ρ.2.2.2 q1) 0 0 8)) (up (up (up (up A 0 v) 1 q1) 2 q2) 3 q3) := by
    have e0 : (up (up (up (up A 0 v) 1 q1) 2 q2) 3 q3) 0 = v := by rw [up_ne (by decide), up_ne (by decide), up_ne (by decide), up_eq]
    have e1 : (up (up (up (up A 0 v) 1 q1) 2 q2) 3 q3) 1 = q1 := by rw [up_ne (by decide), up_ne (by decide), up_eq]
    have e2 : (up (up (up (up A 0 v) 1 q1) 2 q2) 3 q3) 2 = q2 := by rw [up_ne (by decide), up_eq]
    have e3 : (up (up (up (up A 0 v) 1 q1) 2 q2) 3 q3) 3 = q3 := up_eq _ _ _
    have eo : ∀ i, 4 ≤ i → (up (up (up (up A 0 v) 1 q1) 2 q2) 3 q3) i = A i := fun i hi => by rw [up_ne (by omega), up_ne (by omega), up_ne (by omega), up_ne (by omega)]
    have h4 : ∀ i, uj 0 i → i = 0 ∨ i = 1 ∨ i = 2 ∨ i = 3 := fun i hi => by unfold uj at hi; omega
    refine ⟨fun i hi => ?_, fun i k hi hk e => ?_, ?_, ?_, fun k hk => ?_, fun k => ?_, fun p hp => absurd hp (Nat.not_lt_zero p), fun a ha _ => ?_, eo 4 (by decide), fun k hk => ⟨eo _ (by omega), eo _ (by omega)⟩⟩
    · rcases h4 i hi with rfl | rfl | rfl | rfl
      · rw [e0]; exact hv
      · rw [e1]; exact y1
      · rw [e2]; exact y2
      · rw [e3]; exact y3
    · rcases h4 i hi with rfl | rfl | rfl | rfl <;> rcases h4 k hk with rfl | rfl | rfl | rfl <;> first | rfl | (simp only [e0, e1, e2, e3] at e; first | exact absurd e n1 | exact absurd e n2 | exact absurd e n3 | exact absurd e d12 | exact absurd e d13 | exact absurd e d23 | exact absurd e.symm n1 | exact absurd e.symm n2 | exact absurd e.symm n3 | exact absurd e.symm d12 | exact absurd e.symm d13 | exact absurd e.symm d23)
    · rw [e0, e1, e2, e3]; exact ⟨cv, v2, v3, v4⟩
    · rw [e0, e1, e2, e3, sUR_n n1]; exact ⟨v5, v6, v7, v8⟩
    · rw [e1, sUR_e, va_cpy, if_pos (by omega), o1.2.2.2, show 0 + (k - 0) = k by omega]; rfl
    · rw [e3, sUR_n (Ne.symm d13)]; exact v9 k
    · obtain ⟨x1, x2, x3, x4⟩ := hX a ha (fun e => ha (by rw [e]; exact hv))
      exact ⟨x1, x2, x3, (sUR_n (fun e => ha (by rw [e]; exact y1))).trans x4⟩
  have k0 := key 0 (by omega) _ _ hI
  rw [show (up (up (up (up A 0 v) 1 q1) 2 q2) 3 q3) 0 = v by rw [up_ne (by decide), up_ne (by decide), up_ne (by decide), up_eq]] at k0
  first | refine j_astore_n dX6_twin_11 (by decide) ?_ | refine j_astore_nN dX6_twin_11 (by decide) ?_
  first | refine j_aload_n dX6_twin_12 rfl ?_ | refine j_aload_nN dX6_twin_12 rfl ?_
  refine j_getR dX6_twin_13 fl_X6_11 rfl (by first | exact c0 | exact c0r | exact cv | exact v5 | exact Pv.sh hR | assumption) (by first | exact c0 | exact c0r | exact cv | exact v5 | exact Pv.r0 hR | assumption) ?_
  refine j_iconst (v := nI 0) dX6_twin_16 (by decide +kernel) ?_
  first | refine j_aload_n dX6_twin_17 rfl ?_ | refine j_aload_nN dX6_twin_17 rfl ?_
  refine j_getR dX6_twin_18 fl_X6_11 rfl (by first | exact c0 | exact c0r | exact cv | exact v5 | exact Pv.sh hR | assumption) (by first | exact c0 | exact c0r | exact cv | exact v5 | exact Pv.r0 hR | assumption) ?_
  refine j_iconst (v := nI 0) dX6_twin_21 (by decide +kernel) ?_
  refine j_bipush (v := nI 8) dX6_twin_22 (by decide +kernel) ?_
  refine j_cpR (t := 26) (ci := 10) (sp := 0) (dp := 0) (n := 8) dX6_twin_24 q1292 (fun _ => rfl) (by decide) (by decide) c1 v2 (fun i hi y hy => by
    rw [Nat.zero_add, o1.2.2.2] at hy
    have := hR.2.2.2.2.2.2.2.2.2.1 i y hi hy
    exact (hold y (by rw [this]; simp)).1.trans this) (by decide) (by decide) (by decide) (by decide) (Nat.le_of_ble_eq_true rfl) ?_
  refine j_iconst (v := nI 0) dX6_twin_27 (by decide +kernel) ?_
  refine j_istore_n dX6_twin_28 (by decide) ?_
  exact k0
end X23s
