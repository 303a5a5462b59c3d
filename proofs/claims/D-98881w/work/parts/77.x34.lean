/-! THE FLAT RUN against the Model's blocks: a plain law -/
set_option maxRecDepth 100000
/-- the state of a run -/
abbrev Yz := (Nat → Int32) × (Nat → Int32)
/-- a step of the flat run: the state, and where it leads before ends are looked at -/
def xStp (W P Dn : Nat) (kf tf wf : Nat → Nat) (k : Nat) (z : Yz) : Yz × Nat :=
  if kf k < 17 then (((yDoes W P Dn (177 + 9 * wf k) z.1 z.2).2.1, if (yDoes W P Dn (177 + 9 * wf k) z.1 z.2).1 then (yDoes W P Dn (177 + 9 * wf k) z.1 z.2).2.2 else up (yDoes W P Dn (177 + 9 * wf k) z.1 z.2).2.2 39 ((yDoes W P Dn (177 + 9 * wf k) z.1 z.2).2.2 39 + nI 1)), k + 1)
  else if kf k = 17 then (z, if yHolds W (177 + 9 * wf k) z.1 then k + 1 else tf k + 1)
  else ((z.1, up z.2 (k + 100) (z.1 (177 + 9 * wf k + 1))), k + 1)
/-- the flat run from step k on -/
def Xf (W P Dn n : Nat) (kf tf wf : Nat → Nat) : Nat → Nat → Yz → Yz → Prop
  | 0, _, _, _ => False
  | F + 1, k, z, z' => (¬ k < n ∧ z' = z) ∨ (k < n ∧ z.2 38 = nI 300 ∧ z' = (z.1, up z.2 43 (nI 1))) ∨ (k < n ∧ ¬ z.2 38 = nI 300 ∧ kf k = 19 ∧ z' = (z.1, up z.2 38 (z.2 38 + nI 1))) ∨ (k < n ∧ ¬ z.2 38 = nI 300 ∧ kf k < 19 ∧ ∃ f V' k', bE n kf tf f (xStp W P Dn kf tf wf k (z.1, up z.2 38 (z.2 38 + nI 1))).1.2 (xStp W P Dn kf tf wf k (z.1, up z.2 38 (z.2 38 + nI 1))).2 = some (V', k') ∧ Xf W P Dn n kf tf wf F k' ((xStp W P Dn kf tf wf k (z.1, up z.2 38 (z.2 38 + nI 1))).1.1, V') z')
def Xr (W P Dn n : Nat) (kf tf wf : Nat → Nat) (k : Nat) (z z' : Yz) : Prop := ∃ F, Xf W P Dn n kf tf wf F k z z'
theorem Xr.fin {W P Dn n : Nat} {kf tf wf : Nat → Nat} {k : Nat} {z : Yz} (h : ¬ k < n) : Xr W P Dn n kf tf wf k z z := ⟨1, Or.inl ⟨h, rfl⟩⟩
theorem Xr.full {W P Dn n : Nat} {kf tf wf : Nat → Nat} {k : Nat} {z : Yz} (h : k < n) (h3 : z.2 38 = nI 300) : Xr W P Dn n kf tf wf k z (z.1, up z.2 43 (nI 1)) := ⟨1, Or.inr (Or.inl ⟨h, h3, rfl⟩)⟩
theorem Xr.stop {W P Dn n : Nat} {kf tf wf : Nat → Nat} {k : Nat} {z : Yz} (h : k < n) (h3 : ¬ z.2 38 = nI 300) (h19 : kf k = 19) : Xr W P Dn n kf tf wf k z (z.1, up z.2 38 (z.2 38 + nI 1)) := ⟨1, Or.inr (Or.inr (Or.inl ⟨h, h3, h19, rfl⟩))⟩
theorem Xr.go {W P Dn n : Nat} {kf tf wf : Nat → Nat} {k f k' : Nat} {z z' : Yz} {V' : Nat → Int32} (h : k < n) (h3 : ¬ z.2 38 = nI 300) (h19 : kf k < 19) (hb : bE n kf tf f (xStp W P Dn kf tf wf k (z.1, up z.2 38 (z.2 38 + nI 1))).1.2 (xStp W P Dn kf tf wf k (z.1, up z.2 38 (z.2 38 + nI 1))).2 = some (V', k')) (hX : Xr W P Dn n kf tf wf k' ((xStp W P Dn kf tf wf k (z.1, up z.2 38 (z.2 38 + nI 1))).1.1, V') z') : Xr W P Dn n kf tf wf k z z' := by
  obtain ⟨F, hF⟩ := hX
  exact ⟨F + 1, Or.inr (Or.inr (Or.inr ⟨h, h3, h19, f, V', k', hb, hF⟩))⟩
/-- the run from where ends are looked at -/
def Xb (W P Dn n : Nat) (kf tf wf : Nat → Nat) (k : Nat) (z z' : Yz) : Prop := ∃ f V' k', bE n kf tf f z.2 k = some (V', k') ∧ Xr W P Dn n kf tf wf k' (z.1, V') z'
/-- the steps s to t lie flat in a to b -/
def FB (C : Nat → Int32) (W P : Nat) (kf tf wf : Nat → Nat) : Nat → Nat → Nat → Nat → Nat → Prop
  | 0, s, t, a, b => s = t ∧ a = b
  | f + 1, s, t, a, b => (s = t ∧ a = b) ∨ (s < t ∧ a < b ∧ s < 30 ∧ wf a = s ∧ Sw C W P (177 + 9 * s) ∧ ∃ kd e, C (177 + 9 * s) = nI kd ∧ kd ≤ 7 ∧ C (177 + 9 * s + 8) = nI e ∧ s < e ∧ e ≤ t ∧ e ≤ 30 ∧ kf a = 12 + kd ∧ (kd = 6 → ∃ m, 1 ≤ m ∧ m ≤ 99 ∧ C (177 + 9 * s + 1) = nI m) ∧ (¬ (kd = 5 ∨ kd = 6) → e = s + 1 ∧ FB C W P kf tf wf f e t (a + 1) b) ∧ (kd = 5 ∨ kd = 6 → ∃ c, a < c ∧ c < b ∧ kf c = 20 ∧ tf c = a ∧ tf a = c ∧ FB C W P kf tf wf f (s + 1) e (a + 1) c ∧ FB C W P kf tf wf f e t (c + 1) b))
theorem FB.fr {C D : Nat → Int32} {W P : Nat} {kf tf wf : Nat → Nat} (hf : Fr C D) : ∀ f s t a b, FB C W P kf tf wf f s t a b → FB D W P kf tf wf f s t a b := by
  intro f
  induction f with
  | zero => intro s t a b h; exact h
  | succ f ih =>
    intro s t a b h
    rcases h with h | ⟨h1, h2, h3, h4, h5, kd, e, h6, h7, h8, h9, h10, h11, h12, h13, h14, h15⟩
    · exact Or.inl h
    · refine Or.inr ⟨h1, h2, h3, h4, h5.fr (by omega) hf, kd, e, (hf _ (by omega)).trans h6, h7, (hf _ (by omega)).trans h8, h9, h10, h11, h12, fun q => ?_, fun q => ⟨(h14 q).1, ih _ _ _ _ (h14 q).2⟩, fun q => ?_⟩
      · obtain ⟨m, m1, m2, m3⟩ := h13 q
        exact ⟨m, m1, m2, (hf _ (by omega)).trans m3⟩
      · obtain ⟨c, c1, c2, c3, c4, c5, c6, c7⟩ := h15 q
        exact ⟨c, c1, c2, c3, c4, c5, ih _ _ _ _ c6, ih _ _ _ _ c7⟩
theorem FB.le {C : Nat → Int32} {W P : Nat} {kf tf wf : Nat → Nat} {f s t a b : Nat} (h : FB C W P kf tf wf f s t a b) : a ≤ b := by
  cases f with
  | zero => exact Nat.le_of_eq h.2
  | succ f =>
    rcases h with h | h
    · exact Nat.le_of_eq h.2
    · exact Nat.le_of_lt h.2.1
section XR
variable {W P Dn n : Nat} {kf tf wf : Nat → Nat}
theorem Xb.of {k : Nat} {z z' : Yz} (h : Xr W P Dn n kf tf wf k z z') (hk : ¬ (k < n ∧ kf k = 20)) : Xb W P Dn n kf tf wf k z z' := ⟨1, z.2, k, by rw [bE, if_neg hk], h⟩
theorem Xb.when {c a : Nat} {z z' : Yz} (hc : c < n) (h20 : kf c = 20) (e : tf c = a) (ha : kf a ≠ 18) (h : Xb W P Dn n kf tf wf (c + 1) z z') : Xb W P Dn n kf tf wf c z z' := by
  obtain ⟨f, V', k', h1, h2⟩ := h
  exact ⟨f + 1, V', k', by rw [bE, if_pos ⟨hc, h20⟩, e, if_neg ha]; exact h1, h2⟩
theorem Xb.out {c a : Nat} {C V : Nat → Int32} {z' : Yz} (hc : c < n) (h20 : kf c = 20) (e : tf c = a) (ha : kf a = 18) (hv : V (a + 100) = nI 1) (h : Xb W P Dn n kf tf wf (c + 1) (C, up V (a + 100) (nI 0)) z') : Xb W P Dn n kf tf wf c (C, V) z' := by
  obtain ⟨f, V', k', h1, h2⟩ := h
  refine ⟨f + 1, V', k', ?_, h2⟩
  dsimp only at h1 ⊢
  rw [bE, if_pos ⟨hc, h20⟩, e, if_pos ha, hv, if_pos (by decide), show nI 1 - nI 1 = nI 0 by decide]
  exact h1
theorem Xb.again {c a r : Nat} {C V : Nat → Int32} {z' : Yz} (hc : c < n) (h20 : kf c = 20) (e : tf c = a) (ha : kf a = 18) (hr : 1 ≤ r) (hr2 : r ≤ 99) (hv : V (a + 100) = nI (r + 1)) (h : Xb W P Dn n kf tf wf (a + 1) (C, up V (a + 100) (nI r)) z') : Xb W P Dn n kf tf wf c (C, V) z' := by
  obtain ⟨f, V', k', h1, h2⟩ := h
  refine ⟨f + 1, V', k', ?_, h2⟩
  dsimp only at h1 ⊢
  have e1 : nI (r + 1) - nI 1 = nI r := by rw [nI_sub (by omega), Nat.add_sub_cancel]
  have e2 : ¬ nI r ≤ 0 := by rw [← nI_0, nI_leI (by omega) (by omega)]; omega
  rw [bE, if_pos ⟨hc, h20⟩, e, if_pos ha, hv, e1, if_neg e2]
  exact h1
theorem itr_c {α : Type} (F : α → α) : ∀ r (z : α), itr (fun _ y => F y) (r + 1) z = itr (fun _ y => F y) r (F z) := by
  intro r
  induction r with
  | zero => intro z; rfl
  | succ r ih => intro z; rw [itr, ih z]; rfl
/-- what the flat run from a on owes to the Model's state y, with cells of rounds kept but for those from a to b -/
def Xq (W P Dn n : Nat) (kf tf wf : Nat → Nat) (a b : Nat) (C V : Nat → Int32) (y : Yz) : Prop :=
  (¬ y.2 36 = 0 → ∃ V', Vq y.2 V' ∧ Xb W P Dn n kf tf wf a (C, V) (y.1, V')) ∧
  (y.2 36 = 0 → ∃ V', Vq y.2 V' ∧ (∀ j, j < a ∨ b ≤ j → V' (j + 100) = V (j + 100)) ∧ ∀ z', Xb W P Dn n kf tf wf b (y.1, V') z' → Xb W P Dn n kf tf wf a (C, V) z')
theorem yAll_over {f s t : Nat} {z : Yz} (h : ¬ z.2 36 = 0) : yAll W P Dn f s t z = z := by
  cases f with
  | zero => rfl
  | succ f => rw [yAll, if_neg (fun q => h q.2)]
theorem x_law {C0 : Nat → Int32} : ∀ f s t a b, FB C0 W P kf tf wf f s t a b → b ≤ n → ∀ (C U V : Nat → Int32), Wd C W P Dn → Iz C0 (C, U) → Vq U V → U 36 = 0 → Iz C0 (yAll W P Dn f s t (C, U)) ∧ Wd (yAll W P Dn f s t (C, U)).1 W P Dn ∧ Xq W P Dn n kf tf wf a b C V (yAll W P Dn f s t (C, U)) := by
  intro f
  induction f with
  | zero =>
    intro s t a b h hb C U V hw hI hV h36
    obtain ⟨-, rfl⟩ := h
    exact ⟨hI, hw, fun q => absurd h36 q, fun _ => ⟨V, hV, fun _ _ => rfl, fun _ q => q⟩⟩
  | succ f ih =>
    intro s t a b h hb C U V hw hI hV h36
    rcases h with ⟨rfl, rfl⟩ | ⟨hst, hab, hs30, hwf, hS0, kd, e, h6, h7, h8, h9, h10, h11, h12, h13, h14, h15⟩
    · rw [yAll, if_neg (fun q => Nat.lt_irrefl _ q.1)]
      exact ⟨hI, hw, fun q => absurd h36 q, fun _ => ⟨V, hV, fun _ _ => rfl, fun _ q => q⟩⟩
    · have hFr : Fr C0 C := hI.1
      have hS : Sw C W P (177 + 9 * s) := hS0.fr (by omega) hFr
      have ck : C (177 + 9 * s) = nI kd := (hFr _ (by omega)).trans h6
      have c8 : C (177 + 9 * s + 8) = nI e := (hFr _ (by omega)).trans h8
      have ee : ixn (C (177 + 9 * s + 8)) = e := by rw [c8, ixn_nI (by omega)]
      have han : a < n := by omega
      have v38 : V 38 = U 38 := hV 38 (by decide) (by decide)
      have nb : ∀ j, j < n ∧ kf j = 20 → j ≠ a := fun j q e => by rw [e, h12] at q; omega
      have hXof : ∀ z z', Xr W P Dn n kf tf wf a z z' → Xb W P Dn n kf tf wf a z z' := fun z z' q => Xb.of q (fun q => nb a q rfl)
      rw [yAll, if_pos ⟨hst, h36⟩]
      dsimp only
      rw [ee]
      obtain ⟨hFr, r, hr2, hr⟩ := id hI
      dsimp only at hr
      -- the join of what a step leaves with what follows
      have join : ∀ (y : Yz) (m : Nat), Iz C0 y → Wd y.1 W P Dn → FB C0 W P kf tf wf f e t m b → Xq W P Dn n kf tf wf a m C V y → a < m → m ≤ b → Iz C0 (yAll W P Dn f e t y) ∧ Wd (yAll W P Dn f e t y).1 W P Dn ∧ Xq W P Dn n kf tf wf a b C V (yAll W P Dn f e t y) := by
        intro y m yI yw hB hq ham hmb
        by_cases y36 : y.2 36 = 0
        · obtain ⟨V1, q1, q2, q3⟩ := hq.2 y36
          obtain ⟨r1, r0, r2⟩ := ih e t m b hB hb y.1 y.2 V1 yw yI q1 y36
          refine ⟨r1, r0, fun q => ?_, fun q => ?_⟩
          · obtain ⟨V2, p1, p2⟩ := r2.1 q
            exact ⟨V2, p1, q3 _ p2⟩
          · obtain ⟨V2, p1, p2, p3⟩ := r2.2 q
            exact ⟨V2, p1, fun j hj => (p2 j (by omega)).trans (q2 j (by omega)), fun z' p => q3 _ (p3 _ p)⟩
        · rw [yAll_over y36]
          exact ⟨yI, yw, hq.1, fun q => absurd q y36⟩
      have eY : yOne W P Dn (yAll W P Dn f) s (C, U) = if U 38 = nI 300 then (C, up (up U 36 (nI 1)) 43 (nI 1)) else if C (177 + 9 * s) < nI 5 then ((yDoes W P Dn (177 + 9 * s) C (up U 38 (U 38 + nI 1))).2.1, up (yDoes W P Dn (177 + 9 * s) C (up U 38 (U 38 + nI 1))).2.2 39 (U 39 + (if (yDoes W P Dn (177 + 9 * s) C (up U 38 (U 38 + nI 1))).1 then nI 0 else nI 1))) else if C (177 + 9 * s) = nI 5 then (if yHolds W (177 + 9 * s) C then yAll W P Dn f (s + 1) e (C, up U 38 (U 38 + nI 1)) else (C, up U 38 (U 38 + nI 1))) else if C (177 + 9 * s) = nI 6 then itr (fun _ y => if y.2 36 = 0 then yAll W P Dn f (s + 1) e y else y) (ixn (C (177 + 9 * s + 1))) (C, up U 38 (U 38 + nI 1)) else (C, up (up U 38 (U 38 + nI 1)) 36 (nI 1)) := by
        rw [← ee]; rfl
      by_cases k300 : U 38 = nI 300
      · rw [eY, if_pos k300]
        have y36 : ¬ (up (up U 36 (nI 1)) 43 (nI 1)) 36 = 0 := by rw [up_ne (by decide), up_eq]; decide
        rw [yAll_over y36]
        refine ⟨⟨hFr, r, hr2, by dsimp only; rw [up_ne (by decide), up_ne (by decide)]; exact hr⟩, hw, fun _ => ?_, fun q => absurd q y36⟩
        exact ⟨up V 43 (nI 1), (hV.u1 (by decide)).u rfl, hXof _ _ (Xr.full (z := (C, V)) han (v38.trans k300))⟩
      have v300 : ¬ V 38 = nI 300 := by rw [v38]; exact k300
      have hV1 : Vq (up U 38 (U 38 + nI 1)) (up V 38 (V 38 + nI 1)) := hV.u (by rw [v38])
      have r1 : up U 38 (U 38 + nI 1) 37 = nI r := (up_ne (by decide)).trans hr
      have z1 : up U 38 (U 38 + nI 1) 36 = 0 := (up_ne (by decide)).trans h36
      have hI1 : Iz C0 (C, up U 38 (U 38 + nI 1)) := ⟨hFr, r, hr2, r1⟩
      have u39 : up U 38 (U 38 + nI 1) 39 = U 39 := up_ne (by decide)
      have vout : ∀ j, (up V 38 (V 38 + nI 1)) (j + 100) = V (j + 100) := fun j => up_ne (by omega)
      rw [if_neg k300] at eY
      -- going on from a step that is no stop
      have hgo : kd < 7 → ∀ y m, xStp W P Dn kf tf wf a (C, up V 38 (V 38 + nI 1)) = (y, m) → ∀ z', Xb W P Dn n kf tf wf m y z' → Xb W P Dn n kf tf wf a (C, V) z' := by
        intro hkd y m hx z' ⟨g, V', k', q1, q2⟩
        refine hXof _ _ (Xr.go (z := (C, V)) (V' := V') (k' := k') (f := g) han v300 (by omega) ?_ ?_)
        · dsimp only; rw [hx]; exact q1
        · dsimp only; rw [hx]; exact q2
      clear hXof
      generalize hU1 : up U 38 (U 38 + nI 1) = U1 at *
      generalize hV1e : up V 38 (V 38 + nI 1) = V1 at *
      by_cases k4 : kd < 5
      · have c5 : C (177 + 9 * s) < nI 5 := by rw [ck, nI_ltI (by omega) (by omega)]; exact k4
        obtain ⟨e1, hB⟩ := h14 (by omega)
        rw [eY, if_pos c5]
        have oI := yDoes_iz (C0 := C0) hw hS hI1
        obtain ⟨o1, o2, o3, o4, o5⟩ := yDoes_cg (C := C) (W := W) (P := P) (Dn := Dn) (w := 177 + 9 * s) hV1
        have hx : xStp W P Dn kf tf wf a (C, V1) = ((((yDoes W P Dn (177 + 9 * s) C V1).2.1), if (yDoes W P Dn (177 + 9 * s) C V1).1 then (yDoes W P Dn (177 + 9 * s) C V1).2.2 else up (yDoes W P Dn (177 + 9 * s) C V1).2.2 39 ((yDoes W P Dn (177 + 9 * s) C V1).2.2 39 + nI 1)), a + 1) := by
          unfold xStp
          rw [if_pos (by omega), hwf]
        replace hx := hgo (by omega) _ _ hx
        clear hgo eY
        rw [o1, o2] at hx
        generalize hO : yDoes W P Dn (177 + 9 * s) C U1 = O at *
        generalize hQ : yDoes W P Dn (177 + 9 * s) C V1 = Q at *
        refine join _ (a + 1) ⟨oI.1, oI.2.choose, oI.2.choose_spec.1, ?_⟩ (hw.fr (by rw [← hO]; exact (yDoes_iz (C0 := C) hw hS ⟨Fr.rf, r, hr2, r1⟩).1)) hB ⟨fun q => absurd ?_ q, fun _ => ?_⟩ (by omega) (by omega)
        · dsimp only; rw [up_ne (by decide)]; exact oI.2.choose_spec.2
        · dsimp only; rw [up_ne (by decide), o4 36 (by decide)]; exact z1
        · refine ⟨_, ?_, fun j _ => ?_, fun z' q => hx z' q⟩
          · dsimp only
            cases O.1 with
            | true => rw [if_pos rfl, if_pos rfl, nI_0, Int32.add_zero, ← u39, ← o4 39 (by decide), up_self]; exact o3
            | false =>
              rw [if_neg (by decide), if_neg (by decide)]
              exact o3.u (by rw [o3 39 (by decide) (by decide), o4 39 (by decide), u39])
          · cases O.1 with
            | true => rw [if_pos rfl, o5 _ (by omega)]; exact vout j
            | false => rw [if_neg (by decide), up_ne (by omega), o5 _ (by omega)]; exact vout j
      have n5 : ¬ C (177 + 9 * s) < nI 5 := by rw [ck, nI_ltI (by omega) (by omega)]; exact k4
      rw [if_neg n5] at eY
      by_cases k5 : kd = 5
      · have c5 : C (177 + 9 * s) = nI 5 := by rw [ck, k5]
        rw [if_pos c5] at eY
        obtain ⟨c, ac, cb, kc, tc, ta, hB1, hB2⟩ := h15 (Or.inl k5)
        have ka : kf a ≠ 18 := by omega
        by_cases hh : yHolds W (177 + 9 * s) C = true
        · rw [eY, if_pos hh]
          obtain ⟨r1', r0', r2'⟩ := ih (s + 1) e (a + 1) c hB1 (by omega) C U1 V1 hw hI1 hV1 z1
          have hx := hgo (by omega) (C, V1) (a + 1) (by unfold xStp; rw [if_neg (by omega), if_pos (by omega), hwf]; dsimp only; rw [hh, if_pos rfl])
          refine join _ (c + 1) r1' r0' hB2 ⟨fun q => ?_, fun q => ?_⟩ (by omega) (by omega)
          · obtain ⟨V2, p1, p2⟩ := r2'.1 q
            exact ⟨V2, p1, hx _ p2⟩
          · obtain ⟨V2, p1, p2, p3⟩ := r2'.2 q
            exact ⟨V2, p1, fun j hj => (p2 j (by omega)).trans (vout j), fun z' p => hx _ (p3 _ (Xb.when (by omega) kc tc ka p))⟩
        · rw [eY, if_neg hh]
          have hx := hgo (by omega) (C, V1) (c + 1) (by unfold xStp; rw [if_neg (by omega), if_pos (by omega), hwf]; dsimp only; rw [if_neg hh, ta])
          exact join _ (c + 1) hI1 hw hB2 ⟨fun q => absurd z1 q, fun _ => ⟨V1, hV1, fun j _ => vout j, fun z' p => hx _ p⟩⟩ (by omega) (by omega)
      have m5 : ¬ C (177 + 9 * s) = nI 5 := by rw [ck, nI_eq (by omega) (by omega)]; exact k5
      rw [if_neg m5] at eY
      by_cases k6 : kd = 6
      · have c6 : C (177 + 9 * s) = nI 6 := by rw [ck, k6]
        rw [if_pos c6] at eY
        obtain ⟨m, m1, m2, m3⟩ := h13 k6
        have cm : C (177 + 9 * s + 1) = nI m := (hFr _ (by omega)).trans m3
        obtain ⟨c, ac, cb, kc, tc, ta, hB1, hB2⟩ := h15 (Or.inr k6)
        have ka : kf a = 18 := by omega
        rw [eY, cm, ixn_nI (by omega)]
        have hx := hgo (by omega) (C, up V1 (a + 100) (nI m)) (a + 1) (by unfold xStp; rw [if_neg (by omega), if_neg (by omega), hwf]; dsimp only; rw [cm])
        -- the rounds
        have rnd : ∀ r, 1 ≤ r → r ≤ 99 → ∀ (z : Yz) (Vz : Nat → Int32), Iz C0 z → Wd z.1 W P Dn → Vq z.2 Vz → z.2 36 = 0 → Vz (a + 100) = nI r → Iz C0 (itr (fun _ y => if y.2 36 = 0 then yAll W P Dn f (s + 1) e y else y) r z) ∧ Wd (itr (fun _ y => if y.2 36 = 0 then yAll W P Dn f (s + 1) e y else y) r z).1 W P Dn ∧ (¬ (itr (fun _ y => if y.2 36 = 0 then yAll W P Dn f (s + 1) e y else y) r z).2 36 = 0 → ∃ V', Vq (itr (fun _ y => if y.2 36 = 0 then yAll W P Dn f (s + 1) e y else y) r z).2 V' ∧ Xb W P Dn n kf tf wf (a + 1) (z.1, Vz) ((itr (fun _ y => if y.2 36 = 0 then yAll W P Dn f (s + 1) e y else y) r z).1, V')) ∧ ((itr (fun _ y => if y.2 36 = 0 then yAll W P Dn f (s + 1) e y else y) r z).2 36 = 0 → ∃ V', Vq (itr (fun _ y => if y.2 36 = 0 then yAll W P Dn f (s + 1) e y else y) r z).2 V' ∧ (∀ j, j < a ∨ c < j → V' (j + 100) = Vz (j + 100)) ∧ ∀ z', Xb W P Dn n kf tf wf (c + 1) ((itr (fun _ y => if y.2 36 = 0 then yAll W P Dn f (s + 1) e y else y) r z).1, V') z' → Xb W P Dn n kf tf wf (a + 1) (z.1, Vz) z') := by
          intro r
          induction r with
          | zero => intro q; omega
          | succ r ihr =>
            intro _ hr99 z Vz zI zw zV z36 zr
            rw [itr_c (F := fun y => if y.2 36 = 0 then yAll W P Dn f (s + 1) e y else y), if_pos z36]
            obtain ⟨y1, y0, y2⟩ := ih (s + 1) e (a + 1) c hB1 (by omega) z.1 z.2 Vz zw zI zV z36
            generalize yAll W P Dn f (s + 1) e (z.1, z.2) = y at *
            have hov : ¬ y.2 36 = 0 → ∀ r, itr (fun _ y => if y.2 36 = 0 then yAll W P Dn f (s + 1) e y else y) r y = y := fun q r => itr_over (α := Yz) (Q := fun y => ¬ y.2 36 = 0) (j := 0) (fun k y q => if_neg q) q r (by omega)
            by_cases y36 : y.2 36 = 0
            · obtain ⟨V2, p1, p2, p3⟩ := y2.2 y36
              have va : V2 (a + 100) = nI (r + 1) := (p2 a (by omega)).trans zr
              by_cases hr0 : r = 0
              · subst hr0
                rw [show itr (fun _ y => if y.2 36 = 0 then yAll W P Dn f (s + 1) e y else y) 0 y = y from rfl]
                refine ⟨y1, y0, fun q => absurd y36 q, fun _ => ⟨up V2 (a + 100) (nI 0), p1.u2 (by omega), fun j hj => ?_, fun z' p => p3 _ (Xb.out (by omega) kc tc ka va p)⟩⟩
                rw [up_ne (by omega)]
                exact p2 j (by omega)
              · obtain ⟨t1, t0, t2, t3⟩ := ihr (by omega) (by omega) y (up V2 (a + 100) (nI r)) y1 y0 (p1.u2 (by omega)) y36 (up_eq _ _ _)
                refine ⟨t1, t0, fun q => ?_, fun q => ?_⟩
                · obtain ⟨V3, s1, s2⟩ := t2 q
                  exact ⟨V3, s1, p3 _ (Xb.again (by omega) kc tc ka (by omega) (by omega) va s2)⟩
                · obtain ⟨V3, s1, s2, s3⟩ := t3 q
                  refine ⟨V3, s1, fun j hj => ?_, fun z' p => p3 _ (Xb.again (by omega) kc tc ka (by omega) (by omega) va (s3 _ p))⟩
                  rw [s2 j hj, up_ne (by omega)]
                  exact p2 j (by omega)
            · rw [hov y36]
              refine ⟨y1, y0, fun q => ?_, fun q => absurd q y36⟩
              exact y2.1 q
        obtain ⟨t1, t0, t2, t3⟩ := rnd m m1 m2 (C, U1) (up V1 (a + 100) (nI m)) hI1 hw (hV1.u2 (by omega)) z1 (up_eq _ _ _)
        refine join _ (c + 1) t1 t0 hB2 ⟨fun q => ?_, fun q => ?_⟩ (by omega) (by omega)
        · obtain ⟨V2, p1, p2⟩ := t2 q
          exact ⟨V2, p1, hx _ p2⟩
        · obtain ⟨V2, p1, p2, p3⟩ := t3 q
          refine ⟨V2, p1, fun j hj => ?_, fun z' p => hx _ (p3 _ p)⟩
          rw [p2 j (by omega), up_ne (by omega)]
          exact vout j
      · have k7 : kd = 7 := by omega
        have m6 : ¬ C (177 + 9 * s) = nI 6 := by rw [ck, nI_eq (by omega) (by omega)]; exact k6
        rw [eY, if_neg m6]
        have y36 : ¬ (up U1 36 (nI 1)) 36 = 0 := by rw [up_eq]; decide
        rw [yAll_over y36]
        refine ⟨⟨hFr, r, hr2, by dsimp only; rw [up_ne (by decide)]; exact r1⟩, hw, fun _ => ⟨V1, hV1.u1 (by decide), ?_⟩, fun q => absurd q y36⟩
        have z := Xr.stop (W := W) (P := P) (Dn := Dn) (tf := tf) (wf := wf) (z := (C, V)) han v300 (show kf a = 19 by omega)
        dsimp only at z
        rw [hV1e] at z
        exact Xb.of z (fun q => nb a q rfl)
/-- the whole run -/
theorem x_law0 {C U V : Nat → Int32} {N : Nat} (hB : FB C W P kf tf wf 31 0 N 0 n) (hw : Wd C W P Dn) (hI : Iz C (C, U)) (hV : Vq U V) (h36 : U 36 = 0) : ∃ V', Vq (yAll W P Dn 31 0 N (C, U)).2 V' ∧ Xr W P Dn n kf tf wf 0 (C, V) ((yAll W P Dn 31 0 N (C, U)).1, V') := by
  obtain ⟨-, -, h⟩ := x_law (n := n) 31 0 N 0 n hB (Nat.le_refl _) C U V hw hI hV h36
  have h0 : ¬ (0 < n ∧ kf 0 = 20) := by
    rcases hB with ⟨-, e⟩ | ⟨-, -, -, -, -, kd, e, -, h7, -, -, -, -, h12, -⟩
    · intro q; omega
    · intro q; omega
  have fin : ∀ z', Xb W P Dn n kf tf wf 0 (C, V) z' → Xr W P Dn n kf tf wf 0 (C, V) z' := fun z' ⟨f, V', k', q1, q2⟩ => by
    cases f with
    | zero => cases q1
    | succ f =>
      rw [bE, if_neg h0] at q1
      cases q1
      exact q2
  by_cases q : (yAll W P Dn 31 0 N (C, U)).2 36 = 0
  · obtain ⟨V', p1, -, p3⟩ := h.2 q
    exact ⟨V', p1, fin _ (p3 _ (Xb.of (Xr.fin (Nat.lt_irrefl _)) (fun q => Nat.lt_irrefl _ q.1)))⟩
  · obtain ⟨V', p1, p2⟩ := h.1 q
    exact ⟨V', p1, fin _ p2⟩
end XR
