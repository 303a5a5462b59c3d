/-! X: GAMES -/
set_option maxRecDepth 100000
/-- the lens of one person -/
def pe1 (b la aa p a k : Nat) : Option Nat := if a = b then (if k = 3 then some (25 + p) else if k = 4 then some (37 + p) else if k = 5 then some (43 + p) else if k = 6 then some (31 + p) else none) else if a = la then (if k < 8 then some (49 + 8 * p + k) else none) else if a = aa then (if k < 8 then some (97 + 8 * p + k) else none) else none
theorem pe1_c {b la aa p a k i : Nat} (hp : p < 6) (h : pe1 b la aa p a k = some i) : pcell p i ∧ ((a = b ∧ ((k = 3 ∧ i = 25 + p) ∨ (k = 4 ∧ i = 37 + p) ∨ (k = 5 ∧ i = 43 + p) ∨ (k = 6 ∧ i = 31 + p))) ∨ (a = la ∧ k < 8 ∧ i = 49 + 8 * p + k) ∨ (a = aa ∧ k < 8 ∧ i = 97 + 8 * p + k)) := by
  unfold pe1 at h
  unfold pcell
  split at h
  · split at h
    · cases h; omega
    · split at h
      · cases h; omega
      · split at h
        · cases h; omega
        · split at h
          · cases h; omega
          · cases h
  · split at h
    · split at h
      · cases h; omega
      · cases h
    · split at h
      · split at h
        · cases h; omega
        · cases h
      · cases h
theorem pe1_n {b la aa p a k : Nat} (h1 : a ≠ b) (h2 : a ≠ la) (h3 : a ≠ aa) : pe1 b la aa p a k = none := by unfold pe1; rw [if_neg h1, if_neg h2, if_neg h3]
/-- the lens of the two of a level -/
def gL (B : Nat → Nat) (p q t a k : Nat) : Option Nat := match pe1 (B (40 + t)) (B (50 + t)) (B (60 + t)) p a k with
  | some i => some i
  | none => pe1 (B (70 + t)) (B (80 + t)) (B (90 + t)) q a k
def gi (i : Nat) : Prop := 40 ≤ i ∧ i < 100 ∧ i % 10 < 4
def Gi (B : Nat → Nat) : Prop := ∀ i j, gi i → gi j → B i = B j → i = j
theorem gL_1 {B : Nat → Nat} {p q t a k i : Nat} (h : pe1 (B (40 + t)) (B (50 + t)) (B (60 + t)) p a k = some i) : gL B p q t a k = some i := by unfold gL; rw [h]
theorem gL_2 {B : Nat → Nat} {p q t a k : Nat} (hB : Gi B) (ht : t < 4) (h : a = B (70 + t) ∨ a = B (80 + t) ∨ a = B (90 + t)) : gL B p q t a k = pe1 (B (70 + t)) (B (80 + t)) (B (90 + t)) q a k := by
  have hn : ∀ x y, (x = 70 + t ∨ x = 80 + t ∨ x = 90 + t) → (y = 40 + t ∨ y = 50 + t ∨ y = 60 + t) → B x ≠ B y := fun x y hx hy e => by
    have := hB x y (by unfold gi; omega) (by unfold gi; omega) e
    omega
  unfold gL
  rcases h with rfl | rfl | rfl
  · rw [pe1_n (hn _ _ (by omega) (by omega)) (hn _ _ (by omega) (by omega)) (hn _ _ (by omega) (by omega))]
  · rw [pe1_n (hn _ _ (by omega) (by omega)) (hn _ _ (by omega) (by omega)) (hn _ _ (by omega) (by omega))]
  · rw [pe1_n (hn _ _ (by omega) (by omega)) (hn _ _ (by omega) (by omega)) (hn _ _ (by omega) (by omega))]
theorem gL_c {B : Nat → Nat} {p q t a k i : Nat} (hp : p < 6) (hq : q < 6) (h : gL B p q t a k = some i) : (pcell p i ∨ pcell q i) ∧ ∃ x, (x = 40 + t ∨ x = 50 + t ∨ x = 60 + t ∨ x = 70 + t ∨ x = 80 + t ∨ x = 90 + t) ∧ a = B x := by
  unfold gL at h
  cases e : pe1 (B (40 + t)) (B (50 + t)) (B (60 + t)) p a k with
  | some j =>
    rw [e] at h
    cases h
    obtain ⟨h1, h2⟩ := pe1_c hp e
    refine ⟨Or.inl h1, ?_⟩
    rcases h2 with ⟨h2, -⟩ | ⟨h2, -⟩ | ⟨h2, -⟩
    · exact ⟨_, by omega, h2⟩
    · exact ⟨50 + t, by omega, h2⟩
    · exact ⟨60 + t, by omega, h2⟩
  | none =>
    rw [e] at h
    obtain ⟨h1, h2⟩ := pe1_c hq h
    refine ⟨Or.inr h1, ?_⟩
    rcases h2 with ⟨h2, -⟩ | ⟨h2, -⟩ | ⟨h2, -⟩
    · exact ⟨70 + t, by omega, h2⟩
    · exact ⟨80 + t, by omega, h2⟩
    · exact ⟨90 + t, by omega, h2⟩
theorem gL_inj {B : Nat → Nat} {p q t : Nat} (hB : Gi B) (ht : t < 4) (hp : p < 6) (hq : q < 6) (hpq : p ≠ q) : Linj (gL B p q t) := by
  intro a k b j i h1 h2
  unfold gL at h1 h2
  have hc : ∀ i, pcell p i → ¬ pcell q i := fun i h => pcell_ne (p := q) (q := p) hq hp (Ne.symm hpq) h
  cases e1 : pe1 (B (40 + t)) (B (50 + t)) (B (60 + t)) p a k with
  | some i1 =>
    rw [e1] at h1
    cases h1
    obtain ⟨c1, d1⟩ := pe1_c hp e1
    cases e2 : pe1 (B (40 + t)) (B (50 + t)) (B (60 + t)) p b j with
    | some i2 =>
      rw [e2] at h2
      cases h2
      obtain ⟨c2, d2⟩ := pe1_c hp e2
      rcases d1 with ⟨x1, y1⟩ | ⟨x1, y1⟩ | ⟨x1, y1⟩ <;> rcases d2 with ⟨x2, y2⟩ | ⟨x2, y2⟩ | ⟨x2, y2⟩ <;> first | exact ⟨x1.trans x2.symm, by omega⟩ | (exfalso; omega)
    | none =>
      rw [e2] at h2
      obtain ⟨c2, d2⟩ := pe1_c hq h2
      exact absurd c2 (hc _ c1)
  | none =>
    rw [e1] at h1
    obtain ⟨c1, d1⟩ := pe1_c hq h1
    cases e2 : pe1 (B (40 + t)) (B (50 + t)) (B (60 + t)) p b j with
    | some i2 =>
      rw [e2] at h2
      cases h2
      obtain ⟨c2, d2⟩ := pe1_c hp e2
      exact absurd c1 (hc _ c2)
    | none =>
      rw [e2] at h2
      obtain ⟨c2, d2⟩ := pe1_c hq h2
      rcases d1 with ⟨x1, y1⟩ | ⟨x1, y1⟩ | ⟨x1, y1⟩ <;> rcases d2 with ⟨x2, y2⟩ | ⟨x2, y2⟩ | ⟨x2, y2⟩ <;> first | exact ⟨x1.trans x2.symm, by omega⟩ | (exfalso; omega)
theorem gL_p {B : Nat → Nat} {σ : Sg} {hx p q t : Nat} (hB : Gi B) (ht : t < 4) (hf : Fa σ hx B) : Pe (gL B p q t) σ (B (40 + t)) (B (50 + t)) (B (60 + t)) p := by
  obtain ⟨⟨h1, h2, h3, h4, h5, h6⟩, -⟩ := hf.2.2.2 t ht
  have n1 : B (50 + t) ≠ B (40 + t) := fun e => by have := hB _ _ (by unfold gi; omega) (by unfold gi; omega) e; omega
  have n2 : B (60 + t) ≠ B (40 + t) := fun e => by have := hB _ _ (by unfold gi; omega) (by unfold gi; omega) e; omega
  have n3 : B (60 + t) ≠ B (50 + t) := fun e => by have := hB _ _ (by unfold gi; omega) (by unfold gi; omega) e; omega
  refine ⟨⟨h2, h3, h4⟩, ⟨h5, h6⟩, ⟨?_, ?_, ?_, ?_⟩, fun j hj => ?_, fun j hj => ?_⟩
  · exact gL_1 (by unfold pe1; rw [if_pos rfl, if_pos rfl])
  · exact gL_1 (by unfold pe1; rw [if_pos rfl, if_neg (by decide), if_pos rfl])
  · exact gL_1 (by unfold pe1; rw [if_pos rfl, if_neg (by decide), if_neg (by decide), if_pos rfl])
  · exact gL_1 (by unfold pe1; rw [if_pos rfl, if_neg (by decide), if_neg (by decide), if_neg (by decide), if_pos rfl])
  · exact gL_1 (by unfold pe1; rw [if_neg n1, if_pos rfl, if_pos hj])
  · exact gL_1 (by unfold pe1; rw [if_neg n2, if_neg n3, if_pos rfl, if_pos hj])
theorem gL_q {B : Nat → Nat} {σ : Sg} {hx p q t : Nat} (hB : Gi B) (ht : t < 4) (hf : Fa σ hx B) : Pe (gL B p q t) σ (B (70 + t)) (B (80 + t)) (B (90 + t)) q := by
  obtain ⟨-, h1, h2, h3, h4, h5, h6⟩ := hf.2.2.2 t ht
  have n1 : B (80 + t) ≠ B (70 + t) := fun e => by have := hB _ _ (by unfold gi; omega) (by unfold gi; omega) e; omega
  have n2 : B (90 + t) ≠ B (70 + t) := fun e => by have := hB _ _ (by unfold gi; omega) (by unfold gi; omega) e; omega
  have n3 : B (90 + t) ≠ B (80 + t) := fun e => by have := hB _ _ (by unfold gi; omega) (by unfold gi; omega) e; omega
  refine ⟨⟨h2, h3, h4⟩, ⟨h5, h6⟩, ⟨?_, ?_, ?_, ?_⟩, fun j hj => ?_, fun j hj => ?_⟩
  · rw [gL_2 hB ht (Or.inl rfl)]; unfold pe1; rw [if_pos rfl, if_pos rfl]
  · rw [gL_2 hB ht (Or.inl rfl)]; unfold pe1; rw [if_pos rfl, if_neg (by decide), if_pos rfl]
  · rw [gL_2 hB ht (Or.inl rfl)]; unfold pe1; rw [if_pos rfl, if_neg (by decide), if_neg (by decide), if_pos rfl]
  · rw [gL_2 hB ht (Or.inl rfl)]; unfold pe1; rw [if_pos rfl, if_neg (by decide), if_neg (by decide), if_neg (by decide), if_pos rfl]
  · rw [gL_2 hB ht (Or.inr (Or.inl rfl))]; unfold pe1; rw [if_neg n1, if_pos rfl, if_pos hj]
  · rw [gL_2 hB ht (Or.inr (Or.inr rfl))]; unfold pe1; rw [if_neg n2, if_neg n3, if_pos rfl, if_pos hj]
/-- some row of what stands at the lens's places -/
theorem put_ex {L : Nat → Nat → Option Nat} (hL : Linj L) (σ : Sg) : ∃ D, put σ L D = σ := by
  classical
  refine ⟨fun i => if h : ∃ x : Nat × Nat, L x.1 x.2 = some i then σ.2.1 (Classical.choose h).1 (Classical.choose h).2 else 0, put_id fun a k i h => ?_⟩
  have hex : ∃ x : Nat × Nat, L x.1 x.2 = some i := ⟨(a, k), h⟩
  rw [dif_pos hex]
  have := hL _ _ _ _ _ h (Classical.choose_spec hex)
  rw [← this.1, ← this.2]
/-- a game's levels above t, and the first move, may differ -/
def Gq (hx : Nat) (B : Nat → Nat) (t : Nat) (τ σ : Sg) : Prop := τ.1 = σ.1 ∧ τ.2.2 = σ.2.2 ∧ ∀ b k, ¬ (b = hx ∧ k = 17) → (∀ x, gi x → t < x % 10 → b ≠ B x) → τ.2.1 b k = σ.2.1 b k
theorem Gq.rf {hx : Nat} {B : Nat → Nat} {t : Nat} {σ : Sg} : Gq hx B t σ σ := ⟨rfl, rfl, fun _ _ _ _ => rfl⟩
theorem Gq.tr {hx : Nat} {B : Nat → Nat} {t : Nat} {ρ τ σ : Sg} (h1 : Gq hx B t ρ τ) (h2 : Gq hx B t τ σ) : Gq hx B t ρ σ := ⟨h1.1.trans h2.1, h1.2.1.trans h2.2.1, fun b k q1 q2 => (h1.2.2 b k q1 q2).trans (h2.2.2 b k q1 q2)⟩
theorem Gq.up {hx : Nat} {B : Nat → Nat} {t t' : Nat} {τ σ : Sg} (h : Gq hx B t τ σ) (ht : t' ≤ t) : Gq hx B t' τ σ := ⟨h.1, h.2.1, fun b k q1 q2 => h.2.2 b k q1 (fun x hx ht2 => q2 x hx (by omega))⟩
theorem Gq.put {hx : Nat} {B : Nat → Nat} {p q t : Nat} {σ : Sg} {D : Nat → Int32} (hp : p < 6) (hq : q < 6) (ht : t < 3) : Gq hx B t (put σ (gL B p q (t + 1)) D) σ := by
  refine ⟨rfl, rfl, fun b k _ q2 => ?_⟩
  rw [put_at]
  cases e : gL B p q (t + 1) b k with
  | none => rfl
  | some i =>
    obtain ⟨-, x, h1, h2⟩ := gL_c hp hq e
    exact absurd h2 (q2 x (by unfold gi; omega) (by omega))
theorem Gq.i17 {hx : Nat} {B : Nat → Nat} {t : Nat} {σ : Sg} {x : Int32} : Gq hx B t (sI σ hx 17 x) σ := ⟨rfl, rfl, fun b k q1 _ => by rw [sI_at, if_neg q1]⟩
theorem Fa.cg {σ τ : Sg} {hx : Nat} {B : Nat → Nat} (h : Fa σ hx B) (h1 : τ.1 = σ.1) (h2 : τ.2.2 = σ.2.2) : Fa τ hx B := by
  unfold Fa at h ⊢
  rw [h1, h2]
  exact h
/-- the base of a game: the face, the province's words -/
def Gb (σ : Sg) (hx : Nat) (B A : Nat → Nat) (C : Nat → Int32) (W : Nat) : Prop := Fa σ hx B ∧ Fq σ hx A ∧ (σ.1 (A 0) = some (6, 0) ∧ σ.2.2.2 (A 0) 0 = some (A 1) ∧ σ.1 (A 1) = some (26, 8)) ∧ ∀ k, k < W → σ.2.2.2 (A 1) k = some (A (10 + k)) ∧ σ.1 (A (10 + k)) = some (10, 0) ∧ σ.2.1 (A (10 + k)) 1 = C (9 + k) ∧ σ.2.1 (A (10 + k)) 2 = C (17 + k)
theorem gad_sh {σ : Sg} {hx : Nat} {B : Nat → Nat} (hf : Fa σ hx B) {x : Nat} (hx2 : gi x) : σ.1 (B x) = some (8, 0) ∨ σ.1 (B x) = some (20, 8) := by
  obtain ⟨h1, h2, h3⟩ := hx2
  obtain ⟨⟨-, a1, a2, a3, -⟩, -, b1, b2, b3, -⟩ := hf.2.2.2 (x % 10) h3
  have hd : x = 40 + x % 10 ∨ x = 50 + x % 10 ∨ x = 60 + x % 10 ∨ x = 70 + x % 10 ∨ x = 80 + x % 10 ∨ x = 90 + x % 10 := by omega
  rcases hd with e | e | e | e | e | e
  · rw [e]; exact Or.inl a1
  · rw [e]; exact Or.inr a2
  · rw [e]; exact Or.inr a3
  · rw [e]; exact Or.inl b1
  · rw [e]; exact Or.inr b2
  · rw [e]; exact Or.inr b3
theorem Gb.cg {σ τ : Sg} {hx t W : Nat} {B A : Nat → Nat} {C : Nat → Int32} (h : Gb σ hx B A C W) (hq : Gq hx B t τ σ) : Gb τ hx B A C W := by
  obtain ⟨h1, h2, h3, h4⟩ := h
  refine ⟨h1.cg hq.1 hq.2.1, by unfold Fq; rw [hq.2.1]; exact h2, by rw [hq.1, hq.2.1]; exact h3, fun k hk => ?_⟩
  obtain ⟨q1, q2, q3, q4⟩ := h4 k hk
  have n1 : ∀ x, gi x → t < x % 10 → A (10 + k) ≠ B x := fun x hx _ e => by
    rw [e] at q2
    rcases gad_sh h1 hx with z | z <;> rw [z] at q2 <;> cases q2
  have n2 : ∀ j, ¬ (A (10 + k) = hx ∧ j = 17) := fun j e => by
    rw [e.1, h1.1] at q2; cases q2
  exact ⟨by rw [hq.2.1]; exact q1, by rw [hq.1]; exact q2, (hq.2.2 _ _ (n2 1) n1).trans q3, (hq.2.2 _ _ (n2 2) n1).trans q4⟩
theorem Gb.fr {σ : Sg} {hx W : Nat} {B A : Nat → Nat} {C D : Nat → Int32} (h : Gb σ hx B A C W) (hf : Fr C D) (hW8 : W ≤ 8) : Gb σ hx B A D W :=
  ⟨h.1, h.2.1, h.2.2.1, fun k hk => ⟨(h.2.2.2 k hk).1, (h.2.2.2 k hk).2.1, (h.2.2.2 k hk).2.2.1.trans (hf _ (by omega)).symm, (h.2.2.2 k hk).2.2.2.trans (hf _ (by omega)).symm⟩⟩
theorem Gb.wo {σ : Sg} {hx W p q t : Nat} {B A : Nat → Nat} {C : Nat → Int32} (h : Gb σ hx B A C W) (hp : p < 6) (hq : q < 6) (ht : t < 4) : Wo (gL B p q t) σ (A 1) (fun k => A (10 + k)) C W := by
  refine ⟨h.2.2.1.2.2, fun k hk => ⟨(h.2.2.2 k hk).1, (h.2.2.2 k hk).2.1, (h.2.2.2 k hk).2.2.1, (h.2.2.2 k hk).2.2.2, fun j => ?_⟩⟩
  cases e : gL B p q t (A (10 + k)) j with
  | none => rfl
  | some i =>
    obtain ⟨-, x, h1, h2⟩ := gL_c hp hq e
    have q2 := (h.2.2.2 k hk).2.1
    rw [h2] at q2
    rcases gad_sh h.1 (x := x) (by unfold gi; omega) with z | z <;> rw [z] at q2 <;> cases q2
/-- the first move, as x keeps it -/
def xmv (W : Nat) : Option Nat → Int32
  | none => -1
  | some k => if k = W then nI 8 else nI k
/-- two of a row: what a game needs -/
def G2 (C : Nat → Int32) (W a b : Nat) : Prop := Wv C W ∧ Pp C W a ∧ Pp C W b ∧ (C (31 + a) = nI 0 ∨ C (31 + a) = nI 1) ∧ (C (31 + b) = nI 0 ∨ C (31 + b) = nI 1)
theorem G2.nx {C : Nat → Int32} {W a b w o k : Nat} (h : G2 C W a b) (ha : a < 6) (hb : b < 6) (hab : a ≠ b) (hwo : (w = a ∧ o = b) ∨ (w = b ∧ o = a)) (hk : k = W ∨ (k < W ∧ mSaysB C w k o = true)) : G2 (mGrow (mGrow (plD C W w o k) W a) W b) W a b ∧ Pp (plD C W w o k) W a ∧ Pp (plD C W w o k) W b ∧ Wv (plD C W w o k) W ∧ Fr C (plD C W w o k) := by
  obtain ⟨h1, h2, h3, h4, h5⟩ := h
  have hW8 := h1.1
  have hw6 : w < 6 := by omega
  have ho6 : o < 6 := by omega
  have hwo2 : w ≠ o := by omega
  have fr : Fr C (plD C W w o k) := plD_fr hw6 ho6 (by omega) (hk.elim Or.inl (fun z => Or.inr z.2))
  have pd : ∀ r, r < 6 → Pp C W r → Pp (plD C W w o k) W r := fun r hr hpr => by
    unfold plD
    split
    · exact hpr
    · next z =>
      obtain ⟨k1, k2⟩ := hk.resolve_left z
      refine strand_pp hW8 k1 ho6 hr ?_ (says_pp hW8 k1 hw6 ho6 hr hwo2 hpr)
      have hPo : Pp C W o := by rcases hwo with ⟨-, e⟩ | ⟨-, e⟩ <;> rw [e] <;> assumption
      obtain ⟨s, t, e1, e2, e3, e4, e5, e6, -⟩ := hPo.sets hW8
      have : mSaysC C w k o (37 + o) = nI t ||| bt k := by unfold mSaysC; rw [up_ne (by omega), up_eq, e2]
      rw [this]
      exact hs_orbt e6 (by omega)
  have p1 := pd a ha h2
  have p2 := pd b hb h3
  have w1 := h1.fr fr
  have f2 := mGrow_fr (C := plD C W w o k) ha W hW8
  have w2 := w1.fr f2
  have f3 := mGrow_fr (C := mGrow (plD C W w o k) W a) hb W hW8
  have e31 : ∀ r, r < 6 → mGrow (mGrow (plD C W w o k) W a) W b (31 + r) = C (31 + r) := fun r hr => (f3 _ (by omega)).trans ((f2 _ (by omega)).trans (fr _ (by omega)))
  refine ⟨⟨w2.fr f3, grow_pp w2 hb ha (grow_pp w1 ha ha p1), grow_pp w2 hb hb (grow_pp w1 ha hb p2), ?_, ?_⟩, p1, p2, w1, fr⟩
  · rw [e31 a ha]; exact h4
  · rw [e31 b hb]; exact h5
