/-! THE PURE HEAP: a system's cells as four functions (shape, ints, longs, references), and how a machine's heap holds it -/
set_option maxRecDepth 100000
def TX4 : u_T := fun _ => ("", "", "", false)
/-- the classes, by number (1 is a stand-in) -/
def zC : List vw_C := [(RX0, TX0, 25), (RX4, TX4, 0), (RX2, TX2, 18), (RX3, TX3, 8), (RX4, TX4, 0), (RX5, TX4, 0), (RX6, TX6, 13), (RX7, TX7, 2), (RX8, TX8, 7), (RX9, TX9, 44), (RX10, TX10, 4), (RX11, TX11, 3), (RX12, TX12, 8), (RX13, TX13, 3)]
/-- the type of a field -/
def zY (ci k : Nat) : FieldType := match ci with
  | 0 => tyX0 k
  | 2 => tyX2 k
  | 3 => tyX3 k
  | 6 => tyX6 k
  | 7 => tyX7 k
  | 8 => tyX8 k
  | 9 => tyX9 k
  | 10 => tyX10 k
  | 11 => tyX11 k
  | 12 => tyX12 k
  | 13 => tyX13 k
  | _ => .int
def zN (ci : Nat) : Nat := match ci with
  | 0 => 25
  | 2 => 18
  | 3 => 8
  | 6 => 13
  | 7 => 2
  | 8 => 7
  | 9 => 44
  | 10 => 4
  | 11 => 3
  | 12 => 8
  | 13 => 3
  | _ => 0
/-- the kind of a type: 0 a whole number in a slot, 1 a long, 2 a reference -/
def zK (t : FieldType) : Nat := match t with
  | .long => 1
  | .object _ => 2
  | .array _ => 2
  | _ => 0
/-- shape: tag (a class's number, or 20 int[], 21 long[], 22 byte[], 23 short[], 24 boolean[], 25.. references) and length; ints; longs; references -/
abbrev Sg : Type := (Nat → Option (Nat × Nat)) × (Nat → Nat → Int32) × (Nat → Nat → Int64) × (Nat → Nat → Option Nat)
/-- what stays through a run: the tables' numbers, the array classes, the first own address, the script (cell, length, ints), the texts' cells -/
abbrev Gx : Type := va_G × (Nat → ClassId) × Nat × (Nat × Nat × (Nat → Int32)) × (Nat → Nat) × (Nat → Nat)
def zv (k : Nat) (i : Int32) (l : Int64) (r : Option Nat) : Value := match k with
  | 0 => .int i
  | 1 => .long l
  | _ => va_rf r
def zAt (t : Nat) : FieldType := match t with
  | 20 => .int
  | 21 => .long
  | 22 => .byte
  | 23 => .short
  | 24 => .boolean
  | 25 => .object "HairProvince$Tray"
  | 26 => .object "HairProvince$Word"
  | 27 => .object "HairProvince$Person"
  | 28 => .object "HairProvince$Dinner"
  | 29 => .object "HairProvince$Step"
  | _ => .object "HairProvince$Kept"
def zTs (g : Gx) : List (ClassId × FieldType) := [(g.2.1 20, .int), (g.2.1 21, .long), (g.2.1 22, .byte), (g.2.1 23, .short), (g.2.1 24, .boolean), (g.2.1 25, .object "HairProvince$Tray"), (g.2.1 26, .object "HairProvince$Word"), (g.2.1 27, .object "HairProvince$Person"), (g.2.1 28, .object "HairProvince$Dinner"), (g.2.1 29, .object "HairProvince$Step"), (g.2.1 30, .object "HairProvince$Kept")]
def zo (σ : Sg) (a ci : Nat) : List Value := (List.range (zN ci)).map (fun k => zv (zK (zY ci k)) (σ.2.1 a k) (σ.2.2.1 a k) (σ.2.2.2 a k))
def ze (g : Gx) (σ : Sg) (a t n : Nat) : va_E :=
  if t < 20 then .inr (t, zo σ a t)
  else .inl (g.2.1 t, n, if t = 21 then .inr (.inl (σ.2.2.1 a)) else if 25 ≤ t then .inr (.inr (.inr (.inr (σ.2.2.2 a)))) else .inl (σ.2.1 a))
def zfit (t : Nat) (x : Int32) : Prop := match t with
  | 22 => fits .byte (.int x) = true
  | 23 => fits .short (.int x) = true
  | 24 => fits .boolean (.int x) = true
  | _ => True
/-- own addresses -/
def zA (g : Gx) : Nat → Prop := fun q => g.2.2.1 ≤ q
/-- the heap holds the pure heap -/
def Sim (g : Gx) (σ : Sg) (H : Heap) : Prop := ∀ a t n, σ.1 a = some (t, n) → zA g a ∧ va_at g.1 zC (a, ze g σ a t n) H ∧ ∀ i, i < n → zfit t (σ.2.1 a i)
/-- all cells as a list -/
def zl (g : Gx) (σ : Sg) (N : Nat) : va_W := (List.range N).filterMap (fun a => (σ.1 a).map (fun x => (a, ze g σ a x.1 x.2)))
theorem zl_mem {g : Gx} {σ : Sg} {N : Nat} {q : Nat × va_E} (h : q ∈ zl g σ N) : ∃ t n, q.1 < N ∧ σ.1 q.1 = some (t, n) ∧ q = (q.1, ze g σ q.1 t n) := by
  obtain ⟨a, h1, h2⟩ := List.mem_filterMap.mp h
  cases h3 : σ.1 a with
  | none => rw [h3] at h2; cases h2
  | some x =>
    rw [h3] at h2
    cases h2
    exact ⟨x.1, x.2, List.mem_range.mp h1, h3, rfl⟩
theorem zl_in {g : Gx} {σ : Sg} {N a t n : Nat} (ha : a < N) (h : σ.1 a = some (t, n)) : (a, ze g σ a t n) ∈ zl g σ N :=
  List.mem_filterMap.mpr ⟨a, List.mem_range.mpr ha, by rw [h]; rfl⟩
theorem zl_nd (g : Gx) (σ : Sg) (N : Nat) : ((zl g σ N).map (fun q => q.1)).Nodup := by
  have h : ∀ l : List Nat, l.Nodup → ((l.filterMap (fun a => (σ.1 a).map (fun x => (a, ze g σ a x.1 x.2)))).map (fun q => q.1)).Nodup := by
    intro l
    induction l with
    | nil => intro _; exact List.nodup_nil
    | cons a l ih =>
      intro hn
      obtain ⟨h1, h2⟩ := List.nodup_cons.mp hn
      cases h3 : σ.1 a with
      | none => rw [List.filterMap_cons_none (by rw [h3]; rfl)]; exact ih h2
      | some x =>
        rw [List.filterMap_cons_some (b := (a, ze g σ a x.1 x.2)) (by rw [h3]; rfl), List.map_cons]
        refine List.nodup_cons.mpr ⟨fun hm => h1 ?_, ih h2⟩
        obtain ⟨q, hq, he⟩ := List.mem_map.mp hm
        obtain ⟨b, hb, hb2⟩ := List.mem_filterMap.mp hq
        cases h4 : σ.1 b with
        | none => rw [h4] at hb2; cases hb2
        | some y =>
          rw [h4] at hb2
          cases hb2
          have : b = a := he
          rw [← this]; exact hb
  exact h _ List.nodup_range
theorem zl_inj {g : Gx} {σ : Sg} {N i j : Nat} {p q : Nat × va_E} (hp : (zl g σ N)[i]? = some p) (hq : (zl g σ N)[j]? = some q) (h : p.1 = q.1) : i = j := by
  have hi : i < ((zl g σ N).map (fun q => q.1)).length := by rw [List.length_map]; exact (List.getElem?_eq_some_iff.mp hp).1
  refine (List.getElem?_inj hi (zl_nd g σ N)).mp ?_
  rw [List.getElem?_map, List.getElem?_map, hp, hq]
  simp [h]
theorem Sim.lt {g : Gx} {σ : Sg} {H : Heap} (h : Sim g σ H) {a t n : Nat} (ha : σ.1 a = some (t, n)) : a < H.size := (h a t n ha).2.1.lt
theorem Sim.P {g : Gx} {σ : Sg} {H : Heap} (h : Sim g σ H) : va_P g.1 zC (zl g σ H.size) H := by
  intro k q hk
  obtain ⟨t, n, h1, h2, h3⟩ := zl_mem (List.mem_of_getElem? hk)
  rw [h3]
  exact (h _ t n h2).2.1
theorem Sim.D {g : Gx} {σ : Sg} {H : Heap} (h : Sim g σ H) : va_D (zA g) (zl g σ H.size) := by
  refine ⟨fun i j p q hi hj hpq => zl_inj hi hj hpq, fun k q hk => ?_⟩
  obtain ⟨t, n, h1, h2, h3⟩ := zl_mem (List.mem_of_getElem? hk)
  exact (h _ t n h2).1
theorem Sim.at {g : Gx} {σ : Sg} {H : Heap} (h : Sim g σ H) {a t n : Nat} (ha : σ.1 a = some (t, n)) : ∃ q0 : Nat, (zl g σ H.size)[q0]? = some (a, ze g σ a t n) :=
  List.getElem?_of_mem (zl_in (h.lt ha) ha)
/-- one cell is changed -/
theorem Sim.set {g : Gx} {σ σ' : Sg} {H H1 : Heap} (h : Sim g σ H) {q0 a t n : Nat} {e : va_E} (ha : σ.1 a = some (t, n)) (hq : (zl g σ H.size)[q0]? = some (a, ze g σ a t n)) (hP : va_P g.1 zC ((zl g σ H.size).set q0 (a, e)) H1)
    (hsh : σ'.1 = σ.1) (he : ze g σ' a t n = e) (ho : ∀ b, b ≠ a → σ'.2.1 b = σ.2.1 b ∧ σ'.2.2.1 b = σ.2.2.1 b ∧ σ'.2.2.2 b = σ.2.2.2 b) (hf : ∀ i, i < n → zfit t (σ'.2.1 a i)) : Sim g σ' H1 := by
  intro b t' n' hb
  rw [hsh] at hb
  by_cases hab : b = a
  · subst hab
    cases ha.symm.trans hb
    refine ⟨(h _ _ _ ha).1, ?_, hf⟩
    rw [he]
    exact hP q0 _ (by rw [List.getElem?_set_self (List.getElem?_eq_some_iff.mp hq).1])
  · obtain ⟨j, hj⟩ := h.at hb
    obtain ⟨o1, o2, o3⟩ := ho b hab
    have hne : q0 ≠ j := by
      intro e2
      subst e2
      have e4 : a = b := congrArg Prod.fst (Option.some.inj (hq.symm.trans hj))
      exact hab e4.symm
    have e3 : ze g σ' b t' n' = ze g σ b t' n' := by
      unfold ze zo
      rw [o1, o2, o3]
    refine ⟨(h _ _ _ hb).1, ?_, fun i hi => by rw [o1]; exact (h _ _ _ hb).2.2 i hi⟩
    rw [e3]
    exact hP j _ (by rw [List.getElem?_set_ne hne]; exact hj)
/-- the function f but for its value at k -/
def up {α : Type} (f : Nat → α) (k : Nat) (v : α) : Nat → α := fun j => if j = k then v else f j
theorem up_eq {α : Type} (f : Nat → α) (k : Nat) (v : α) : up f k v k = v := if_pos rfl
theorem up_ne {α : Type} {f : Nat → α} {k j : Nat} {v : α} (h : j ≠ k) : up f k v j = f j := if_neg h
theorem up_up {α : Type} (f : Nat → α) (k : Nat) (v w : α) : up (up f k v) k w = up f k w := by
  funext j
  unfold up
  split <;> rfl
theorem up_self {α : Type} (f : Nat → α) (k : Nat) : up f k (f k) = f := by
  funext j
  unfold up
  split
  · next h => rw [h]
  · rfl
theorem up_comm {α : Type} (f : Nat → α) {k j : Nat} (h : k ≠ j) (v w : α) : up (up f k v) j w = up (up f j w) k v := by
  funext i
  unfold up
  by_cases h1 : i = j
  · subst h1
    rw [if_pos rfl, if_neg (fun e => h e.symm), if_pos rfl]
  · rw [if_neg h1]
    by_cases h2 : i = k
    · rw [if_pos h2, if_pos h2]
    · rw [if_neg h2, if_neg h2, if_neg h1]
/-- a cell is new -/
theorem Sim.push {g : Gx} {σ σ' : Sg} {H H1 : Heap} (h : Sim g σ H) {q t n : Nat} {e : va_E} (hP : va_P g.1 zC (zl g σ H.size ++ [(q, e)]) H1) (hD : va_D (zA g) (zl g σ H.size ++ [(q, e)]))
    (hsh : σ'.1 = up σ.1 q (some (t, n))) (he : ze g σ' q t n = e) (ho : ∀ b, b ≠ q → σ'.2.1 b = σ.2.1 b ∧ σ'.2.2.1 b = σ.2.2.1 b ∧ σ'.2.2.2 b = σ.2.2.2 b) (hf : ∀ i, i < n → zfit t (σ'.2.1 q i)) : Sim g σ' H1 ∧ σ.1 q = none := by
  have hl : (zl g σ H.size ++ [(q, e)])[(zl g σ H.size).length]? = some (q, e) := by
    rw [List.getElem?_append_right (Nat.le_refl _), Nat.sub_self]; rfl
  have hnone : σ.1 q = none := by
    cases hc : σ.1 q with
    | none => rfl
    | some x =>
      obtain ⟨j, hj⟩ := h.at (t := x.1) (n := x.2) hc
      have hjl := (List.getElem?_eq_some_iff.mp hj).1
      have hj2 : (zl g σ H.size ++ [(q, e)])[j]? = some (q, ze g σ q x.1 x.2) := by rw [List.getElem?_append_left hjl]; exact hj
      have := hD.1 _ _ _ _ hj2 hl rfl
      omega
  refine ⟨fun b t' n' hb => ?_, hnone⟩
  rw [hsh] at hb
  by_cases hab : b = q
  · subst hab
    rw [up_eq] at hb
    cases hb
    refine ⟨hD.2 _ _ hl, ?_, hf⟩
    rw [he]
    exact hP _ _ hl
  · rw [up_ne hab] at hb
    obtain ⟨j, hj⟩ := h.at hb
    obtain ⟨o1, o2, o3⟩ := ho b hab
    have e3 : ze g σ' b t' n' = ze g σ b t' n' := by
      unfold ze zo
      rw [o1, o2, o3]
    refine ⟨(h _ _ _ hb).1, ?_, fun i hi => by rw [o1]; exact (h _ _ _ hb).2.2 i hi⟩
    rw [e3]
    exact hP j _ (by rw [List.getElem?_append_left (List.getElem?_eq_some_iff.mp hj).1]; exact hj)
/-- the old cells apart, a heap that agrees on the own ones holds it too -/
theorem Sim.kept {g : Gx} {σ : Sg} {H H1 : Heap} (h : Sim g σ H) (hk : ∀ q : Nat, q < H.size → H1[q]? = H[q]?) : Sim g σ H1 :=
  fun a t n ha => ⟨(h a t n ha).1, (h a t n ha).2.1.kept (hk a (h.lt ha)), (h a t n ha).2.2⟩
