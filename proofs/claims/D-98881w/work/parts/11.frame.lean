/-! THE JUDGEMENT Tj: a method's frame over the pure heap; contracts Kt; rules for instructions that don't touch the heap -/
set_option maxRecDepth 100000
/-- a method: name, code, locals, what it returns, handlers -/
abbrev Mi : Type := MethodName × ByteArray × Nat × Option FieldType × List (Nat × Nat × Nat × Nat)
/-- the words that don't ride in lw_all but stay too -/
def nwOk : Cond → Bool
  | .fieldLinkNest _ _ _ _ _ _ => true
  | .methodLinkNest _ _ _ _ => true
  | .castable _ _ => true
  | .declares _ => true
  | _ => false
def nwAll : List Cond := lw_tbl.filter nwOk
theorem nw_g {w : Cond} (h : w ∈ lw_tbl) (g : nwOk w = true) : w ∈ nwAll := List.mem_filter.mpr ⟨h, g⟩
theorem nw_warm {w : Cond} (hw : nwOk w = true) {s U : State} (hW : s.WarmedH U.vm) (h : va_Nw w s) : va_Nw w U := by
  cases w <;> first | (exact (Bool.false_ne_true hw).elim) | exact va_Nw.warmF hW h | exact va_Nw.warmM hW h | exact va_Nw.warmC hW h | exact va_Nw.warmD hW h
theorem nw_tabs {w : Cond} (hw : nwOk w = true) : w.onTables = true := by
  cases w <;> first | (exact (Bool.false_ne_true hw).elim) | rfl
/-- the element classes of the arrays of references -/
def aoAll : List String := ["HairProvince$Tray", "HairProvince$Word", "HairProvince$Person", "HairProvince$Dinner", "HairProvince$Step", "HairProvince$Kept"]
/-- pairs that aren't castable -/
def ncAll : List (String × String) := [("java/lang/ArrayIndexOutOfBoundsException", "java/lang/NullPointerException")]
/-- the texts: their lengths, their bytes -/
def zSl : List Nat := [132, 4]
def zSb : List (List Int32) := [([32, 104, 101, 97, 114, 100, 32, 111, 100, 100, 115, 32, 119, 111, 114, 100, 32, 112, 101, 114, 115, 111, 110, 32, 100, 105, 110, 110, 101, 114, 32, 104, 97, 108, 118, 101, 115, 32, 103, 114, 111, 119, 115, 32, 103, 114, 101, 121, 32, 116, 101, 109, 112, 101, 114, 32, 98, 97, 114, 98, 101, 114, 32, 107, 101, 101, 112, 115, 32, 101, 118, 101, 114, 121, 32, 100, 97, 121, 32, 107, 101, 101, 112, 32, 115, 97, 121, 32, 99, 117, 116, 32, 97, 110, 121, 32, 119, 104, 101, 110, 32, 108, 111, 111, 112, 32, 115, 116, 111, 112, 32, 101, 110, 100, 32, 116, 111, 32, 98, 121, 32, 107, 110, 111, 119, 115, 32, 104, 97, 105, 114, 32] : List Int32), ([59, 60, 62, 61] : List Int32)]
/-- 'selects' of the private methods of Scan on a Reader -/
def xwAll : List Cond := [Cond.selects "HairProvince$Reader" ⟨"HairProvince$Scan", "at", "(I)I"⟩ ⟨"HairProvince$Scan", "at", "(I)I"⟩, Cond.selects "HairProvince$Reader" ⟨"HairProvince$Scan", "isSign", "(I)Z"⟩ ⟨"HairProvince$Scan", "isSign", "(I)Z"⟩, Cond.selects "HairProvince$Reader" ⟨"HairProvince$Scan", "isWord", "(Ljava/lang/String;II)Z"⟩ ⟨"HairProvince$Scan", "isWord", "(Ljava/lang/String;II)Z"⟩]
theorem xw_good : ∀ w ∈ xwAll, w.onTables = true ∧ w.keeps = true := by
  intro w h
  simp only [xwAll, List.mem_cons, List.not_mem_nil, or_false] at h
  rcases h with rfl | rfl | rfl <;> exact ⟨rfl, rfl⟩
def Ok (g : Gx) (l : Launch) (U : State) : Prop := l.stackTraces = false ∧ va_K g.1 zC (zTs g) U ∧ (∀ w ∈ nwAll, va_Nw w U) ∧ (∀ C ∈ aoAll, va_AO C U) ∧ (∀ q ∈ ncAll, va_Nc q.1 q.2 U) ∧ (∀ w ∈ xwAll, va_Nw w U) ∧
  vk_R "HairProvince$Reader" 3 " heard odds word person dinner halves grows grey temper barber keeps every day keep say cut any when loop stop end to by knows hair " (g.2.2.2.2.1 0) U ∧ vk_R "HairProvince$Scan" 94 " heard odds word person dinner halves grows grey temper barber keeps every day keep say cut any when loop stop end to by knows hair " (g.2.2.2.2.1 0) U ∧ vk_R "HairProvince$Reader" 5 ";<>=" (g.2.2.2.2.1 1) U
/-- what stands below the own addresses -/
def Od (g : Gx) (U : State) (H : Heap) : Prop := va_X g.2.2.2.1.1 g.2.2.2.1.2.1 g.2.2.2.1.2.2 U H ∧ ¬ zA g g.2.2.2.1.1 ∧ vk_S 2 zSl zSb g.2.2.2.2.1 g.2.2.2.2.2 (zA g) U H ∧ va_Z "java/lang/String" "COMPACT_STRINGS" "Z" (.int 1) (zA g) U H ∧
  va_Zq "jdk/internal/util/Preconditions" "SIOOBE_FORMATTER" "Ljava/util/function/BiFunction;" (zA g) U H ∧ vx_Zq Bundle.tN "UNASSIGNED_STACK" Bundle.steD (zA g) U H ∧ vx_Zq Bundle.tN "SUPPRESSED_SENTINEL" Bundle.listD (zA g) U H
theorem Ok.warm {g : Gx} {l : Launch} {s U : State} (hW : s.WarmedH U.vm) (h : Ok g l s) : Ok g l U := by
  obtain ⟨h1, h2, h3, h4, h5, h9, h6, h7, h8⟩ := h
  exact ⟨h1, va_K.moved hW.alike h2, fun w hw => nw_warm (List.mem_filter.mp hw).2 hW (h3 w hw), fun C hC => va_AO.moved hW.alike (h4 C hC), fun q hq => va_Nc.moved hW.alike (h5 q hq), fun w hw => word_at (a' := #[]) hW (Or.inl (by rw [(xw_good w hw).1, (xw_good w hw).2]; rfl)) (h9 w hw), vk_R.warm hW h6, vk_R.warm hW h7, vk_R.warm hW h8⟩
theorem Od.moved {g : Gx} {u U : State} {H : Heap} (hvm : u.vm.Alike U.vm) (h : Od g u H) : Od g U H := by
  obtain ⟨h1, h2, h3, h4, h5, h6, h7⟩ := h
  exact ⟨va_X.moved hvm h1, h2, vk_S.moved hvm h3, va_Z.moved hvm h4, va_Zq.moved hvm h5, vx_Zq.moved hvm h6, vx_Zq.moved hvm h7⟩
theorem Od.kept {g : Gx} {U : State} {H H1 : Heap} (hq : ∀ a : Nat, a < H.size → ¬ zA g a → H1[a]? = H[a]?) (h : Od g U H) : Od g U H1 := by
  obtain ⟨h1, h2, h3, h4, h5, h6, h7⟩ := h
  have hb : g.2.2.2.1.1 < H.size := by
    obtain ⟨scr, e1, -⟩ := h1
    exact (Array.getElem?_eq_some_iff.mp e1).1
  exact ⟨h1.kept (hq _ hb h2), h2, h3.kept hq, h4.kept hq, h5.kept hq, h6.kept hq, h7.kept hq⟩
/-- the locals, by place; none: unknown -/
def Lv (la : Array Slot) (nL : Nat) (ls : List (Option Value)) : Prop := la.size = nL ∧ lv_wf la ∧ ∀ (i : Nat) (v : Value), ls[i]? = some (some v) → la[i]? = some (.val v)
def zas : Nat → List (Option Value) → List (Nat × Value)
  | _, [] => []
  | i, none :: r => zas (i + 1) r
  | i, some v :: r => (i, v) :: zas (i + 1) r
theorem zas_mem : ∀ (ls : List (Option Value)) (i j : Nat) (v : Value), (j, v) ∈ zas i ls ↔ i ≤ j ∧ ls[j - i]? = some (some v) := by
  intro ls
  induction ls with
  | nil => intro i j v; simp [zas]
  | cons o r ih =>
    intro i j v
    have h2 : (∃ k, j - i = k + 1) ↔ i + 1 ≤ j := ⟨fun ⟨k, h⟩ => by omega, fun h => ⟨j - i - 1, by omega⟩⟩
    have key : i + 1 ≤ j ∧ r[j - (i + 1)]? = some (some v) ↔ i + 1 ≤ j ∧ (o :: r)[j - i]? = some (some v) := by
      constructor
      · rintro ⟨a, b⟩
        refine ⟨a, ?_⟩
        rw [show j - i = (j - (i + 1)) + 1 by omega, List.getElem?_cons_succ]
        exact b
      · rintro ⟨a, b⟩
        refine ⟨a, ?_⟩
        rw [show j - i = (j - (i + 1)) + 1 by omega, List.getElem?_cons_succ] at b
        exact b
    cases o with
    | none =>
      rw [zas, ih, key]
      constructor
      · rintro ⟨a, b⟩; exact ⟨by omega, b⟩
      · rintro ⟨a, b⟩
        refine ⟨?_, b⟩
        rcases Nat.lt_or_ge i j with q | q
        · exact q
        · rw [show j - i = 0 by omega] at b
          cases b
    | some w =>
      rw [zas, List.mem_cons, ih, key]
      constructor
      · rintro (h | ⟨a, b⟩)
        · cases h
          exact ⟨Nat.le_refl _, by rw [Nat.sub_self]; rfl⟩
        · exact ⟨by omega, b⟩
      · rintro ⟨a, b⟩
        rcases Nat.lt_or_ge i j with q | q
        · exact Or.inr ⟨q, b⟩
        · have e : j = i := by omega
          subst e
          rw [Nat.sub_self] at b
          cases b
          exact Or.inl rfl
theorem Lv.has {la : Array Slot} {nL : Nat} {ls : List (Option Value)} (h : Lv la nL ls) : lv_has la nL (zas 0 ls) :=
  ⟨h.1, h.2.1, fun q hq => h.2.2 q.1 q.2 ((zas_mem ls 0 q.1 q.2).mp hq).2⟩
def zcat2 : Option Value → Bool
  | some v => v.category == 2
  | none => false
/-- the locals behind a store of one word -/
def zs1 (ls : List (Option Value)) (i : Nat) (v : Value) : List (Option Value) := (match i with
  | 0 => ls
  | j + 1 => if zcat2 (ls[j]?.getD none) then ls.set j none else ls).set i (some v)
def zs2 (ls : List (Option Value)) (i : Nat) (v : Value) : List (Option Value) := ((match i with
  | 0 => ls
  | j + 1 => if zcat2 (ls[j]?.getD none) then ls.set j none else ls).set i (some v)).set (i + 1) none
theorem zset_some {l : List (Option Value)} {i : Nat} {o : Option Value} {w : Value} (h : (l.set i o)[i]? = some (some w)) : o = some w := by
  by_cases hi : i < l.length
  · rw [List.getElem?_set_self hi] at h
    exact Option.some.inj h
  · rw [List.getElem?_eq_none (by rw [List.length_set]; omega)] at h
    cases h
theorem zs1_at {ls : List (Option Value)} {i : Nat} {v w : Value} {j : Nat} (h : (zs1 ls i v)[j]? = some (some w)) : (j = i ∧ w = v) ∨ (j ≠ i ∧ ls[j]? = some (some w) ∧ ¬ (j + 1 = i ∧ w.category = 2)) := by
  by_cases hj : j = i
  · subst hj
    refine Or.inl ⟨rfl, ?_⟩
    exact (Option.some.inj (zset_some h)).symm
  · refine Or.inr ⟨hj, ?_⟩
    unfold zs1 at h
    rw [List.getElem?_set_ne (fun e => hj e.symm)] at h
    cases i with
    | zero => exact ⟨h, fun e => by omega⟩
    | succ k =>
      dsimp only at h
      split at h
      · next hc =>
        by_cases hk : k = j
        · subst hk
          cases zset_some h
        · rw [List.getElem?_set_ne hk] at h
          exact ⟨h, fun e => hk (by omega)⟩
      · next hc =>
        refine ⟨h, fun e => hc ?_⟩
        have e2 : k = j := by omega
        rw [e2, h]
        simp [zcat2, e.2]
theorem Lv.st1 {la : Array Slot} {nL i : Nat} {ls : List (Option Value)} {v : Value} (h : lv_has la nL ((i, v) :: (zas 0 ls).filter (fun q => !(q.1 == i) && !(q.1 + 1 == i && q.2.category == 2)))) : Lv la nL (zs1 ls i v) := by
  refine ⟨h.1, h.2.1, fun j w hj => h.2.2 (j, w) ?_⟩
  rcases zs1_at hj with ⟨rfl, rfl⟩ | ⟨h1, h2, h3⟩
  · exact List.mem_cons_self
  · refine List.mem_cons_of_mem _ (List.mem_filter.mpr ⟨(zas_mem ls 0 j w).mpr ⟨Nat.zero_le _, h2⟩, ?_⟩)
    simp only [Bool.and_eq_true, Bool.not_eq_true', beq_eq_false_iff_ne, ne_eq, Bool.and_eq_false_iff]
    refine ⟨h1, ?_⟩
    by_cases hz : j + 1 = i
    · exact Or.inr (fun e => h3 ⟨hz, e⟩)
    · exact Or.inl hz
theorem Lv.st2 {la : Array Slot} {nL i : Nat} {ls : List (Option Value)} {v : Value} (h : lv_has la nL ((i, v) :: (zas 0 ls).filter (fun q => !(q.1 == i) && (!(q.1 == i + 1) && !(q.1 + 1 == i && q.2.category == 2))))) : Lv la nL (zs2 ls i v) := by
  refine ⟨h.1, h.2.1, fun j w hj => h.2.2 (j, w) ?_⟩
  have hj0 : j ≠ i + 1 := by
    intro e
    subst e
    cases zset_some hj
  have hj1 : (zs1 ls i v)[j]? = some (some w) := by
    unfold zs2 at hj
    rw [List.getElem?_set_ne (fun e => hj0 e.symm)] at hj
    exact hj
  rcases zs1_at hj1 with ⟨rfl, rfl⟩ | ⟨h1, h2, h3⟩
  · exact List.mem_cons_self
  · refine List.mem_cons_of_mem _ (List.mem_filter.mpr ⟨(zas_mem ls 0 j w).mpr ⟨Nat.zero_le _, h2⟩, ?_⟩)
    simp only [Bool.and_eq_true, Bool.not_eq_true', beq_eq_false_iff_ne, ne_eq, Bool.and_eq_false_iff]
    refine ⟨h1, hj0, ?_⟩
    by_cases hz : j + 1 = i
    · exact Or.inr (fun e => h3 ⟨hz, e⟩)
    · exact Or.inl hz
/-- the locals with which a method begins -/
def zen : List Value → List (Option Value)
  | [] => []
  | v :: vs => if v.category = 2 then some v :: none :: zen vs else some v :: zen vs
theorem zen_mem : ∀ (vs : List Value) (i j : Nat) (v : Value), (zen vs)[j]? = some (some v) → (i + j, v) ∈ lv_args i vs := by
  intro vs
  induction vs with
  | nil => intro i j v h; simp [zen] at h
  | cons w vs ih =>
    intro i j v h
    unfold zen at h
    unfold lv_args
    split at h
    · next hc =>
      rw [if_pos hc]
      match j, h with
      | 0, h => cases h; exact List.mem_cons_self
      | 1, h => cases h
      | j + 2, h => exact List.mem_cons_of_mem _ (by have := ih (i + 2) j v h; rwa [show i + (j + 2) = i + 2 + j by omega])
    · next hc =>
      rw [if_neg hc]
      match j, h with
      | 0, h => cases h; exact List.mem_cons_self
      | j + 1, h => exact List.mem_cons_of_mem _ (by have := ih (i + 1) j v h; rwa [show i + (j + 1) = i + 1 + j by omega])
def zent (nL : Nat) (vs : List Value) : List (Option Value) := zen vs ++ List.replicate (nL - (zen vs).length) none
theorem zent_mem {nL : Nat} {vs : List Value} {j : Nat} {v : Value} (h : (zent nL vs)[j]? = some (some v)) : (j, v) ∈ lv_args 0 vs := by
  have h1 : (zen vs)[j]? = some (some v) := by
    unfold zent at h
    by_cases hj : j < (zen vs).length
    · rw [List.getElem?_append_left hj] at h; exact h
    · rw [List.getElem?_append_right (by omega)] at h
      have := List.eq_of_mem_replicate (List.mem_of_getElem? h)
      cases this
  have := zen_mem vs 0 j v h1
  rwa [Nat.zero_add] at this
/-- what stands around a body -/
def Cx (g : Gx) (l : Launch) (Y : Mi) (av : List Value) (p : Program) (s : State) (m : MethodId) (meth : Method) (c : Code) : Prop :=
  p.tables.exec = Jvm.exec ∧ c.code = Y.2.1 ∧ meth.sig.returnType = Y.2.2.2.1 ∧ c.maxLocals = Y.2.2.1 ∧ meth.locks = false ∧ s.vm.findClass Y.1.cls = some m.cls ∧ (∀ w ∈ lw_all, w.before av.toArray s = true) ∧ Ok g l s ∧ Od g s s.heap ∧ g.2.2.1 ≤ s.heap.size ∧ meth.name = Y.1.name ∧ c.exceptionTable.toList = tableOf Y.2.2.2.2
def zR (d mc ms : Nat) : Room := { frames := d + 60, cells := mc, slots := ms, locals := d * 40 + 22000 }
def zQc (g : Gx) (Qr : Option Value → Sg → Prop) : Array Value → State → Outcome → State → Prop := fun _ st oc t => (∃ v σ, oc = .returned v ∧ Qr v σ ∧ Sim g σ t.heap) ∧ va_F (zA g) st t
def zXC (g : Gx) (Qx : Nat → String → Sg → Prop) : Addr → String → State → State → Prop := fun q E st t => (∃ σ, Qx q E σ ∧ Sim g σ t.heap) ∧ va_F (zA g) st t
def zPc (g : Gx) (l : Launch) (av : List Value) (σ : Sg) : Array Value → State → Prop := va_Pc av (fun U => Ok g l U ∧ Od g U U.heap ∧ g.2.2.1 ≤ U.heap.size ∧ Sim g σ U.heap)
def zcw (Y : Mi) : Cond := match Y.2.2.2.2 with
  | [] => Cond.code Y.1 Y.2.1 Y.2.2.1 Y.2.2.2.1
  | h :: hh => Cond.codeWith Y.1 Y.2.1 Y.2.2.1 Y.2.2.2.1 (h :: hh)
/-- a method's contract: from the pure heap σ with the arguments av it ends with Qr (returned) or Qx (threw); at most mc new cells of ms slots; d bounds the depth of its calls -/
def Kt (g : Gx) (l : Launch) (d : Nat) (Y : Mi) (av : List Value) (σ : Sg) (mc ms : Nat) (Qr : Option Value → Sg → Prop) (Qx : Nat → String → Sg → Prop) : Prop :=
  vx_Met l Y.1 (zcw Y :: lw_all) (zR d mc ms) (zPc g l av σ) (zQc g Qr) (zXC g Qx) mc ms (zA g)
/-- in a body, at pc, with locals ls and stack st, c0 cells and n0 slots used -/
def Tj (g : Gx) (l : Launch) (d : Nat) (Y : Mi) (av : List Value) (mc ms : Nat) (Qr : Option Value → Sg → Prop) (Qx : Nat → String → Sg → Prop) (c0 n0 pc : Nat) (ls : List (Option Value)) (st : List Value) (σ : Sg) : Prop :=
  ∀ (p : Program) (e : Env) (s : State) (m : MethodId) (below : List Frame) (meth : Method) (c : Code) (H : Heap) (locs : List Loc) (la : Array Slot), Cx g l Y av p s m meth c → Sim g σ H → va_S (zA g) s.heap H locs → Lv la Y.2.2.1 ls →
    W p l e (zR d mc ms) s m av.toArray below meth c H locs c0 n0 (vx_MQ below (zQc g Qr) (zXC g Qx) av.toArray s mc ms (zA g)) (F0 m pc la st)
/-- .. with q thrown -/
def Xj (g : Gx) (l : Launch) (d : Nat) (Y : Mi) (av : List Value) (mc ms : Nat) (Qr : Option Value → Sg → Prop) (Qx : Nat → String → Sg → Prop) (c0 n0 pc : Nat) (ls : List (Option Value)) (q : Nat) (E : String) (σ : Sg) : Prop :=
  ∀ (p : Program) (e : Env) (s : State) (m : MethodId) (below : List Frame) (meth : Method) (c : Code) (H : Heap) (locs : List Loc) (la : Array Slot) (rest : List Value) (ce : Cell), Cx g l Y av p s m meth c → Sim g σ H → va_S (zA g) s.heap H locs → Lv la Y.2.2.1 ls →
    H[q]? = some ce → ce.vm = .none → s.vm.findClass E = some ce.cls →
    vx_W p l e (zR d mc ms) s m av.toArray below meth c H locs c0 n0 (vx_MQ below (zQc g Qr) (zXC g Qx) av.toArray s mc ms (zA g)) (F0 m pc la rest) q
section TJ
variable {g : Gx} {l : Launch} {d : Nat} {Y : Mi} {av : List Value} {mc ms : Nat} {Qr : Option Value → Sg → Prop} {Qx : Nat → String → Sg → Prop} {c0 n0 pc : Nat} {ls : List (Option Value)} {st : List Value} {σ : Sg}
/-- from a body's walk to the contract -/
theorem Kt.of (hy : plainName Y.1.cls = true) (hn : (lg_sl av).length ≤ Y.2.2.1) (T : Tj g l d Y av mc ms Qr Qx 0 0 0 (zent Y.2.2.1 av) [] σ) : Kt g l d Y av σ mc ms Qr Qx := by
  have core : ∀ p e s m args below meth c s₁, BodyLoose p l Y.1 (headSpec (zcw Y :: lw_all) (zR d mc ms)) Y.2.1 Y.2.2.1 Y.2.2.2.1 e s m args below meth c s₁ → c.maxLocals = Y.2.2.1 → c.exceptionTable.toList = tableOf Y.2.2.2.2 → zPc g l av σ args s →
      W p l e (headSpec (zcw Y :: lw_all) (zR d mc ms)).room s m args below meth c s.heap [] 0 0 (vx_MQ below (zQc g Qr) (zXC g Qx) args s mc ms (zA g)) (entryFrame m args Y.2.2.1) := by
    intro p e s m args below meth c s₁ B hml hh hv
    obtain ⟨rfl, hOk, hOd, hsz, hM⟩ := hv
    have hts := atoms_spec (ws := zcw Y :: lw_all) B.pre
    rw [lg_entry_eq]
    refine T p e s m below meth c s.heap [] _ ⟨B.exec, B.bytes, B.returns, hml, B.notSynchronized, findClass_of_methodNamed B.named, fun w h => hts w (List.mem_cons_of_mem _ h), hOk, hOd, hsz, (name_of_methodNamed B.named B.method).1, hh⟩ hM va_S.rf ?_
    have hl := lv_entry av (n := Y.2.2.1) hn
    exact ⟨hl.1, hl.2.1, fun i v h => hl.2.2 (i, v) (zent_mem h)⟩
  unfold Kt
  obtain ⟨y, cc, nL, ret, hh⟩ := Y
  cases hh with
  | nil =>
    refine vx_ofW (cc := cc) (maxL := nL) (ret := ret) hy rfl ?_
    intro p e s m args below meth c s₁ B hml ht hv
    refine core p e s m args below meth c s₁ B hml ?_ hv
    cases hc : c.exceptionTable.toList with
    | nil => rfl
    | cons x r => exact (ht x (by rw [hc]; exact List.mem_cons_self)).elim
  | cons h hh =>
    refine vx_ofWH (cc := cc) (maxL := nL) (ret := ret) (hh := h :: hh) hy rfl ?_
    intro p e s m args below meth c s₁ B hml hv
    refine core p e s m args below meth c s₁ B hml ?_ hv
    exact vx_table (y := y) (bytes := cc) (maxL' := nL) (ret' := ret) (hh := h :: hh) (x := y) B (atoms_spec (ws := zcw ((y, cc, nL, ret, h :: hh) : Mi) :: lw_all) B.pre _ List.mem_cons_self)
theorem j_iret {v : Int32} (hd : decode Y.2.1 pc = .ok (.ireturn, 1)) (hr : ∃ ty, Y.2.2.2.1 = some ty ∧ narrow ty (.int v) = .int v) (hc : c0 ≤ mc) (hs : n0 ≤ ms) (hq : Qr (some (.int v)) σ) : Tj g l d Y av mc ms Qr Qx c0 n0 pc ls [.int v] σ := by
  intro p e s m below meth c H locs la C hM hS hl
  obtain ⟨ty, hty, hnar⟩ := hr
  refine vx_ret (W.widen hc hs ?_)
  exact W.zret C.1 C.2.1 (by rw [C.2.2.1]; exact hty) hnar (fun t ht hW => ⟨⟨_, σ, rfl, hq, by rw [ht]; exact hM⟩, hS.F ht⟩) hS.2.2 hd C.2.2.2.2.1
theorem j_lret {v : Int64} (hd : decode Y.2.1 pc = .ok (.lreturn, 1)) (hr : Y.2.2.2.1 = some .long) (hc : c0 ≤ mc) (hs : n0 ≤ ms) (hq : Qr (some (.long v)) σ) : Tj g l d Y av mc ms Qr Qx c0 n0 pc ls [.long v] σ := by
  intro p e s m below meth c H locs la C hM hS hl
  refine vx_ret (W.widen hc hs ?_)
  exact W.lret C.1 C.2.1 (by rw [C.2.2.1]; exact hr) (fun t ht hW => ⟨⟨_, σ, rfl, hq, by rw [ht]; exact hM⟩, hS.F ht⟩) hS.2.2 hd C.2.2.2.2.1
theorem j_vret (hd : decode Y.2.1 pc = .ok (.return_, 1)) (hr : Y.2.2.2.1 = none) (hc : c0 ≤ mc) (hs : n0 ≤ ms) (hq : Qr none σ) : Tj g l d Y av mc ms Qr Qx c0 n0 pc ls [] σ := by
  intro p e s m below meth c H locs la C hM hS hl
  refine vx_ret (W.widen hc hs ?_)
  exact W.vret C.1 C.2.1 (by rw [C.2.2.1]; exact hr) (fun t ht hW => ⟨⟨_, σ, rfl, hq, by rw [ht]; exact hM⟩, hS.F ht⟩) hS.2.2 hd C.2.2.2.2.1
theorem j_aret {v : Option Nat} (hd : decode Y.2.1 pc = .ok (.areturn, 1)) (hr : ∃ rt, Y.2.2.2.1 = some rt ∧ ((∃ n, rt = .object n) ∨ ∃ t, rt = .array t)) (hc : c0 ≤ mc) (hs : n0 ≤ ms) (hq : Qr (some (va_rf v)) σ) : Tj g l d Y av mc ms Qr Qx c0 n0 pc ls [va_rf v] σ := by
  intro p e s m below meth c H locs la C hM hS hl
  obtain ⟨rt, hrt, hk⟩ := hr
  refine vx_ret (W.widen hc hs ?_)
  exact W.aret C.1 C.2.1 (by rw [C.2.2.1]; exact hrt) hk (by cases v with | none => exact Or.inl rfl | some a => exact Or.inr ⟨a, rfl⟩) (fun t ht hW => ⟨⟨_, σ, rfl, hq, by rw [ht]; exact hM⟩, hS.F ht⟩) hS.2.2 hd C.2.2.2.2.1
theorem Tj.sub {ls' : List (Option Value)} (h : ∀ (i : Nat) (v : Value), ls'[i]? = some (some v) → ls[i]? = some (some v)) (k : Tj g l d Y av mc ms Qr Qx c0 n0 pc ls' st σ) : Tj g l d Y av mc ms Qr Qx c0 n0 pc ls st σ :=
  fun p e s m below meth c H locs la C hM hS hl => k p e s m below meth c H locs la C hM hS ⟨hl.1, hl.2.1, fun i v hi => hl.2.2 i v (h i v hi)⟩
theorem Tj.wide {c1 n1 : Nat} (hc : c0 ≤ c1) (hs : n0 ≤ n1) (k : Tj g l d Y av mc ms Qr Qx c1 n1 pc ls st σ) : Tj g l d Y av mc ms Qr Qx c0 n0 pc ls st σ :=
  fun p e s m below meth c H locs la C hM hS hl => W.widen hc hs (k p e s m below meth c H locs la C hM hS hl)

theorem j_iconst {n : Int} {v : Int32} (hd : decode Y.2.1 pc = .ok (.iconst n, 1)) (hv : Int32.ofInt n = v) (k : Tj g l d Y av mc ms Qr Qx c0 n0 (pc + 1) ls (.int v :: st) σ) : Tj g l d Y av mc ms Qr Qx c0 n0 pc ls st σ :=
  fun p e s m below meth c H locs la C hM hS hl => lv_iconst C.1 C.2.1 hd hv (k p e s m below meth c H locs la C hM hS hl)
theorem j_bipush {n : Int} {v : Int32} (hd : decode Y.2.1 pc = .ok (.bipush n, 2)) (hv : (Int8.ofInt n).toInt32 = v) (k : Tj g l d Y av mc ms Qr Qx c0 n0 (pc + 2) ls (.int v :: st) σ) : Tj g l d Y av mc ms Qr Qx c0 n0 pc ls st σ :=
  fun p e s m below meth c H locs la C hM hS hl => lv_bipush C.1 C.2.1 hd hv (k p e s m below meth c H locs la C hM hS hl)
theorem j_sipush {n : Int} {v : Int32} (hd : decode Y.2.1 pc = .ok (.sipush n, 3)) (hv : (Int16.ofInt n).toInt32 = v) (k : Tj g l d Y av mc ms Qr Qx c0 n0 (pc + 3) ls (.int v :: st) σ) : Tj g l d Y av mc ms Qr Qx c0 n0 pc ls st σ :=
  fun p e s m below meth c H locs la C hM hS hl => lv_sipush C.1 C.2.1 hd hv (k p e s m below meth c H locs la C hM hS hl)
theorem j_lconst {n : Fin 2} {v : Int64} (hd : decode Y.2.1 pc = .ok (.lconst n, 1)) (hv : Int64.ofNat (n : Nat) = v) (k : Tj g l d Y av mc ms Qr Qx c0 n0 (pc + 1) ls (.long v :: st) σ) : Tj g l d Y av mc ms Qr Qx c0 n0 pc ls st σ :=
  fun p e s m below meth c H locs la C hM hS hl => lv_lconst C.1 C.2.1 hd hv (k p e s m below meth c H locs la C hM hS hl)
theorem j_iload_n {i : Fin 4} {x : Int32} (hd : decode Y.2.1 pc = .ok (.iload_n i, 1)) (h : ls[(i : Nat)]? = some (some (.int x))) (k : Tj g l d Y av mc ms Qr Qx c0 n0 (pc + 1) ls (.int x :: st) σ) : Tj g l d Y av mc ms Qr Qx c0 n0 pc ls st σ :=
  fun p e s m below meth c H locs la C hM hS hl => lv_iload_n C.1 C.2.1 hd rfl (hl.2.2 _ _ h) (k p e s m below meth c H locs la C hM hS hl)
theorem j_iload {i : Nat} {x : Int32} (hd : decode Y.2.1 pc = .ok (.iload i, 2)) (h : ls[i]? = some (some (.int x))) (k : Tj g l d Y av mc ms Qr Qx c0 n0 (pc + 2) ls (.int x :: st) σ) : Tj g l d Y av mc ms Qr Qx c0 n0 pc ls st σ :=
  fun p e s m below meth c H locs la C hM hS hl => lv_iload C.1 C.2.1 hd (hl.2.2 _ _ h) (k p e s m below meth c H locs la C hM hS hl)
theorem j_lload_n {i : Fin 4} {x : Int64} (hd : decode Y.2.1 pc = .ok (.lload_n i, 1)) (h : ls[(i : Nat)]? = some (some (.long x))) (k : Tj g l d Y av mc ms Qr Qx c0 n0 (pc + 1) ls (.long x :: st) σ) : Tj g l d Y av mc ms Qr Qx c0 n0 pc ls st σ :=
  fun p e s m below meth c H locs la C hM hS hl => lv_lload_n C.1 C.2.1 hd rfl (hl.2.2 _ _ h) (k p e s m below meth c H locs la C hM hS hl)
theorem j_lload {i : Nat} {x : Int64} (hd : decode Y.2.1 pc = .ok (.lload i, 2)) (h : ls[i]? = some (some (.long x))) (k : Tj g l d Y av mc ms Qr Qx c0 n0 (pc + 2) ls (.long x :: st) σ) : Tj g l d Y av mc ms Qr Qx c0 n0 pc ls st σ :=
  fun p e s m below meth c H locs la C hM hS hl => lv_lload C.1 C.2.1 hd (hl.2.2 _ _ h) (k p e s m below meth c H locs la C hM hS hl)
theorem j_aload_n {i : Fin 4} {x : Nat} (hd : decode Y.2.1 pc = .ok (.aload_n i, 1)) (h : ls[(i : Nat)]? = some (some (.ref x))) (k : Tj g l d Y av mc ms Qr Qx c0 n0 (pc + 1) ls (.ref x :: st) σ) : Tj g l d Y av mc ms Qr Qx c0 n0 pc ls st σ :=
  fun p e s m below meth c H locs la C hM hS hl => lv_aload_n C.1 C.2.1 hd rfl (hl.2.2 _ _ h) (k p e s m below meth c H locs la C hM hS hl)
theorem j_aload {i : Nat} {x : Nat} (hd : decode Y.2.1 pc = .ok (.aload i, 2)) (h : ls[i]? = some (some (.ref x))) (k : Tj g l d Y av mc ms Qr Qx c0 n0 (pc + 2) ls (.ref x :: st) σ) : Tj g l d Y av mc ms Qr Qx c0 n0 pc ls st σ :=
  fun p e s m below meth c H locs la C hM hS hl => lv_aload C.1 C.2.1 hd (hl.2.2 _ _ h) (k p e s m below meth c H locs la C hM hS hl)
theorem j_aload_nN {i : Fin 4} (hd : decode Y.2.1 pc = .ok (.aload_n i, 1)) (h : ls[(i : Nat)]? = some (some .null)) (k : Tj g l d Y av mc ms Qr Qx c0 n0 (pc + 1) ls (.null :: st) σ) : Tj g l d Y av mc ms Qr Qx c0 n0 pc ls st σ :=
  fun p e s m below meth c H locs la C hM hS hl => lv_aload_nN C.1 C.2.1 hd rfl (hl.2.2 _ _ h) (k p e s m below meth c H locs la C hM hS hl)
theorem j_aloadN {i : Nat} (hd : decode Y.2.1 pc = .ok (.aload i, 2)) (h : ls[i]? = some (some .null)) (k : Tj g l d Y av mc ms Qr Qx c0 n0 (pc + 2) ls (.null :: st) σ) : Tj g l d Y av mc ms Qr Qx c0 n0 pc ls st σ :=
  fun p e s m below meth c H locs la C hM hS hl => lv_aloadN C.1 C.2.1 hd (hl.2.2 _ _ h) (k p e s m below meth c H locs la C hM hS hl)
theorem j_istore_n {i : Fin 4} {x : Int32} (hd : decode Y.2.1 pc = .ok (.istore_n i, 1)) (hi : (i : Nat) < Y.2.2.1) (k : Tj g l d Y av mc ms Qr Qx c0 n0 (pc + 1) (zs1 ls (i : Nat) (.int x)) st σ) : Tj g l d Y av mc ms Qr Qx c0 n0 pc ls ((.int x) :: st) σ :=
  fun p e s m below meth c H locs la C hM hS hl => lv_istore_n C.1 C.2.1 hd rfl hl.has hi rfl (fun la2 hl2 => k p e s m below meth c H locs la2 C hM hS (Lv.st1 hl2))
theorem j_istore {i : Nat} {x : Int32} (hd : decode Y.2.1 pc = .ok (.istore i, 2)) (hi : i < Y.2.2.1) (k : Tj g l d Y av mc ms Qr Qx c0 n0 (pc + 2) (zs1 ls i (.int x)) st σ) : Tj g l d Y av mc ms Qr Qx c0 n0 pc ls ((.int x) :: st) σ :=
  fun p e s m below meth c H locs la C hM hS hl => lv_istore C.1 C.2.1 hd hl.has hi rfl (fun la2 hl2 => k p e s m below meth c H locs la2 C hM hS (Lv.st1 hl2))
theorem j_lstore_n {i : Fin 4} {x : Int64} (hd : decode Y.2.1 pc = .ok (.lstore_n i, 1)) (hi : (i : Nat) + 1 < Y.2.2.1) (k : Tj g l d Y av mc ms Qr Qx c0 n0 (pc + 1) (zs2 ls (i : Nat) (.long x)) st σ) : Tj g l d Y av mc ms Qr Qx c0 n0 pc ls ((.long x) :: st) σ :=
  fun p e s m below meth c H locs la C hM hS hl => lv_lstore_n C.1 C.2.1 hd rfl hl.has hi rfl (fun la2 hl2 => k p e s m below meth c H locs la2 C hM hS (Lv.st2 hl2))
theorem j_lstore {i : Nat} {x : Int64} (hd : decode Y.2.1 pc = .ok (.lstore i, 2)) (hi : i + 1 < Y.2.2.1) (k : Tj g l d Y av mc ms Qr Qx c0 n0 (pc + 2) (zs2 ls i (.long x)) st σ) : Tj g l d Y av mc ms Qr Qx c0 n0 pc ls ((.long x) :: st) σ :=
  fun p e s m below meth c H locs la C hM hS hl => lv_lstore C.1 C.2.1 hd hl.has hi rfl (fun la2 hl2 => k p e s m below meth c H locs la2 C hM hS (Lv.st2 hl2))
theorem j_astore_n {i : Fin 4} {x : Nat} (hd : decode Y.2.1 pc = .ok (.astore_n i, 1)) (hi : (i : Nat) < Y.2.2.1) (k : Tj g l d Y av mc ms Qr Qx c0 n0 (pc + 1) (zs1 ls (i : Nat) (.ref x)) st σ) : Tj g l d Y av mc ms Qr Qx c0 n0 pc ls ((.ref x) :: st) σ :=
  fun p e s m below meth c H locs la C hM hS hl => lv_astore_n C.1 C.2.1 hd rfl hl.has hi rfl (fun la2 hl2 => k p e s m below meth c H locs la2 C hM hS (Lv.st1 hl2))
theorem j_astore {i : Nat} {x : Nat} (hd : decode Y.2.1 pc = .ok (.astore i, 2)) (hi : i < Y.2.2.1) (k : Tj g l d Y av mc ms Qr Qx c0 n0 (pc + 2) (zs1 ls i (.ref x)) st σ) : Tj g l d Y av mc ms Qr Qx c0 n0 pc ls ((.ref x) :: st) σ :=
  fun p e s m below meth c H locs la C hM hS hl => lv_astore C.1 C.2.1 hd hl.has hi rfl (fun la2 hl2 => k p e s m below meth c H locs la2 C hM hS (Lv.st1 hl2))
theorem j_astore_nN {i : Fin 4} (hd : decode Y.2.1 pc = .ok (.astore_n i, 1)) (hi : (i : Nat) < Y.2.2.1) (k : Tj g l d Y av mc ms Qr Qx c0 n0 (pc + 1) (zs1 ls (i : Nat) .null) st σ) : Tj g l d Y av mc ms Qr Qx c0 n0 pc ls (.null :: st) σ :=
  fun p e s m below meth c H locs la C hM hS hl => lv_astore_nN C.1 C.2.1 hd rfl hl.has hi rfl (fun la2 hl2 => k p e s m below meth c H locs la2 C hM hS (Lv.st1 hl2))
theorem j_astoreN {i : Nat} (hd : decode Y.2.1 pc = .ok (.astore i, 2)) (hi : i < Y.2.2.1) (k : Tj g l d Y av mc ms Qr Qx c0 n0 (pc + 2) (zs1 ls i .null) st σ) : Tj g l d Y av mc ms Qr Qx c0 n0 pc ls (.null :: st) σ :=
  fun p e s m below meth c H locs la C hM hS hl => lv_astoreN C.1 C.2.1 hd hl.has hi rfl (fun la2 hl2 => k p e s m below meth c H locs la2 C hM hS (Lv.st1 hl2))
theorem j_iinc {i : Nat} {n : Int} {x v : Int32} (hd : decode Y.2.1 pc = .ok (.iinc i n, 3)) (h : ls[i]? = some (some (.int x))) (hv : x + Int32.ofInt n = v) (hi : i < Y.2.2.1) (k : Tj g l d Y av mc ms Qr Qx c0 n0 (pc + 3) (zs1 ls i (.int v)) st σ) : Tj g l d Y av mc ms Qr Qx c0 n0 pc ls st σ := by
  intro p e s m below meth c H locs la C hM hS hl
  obtain ⟨j, hj⟩ := List.getElem?_of_mem ((zas_mem ls 0 i (.int x)).mpr ⟨Nat.zero_le _, h⟩)
  exact lv_iinc C.1 C.2.1 hd hl.has hj hv hi rfl (fun la2 hl2 => k p e s m below meth c H locs la2 C hM hS (Lv.st1 hl2))
theorem j_iadd {x y : Int32} (hd : decode Y.2.1 pc = .ok (.iadd, 1)) (k : Tj g l d Y av mc ms Qr Qx c0 n0 (pc + 1) ls (.int (x + y) :: st) σ) : Tj g l d Y av mc ms Qr Qx c0 n0 pc ls (.int y :: .int x :: st) σ :=
  fun p e s m below meth c H locs la C hM hS hl => lv_iadd C.1 C.2.1 hd (k p e s m below meth c H locs la C hM hS hl)
theorem j_isub {x y : Int32} (hd : decode Y.2.1 pc = .ok (.isub, 1)) (k : Tj g l d Y av mc ms Qr Qx c0 n0 (pc + 1) ls (.int (x - y) :: st) σ) : Tj g l d Y av mc ms Qr Qx c0 n0 pc ls (.int y :: .int x :: st) σ :=
  fun p e s m below meth c H locs la C hM hS hl => lv_isub C.1 C.2.1 hd (k p e s m below meth c H locs la C hM hS hl)
theorem j_imul {x y : Int32} (hd : decode Y.2.1 pc = .ok (.imul, 1)) (k : Tj g l d Y av mc ms Qr Qx c0 n0 (pc + 1) ls (.int (x * y) :: st) σ) : Tj g l d Y av mc ms Qr Qx c0 n0 pc ls (.int y :: .int x :: st) σ :=
  fun p e s m below meth c H locs la C hM hS hl => lv_imul C.1 C.2.1 hd (k p e s m below meth c H locs la C hM hS hl)
theorem j_iand {x y : Int32} (hd : decode Y.2.1 pc = .ok (.iand, 1)) (k : Tj g l d Y av mc ms Qr Qx c0 n0 (pc + 1) ls (.int (x &&& y) :: st) σ) : Tj g l d Y av mc ms Qr Qx c0 n0 pc ls (.int y :: .int x :: st) σ :=
  fun p e s m below meth c H locs la C hM hS hl => lv_iand C.1 C.2.1 hd (k p e s m below meth c H locs la C hM hS hl)
theorem j_ior {x y : Int32} (hd : decode Y.2.1 pc = .ok (.ior, 1)) (k : Tj g l d Y av mc ms Qr Qx c0 n0 (pc + 1) ls (.int (x ||| y) :: st) σ) : Tj g l d Y av mc ms Qr Qx c0 n0 pc ls (.int y :: .int x :: st) σ :=
  fun p e s m below meth c H locs la C hM hS hl => lv_ior C.1 C.2.1 hd (k p e s m below meth c H locs la C hM hS hl)
theorem j_ixor {x y : Int32} (hd : decode Y.2.1 pc = .ok (.ixor, 1)) (k : Tj g l d Y av mc ms Qr Qx c0 n0 (pc + 1) ls (.int (x ^^^ y) :: st) σ) : Tj g l d Y av mc ms Qr Qx c0 n0 pc ls (.int y :: .int x :: st) σ :=
  fun p e s m below meth c H locs la C hM hS hl => lv_ixor C.1 C.2.1 hd (k p e s m below meth c H locs la C hM hS hl)
theorem j_ladd {x y : Int64} (hd : decode Y.2.1 pc = .ok (.ladd, 1)) (k : Tj g l d Y av mc ms Qr Qx c0 n0 (pc + 1) ls (.long (x + y) :: st) σ) : Tj g l d Y av mc ms Qr Qx c0 n0 pc ls (.long y :: .long x :: st) σ :=
  fun p e s m below meth c H locs la C hM hS hl => lv_ladd C.1 C.2.1 hd (k p e s m below meth c H locs la C hM hS hl)
theorem j_lsub {x y : Int64} (hd : decode Y.2.1 pc = .ok (.lsub, 1)) (k : Tj g l d Y av mc ms Qr Qx c0 n0 (pc + 1) ls (.long (x - y) :: st) σ) : Tj g l d Y av mc ms Qr Qx c0 n0 pc ls (.long y :: .long x :: st) σ :=
  fun p e s m below meth c H locs la C hM hS hl => lv_lsub C.1 C.2.1 hd (k p e s m below meth c H locs la C hM hS hl)
theorem j_lmul {x y : Int64} (hd : decode Y.2.1 pc = .ok (.lmul, 1)) (k : Tj g l d Y av mc ms Qr Qx c0 n0 (pc + 1) ls (.long (x * y) :: st) σ) : Tj g l d Y av mc ms Qr Qx c0 n0 pc ls (.long y :: .long x :: st) σ :=
  fun p e s m below meth c H locs la C hM hS hl => lv_lmul C.1 C.2.1 hd (k p e s m below meth c H locs la C hM hS hl)
theorem j_land {x y : Int64} (hd : decode Y.2.1 pc = .ok (.land, 1)) (k : Tj g l d Y av mc ms Qr Qx c0 n0 (pc + 1) ls (.long (x &&& y) :: st) σ) : Tj g l d Y av mc ms Qr Qx c0 n0 pc ls (.long y :: .long x :: st) σ :=
  fun p e s m below meth c H locs la C hM hS hl => lv_land C.1 C.2.1 hd (k p e s m below meth c H locs la C hM hS hl)
theorem j_lor {x y : Int64} (hd : decode Y.2.1 pc = .ok (.lor, 1)) (k : Tj g l d Y av mc ms Qr Qx c0 n0 (pc + 1) ls (.long (x ||| y) :: st) σ) : Tj g l d Y av mc ms Qr Qx c0 n0 pc ls (.long y :: .long x :: st) σ :=
  fun p e s m below meth c H locs la C hM hS hl => lv_lor C.1 C.2.1 hd (k p e s m below meth c H locs la C hM hS hl)
theorem j_idiv {x y : Int32} (hd : decode Y.2.1 pc = .ok (.idiv, 1)) (hne : ¬ y = 0) (k : Tj g l d Y av mc ms Qr Qx c0 n0 (pc + 1) ls (.int (x / y) :: st) σ) : Tj g l d Y av mc ms Qr Qx c0 n0 pc ls (.int y :: .int x :: st) σ :=
  fun p e s m below meth c H locs la C hM hS hl => lv_idiv C.1 C.2.1 hd hne (k p e s m below meth c H locs la C hM hS hl)
theorem j_irem {x y : Int32} (hd : decode Y.2.1 pc = .ok (.irem, 1)) (hne : ¬ y = 0) (k : Tj g l d Y av mc ms Qr Qx c0 n0 (pc + 1) ls (.int (x - x / y * y) :: st) σ) : Tj g l d Y av mc ms Qr Qx c0 n0 pc ls (.int y :: .int x :: st) σ :=
  fun p e s m below meth c H locs la C hM hS hl => lv_irem C.1 C.2.1 hd hne (k p e s m below meth c H locs la C hM hS hl)
theorem j_ldiv {x y : Int64} (hd : decode Y.2.1 pc = .ok (.ldiv, 1)) (hne : ¬ y = 0) (k : Tj g l d Y av mc ms Qr Qx c0 n0 (pc + 1) ls (.long (x / y) :: st) σ) : Tj g l d Y av mc ms Qr Qx c0 n0 pc ls (.long y :: .long x :: st) σ :=
  fun p e s m below meth c H locs la C hM hS hl => lv_ldiv C.1 C.2.1 hd hne (k p e s m below meth c H locs la C hM hS hl)
theorem j_lrem {x y : Int64} (hd : decode Y.2.1 pc = .ok (.lrem, 1)) (hne : ¬ y = 0) (k : Tj g l d Y av mc ms Qr Qx c0 n0 (pc + 1) ls (.long (x - x / y * y) :: st) σ) : Tj g l d Y av mc ms Qr Qx c0 n0 pc ls (.long y :: .long x :: st) σ :=
  fun p e s m below meth c H locs la C hM hS hl => lv_lrem C.1 C.2.1 hd hne (k p e s m below meth c H locs la C hM hS hl)
theorem j_ineg {x : Int32} (hd : decode Y.2.1 pc = .ok (.ineg, 1)) (k : Tj g l d Y av mc ms Qr Qx c0 n0 (pc + 1) ls (.int (-x) :: st) σ) : Tj g l d Y av mc ms Qr Qx c0 n0 pc ls (.int x :: st) σ :=
  fun p e s m below meth c H locs la C hM hS hl => lv_ineg C.1 C.2.1 hd (k p e s m below meth c H locs la C hM hS hl)
theorem j_lneg {x : Int64} (hd : decode Y.2.1 pc = .ok (.lneg, 1)) (k : Tj g l d Y av mc ms Qr Qx c0 n0 (pc + 1) ls (.long (-x) :: st) σ) : Tj g l d Y av mc ms Qr Qx c0 n0 pc ls (.long x :: st) σ :=
  fun p e s m below meth c H locs la C hM hS hl => lv_lneg C.1 C.2.1 hd (k p e s m below meth c H locs la C hM hS hl)
theorem j_ishl {x y : Int32} (hd : decode Y.2.1 pc = .ok (.ishl, 1)) (k : Tj g l d Y av mc ms Qr Qx c0 n0 (pc + 1) ls (.int (x <<< (y &&& 31)) :: st) σ) : Tj g l d Y av mc ms Qr Qx c0 n0 pc ls (.int y :: .int x :: st) σ :=
  fun p e s m below meth c H locs la C hM hS hl => lv_ishl C.1 C.2.1 hd (k p e s m below meth c H locs la C hM hS hl)
theorem j_ishr {x y : Int32} (hd : decode Y.2.1 pc = .ok (.ishr, 1)) (k : Tj g l d Y av mc ms Qr Qx c0 n0 (pc + 1) ls (.int (x >>> (y &&& 31)) :: st) σ) : Tj g l d Y av mc ms Qr Qx c0 n0 pc ls (.int y :: .int x :: st) σ :=
  fun p e s m below meth c H locs la C hM hS hl => lv_ishr C.1 C.2.1 hd (k p e s m below meth c H locs la C hM hS hl)
theorem j_lshl {x : Int64} {y : Int32} (hd : decode Y.2.1 pc = .ok (.lshl, 1)) (k : Tj g l d Y av mc ms Qr Qx c0 n0 (pc + 1) ls (.long (x <<< (y.toInt64 &&& 63)) :: st) σ) : Tj g l d Y av mc ms Qr Qx c0 n0 pc ls (.int y :: .long x :: st) σ :=
  fun p e s m below meth c H locs la C hM hS hl => lv_lshl C.1 C.2.1 hd rfl (k p e s m below meth c H locs la C hM hS hl)
theorem j_i2l {x : Int32} (hd : decode Y.2.1 pc = .ok (.i2l, 1)) (k : Tj g l d Y av mc ms Qr Qx c0 n0 (pc + 1) ls (.long (x.toInt64) :: st) σ) : Tj g l d Y av mc ms Qr Qx c0 n0 pc ls (.int x :: st) σ :=
  fun p e s m below meth c H locs la C hM hS hl => lv_i2l C.1 C.2.1 hd rfl (k p e s m below meth c H locs la C hM hS hl)
theorem j_l2i {x : Int64} (hd : decode Y.2.1 pc = .ok (.l2i, 1)) (k : Tj g l d Y av mc ms Qr Qx c0 n0 (pc + 1) ls (.int (x.toInt32) :: st) σ) : Tj g l d Y av mc ms Qr Qx c0 n0 pc ls (.long x :: st) σ :=
  fun p e s m below meth c H locs la C hM hS hl => lv_l2i C.1 C.2.1 hd rfl (k p e s m below meth c H locs la C hM hS hl)
theorem j_i2b {x : Int32} (hd : decode Y.2.1 pc = .ok (.i2b, 1)) (k : Tj g l d Y av mc ms Qr Qx c0 n0 (pc + 1) ls (.int (x.toInt8.toInt32) :: st) σ) : Tj g l d Y av mc ms Qr Qx c0 n0 pc ls (.int x :: st) σ :=
  fun p e s m below meth c H locs la C hM hS hl => lv_i2b C.1 C.2.1 hd rfl (k p e s m below meth c H locs la C hM hS hl)
theorem j_i2s {x : Int32} (hd : decode Y.2.1 pc = .ok (.i2s, 1)) (k : Tj g l d Y av mc ms Qr Qx c0 n0 (pc + 1) ls (.int (x.toInt16.toInt32) :: st) σ) : Tj g l d Y av mc ms Qr Qx c0 n0 pc ls (.int x :: st) σ :=
  fun p e s m below meth c H locs la C hM hS hl => lv_i2s C.1 C.2.1 hd rfl (k p e s m below meth c H locs la C hM hS hl)
theorem j_i2c {x : Int32} (hd : decode Y.2.1 pc = .ok (.i2c, 1)) (k : Tj g l d Y av mc ms Qr Qx c0 n0 (pc + 1) ls (.int ((x.toUInt32 % 65536).toInt32) :: st) σ) : Tj g l d Y av mc ms Qr Qx c0 n0 pc ls (.int x :: st) σ :=
  fun p e s m below meth c H locs la C hM hS hl => lv_i2c C.1 C.2.1 hd rfl (k p e s m below meth c H locs la C hM hS hl)
theorem j_dup {a : Value} (hd : decode Y.2.1 pc = .ok (.dup, 1)) (ha : a.category = 1) (k : Tj g l d Y av mc ms Qr Qx c0 n0 (pc + 1) ls (a :: a :: st) σ) : Tj g l d Y av mc ms Qr Qx c0 n0 pc ls (a :: st) σ :=
  fun p e s m below meth c H locs la C hM hS hl => lv_dup C.1 C.2.1 hd ha (k p e s m below meth c H locs la C hM hS hl)
theorem j_pop {a : Value} (hd : decode Y.2.1 pc = .ok (.pop, 1)) (ha : a.category = 1) (k : Tj g l d Y av mc ms Qr Qx c0 n0 (pc + 1) ls st σ) : Tj g l d Y av mc ms Qr Qx c0 n0 pc ls (a :: st) σ :=
  fun p e s m below meth c H locs la C hM hS hl => lv_pop C.1 C.2.1 hd ha (k p e s m below meth c H locs la C hM hS hl)
theorem j_dup_x1 {a b : Value} (hd : decode Y.2.1 pc = .ok (.dup_x1, 1)) (ha : a.category = 1) (hb : b.category = 1) (k : Tj g l d Y av mc ms Qr Qx c0 n0 (pc + 1) ls (a :: b :: a :: st) σ) : Tj g l d Y av mc ms Qr Qx c0 n0 pc ls (a :: b :: st) σ :=
  fun p e s m below meth c H locs la C hM hS hl => lv_dup_x1 C.1 C.2.1 hd ha hb (k p e s m below meth c H locs la C hM hS hl)
theorem j_dup2 {a b : Value} (hd : decode Y.2.1 pc = .ok (.dup2, 1)) (ha : a.category = 1) (hb : b.category = 1) (k : Tj g l d Y av mc ms Qr Qx c0 n0 (pc + 1) ls (a :: b :: a :: b :: st) σ) : Tj g l d Y av mc ms Qr Qx c0 n0 pc ls (a :: b :: st) σ :=
  fun p e s m below meth c H locs la C hM hS hl => lv_dup2_11 C.1 C.2.1 hd ha hb (k p e s m below meth c H locs la C hM hS hl)
theorem j_lcmp {x y : Int64} (hd : decode Y.2.1 pc = .ok (.lcmp, 1)) (k : Tj g l d Y av mc ms Qr Qx c0 n0 (pc + 1) ls (.int (lg_cmp x y) :: st) σ) : Tj g l d Y av mc ms Qr Qx c0 n0 pc ls (.long y :: .long x :: st) σ :=
  fun p e s m below meth c H locs la C hM hS hl => W.lcmp C.1 C.2.1 hd (k p e s m below meth c H locs la C hM hS hl)
theorem j_null (hd : decode Y.2.1 pc = .ok (.aconst_null, 1)) (k : Tj g l d Y av mc ms Qr Qx c0 n0 (pc + 1) ls (.null :: st) σ) : Tj g l d Y av mc ms Qr Qx c0 n0 pc ls st σ :=
  fun p e s m below meth c H locs la C hM hS hl => lv_null C.1 C.2.1 hd (k p e s m below meth c H locs la C hM hS hl)
theorem j_goto {off : Int} {tgt : Nat} (hd : decode Y.2.1 pc = .ok (.goto off, 3)) (ht : (pc : Int) + off = (tgt : Int)) (k : Tj g l d Y av mc ms Qr Qx c0 n0 tgt ls st σ) : Tj g l d Y av mc ms Qr Qx c0 n0 pc ls st σ :=
  fun p e s m below meth c H locs la C hM hS hl => lv_goto C.1 C.2.1 hd ht (k p e s m below meth c H locs la C hM hS hl)
theorem j_if_eq {x : Int32} {off : Int} {tgt : Nat} (hd : decode Y.2.1 pc = .ok (.ifCond .eq off, 3)) (ht : (pc : Int) + off = (tgt : Int)) (kt : x = 0 → Tj g l d Y av mc ms Qr Qx c0 n0 tgt ls st σ) (kf : ¬ x = 0 → Tj g l d Y av mc ms Qr Qx c0 n0 (pc + 3) ls st σ) : Tj g l d Y av mc ms Qr Qx c0 n0 pc ls (.int x :: st) σ :=
  fun p e s m below meth c H locs la C hM hS hl => lv_if_eq C.1 C.2.1 hd ht (fun q => kt q p e s m below meth c H locs la C hM hS hl) (fun q => kf q p e s m below meth c H locs la C hM hS hl)
theorem j_icmp_eq {x y : Int32} {off : Int} {tgt : Nat} (hd : decode Y.2.1 pc = .ok (.if_icmp .eq off, 3)) (ht : (pc : Int) + off = (tgt : Int)) (kt : x = y → Tj g l d Y av mc ms Qr Qx c0 n0 tgt ls st σ) (kf : ¬ x = y → Tj g l d Y av mc ms Qr Qx c0 n0 (pc + 3) ls st σ) : Tj g l d Y av mc ms Qr Qx c0 n0 pc ls (.int y :: .int x :: st) σ :=
  fun p e s m below meth c H locs la C hM hS hl => lv_icmp_eq C.1 C.2.1 hd ht (fun q => kt q p e s m below meth c H locs la C hM hS hl) (fun q => kf q p e s m below meth c H locs la C hM hS hl)
theorem j_if_ne {x : Int32} {off : Int} {tgt : Nat} (hd : decode Y.2.1 pc = .ok (.ifCond .ne off, 3)) (ht : (pc : Int) + off = (tgt : Int)) (kt : ¬ x = 0 → Tj g l d Y av mc ms Qr Qx c0 n0 tgt ls st σ) (kf : x = 0 → Tj g l d Y av mc ms Qr Qx c0 n0 (pc + 3) ls st σ) : Tj g l d Y av mc ms Qr Qx c0 n0 pc ls (.int x :: st) σ :=
  fun p e s m below meth c H locs la C hM hS hl => lv_if_ne C.1 C.2.1 hd ht (fun q => kt q p e s m below meth c H locs la C hM hS hl) (fun q => kf q p e s m below meth c H locs la C hM hS hl)
theorem j_icmp_ne {x y : Int32} {off : Int} {tgt : Nat} (hd : decode Y.2.1 pc = .ok (.if_icmp .ne off, 3)) (ht : (pc : Int) + off = (tgt : Int)) (kt : ¬ x = y → Tj g l d Y av mc ms Qr Qx c0 n0 tgt ls st σ) (kf : x = y → Tj g l d Y av mc ms Qr Qx c0 n0 (pc + 3) ls st σ) : Tj g l d Y av mc ms Qr Qx c0 n0 pc ls (.int y :: .int x :: st) σ :=
  fun p e s m below meth c H locs la C hM hS hl => lv_icmp_ne C.1 C.2.1 hd ht (fun q => kt q p e s m below meth c H locs la C hM hS hl) (fun q => kf q p e s m below meth c H locs la C hM hS hl)
theorem j_if_lt {x : Int32} {off : Int} {tgt : Nat} (hd : decode Y.2.1 pc = .ok (.ifCond .lt off, 3)) (ht : (pc : Int) + off = (tgt : Int)) (kt : x < 0 → Tj g l d Y av mc ms Qr Qx c0 n0 tgt ls st σ) (kf : ¬ x < 0 → Tj g l d Y av mc ms Qr Qx c0 n0 (pc + 3) ls st σ) : Tj g l d Y av mc ms Qr Qx c0 n0 pc ls (.int x :: st) σ :=
  fun p e s m below meth c H locs la C hM hS hl => lv_if_lt C.1 C.2.1 hd ht (fun q => kt q p e s m below meth c H locs la C hM hS hl) (fun q => kf q p e s m below meth c H locs la C hM hS hl)
theorem j_icmp_lt {x y : Int32} {off : Int} {tgt : Nat} (hd : decode Y.2.1 pc = .ok (.if_icmp .lt off, 3)) (ht : (pc : Int) + off = (tgt : Int)) (kt : x < y → Tj g l d Y av mc ms Qr Qx c0 n0 tgt ls st σ) (kf : ¬ x < y → Tj g l d Y av mc ms Qr Qx c0 n0 (pc + 3) ls st σ) : Tj g l d Y av mc ms Qr Qx c0 n0 pc ls (.int y :: .int x :: st) σ :=
  fun p e s m below meth c H locs la C hM hS hl => lv_icmp_lt C.1 C.2.1 hd ht (fun q => kt q p e s m below meth c H locs la C hM hS hl) (fun q => kf q p e s m below meth c H locs la C hM hS hl)
theorem j_if_ge {x : Int32} {off : Int} {tgt : Nat} (hd : decode Y.2.1 pc = .ok (.ifCond .ge off, 3)) (ht : (pc : Int) + off = (tgt : Int)) (kt : 0 ≤ x → Tj g l d Y av mc ms Qr Qx c0 n0 tgt ls st σ) (kf : ¬ 0 ≤ x → Tj g l d Y av mc ms Qr Qx c0 n0 (pc + 3) ls st σ) : Tj g l d Y av mc ms Qr Qx c0 n0 pc ls (.int x :: st) σ :=
  fun p e s m below meth c H locs la C hM hS hl => lv_if_ge C.1 C.2.1 hd ht (fun q => kt q p e s m below meth c H locs la C hM hS hl) (fun q => kf q p e s m below meth c H locs la C hM hS hl)
theorem j_icmp_ge {x y : Int32} {off : Int} {tgt : Nat} (hd : decode Y.2.1 pc = .ok (.if_icmp .ge off, 3)) (ht : (pc : Int) + off = (tgt : Int)) (kt : y ≤ x → Tj g l d Y av mc ms Qr Qx c0 n0 tgt ls st σ) (kf : ¬ y ≤ x → Tj g l d Y av mc ms Qr Qx c0 n0 (pc + 3) ls st σ) : Tj g l d Y av mc ms Qr Qx c0 n0 pc ls (.int y :: .int x :: st) σ :=
  fun p e s m below meth c H locs la C hM hS hl => lv_icmp_ge C.1 C.2.1 hd ht (fun q => kt q p e s m below meth c H locs la C hM hS hl) (fun q => kf q p e s m below meth c H locs la C hM hS hl)
theorem j_if_gt {x : Int32} {off : Int} {tgt : Nat} (hd : decode Y.2.1 pc = .ok (.ifCond .gt off, 3)) (ht : (pc : Int) + off = (tgt : Int)) (kt : 0 < x → Tj g l d Y av mc ms Qr Qx c0 n0 tgt ls st σ) (kf : ¬ 0 < x → Tj g l d Y av mc ms Qr Qx c0 n0 (pc + 3) ls st σ) : Tj g l d Y av mc ms Qr Qx c0 n0 pc ls (.int x :: st) σ :=
  fun p e s m below meth c H locs la C hM hS hl => lv_if_gt C.1 C.2.1 hd ht (fun q => kt q p e s m below meth c H locs la C hM hS hl) (fun q => kf q p e s m below meth c H locs la C hM hS hl)
theorem j_icmp_gt {x y : Int32} {off : Int} {tgt : Nat} (hd : decode Y.2.1 pc = .ok (.if_icmp .gt off, 3)) (ht : (pc : Int) + off = (tgt : Int)) (kt : y < x → Tj g l d Y av mc ms Qr Qx c0 n0 tgt ls st σ) (kf : ¬ y < x → Tj g l d Y av mc ms Qr Qx c0 n0 (pc + 3) ls st σ) : Tj g l d Y av mc ms Qr Qx c0 n0 pc ls (.int y :: .int x :: st) σ :=
  fun p e s m below meth c H locs la C hM hS hl => lv_icmp_gt C.1 C.2.1 hd ht (fun q => kt q p e s m below meth c H locs la C hM hS hl) (fun q => kf q p e s m below meth c H locs la C hM hS hl)
theorem j_if_le {x : Int32} {off : Int} {tgt : Nat} (hd : decode Y.2.1 pc = .ok (.ifCond .le off, 3)) (ht : (pc : Int) + off = (tgt : Int)) (kt : x ≤ 0 → Tj g l d Y av mc ms Qr Qx c0 n0 tgt ls st σ) (kf : ¬ x ≤ 0 → Tj g l d Y av mc ms Qr Qx c0 n0 (pc + 3) ls st σ) : Tj g l d Y av mc ms Qr Qx c0 n0 pc ls (.int x :: st) σ :=
  fun p e s m below meth c H locs la C hM hS hl => lv_if_le C.1 C.2.1 hd ht (fun q => kt q p e s m below meth c H locs la C hM hS hl) (fun q => kf q p e s m below meth c H locs la C hM hS hl)
theorem j_icmp_le {x y : Int32} {off : Int} {tgt : Nat} (hd : decode Y.2.1 pc = .ok (.if_icmp .le off, 3)) (ht : (pc : Int) + off = (tgt : Int)) (kt : x ≤ y → Tj g l d Y av mc ms Qr Qx c0 n0 tgt ls st σ) (kf : ¬ x ≤ y → Tj g l d Y av mc ms Qr Qx c0 n0 (pc + 3) ls st σ) : Tj g l d Y av mc ms Qr Qx c0 n0 pc ls (.int y :: .int x :: st) σ :=
  fun p e s m below meth c H locs la C hM hS hl => lv_icmp_le C.1 C.2.1 hd ht (fun q => kt q p e s m below meth c H locs la C hM hS hl) (fun q => kf q p e s m below meth c H locs la C hM hS hl)
theorem j_ifnull {x : Nat} {off : Int} (hd : decode Y.2.1 pc = .ok (.ifnull off, 3)) (k : Tj g l d Y av mc ms Qr Qx c0 n0 (pc + 3) ls st σ) : Tj g l d Y av mc ms Qr Qx c0 n0 pc ls (.ref x :: st) σ :=
  fun p e s m below meth c H locs la C hM hS hl => lv_ifnull C.1 C.2.1 hd (k p e s m below meth c H locs la C hM hS hl)
theorem j_ifnullN {off : Int} {tgt : Nat} (hd : decode Y.2.1 pc = .ok (.ifnull off, 3)) (ht : (pc : Int) + off = (tgt : Int)) (k : Tj g l d Y av mc ms Qr Qx c0 n0 tgt ls st σ) : Tj g l d Y av mc ms Qr Qx c0 n0 pc ls (.null :: st) σ :=
  fun p e s m below meth c H locs la C hM hS hl => lv_ifnullN C.1 C.2.1 hd ht (k p e s m below meth c H locs la C hM hS hl)
theorem j_ifnonnull {x : Nat} {off : Int} {tgt : Nat} (hd : decode Y.2.1 pc = .ok (.ifnonnull off, 3)) (ht : (pc : Int) + off = (tgt : Int)) (k : Tj g l d Y av mc ms Qr Qx c0 n0 tgt ls st σ) : Tj g l d Y av mc ms Qr Qx c0 n0 pc ls (.ref x :: st) σ :=
  fun p e s m below meth c H locs la C hM hS hl => lv_ifnonnull C.1 C.2.1 hd ht (k p e s m below meth c H locs la C hM hS hl)
theorem j_ifnonnullN {off : Int} (hd : decode Y.2.1 pc = .ok (.ifnonnull off, 3)) (k : Tj g l d Y av mc ms Qr Qx c0 n0 (pc + 3) ls st σ) : Tj g l d Y av mc ms Qr Qx c0 n0 pc ls (.null :: st) σ :=
  fun p e s m below meth c H locs la C hM hS hl => lv_ifnonnullN C.1 C.2.1 hd (k p e s m below meth c H locs la C hM hS hl)
theorem j_ldc {ix : Nat} {v : Int32} (hd : decode Y.2.1 pc = .ok (.ldc ix, 2)) (hw : Cond.constant Y.1.cls ix v ∈ lw_all) (k : Tj g l d Y av mc ms Qr Qx c0 n0 (pc + 2) ls (.int v :: st) σ) : Tj g l d Y av mc ms Qr Qx c0 n0 pc ls st σ :=
  fun p e s m below meth c H locs la C hM hS hl => lv_ldc C.1 C.2.1 C.2.2.2.2.2.1 (C.2.2.2.2.2.2.1 _ hw) hd (k p e s m below meth c H locs la C hM hS hl)
theorem j_ldc2 {ix : Nat} {v : Int64} (hd : decode Y.2.1 pc = .ok (.ldc2_w ix, 3)) (hw : Cond.constantLong Y.1.cls ix v ∈ lw_all) (k : Tj g l d Y av mc ms Qr Qx c0 n0 (pc + 3) ls (.long v :: st) σ) : Tj g l d Y av mc ms Qr Qx c0 n0 pc ls st σ :=
  fun p e s m below meth c H locs la C hM hS hl => lv_ldc2 C.1 C.2.1 C.2.2.2.2.2.1 (C.2.2.2.2.2.2.1 _ hw) hd (k p e s m below meth c H locs la C hM hS hl)
theorem j_tabOut {dflt lo hi : Int} {offs : Array Int} {len : Nat} {x : Int32} {tgt : Nat} (hd : decode Y.2.1 pc = .ok (.tableswitch dflt lo hi offs, len)) (h : x.toInt < lo ∨ hi < x.toInt) (ht : (pc : Int) + dflt = (tgt : Int)) (k : Tj g l d Y av mc ms Qr Qx c0 n0 tgt ls st σ) : Tj g l d Y av mc ms Qr Qx c0 n0 pc ls (.int x :: st) σ :=
  fun p e s m below meth c H locs la C hM hS hl => lv_tableOut C.1 C.2.1 hd h ht (k p e s m below meth c H locs la C hM hS hl)
theorem j_tabIn {dflt lo hi : Int} {offs : Array Int} {len : Nat} {x : Int32} {off : Int} {tgt : Nat} (hd : decode Y.2.1 pc = .ok (.tableswitch dflt lo hi offs, len)) (h1 : ¬ x.toInt < lo) (h2 : ¬ hi < x.toInt) (ho : offs[(x.toInt - lo).toNat]? = some off) (ht : (pc : Int) + off = (tgt : Int)) (k : Tj g l d Y av mc ms Qr Qx c0 n0 tgt ls st σ) : Tj g l d Y av mc ms Qr Qx c0 n0 pc ls (.int x :: st) σ :=
  fun p e s m below meth c H locs la C hM hS hl => lv_tableIn C.1 C.2.1 hd h1 h2 ho ht (k p e s m below meth c H locs la C hM hS hl)
end TJ
