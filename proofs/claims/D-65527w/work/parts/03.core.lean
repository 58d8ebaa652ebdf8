/-! THE ABSTRACT WORLD. A heap is a list of cells (tag, contents): entry 0 is the law's script, entry i + 1 the i-th cell made since the law's entry. A tag below 50 is a class's number in 'classes', its contents the tracked fields; 50 and above: arrays. A reference is the place in the list. -/
abbrev jy_P : Type := List (Nat × List Value)
/-- launch, the heap at the law's entry, the script's address, classes, slots, array classes -/
abbrev jy_G : Type := Launch × Heap × Nat × (Nat → ClassId) × (Nat → Nat → Nat) × (Nat → ClassId)
def jy_a (G : jy_G) : Nat → Nat
  | 0 => G.2.2.1
  | i + 1 => G.2.1.size + i
def jy_v (G : jy_G) : Value → Value
  | .ref i => .ref (jy_a G i)
  | .int x => .int x
  | .long x => .long x
  | .float x => .float x
  | .double x => .double x
  | .null => .null
  | .retAddr x => .retAddr x
theorem jy_v_cat (G : jy_G) (v : Value) : (jy_v G v).category = v.category := by cases v <;> rfl
def jy_o (G : jy_G) : Outcome → Outcome
  | .returned v => .returned (v.map (jy_v G))
  | .threw x => .threw (jy_a G x)
def jy_cell (G : jy_G) (c : Nat × List Value) (x : Cell) : Prop :=
  (c.1 < 50 ∧ x.vm = .none ∧ x.cls = G.2.2.2.1 c.1 ∧ ∃ r : vw_C, classes[c.1]? = some r ∧ c.2.length = r.2.2 ∧ (x.monitor.owner = none ∧ x.monitor.count = 0) ∧ ∀ (k : Nat) (v : Value), c.2[k]? = some v → x.slots[G.2.2.2.2.1 c.1 k]? = some (jy_v G v)) ∨
  (50 ≤ c.1 ∧ x.vm ≠ .unknown ∧ (∀ k, x.vm ≠ .statics k) ∧ x.cls = G.2.2.2.2.2 c.1 ∧ x.slots = (c.2.map (jy_v G)).toArray)
def jy_H (G : jy_G) (h : jy_P) (H : Heap) : Prop :=
  0 < h.length ∧ H.size + 1 = G.2.1.size + h.length ∧ (∀ a : Nat, a < G.2.1.size → H[a]? = G.2.1[a]?) ∧ ∀ (i : Nat) (c : Nat × List Value), h[i]? = some c → ∃ x : Cell, H[jy_a G i]? = some x ∧ jy_cell G c x
/-- the room: at most jy_K cells in all; the first 40 of at most 600 slots each, the others of at most 12 -/
def jy_K : Nat := 600000
def jy_cap (n : Nat) : Nat := 600 * min n 40 + 12 * (n - 40)
theorem jy_cap_mono {a b : Nat} (h : a ≤ b) : jy_cap a ≤ jy_cap b := by unfold jy_cap; omega
theorem jy_cap_12 (n : Nat) : jy_cap n + 12 ≤ jy_cap (n + 1) := by unfold jy_cap; omega
theorem jy_cap_600 {n : Nat} (h : n < 40) : jy_cap n + 600 ≤ jy_cap (n + 1) := by unfold jy_cap; omega
/-- what a new cell may weigh -/
def jy_fit (n len : Nat) : Prop := len < jy_K ∧ (n ≤ 12 ∨ (n ≤ 600 ∧ len < 40))
theorem jy_fit.cap {n len : Nat} (h : jy_fit n len) : jy_cap len + n ≤ jy_cap (len + 1) := by
  rcases h.2 with h1 | ⟨h1, h2⟩
  · have := jy_cap_12 len; omega
  · have := jy_cap_600 h2; omega
/-! array tags -/
def jy_ty : Nat → Option FieldType
  | 50 => some .int
  | 51 => some .byte
  | 52 => some .boolean
  | 53 => some .long
  | 54 => some (.object "HazardTables$Material")
  | 55 => some (.object "HazardTables$Part")
  | 56 => some (.object "HazardTables$Building")
  | 57 => some (.array .byte)
  | 58 => some .int
  | _ => none
/-- the component's class, of arrays of references -/
def jy_cn : Nat → Option String
  | 54 => some "HazardTables$Material"
  | 55 => some "HazardTables$Part"
  | 56 => some "HazardTables$Building"
  | 57 => some "[B"
  | _ => none
def jy_A (G : jy_G) (s : State) : Prop := ∀ (t : Nat) (ty : FieldType), jy_ty t = some ty → ∃ (k : Class) (comp : ClassId), s.vm.classes[G.2.2.2.2.2 t]? = some k ∧ k.kind = .array comp ty ∧ (t < 58 → s.vm.findClass ("[" ++ ty.toString) = some (G.2.2.2.2.2 t)) ∧
  ∀ cn : String, jy_cn t = some cn → s.vm.findClass cn = some comp ∧ ∃ kc : Class, s.vm.classes[comp]? = some kc
/-- words of the tables that stay true when the tables warm -/
def jy_ok (w : Cond) : Bool := (w.onTables && w.keeps) || (w.onTables && w.keepsFace) || (match w with | .arrayClass _ => true | .arrayOver (.object _) => true | .arrayOver (.array _) => true | .fieldLinkNest _ _ _ _ _ _ => true | .methodLinkNest _ _ _ _ => true | _ => false)
/-- a static reference that nobody writes -/
def jy_Z (C n d : String) (G : jy_G) (s : State) : Prop := ∃ (c : ClassId) (k : Class) (i : Nat) (f : Field) (a : Nat) (cell : Cell) (v : Value), s.vm.findClass C = some c ∧ s.fieldFound? C n d = some (c, k, i, f) ∧ f.isStatic = true ∧ k.statics = some a ∧ G.2.1[a]? = some cell ∧ cell.vm.isStatics = true ∧ cell.cls = c ∧ f.slot < cell.slots.size ∧ k.staticTypes[f.slot]? = some f.type ∧ cell.slots[f.slot]? = some v ∧ (v = .null ∨ ∃ q, v = .ref q)
theorem jy_Z.moved {C n d : String} {G : jy_G} {s U : State} (hvm : s.vm.Alike U.vm) (h : jy_Z C n d G s) : jy_Z C n d G U := by
  obtain ⟨c, k, i, f, a, cell, v, h1, h2, h3, h4, h5, h6, h7, h8, h9, h10⟩ := h
  obtain ⟨k', hi', he⟩ := State.fieldFound?_setVm hvm h2
  exact ⟨c, k', i, f, a, cell, v, by rw [hvm.findClass]; exact h1, hi', h3, by rw [he]; exact h4, h5, h6, h7, h8, by rw [he]; exact h9, h10⟩
theorem jy_Z.use {C n d : String} {G : jy_G} {s : State} {args : Array Value} (h : jy_Z C n d G s) (hh : ∀ a : Nat, a < G.2.1.size → s.heap[a]? = G.2.1[a]?) : (Cond.laysStatic C n d).before args s = true ∧ (Cond.isRef (.static C n d)).before args s = true := by
  obtain ⟨c, k, i, f, a, cell, v, h1, h2, h3, h4, h5, h6, h7, h8, h9, h10, h11⟩ := h
  have h5' : s.heap[a]? = some cell := by rw [hh a (Array.getElem?_eq_some_iff.mp h5).1]; exact h5
  refine ⟨?_, ?_⟩
  · simp [Cond.before, Cond.holds, Cond.value, h1, h2, h3, h4, h5', h6, h7, h8, h9]
  · rcases h11 with rfl | ⟨q, rfl⟩ <;> simp [Cond.before, Cond.holds, Cond.value, Term.eval, State.fieldNamed?, h2, h3, h4, h5', h6, h10]
/-- two statics of Throwable, one String constant -/
def jy_S (G : jy_G) (s : State) : Prop := jy_Z "java/lang/Throwable" "UNASSIGNED_STACK" "[Ljava/lang/StackTraceElement;" G s ∧ jy_Z "java/lang/Throwable" "SUPPRESSED_SENTINEL" "Ljava/util/List;" G s ∧ ∃ a : Nat, vk_R "HazardTables$Wrong" 1 "wrong" a s
/-- the four exceptions' classes are apart -/
def jy_B (G : jy_G) (s : State) : Prop := ∀ i j : Nat, 9 ≤ i → i ≤ 12 → 9 ≤ j → j ≤ 12 → i ≠ j → s.vm.assignable (G.2.2.2.1 i) (G.2.2.2.1 j) = false
def jy_T (G : jy_G) (s : State) : Prop :=
  (∀ w ∈ lw_tbl, jy_ok w = true → w.before #[] s = true) ∧ (∀ (c : Nat) (q : vw_C), classes[c]? = some q → u_Kn s q.1 q.2.1 q.2.2 (G.2.2.2.1 c) (G.2.2.2.2.1 c)) ∧ jy_A G s ∧ G.2.2.1 < G.2.1.size ∧ G.1.flags = flags0 ∧ jy_S G s ∧ jy_B G s
theorem jy_aoA {t : FieldType} {u U : State} (hvm : u.vm.Alike U.vm) (h : (Cond.arrayOver (.array t)).before #[] u = true) : (Cond.arrayOver (.array t)).before #[] U = true := by
  obtain ⟨comp, c, k, h1, h2, h3, h4, h5⟩ := arrayOverA_spec h
  obtain ⟨k', hk', he⟩ := hvm.2.2 _ _ h3
  have hi : (U.vm.classes.findIdx? fun (x : Class) => match x.kind with | .array component _ => component == comp | _ => false) = some c := by
    rw [hvm.findIdx?_eq _ (fun _ => rfl)]
    exact h2
  have hkind : k'.kind = .array comp (.array t) := by rw [he]; exact h4
  have f1 : U.vm.findClass (FieldType.array t).toString = some comp := by rw [hvm.findClass]; exact h1
  have f2 : U.vm.findClass ("[" ++ (FieldType.array t).toString) = some c := by rw [hvm.findClass]; exact h5
  unfold Cond.before Cond.holds
  simp only [Cond.value]
  rw [f1, Option.bind_some]
  refine (congrArg (fun o : Option Nat => (o.bind (fun c => (U.vm.classes[c]?).map fun (k : Class) => match k.kind with | .array _ ty => decide (ty = FieldType.array t) && decide (U.vm.findClass ("[" ++ (FieldType.array t).toString) = some c) | _ => false) == some true)) hi).trans ?_
  simp [hk', hkind, f2]
theorem jy_okW {w : Cond} {s U : State} (hW : s.WarmedH U.vm) (hk : jy_ok w = true) (h : w.before #[] s = true) : w.before #[] U = true := by
  unfold jy_ok at hk
  rw [Bool.or_eq_true, Bool.or_eq_true] at hk
  rcases hk with (hk | hk) | hk
  · exact word_at hW (Or.inl hk) h
  · rw [Bool.and_eq_true] at hk
    exact va_tabs hk.1 (rfl : (s.setVm U.vm).vm = U.vm) (Cond.before_shiftedFace (State.Shifted.of_warmed hW) w hk.2 h)
  · split at hk
    · exact word_at hW (Or.inr ⟨_, rfl⟩) h
    · exact va_AO.moved hW.alike h
    · exact jy_aoA hW.alike h
    · exact va_Nw.warmF hW h
    · exact va_Nw.warmM hW h
    · cases hk
theorem jy_A.moved {G : jy_G} {s U : State} (hvm : s.vm.Alike U.vm) (h : jy_A G s) : jy_A G U := by
  intro t ty ht
  obtain ⟨k, comp, h1, h2, h3, h4⟩ := h t ty ht
  obtain ⟨k', hk', he⟩ := hvm.2.2 _ _ h1
  refine ⟨k', comp, hk', by rw [he]; exact h2, fun q => by rw [hvm.findClass]; exact h3 q, fun cn hcn => ?_⟩
  obtain ⟨h5, kc, h6⟩ := h4 cn hcn
  obtain ⟨kc', hkc', -⟩ := hvm.2.2 _ _ h6
  exact ⟨by rw [hvm.findClass]; exact h5, kc', hkc'⟩
theorem jy_T.moved {G : jy_G} {s U : State} (hW : s.WarmedH U.vm) (h : jy_T G s) : jy_T G U := by
  obtain ⟨h1, h2, h3, h4, h5, ⟨z2, z3, a, z4⟩, h6⟩ := h
  exact ⟨fun w hw hk => jy_okW hW hk (h1 w hw hk), fun c q hq => u_Kn_moved hW.alike (h2 c q hq), h3.moved hW.alike, h4, h5, ⟨z2.moved hW.alike, z3.moved hW.alike, a, z4.warm hW⟩, fun i j q1 q2 q3 q4 q5 => by rw [hW.alike.assignable]; exact h6 i j q1 q2 q3 q4 q5⟩
/-- any word of the tables, for any arguments -/
theorem jy_T.word {G : jy_G} {s : State} (h : jy_T G s) {w : Cond} (hw : w ∈ lw_tbl) (hk : w.onTables = true) (ho : jy_ok w = true) (args : Array Value) : w.before args s = true := va_Nw.use hk (h.1 w hw ho)
/-! locals: by their places -/
def jy_L (G : jy_G) (ls : Array Slot) (n : Nat) (L : List (Option Value)) : Prop := ls.size = n ∧ lv_wf ls ∧ ∀ (i : Nat) (v : Value), L[i]? = some (some v) → ls[i]? = some (.val (jy_v G v))
/-- the list of the locals that are known, as the kit has it -/
def jy_as (G : jy_G) (L : List (Option Value)) : List (Nat × Value) := L.zipIdx.filterMap (fun q => q.1.map (fun v => (q.2, jy_v G v)))
theorem jy_as_mem {G : jy_G} {L : List (Option Value)} {i : Nat} {v : Value} (h : L[i]? = some (some v)) : (i, jy_v G v) ∈ jy_as G L := by
  unfold jy_as
  rw [List.mem_filterMap]
  exact ⟨(some v, i), by rw [List.mem_zipIdx_iff_getElem?]; exact h, rfl⟩
theorem jy_as_of {G : jy_G} {L : List (Option Value)} {q : Nat × Value} (h : q ∈ jy_as G L) : ∃ v : Value, L[q.1]? = some (some v) ∧ q.2 = jy_v G v := by
  unfold jy_as at h
  rw [List.mem_filterMap] at h
  obtain ⟨⟨o, i⟩, h1, h2⟩ := h
  rw [List.mem_zipIdx_iff_getElem?] at h1
  cases o with
  | none => simp at h2
  | some v =>
    simp at h2
    subst h2
    exact ⟨v, h1, rfl⟩
theorem jy_L.has {G : jy_G} {ls : Array Slot} {n : Nat} {L : List (Option Value)} (h : jy_L G ls n L) : lv_has ls n (jy_as G L) := by
  refine ⟨h.1, h.2.1, fun q hq => ?_⟩
  obtain ⟨v, h1, h2⟩ := jy_as_of hq
  rw [h2]
  exact h.2.2 _ v h1
theorem jy_L.of {G : jy_G} {ls : Array Slot} {n : Nat} {L : List (Option Value)} {l : List (Nat × Value)} (h : lv_has ls n l) (hL : ∀ (i : Nat) (v : Value), L[i]? = some (some v) → (i, jy_v G v) ∈ l) : jy_L G ls n L :=
  ⟨h.1, h.2.1, fun i v hi => h.2.2 _ (hL i v hi)⟩
/-- is it a value of two slots -/
def jy_is2 : Option (Option Value) → Bool
  | some (some (.long _)) => true
  | some (some (.double _)) => true
  | _ => false
theorem jy_is2_no {o : Option (Option Value)} (h : jy_is2 o = false) {v : Value} (ho : o = some (some v)) : ¬ v.category = 2 := by
  subst ho
  cases v <;> simp_all [jy_is2, Value.category]
/-- what stands below a store's place, if it is of two slots, is gone -/
def jy_cut : List (Option Value) → Nat → List (Option Value)
  | L, 0 => L
  | L, i + 1 => if jy_is2 L[i]? then L.set i none else L
def jy_st (L : List (Option Value)) (i : Nat) (v : Value) : List (Option Value) := (jy_cut L i).set i (some v)
def jy_st2 (L : List (Option Value)) (i : Nat) (v : Value) : List (Option Value) := ((jy_cut L i).set i (some v)).set (i + 1) none
theorem jy_cut_get {L : List (Option Value)} {i j : Nat} {v : Value} (h : (jy_cut L i)[j]? = some (some v)) : L[j]? = some (some v) ∧ ¬ (j + 1 = i ∧ v.category = 2) := by
  cases i with
  | zero => exact ⟨h, by omega⟩
  | succ i =>
    have h9 : (if jy_is2 L[i]? then L.set i none else L)[j]? = some (some v) := h
    by_cases hb : jy_is2 L[i]? = true
    · rw [if_pos hb, List.getElem?_set] at h9
      split at h9
      · split at h9 <;> simp at h9
      · rename_i hne
        exact ⟨h9, fun q => hne (by omega)⟩
    · rw [if_neg hb] at h9
      refine ⟨h9, fun q => ?_⟩
      have hji : j = i := by omega
      rw [hji] at h9
      exact jy_is2_no (by simpa using hb) h9 q.2
theorem jy_L.st {G : jy_G} {ls : Array Slot} {n i : Nat} {L : List (Option Value)} {v : Value} (h : lv_has ls n ((i, jy_v G v) :: (jy_as G L).filter (fun q => !(q.1 == i) && !(q.1 + 1 == i && q.2.category == 2)))) : jy_L G ls n (jy_st L i v) := by
  refine jy_L.of h (fun j w hj => ?_)
  unfold jy_st at hj
  rw [List.getElem?_set] at hj
  split at hj
  · rename_i he
    split at hj
    · simp at hj
      subst he; subst hj
      exact List.mem_cons_self
    · simp at hj
  · rename_i he
    obtain ⟨h1, h2⟩ := jy_cut_get hj
    refine List.mem_cons_of_mem _ (List.mem_filter.mpr ⟨jy_as_mem h1, ?_⟩)
    rw [jy_v_cat]
    simp only [Bool.and_eq_true, Bool.not_eq_true', beq_eq_false_iff_ne, ne_eq, Bool.and_eq_false_iff]
    refine ⟨fun q => he q.symm, ?_⟩
    by_cases q1 : j + 1 = i
    · exact Or.inr (fun q => h2 ⟨q1, q⟩)
    · exact Or.inl q1
theorem jy_L.st2 {G : jy_G} {ls : Array Slot} {n i : Nat} {L : List (Option Value)} {v : Value} (h : lv_has ls n ((i, jy_v G v) :: (jy_as G L).filter (fun q => !(q.1 == i) && (!(q.1 == i + 1) && !(q.1 + 1 == i && q.2.category == 2))))) : jy_L G ls n (jy_st2 L i v) := by
  refine jy_L.of h (fun j w hj => ?_)
  unfold jy_st2 at hj
  rw [List.getElem?_set] at hj
  split at hj
  · split at hj <;> simp at hj
  · rename_i he1
    rw [List.getElem?_set] at hj
    split at hj
    · rename_i he
      split at hj
      · simp at hj
        subst he; subst hj
        exact List.mem_cons_self
      · simp at hj
    · rename_i he
      obtain ⟨h1, h2⟩ := jy_cut_get hj
      refine List.mem_cons_of_mem _ (List.mem_filter.mpr ⟨jy_as_mem h1, ?_⟩)
      rw [jy_v_cat]
      simp only [Bool.and_eq_true, Bool.not_eq_true', beq_eq_false_iff_ne, ne_eq, Bool.and_eq_false_iff]
      refine ⟨fun q => he q.symm, fun q => he1 q.symm, ?_⟩
      by_cases q1 : j + 1 = i
      · exact Or.inr (fun q => h2 ⟨q1, q⟩)
      · exact Or.inl q1
/-! what a method's walk stands on -/
def jy_X (G : jy_G) (d : Nat) (M : jy_M) (h0 : jy_P) (p : Program) (R : Room) (s : State) (m : MethodId) (meth : Method) (c : Code) : Prop :=
  p.tables.exec = Jvm.exec ∧ c.code = jy_c M ∧ meth.sig.returnType = jy_r M ∧ meth.locks = false ∧ c.maxLocals = jy_l M ∧ s.methodNamed? (jy_y M) = some m ∧ s.vm.method? m = some meth ∧
  c.exceptionTable.toList.map (fun h => (h.startPc, h.endPc, h.handlerPc, h.catchType)) = jy_h M ∧ jy_T G s ∧ d ≤ R.frames ∧ 32 * d ≤ R.locals ∧ jy_K ≤ R.cells + h0.length ∧ jy_cap jy_K ≤ R.slots + jy_cap h0.length ∧ jy_H G h0 s.heap
def jy_Q (G : jy_G) (below : List Frame) (s : State) (h0 : jy_P) (P : Outcome → jy_P → Prop) : State → Prop := fun t =>
  ∃ (o : Outcome) (h' : jy_P), P o h' ∧ h0.length ≤ h'.length ∧ h'.length ≤ jy_K ∧ t.status = .running ∧ Ended t below (jy_o G o) ∧ jy_H G h' t.heap ∧ s.WarmedH t.vm ∧
    ∃ L : List Loc, s.sameButNew ({ t with vm := s.vm } : State) L (h'.length - h0.length) (jy_cap h'.length - jy_cap h0.length) ∧ ∀ q ∈ L, G.2.1.size ≤ q.base
/-- from pc on, the method ends in P -/
def jy_J (G : jy_G) (d : Nat) (M : jy_M) (pc : Nat) (L : List (Option Value)) (st : List Value) (h : jy_P) (P : Outcome → jy_P → Prop) : Prop :=
  ∀ (h0 : jy_P) (p : Program) (e : Env) (R : Room) (s : State) (m : MethodId) (args : Array Value) (below : List Frame) (meth : Method) (c : Code) (H : Heap) (locs : List Loc) (ls : Array Slot),
    jy_X G d M h0 p R s m meth c → jy_H G h H → jy_L G ls (jy_l M) L → (∀ q ∈ locs, G.2.1.size ≤ q.base) → h0.length ≤ h.length → h.length ≤ jy_K →
    W p G.1 e R s m args below meth c H locs (h.length - h0.length) (jy_cap h.length - jy_cap h0.length) (jy_Q G below s h0 P) (F0 m pc ls (st.map (jy_v G)))
theorem jy_J.mono {G : jy_G} {d : Nat} {M : jy_M} {pc : Nat} {L : List (Option Value)} {st : List Value} {h : jy_P} {P P' : Outcome → jy_P → Prop} (hJ : jy_J G d M pc L st h P) (hP : ∀ o h', P o h' → P' o h') : jy_J G d M pc L st h P' := by
  intro h0 p e R s m args below meth c H locs ls hX hH hL hl h1 h2 T hT X
  obtain ⟨t, a, o, h', q0, q⟩ := hJ h0 p e R s m args below meth c H locs ls hX hH hL hl h1 h2 T hT X
  exact ⟨t, a, o, h', hP o h' q0, q⟩
theorem jy_J.deep {G : jy_G} {d d' : Nat} {M : jy_M} {pc : Nat} {L : List (Option Value)} {st : List Value} {h : jy_P} {P : Outcome → jy_P → Prop} (hJ : jy_J G d M pc L st h P) (hd : d ≤ d') : jy_J G d' M pc L st h P := by
  intro h0 p e R s m args below meth c H locs ls ⟨x1, x2, x3, x4, x5, x6, x7, x8, x9, x10, x11, x12⟩
  exact hJ h0 p e R s m args below meth c H locs ls ⟨x1, x2, x3, x4, x5, x6, x7, x8, x9, by omega, by omega, x12⟩
/-- fewer locals are needed -/
theorem jy_J.loc {G : jy_G} {d : Nat} {M : jy_M} {pc : Nat} {L L' : List (Option Value)} {st : List Value} {h : jy_P} {P : Outcome → jy_P → Prop} (hJ : jy_J G d M pc L st h P) (hL : ∀ (i : Nat) (v : Value), L[i]? = some (some v) → L'[i]? = some (some v)) : jy_J G d M pc L' st h P := by
  intro h0 p e R s m args below meth c H locs ls hX hH hl
  exact hJ h0 p e R s m args below meth c H locs ls hX hH ⟨hl.1, hl.2.1, fun i v hi => hl.2.2 i v (hL i v hi)⟩
