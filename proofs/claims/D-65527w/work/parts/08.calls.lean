/-! rows: a handler takes the exception; calls -/
def jy_pick (ci pc : Nat) : List (Nat × Nat × Nat × Nat) → List Nat → Option Nat
  | q :: hs, k :: ks => if (decide (q.1 ≤ pc) && decide (pc < q.2.1)) = true then (if k = ci then some q.2.2.1 else jy_pick ci pc hs ks) else jy_pick ci pc hs ks
  | _, _ => none
def jy_ks (own : String) (ci : Nat) : List (Nat × Nat × Nat × Nat) → List Nat → Prop
  | [], [] => True
  | q :: hs, k :: ks => q.2.2.2 ≠ 0 ∧ (∃ r : vw_C, classes[k]? = some r ∧ Cond.classLink own q.2.2.2 r.1 ∈ lw_tbl) ∧ (k = ci ∨ (9 ≤ k ∧ k ≤ 12 ∧ 9 ≤ ci ∧ ci ≤ 12)) ∧ jy_ks own ci hs ks
  | _, _ => False
section JK
variable {G : jy_G} {d : Nat} {M : jy_M} {pc : Nat} {L : List (Option Value)} {st : List Value} {h : jy_P} {P : Outcome → jy_P → Prop}
theorem jy_search {e : Env} {s : State} {m : MethodId} {f : JFrame} {a ci hp : Nat} {cell : Cell} {own : String} {ri : vw_C} (hpl : e.platform.magicAccessors = ({} : Platform).magicAccessors) (hT : jy_T G s) (hfm : f.method = m) (hown : s.vm.findClass own = some m.cls) (hci : classes[ci]? = some ri) (hobj : cell.vm = .none) (hcls : cell.cls = G.2.2.2.1 ci) :
    ∀ (tb : List ExceptionTableEntry) (ks : List Nat) (S : State), s.WarmedH S.vm → S.heap[a]? = some cell → jy_ks own ci (tb.map (fun h => (h.startPc, h.endPc, h.handlerPc, h.catchType))) ks → jy_pick ci f.pc (tb.map (fun h => (h.startPc, h.endPc, h.handlerPc, h.catchType))) ks = some hp →
      ∃ vm', s.WarmedH vm' ∧ ∀ (Q : Handler → Pre) (E : CtlPost) (d : Bool) (acts : List Action), wp (findHandler.go f a tb) Q E e d acts S ↔ Q (.found hp) d acts (S.setVm vm') := by
  intro tb
  induction tb with
  | nil =>
    intro ks S hW hc hk hp
    cases ks <;> simp [jy_pick] at hp
  | cons x tb ih =>
    intro ks S hW hc hk hp
    cases ks with
    | nil => simp [jy_pick] at hp
    | cons k ks =>
      obtain ⟨k1, ⟨r, k2, k3⟩, k4, k5⟩ := hk
      simp only [List.map_cons, jy_pick] at hp
      by_cases hcv : covers x f.pc = true
      · rw [if_pos hcv] at hp
        obtain ⟨vm1, w1, hit⟩ := jy_entry (cj := k) hpl hT hW hfm hown hcv k1 k3 k2 hci hc hobj hcls
        by_cases hki : k = ci
        · subst hki
          rw [if_pos rfl] at hp
          cases hp
          refine ⟨vm1, w1, fun Q E d acts => ?_⟩
          rw [hit, if_pos (jy_asg _ _)]
        · rw [if_neg hki] at hp
          obtain ⟨vm2, w2, h2⟩ := ih ks (S.setVm vm1) w1 hc k5 hp
          refine ⟨vm2, w2, fun Q E d acts => ?_⟩
          have hno : s.vm.assignable (G.2.2.2.1 ci) (G.2.2.2.1 k) = false := by
            rcases k4 with k4 | ⟨q1, q2, q3, q4⟩
            · exact absurd k4 hki
            · exact hT.2.2.2.2.2.2 ci k q3 q4 q1 q2 (fun z => hki z.symm)
          rw [hit, if_neg (by rw [hno]; decide), h2, State.setVm_twice]
      · rw [if_neg hcv] at hp
        obtain ⟨vm2, w2, h2⟩ := ih ks S hW hc k5 hp
        refine ⟨vm2, w2, fun Q E d acts => ?_⟩
        rw [W.findHandler_go_skip (by simpa using hcv), h2]
theorem jy_E.catch {x ci hp : Nat} {fs : List Value} {ks : List Nat} {r : vw_C} (ho : h[x]? = some (ci, fs)) (hci : classes[ci]? = some r) (h50 : ci < 50) (hks : jy_ks (jy_y M).cls ci (jy_h M) ks) (hpick : jy_pick ci pc (jy_h M) ks = some hp) (k : jy_J G d M hp L [.ref x] h P) : jy_E G d M pc L x h P := by
  intro h0 p e R s m args below meth c H locs ls stk hX hH hL hl h1 h2 T hT X
  obtain ⟨hx, hb, -, -, -, hnm, -, htab, hTT, -⟩ := id hX
  have hpl : e.platform.magicAccessors = ({} : Platform).magicAccessors := by rw [X.admits.platform]
  obtain ⟨z, z1, z2⟩ := hH.2.2.2 x _ ho
  have hz : z.vm = .none ∧ z.cls = G.2.2.2.1 ci := by
    rcases z2 with ⟨-, w1, w2, -⟩ | ⟨w1, -⟩
    · exact ⟨w1, w2⟩
    · simp only at w1
      omega
  have hcellS : ((T.setTop (F0 m pc ls stk)).pushFrame (.throwing (jy_a G x))).heap[jy_a G x]? = some z := by
    rw [Stand.throwing_heap, hT]; exact z1
  obtain ⟨vm', w1, hf⟩ := jy_search (e := e) (f := F0 m pc ls stk) (a := jy_a G x) (hp := hp) hpl hTT rfl (findClass_of_methodNamed hnm) hci hz.1 hz.2 c.exceptionTable.toList ks ((T.setTop (F0 m pc ls stk)).pushFrame (.throwing (jy_a G x))) (by rw [Stand.throwing_vm]; exact X.warmed) hcellS (by rw [htab]; exact hks) (by rw [htab]; exact hpick)
  have X' := X.noted w1
  obtain ⟨t, a1, a2⟩ := k h0 p e R s m args below meth c H locs ls hX hH hL hl h1 h2 (T.setVm vm') hT X'
  refine ⟨t, jy_caught X (jy_a G x) (g := F0 m pc ls stk) rfl (hpc := hp) (vm' := vm') (fun Q E d acts => ?_) a1, a2⟩
  have hm : ((T.setTop (F0 m pc ls stk)).pushFrame (.throwing (jy_a G x))).vm.method? (F0 m pc ls stk).method = some meth := by rw [Stand.throwing_vm]; exact X.method'
  rw [W.findHandler_eq hm X.code]
  exact hf Q E d acts
/-! calls -/
theorem jy_weaken {tb : Tables} {e : Env} {g : Frame} {below : List Frame} {a b : State} (h : Steps tb e (g :: below) a b) : Steps tb e below a b := by
  obtain ⟨n, h1, h2⟩ := h
  refine ⟨n, h1, fun k hk => ?_⟩
  obtain ⟨ab, q1, q2, q3⟩ := h2 k hk
  refine ⟨ab ++ [g], by rw [q1]; simp, by simp, fun z hz => ?_⟩
  have := congrArg List.length hz
  simp at this
  exact q2 this
/-- the locals with which a method begins -/
def jy_e0 (as : List Value) : List (Option Value) := as.flatMap (fun v => if v.category = 2 then [some v, none] else [some v])
def jy_en (n : Nat) (as : List Value) : List (Option Value) := jy_e0 as ++ List.replicate (n - (jy_e0 as).length) none
theorem jy_e0_sl (G : jy_G) (as : List Value) : lg_sl (as.map (jy_v G)) = (jy_e0 as).map (fun o => match o with | some v => Slot.val (jy_v G v) | none => Slot.second) := by
  induction as with
  | nil => rfl
  | cons v as ih =>
    have e1 : lg_sl ((v :: as).map (jy_v G)) = (if (jy_v G v).category = 2 then [Slot.val (jy_v G v), Slot.second] else [Slot.val (jy_v G v)]) ++ lg_sl (as.map (jy_v G)) := by simp [lg_sl]
    have e2 : jy_e0 (v :: as) = (if v.category = 2 then [some v, none] else [some v]) ++ jy_e0 as := by simp [jy_e0]
    rw [e1, e2, ih, jy_v_cat]
    split <;> simp
theorem jy_entryL {G : jy_G} {n : Nat} {as : List Value} (hn : (jy_e0 as).length ≤ n) : jy_L G ((lg_sl (as.map (jy_v G)) ++ List.replicate (n - (lg_sl (as.map (jy_v G))).length) Slot.unset).toArray) n (jy_en n as) := by
  have hlen : (lg_sl (as.map (jy_v G))).length = (jy_e0 as).length := by rw [jy_e0_sl]; simp
  have hle := lv_entry (as.map (jy_v G)) (n := n) (by rw [hlen]; exact hn)
  refine ⟨hle.1, hle.2.1, fun i v hi => ?_⟩
  unfold jy_en at hi
  by_cases hil : i < (jy_e0 as).length
  · rw [List.getElem?_append_left hil] at hi
    rw [List.getElem?_toArray, List.getElem?_append_left (by rw [hlen]; exact hil), jy_e0_sl, List.getElem?_map, hi]
    rfl
  · rw [List.getElem?_append_right (by omega), List.getElem?_replicate] at hi
    split at hi <;> simp at hi
/-- a method's contract: from its entry, with the arguments as and the heap h -/
def jy_C (G : jy_G) (d : Nat) (M : jy_M) (as : List Value) (h : jy_P) (P : Outcome → jy_P → Prop) : Prop :=
  ∀ (p : Program) (e : Env) (R : Room) (s : State) (m : MethodId) (args : Array Value) (below : List Frame) (meth : Method) (c : Code),
    jy_X G d M h p R s m meth c → h.length ≤ jy_K → W p G.1 e R s m args below meth c s.heap [] 0 0 (jy_Q G below s h P) (F0 m 0 ((lg_sl (as.map (jy_v G)) ++ List.replicate (jy_l M - (lg_sl (as.map (jy_v G))).length) Slot.unset).toArray) [])
theorem jy_C.of {as : List Value} (L : List (Option Value)) (hL : jy_en (jy_l M) as = L) (hen : (jy_e0 as).length ≤ jy_l M) (hJ : jy_J G d M 0 L [] h P) : jy_C G d M as h P := by
  subst hL
  intro p e R s m args below meth c hX h2
  have := hJ h p e R s m args below meth c s.heap [] _ hX hX.2.2.2.2.2.2.2.2.2.2.2.2.2 (jy_entryL hen) (fun q hq => by cases hq) (Nat.le_refl _) h2
  rw [Nat.sub_self, Nat.sub_self] at this
  exact this
theorem jy_C.mono {as : List Value} {P' : Outcome → jy_P → Prop} (hC : jy_C G d M as h P) (hP : ∀ o h', P o h' → P' o h') : jy_C G d M as h P' := by
  intro p e R s m args below meth c hX h2 T hT X
  obtain ⟨t, a, o, h', q0, q⟩ := hC p e R s m args below meth c hX h2 T hT X
  exact ⟨t, a, o, h', hP o h' q0, q⟩
/-- what the tables say of a method's code -/
def jy_MI (M : jy_M) : Prop := plainName (jy_y M).cls = true ∧ jy_l M ≤ 13 ∧ ((jy_y M).cls ≠ "java/lang/invoke/MethodHandle" ∧ (jy_y M).cls ≠ "java/lang/invoke/VarHandle") ∧ Cond.initialized (jy_y M).cls ∈ lw_tbl ∧ ((jy_h M = [] ∧ Cond.code (jy_y M) (jy_c M) (jy_l M) (jy_r M) ∈ lw_tbl) ∨ Cond.codeWith (jy_y M) (jy_c M) (jy_l M) (jy_r M) (jy_h M) ∈ lw_tbl)
theorem jy_MI.spec {s : State} (hT : jy_T G s) (hM : jy_MI M) : ∃ (m : MethodId) (meth : Method) (c : Code), s.methodNamed? (jy_y M) = some m ∧ s.vm.method? m = some meth ∧ meth.code = some c ∧ c.code = jy_c M ∧ c.maxLocals = jy_l M ∧ c.exceptionTable.toList.map (fun h => (h.startPc, h.endPc, h.handlerPc, h.catchType)) = jy_h M ∧ meth.sig.returnType = jy_r M ∧ meth.locks = false ∧ parseMethodDescriptor (jy_y M).desc = some meth.sig := by
  obtain ⟨-, -, -, -, hw⟩ := hM
  rcases hw with ⟨hh, hw⟩ | hw
  · have hb := hT.word hw rfl rfl #[]
    obtain ⟨m, hn⟩ := Cond.code_named hb
    obtain ⟨meth, c, q1, q2, q3, q4, q5, q6, q7, q8⟩ := Cond.code_spec hn hb
    refine ⟨m, meth, c, hn, q1, q2, q3, q4, ?_, q5, q6, q8⟩
    have h0 : c.exceptionTable.size = 0 := by simpa [Array.isEmpty] using q7
    have h1 : c.exceptionTable.toList = [] := List.eq_nil_of_length_eq_zero (by simpa using h0)
    rw [h1, hh]
    rfl
  · exact Cond.codeWith_spec (hT.word hw rfl rfl #[])
/-- a callee's walk, inside the caller's -/
theorem jy_call {d' : Nat} {M' : jy_M} {as : List Value} {P' : Outcome → jy_P → Prop} {h0 : jy_P} {p : Program} {e : Env} {R : Room} {s : State} {m : MethodId} {args : Array Value} {below : List Frame} {meth : Method} {c : Code} {U : State} {locs : List Loc} {mk : MethodId} {g : JFrame} {ig : Instr} {len : Nat}
    (hX : jy_X G d M h0 p R s m meth c) (X : Stand p G.1 e R s m args below meth c U locs (h.length - h0.length) (jy_cap h.length - jy_cap h0.length)) (hH : jy_H G h U.heap) (hl : ∀ q ∈ locs, G.2.1.size ≤ q.base) (h1 : h0.length ≤ h.length) (h2 : h.length ≤ jy_K)
    (hg : g.method = m) (hsize : g.locals.size = c.maxLocals) (hdg : decode c.code g.pc = .ok (ig, len)) (hst : 2 * g.monitorRoom + (g.stack.map fun v => v.category).sum ≤ 8) (hn : s.methodNamed? (jy_y M') = some mk) (hM : jy_MI M') (hdd : d' < d) (hC : jy_C G d' M' as h P') :
    ∃ (o : Outcome) (h' : jy_P) (T' : State) (Ls : List Loc), P' o h' ∧ h0.length ≤ h'.length ∧ h'.length ≤ jy_K ∧ Stand p G.1 e R s m args below meth c T' Ls (h'.length - h0.length) (jy_cap h'.length - jy_cap h0.length) ∧ jy_H G h' T'.heap ∧ (∀ q ∈ Ls, G.2.1.size ≤ q.base) ∧
      ((∃ v, o = .returned v ∧ ∀ acts, Steps p.tables e below (doInvoke e (U.setTop g) acts mk (as.map (jy_v G)).toArray).1 (T'.setTop { g with pc := g.pc + len, stack := (v.map (jy_v G)).toList ++ g.stack })) ∨
       (∃ x, o = .threw x ∧ ∀ acts, Steps p.tables e below (doInvoke e (U.setTop g) acts mk (as.map (jy_v G)).toArray).1 ((T'.setTop g).pushFrame (.throwing (jy_a G x))))) := by
  obtain ⟨hx, hb, -, -, hml, -, -, -, hT, hR1, hR2, hR3, hR4, -⟩ := id hX
  obtain ⟨mk2, methk, ck, s1, s2, s3, s4, s5, s6, s7, s8, s9⟩ := jy_MI.spec hT hM
  cases hn.symm.trans s1
  have hal := X.warmed.alike
  have hmk : U.vm.method? mk = some methk := by rw [hal.method?]; exact s2
  have hpk : U.plainMethod mk := by
    refine State.plainMethod.of_name ?_
    intro k hk
    obtain ⟨kk, hkk, hnm⟩ := className_of_methodNamed s1
    obtain ⟨kk', hkk', he⟩ := hal.2.2 _ _ hkk
    cases hk.symm.trans hkk'
    rw [he]
    show plainName kk.name = true
    rw [hnm]
    exact hM.1
  have hcm := jy_cap_mono h1
  have hcK := jy_cap_mono h2
  obtain ⟨Y, heq⟩ := X.into hg hsize hdg (as.map (jy_v G)).toArray (R' := { frames := d', cells := jy_K - h.length, slots := jy_cap jy_K - jy_cap h.length, locals := 32 * d' }) hmk s3 s8 hpk (by show d' + 1 ≤ _; omega) (by
      show _ + (ck.maxLocals + 11) + 32 * d' ≤ _
      have := hM.2.1
      rw [s5]
      omega) (by show _ + (jy_K - h.length) ≤ _; omega) (by show _ + (jy_cap jy_K - jy_cap h.length) ≤ _; omega)
  have hX' : jy_X G d' M' h p ({ frames := d', cells := jy_K - h.length, slots := jy_cap jy_K - jy_cap h.length, locals := 32 * d' }) (U.calling g mk (as.map (jy_v G)).toArray) mk methk ck :=
    ⟨hx, s4, s7, s8, s5, by
      show (U.calling g mk (as.map (jy_v G)).toArray).methodNamed? (jy_y M') = some mk
      have := X.named s1
      exact this, hmk, s6, hT.moved (U := U.calling g mk (as.map (jy_v G)).toArray) X.warmed, Nat.le_refl _, Nat.le_refl _, by show jy_K ≤ jy_K - h.length + h.length; omega, by show jy_cap jy_K ≤ jy_cap jy_K - jy_cap h.length + jy_cap h.length; omega, hH⟩
  have hentry : entryFrame mk (as.map (jy_v G)).toArray ck.maxLocals = F0 mk 0 ((lg_sl (as.map (jy_v G)) ++ List.replicate (jy_l M' - (lg_sl (as.map (jy_v G))).length) Slot.unset).toArray) [] := by rw [s5]; exact lg_entry_eq _ _ _
  have hWk := hC p e _ (U.calling g mk (as.map (jy_v G)).toArray) mk (as.map (jy_v G)).toArray (.java g :: below) methk ck hX' h2
  obtain ⟨t, a1, o, h', b1, b2, b3, b4, b5, b6, b7, Lk, b8, b9⟩ := hWk ((U.setTop g).pushFrame (.java (entryFrame mk (as.map (jy_v G)).toArray ck.maxLocals))) (by rfl) Y
  have a2 : Steps p.tables e below (((U.setTop g).pushFrame (.java (entryFrame mk (as.map (jy_v G)).toArray ck.maxLocals))).setTop (entryFrame mk (as.map (jy_v G)).toArray ck.maxLocals)) t := by
    rw [hentry]
    rw [hentry] at a1
    exact jy_weaken a1
  have hcm2 := jy_cap_mono b2
  have hk1 : h.length - h0.length + (h'.length - h.length) = h'.length - h0.length := by omega
  have hk2 : jy_cap h.length - jy_cap h0.length + (jy_cap h'.length - jy_cap h.length) = jy_cap h'.length - jy_cap h0.length := by omega
  cases o with
  | returned v =>
    obtain ⟨T', X', w1, w2, ht⟩ := X.outOf hg hdg b5 b7 b8
    rw [hk1, hk2] at X'
    refine ⟨_, h', T', locs ++ Lk, b1, by omega, b3, X', ?_, t_lL hl b9, Or.inl ⟨v, rfl, fun acts => ?_⟩⟩
    · rw [ht] at b6
      have : (T'.setTop { g with pc := g.pc + len, stack := (v.map (jy_v G)).toList ++ g.stack }).heap = T'.heap := by simp [State.setTop, State.modifyTopJava]
      rw [this] at b6
      exact b6
    · rw [heq acts, ← ht]
      exact a2
  | threw x =>
    obtain ⟨T', X', w1, w2, ht⟩ := X.outOfThrown hg b5 b7 b8
    rw [hk1, hk2] at X'
    refine ⟨_, h', T', locs ++ Lk, b1, by omega, b3, X', ?_, t_lL hl b9, Or.inr ⟨x, rfl, fun acts => ?_⟩⟩
    · rw [ht, Stand.throwing_heap] at b6
      exact b6
    · rw [heq acts, ← ht]
      exact a2
end JK
