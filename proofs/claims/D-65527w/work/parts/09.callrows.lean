/-! rows: the three kinds of calls -/
/-- the entry idx of own names M', by a plain link or by one across the nest -/
def jy_ML (own : String) (idx : Nat) (M' : jy_M) : Prop := Cond.methodLink own idx (jy_y M') ∈ lw_tbl ∨ ∃ host : String, Cond.methodLinkNest own idx (jy_y M') host ∈ lw_tbl
/-- a virtual method of a class that is no other's super: receivers are of the class number ci; n: how many parameters -/
def jy_IV (own : String) (idx : Nat) (M' : jy_M) (ci n : Nat) : Prop := jy_MI M' ∧ jy_ML own idx M' ∧ Cond.instanceMethod (jy_y M') ∈ lw_tbl ∧ Cond.selects (jy_y M').cls (jy_y M') (jy_y M') ∈ lw_tbl ∧ (classes[ci]?).map (fun r => r.1) = some (jy_y M').cls ∧ ci < 50 ∧ (parseMethodDescriptor (jy_y M').desc).map (fun d => d.parameters.length) = some n
def jy_IS (own : String) (idx : Nat) (M' : jy_M) (n : Nat) : Prop := jy_MI M' ∧ jy_ML own idx M' ∧ Cond.static (jy_y M') ∈ lw_tbl ∧ (parseMethodDescriptor (jy_y M').desc).map (fun d => d.parameters.length) = some n
def jy_II (own : String) (idx : Nat) (M' : jy_M) (n : Nat) : Prop := jy_MI M' ∧ jy_ML own idx M' ∧ Cond.instanceMethod (jy_y M') ∈ lw_tbl ∧ (jy_y M').name = "<init>" ∧ jy_h M' = [] ∧ jy_r M' = none ∧ Cond.code (jy_y M') (jy_c M') (jy_l M') none ∈ lw_tbl ∧ (parseMethodDescriptor (jy_y M').desc).map (fun d => d.parameters.length) = some n
section JM
variable {G : jy_G} {d d' : Nat} {M M' : jy_M} {pc : Nat} {L : List (Option Value)} {st : List Value} {h : jy_P} {P P' : Outcome → jy_P → Prop}
theorem jy_after {h0 : jy_P} {p : Program} {e : Env} {R : Room} {s : State} {m : MethodId} {args : Array Value} {below : List Frame} {meth : Method} {c : Code} {U T : State} {locs : List Loc} {ls : Array Slot} {mk : MethodId} {as stk : List Value} {ig : Instr}
    (hX : jy_X G d M h0 p R s m meth c) (X : Stand p G.1 e R s m args below meth c U locs (h.length - h0.length) (jy_cap h.length - jy_cap h0.length)) (hH : jy_H G h U.heap) (hL : jy_L G ls (jy_l M) L) (hl : ∀ q ∈ locs, G.2.1.size ≤ q.base) (h1 : h0.length ≤ h.length) (h2 : h.length ≤ jy_K)
    (hdg : decode (jy_c M) pc = .ok (ig, 3)) (hst : (st.map fun v => v.category).sum ≤ 8) (hn : s.methodNamed? (jy_y M') = some mk) (hM : jy_MI M') (hdd : d' < d) (hC : jy_C G d' M' as h P')
    (kr : ∀ v h', P' (.returned v) h' → jy_J G d M (pc + 3) L (v.toList ++ st) h' P) (kt : ∀ x h', P' (.threw x) h' → jy_E G d M pc L x h' P)
    (step : ∀ target, (∀ acts, Steps p.tables e below (doInvoke e (U.setTop (F0 m pc ls (st.map (jy_v G)))) acts mk (as.map (jy_v G)).toArray).1 target) → Steps p.tables e below (T.setTop (F0 m pc ls stk)) target) :
    ∃ t, Steps p.tables e below (T.setTop (F0 m pc ls stk)) t ∧ jy_Q G below s h0 P t := by
  obtain ⟨o, h', T', Ls, b1, b2, b3, X', b5, b6, b7⟩ := jy_call (g := F0 m pc ls (st.map (jy_v G))) hX X hH hl h1 h2 rfl (by rw [hX.2.2.2.2.1]; exact hL.1) (by rw [hX.2.1]; exact hdg) (by
    show 2 * 0 + ((st.map (jy_v G)).map fun v => v.category).sum ≤ 8
    rw [jy_cats]
    omega) hn hM hdd hC
  rcases b7 with ⟨v, rfl, b7⟩ | ⟨x, rfl, b7⟩
  · obtain ⟨t, a1, a2⟩ := kr v h' b1 h0 p e R s m args below meth c T'.heap Ls ls hX b5 hL b6 b2 b3 T' rfl X'
    refine ⟨t, step t (fun acts => (b7 acts).trans ?_), a2⟩
    have e1 : (v.toList ++ st).map (jy_v G) = (v.map (jy_v G)).toList ++ st.map (jy_v G) := by cases v <;> simp
    rw [e1] at a1
    exact a1
  · obtain ⟨t, a1, a2⟩ := kt x h' b1 h0 p e R s m args below meth c T'.heap Ls ls (st.map (jy_v G)) hX b5 hL b6 b2 b3 T' rfl X'
    exact ⟨t, step t (fun acts => (b7 acts).trans a1), a2⟩
theorem jr_callV {idx ci n a : Nat} {As fs : List Value} (hd : decode (jy_c M) pc = .ok (.invokevirtual idx, 3)) (hI : jy_IV (jy_y M).cls idx M' ci n) (hn : As.length = n) (ho : h[a]? = some (ci, fs)) (hst : (st.map fun v => v.category).sum ≤ 8) (hdd : d' < d) (hC : jy_C G d' M' (.ref a :: As) h P')
    (kr : ∀ v h', P' (.returned v) h' → jy_J G d M (pc + 3) L (v.toList ++ st) h' P) (kt : ∀ x h', P' (.threw x) h' → jy_E G d M pc L x h' P) : jy_J G d M pc L (As.reverse ++ .ref a :: st) h P := by
  intro h0 p e R s m args below meth c H locs ls hX hH hL hl h1 h2 T hT X
  obtain ⟨hx, hb, -, -, -, hnm, -, -, hTT, -⟩ := id hX
  have hown := findClass_of_methodNamed hnm
  obtain ⟨hM, hlk, i1, i2, i3, i4, i5⟩ := hI
  obtain ⟨mk, methM, hnamed, hmethM, hstM, habM⟩ := Cond.instanceMethod_spec (hTT.word i1 rfl rfl args)
  obtain ⟨m2, methM', cM, s1, s2, s3, s4, s5, s6, s7, s8, s9⟩ := jy_MI.spec hTT hM
  cases hnamed.symm.trans s1
  cases hmethM.symm.trans s2
  obtain ⟨z, z1, z2⟩ := hH.2.2.2 a _ ho
  have hz : z.vm = .none ∧ z.cls = G.2.2.2.1 ci := by
    rcases z2 with ⟨-, w1, w2, -⟩ | ⟨w1, -⟩
    · exact ⟨w1, w2⟩
    · simp only at w1
      omega
  have hfc : s.vm.findClass (jy_y M').cls = some z.cls := by
    cases hr : classes[ci]? with
    | none => rw [hr] at i3; cases i3
    | some r =>
      rw [hr] at i3
      have : r.1 = (jy_y M').cls := Option.some.inj i3
      rw [← this, hz.2]
      exact (hTT.2.1 ci r hr).2.1
  obtain ⟨c2, r2, m2, q1, q2, q3, q4, kP, hkP, hkPi⟩ := Cond.selects_spec (hTT.word i2 rfl rfl args)
  cases hfc.symm.trans q1
  cases (State.methodFound?_of_named hnamed hM.2.2.1).symm.trans q2
  cases hnamed.symm.trans q3
  have hselP : selectMethod e.platform s.vm z.cls mk = .method mk := by rw [Launch.admits_selectMethod X.admits]; exact q4
  have hcell : T.heap[jy_a G a]? = some z := by rw [hT]; exact z1
  have hlen : (As.map (jy_v G)).length = methM.sig.parameters.length := by
    rw [List.length_map, hn]
    rw [s9] at i5
    exact (Option.some.inj i5).symm
  have hstk : (F0 m pc ls ((As.reverse ++ .ref a :: st).map (jy_v G))).stack = (As.map (jy_v G)).reverse ++ .ref (jy_a G a) :: st.map (jy_v G) := by
    show (As.reverse ++ .ref a :: st).map (jy_v G) = _
    simp [jy_v]
  have main : ∃ vm₁, Stand p G.1 e R s m args below meth c (T.setVm vm₁) locs (h.length - h0.length) (jy_cap h.length - jy_cap h0.length) ∧ ∀ target, (∀ acts, Steps p.tables e below (doInvoke e ((T.setVm vm₁).setTop (F0 m pc ls (st.map (jy_v G)))) acts mk (.ref (jy_a G a) :: As.map (jy_v G)).toArray).1 target) → Steps p.tables e below (T.setTop (F0 m pc ls ((As.reverse ++ .ref a :: st).map (jy_v G)))) target := by
    rcases hlk with hlk | ⟨host, hlk⟩
    · exact X.invokevirtual hx hown (hTT.word hlk rfl rfl args) hnamed hmethM hstM hkP hkPi hM.2.2.1 hcell (fun y => by rw [hz.1]; exact fun w => by cases w) hselP hmethM habM hkP hkPi (g := F0 m pc ls ((As.reverse ++ .ref a :: st).map (jy_v G))) rfl hlen hstk (by rw [hb]; exact hd)
    · exact X.invokevirtualNest hx hown (hTT.word hlk rfl rfl args) hnamed hmethM hstM hkP hkPi hM.2.2.1 hcell (fun y => by rw [hz.1]; exact fun w => by cases w) hselP hmethM habM hkP hkPi (g := F0 m pc ls ((As.reverse ++ .ref a :: st).map (jy_v G))) rfl hlen hstk (by rw [hb]; exact hd)
  obtain ⟨vm₁, X₁, step⟩ := main
  exact jy_after (as := .ref a :: As) hX X₁ (by show jy_H G h T.heap; rw [hT]; exact hH) hL hl h1 h2 hd hst hnamed hM hdd hC kr kt step
theorem jr_callS {idx n : Nat} {As : List Value} (hd : decode (jy_c M) pc = .ok (.invokestatic idx, 3)) (hI : jy_IS (jy_y M).cls idx M' n) (hn : As.length = n) (hst : (st.map fun v => v.category).sum ≤ 8) (hdd : d' < d) (hC : jy_C G d' M' As h P')
    (kr : ∀ v h', P' (.returned v) h' → jy_J G d M (pc + 3) L (v.toList ++ st) h' P) (kt : ∀ x h', P' (.threw x) h' → jy_E G d M pc L x h' P) : jy_J G d M pc L (As.reverse ++ st) h P := by
  intro h0 p e R s m args below meth c H locs ls hX hH hL hl h1 h2 T hT X
  obtain ⟨hx, hb, -, -, -, hnm, -, -, hTT, -⟩ := id hX
  have hown := findClass_of_methodNamed hnm
  obtain ⟨hM, hlk, i1, i5⟩ := hI
  obtain ⟨mk, methM, cM, hnamed, hmethM, s3, s4, s5, s6, s7, s8, s9⟩ := jy_MI.spec hTT hM
  have hstatic : methM.isStatic = true := Cond.static_spec hnamed hmethM (hTT.word i1 rfl rfl args)
  obtain ⟨kP, hkP, -⟩ := className_of_methodNamed hnamed
  have hinitP : kP.init = .initialized := Cond.initialized_spec (findClass_of_methodNamed hnamed) hkP (hTT.word hM.2.2.2.1 rfl rfl args)
  have hlen : (As.map (jy_v G)).length = methM.sig.parameters.length := by
    rw [List.length_map, hn]
    rw [s9] at i5
    exact (Option.some.inj i5).symm
  have hstk : (F0 m pc ls ((As.reverse ++ st).map (jy_v G))).stack = (As.map (jy_v G)).reverse ++ st.map (jy_v G) := by
    show (As.reverse ++ st).map (jy_v G) = _
    simp
  have main : ∃ vm₁, Stand p G.1 e R s m args below meth c (T.setVm vm₁) locs (h.length - h0.length) (jy_cap h.length - jy_cap h0.length) ∧ ∀ target, (∀ acts, Steps p.tables e below (doInvoke e ((T.setVm vm₁).setTop (F0 m pc ls (st.map (jy_v G)))) acts mk (As.map (jy_v G)).toArray).1 target) → Steps p.tables e below (T.setTop (F0 m pc ls ((As.reverse ++ st).map (jy_v G)))) target := by
    rcases hlk with hlk | ⟨host, hlk⟩
    · exact X.invokestatic hx hown (hTT.word hlk rfl rfl args) hnamed hmethM hstatic hkP hinitP hM.2.2.1 (g := F0 m pc ls ((As.reverse ++ st).map (jy_v G))) rfl hlen hstk (by rw [hb]; exact hd)
    · exact X.invokestaticNest hx hown (hTT.word hlk rfl rfl args) hnamed hmethM hstatic hkP hinitP hM.2.2.1 (g := F0 m pc ls ((As.reverse ++ st).map (jy_v G))) rfl hlen hstk (by rw [hb]; exact hd)
  obtain ⟨vm₁, X₁, step⟩ := main
  exact jy_after (as := As) hX X₁ (by show jy_H G h T.heap; rw [hT]; exact hH) hL hl h1 h2 hd hst hnamed hM hdd hC kr kt step
theorem jr_callI {idx n a : Nat} {As : List Value} (hd : decode (jy_c M) pc = .ok (.invokespecial idx, 3)) (hI : jy_II (jy_y M).cls idx M' n) (hn : As.length = n) (hst : (st.map fun v => v.category).sum ≤ 8) (hdd : d' < d) (hC : jy_C G d' M' (.ref a :: As) h P')
    (kr : ∀ v h', P' (.returned v) h' → jy_J G d M (pc + 3) L (v.toList ++ st) h' P) (kt : ∀ x h', P' (.threw x) h' → jy_E G d M pc L x h' P) : jy_J G d M pc L (As.reverse ++ .ref a :: st) h P := by
  intro h0 p e R s m args below meth c H locs ls hX hH hL hl h1 h2 T hT X
  obtain ⟨hx, hb, -, -, -, hnm, -, -, hTT, -⟩ := id hX
  have hown := findClass_of_methodNamed hnm
  obtain ⟨hM, hlk, i1, i2, i3, i4, i6, i5⟩ := hI
  obtain ⟨mk, methM, cM, hnamed, hmethM, s3, s4, s5, s6, s7, s8, s9⟩ := jy_MI.spec hTT hM
  have hpl : e.platform.magicAccessors = ({} : Platform).magicAccessors := by rw [X.admits.platform]
  have hlen : ∀ sig, parseMethodDescriptor (jy_y M').desc = some sig → (As.map (jy_v G)).length = sig.parameters.length := by
    intro sig hs
    rw [List.length_map, hn]
    rw [hs] at i5
    exact (Option.some.inj i5).symm
  have hstk : (F0 m pc ls ((As.reverse ++ .ref a :: st).map (jy_v G))).stack = (As.map (jy_v G)).reverse ++ .ref (jy_a G a) :: st.map (jy_v G) := by
    show (As.reverse ++ .ref a :: st).map (jy_v G) = _
    simp [jy_v]
  have hcode := hTT.word i6 rfl rfl args
  have hinst := hTT.word i1 rfl rfl args
  have main : ∃ vm₁, Stand p G.1 e R s m args below meth c (T.setVm vm₁) locs (h.length - h0.length) (jy_cap h.length - jy_cap h0.length) ∧ ∀ target, (∀ acts, Steps p.tables e below (doInvoke e ((T.setVm vm₁).setTop (F0 m pc ls (st.map (jy_v G)))) acts mk (.ref (jy_a G a) :: As.map (jy_v G)).toArray).1 target) → Steps p.tables e below (T.setTop (F0 m pc ls ((As.reverse ++ .ref a :: st).map (jy_v G)))) target := by
    rcases hlk with hlk | ⟨host, hlk⟩
    · obtain ⟨mk2, methM2, cM2, kP, vm₁, hn2, -, -, -, -, -, -, -, hW₁, hstep₁⟩ := Steps.initColdArgs (e := e) X.here hx X.warmed hpl hown i2 hM.2.2.1 (hTT.word hlk rfl rfl args) hinst hcode (f := F0 m pc ls ((As.reverse ++ .ref a :: st).map (jy_v G))) rfl hlen hstk (by rw [hb]; exact hd)
      cases hnamed.symm.trans hn2
      exact ⟨vm₁, X.noted hW₁, hstep₁⟩
    · obtain ⟨mk2, methM2, cM2, kP, vm₁, hn2, -, -, -, -, -, -, -, hW₁, hstep₁⟩ := Steps.initColdArgsNest (e := e) X.here hx X.warmed hpl hown i2 hM.2.2.1 (hTT.word hlk rfl rfl args) hinst hcode (f := F0 m pc ls ((As.reverse ++ .ref a :: st).map (jy_v G))) rfl hlen hstk (by rw [hb]; exact hd)
      cases hnamed.symm.trans hn2
      exact ⟨vm₁, X.noted hW₁, hstep₁⟩
  obtain ⟨vm₁, X₁, step⟩ := main
  exact jy_after (as := .ref a :: As) hX X₁ (by show jy_H G h T.heap; rw [hT]; exact hH) hL hl h1 h2 hd hst hnamed hM hdd hC kr kt step
end JM
