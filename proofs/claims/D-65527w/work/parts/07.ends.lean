/-! rows: a method's ends, Object's constructor, exceptions -/
section JE
variable {G : jy_G} {d : Nat} {M : jy_M} {pc : Nat} {L : List (Option Value)} {st : List Value} {h : jy_P} {P : Outcome → jy_P → Prop}
theorem jr_ireturn {v : Int32} {ty : FieldType} (hd : decode (jy_c M) pc = .ok (.ireturn, 1)) (hr : jy_r M = some ty) (hn : narrow ty (.int v) = .int v) (hP : P (.returned (some (.int v))) h) : jy_J G d M pc L [.int v] h P := by
  intro h0 p e R s m args below meth c H locs ls hX hH hL hl h1 h2 T hT X
  have hlocks : meth.locks = false := hX.2.2.2.1
  have hr' : meth.sig.returnType = some ty := hX.2.2.1.trans hr
  have hexec := hX.1
  have hb := hX.2.1
  obtain ⟨fs, hret, hrun, hended, hW, hframe⟩ := X.leave (v := some (.int v)) (fun h => by rw [hr'] at h; cases h)
  have hmeth' : T.vm.method? m = some meth := X.method'
  refine ⟨T.setFrames fs, ?_, .returned (some (.int v)), h, hP, h1, h2, hrun, hended, by rw [← hT] at hH; exact hH, hW, locs, hframe, hl⟩
  show Steps p.tables e below (T.setTop (F0 m pc ls [.int v])) _
  jvm_step X.here [X.here.top, hexec, hb, hd, hmeth', hr', hn]
  (try refine ⟨rfl, ?_⟩); (try refine ⟨rfl, ?_⟩)
  first | (intro acts; rw [hret _ acts rfl rfl rfl]) | rw [hret _ _ rfl rfl rfl]
  exact Steps.refl _
theorem jr_return (hd : decode (jy_c M) pc = .ok (.return_, 1)) (hr : jy_r M = none) (hP : P (.returned none) h) : jy_J G d M pc L [] h P := by
  intro h0 p e R s m args below meth c H locs ls hX hH hL hl h1 h2 T hT X
  have hlocks : meth.locks = false := hX.2.2.2.1
  have hr' : meth.sig.returnType = none := hX.2.2.1.trans hr
  have hexec := hX.1
  have hb := hX.2.1
  obtain ⟨fs, hret, hrun, hended, hW, hframe⟩ := X.leave (v := none) (fun _ => rfl)
  have hmeth' : T.vm.method? m = some meth := X.method'
  refine ⟨T.setFrames fs, ?_, .returned none, h, hP, h1, h2, hrun, hended, by rw [← hT] at hH; exact hH, hW, locs, hframe, hl⟩
  show Steps p.tables e below (T.setTop (F0 m pc ls [])) _
  jvm_step X.here [X.here.top, hexec, hb, hd, hmeth', hr']
  (try refine ⟨rfl, ?_⟩); (try refine ⟨rfl, ?_⟩)
  first | (intro acts; rw [hret _ acts rfl rfl rfl]) | rw [hret _ _ rfl rfl rfl]
  exact Steps.refl _
theorem jr_areturn {v : Value} {rt : FieldType} (hd : decode (jy_c M) pc = .ok (.areturn, 1)) (hr : jy_r M = some rt) (hrt : (∃ n, rt = .object n) ∨ ∃ t, rt = .array t) (hv : v = .null ∨ ∃ a, v = .ref a) (hP : P (.returned (some v)) h) : jy_J G d M pc L [v] h P := by
  intro h0 p e R s m args below meth c H locs ls hX hH hL hl h1 h2 T hT X
  have hlocks : meth.locks = false := hX.2.2.2.1
  have hr' : meth.sig.returnType = some rt := hX.2.2.1.trans hr
  have hexec := hX.1
  have hb := hX.2.1
  obtain ⟨fs, hret, hrun, hended, hW, hframe⟩ := X.leave (v := some (jy_v G v)) (fun h => by rw [hr'] at h; cases h)
  have hmeth' : T.vm.method? m = some meth := X.method'
  refine ⟨T.setFrames fs, ?_, .returned (some v), h, hP, h1, h2, hrun, hended, by rw [← hT] at hH; exact hH, hW, locs, hframe, hl⟩
  show Steps p.tables e below (T.setTop (F0 m pc ls [jy_v G v])) _
  have hv' : jy_v G v = .null ∨ ∃ a, jy_v G v = .ref a := by
    rcases hv with rfl | ⟨a, rfl⟩
    · exact Or.inl rfl
    · exact Or.inr ⟨_, rfl⟩
  generalize jy_v G v = w at hv' hret
  rcases hrt with ⟨n, rfl⟩ | ⟨t, rfl⟩ <;> rcases hv' with rfl | ⟨a, rfl⟩ <;>
    (jvm_step X.here [X.here.top, hexec, hb, hd, hmeth', hr']
     (try refine ⟨rfl, ?_⟩); (try refine ⟨rfl, ?_⟩)
     first | (intro acts; rw [hret _ acts rfl rfl rfl]) | rw [hret _ _ rfl rfl rfl]
     exact Steps.refl _)
theorem jy_cats (G : jy_G) (st : List Value) : ((st.map (jy_v G)).map fun v => v.category).sum = (st.map fun v => v.category).sum := by
  rw [List.map_map]
  congr 1
  exact List.map_congr_left (fun v _ => jy_v_cat G v)
theorem jr_objInit {idx a : Nat} (hd : decode (jy_c M) pc = .ok (.invokespecial idx, 3)) (hw : Cond.methodLink (jy_y M).cls idx Lib.objectInit ∈ lw_tbl) (hw2 : Cond.instanceMethod Lib.objectInit ∈ lw_tbl) (hw3 : Cond.code Lib.objectInit ⟨#[0xb1]⟩ 1 none ∈ lw_tbl) (hdd : 0 < d) (hst : (st.map fun v => v.category).sum ≤ 8) (k : jy_J G d M (pc + 3) L st h P) : jy_J G d M pc L (.ref a :: st) h P := by
  intro h0 p e R s m args below meth c H locs ls hX hH hL hl h1 h2
  obtain ⟨hx, hb, -, -, hml, hnm, -, -, hT, hR1, hR2, -, -⟩ := id hX
  refine W.objInit hx hb (findClass_of_methodNamed hnm) (hT.word hw rfl rfl args) (hT.word hw2 rfl rfl args) (hT.word hw3 rfl rfl args) rfl (by rw [hml]; exact hL.1) rfl hd (by omega) ?_ (k h0 p e R s m args below meth c H locs ls hX hH hL hl h1 h2)
  rw [jy_cats]
  show 2 * 0 + _ + 12 ≤ _
  omega
/-! an exception is on its way at pc -/
def jy_E (G : jy_G) (d : Nat) (M : jy_M) (pc : Nat) (L : List (Option Value)) (x : Nat) (h : jy_P) (P : Outcome → jy_P → Prop) : Prop :=
  ∀ (h0 : jy_P) (p : Program) (e : Env) (R : Room) (s : State) (m : MethodId) (args : Array Value) (below : List Frame) (meth : Method) (c : Code) (H : Heap) (locs : List Loc) (ls : Array Slot) (stk : List Value),
    jy_X G d M h0 p R s m meth c → jy_H G h H → jy_L G ls (jy_l M) L → (∀ q ∈ locs, G.2.1.size ≤ q.base) → h0.length ≤ h.length → h.length ≤ jy_K →
    ∀ T : State, T.heap = H → Stand p G.1 e R s m args below meth c T locs (h.length - h0.length) (jy_cap h.length - jy_cap h0.length) →
      ∃ t, Steps p.tables e below ((T.setTop (F0 m pc ls stk)).pushFrame (.throwing (jy_a G x))) t ∧ jy_Q G below s h0 P t
/-- it leaves the method -/
theorem jy_E.out {x : Nat} (hout : ∀ q ∈ jy_h M, (decide (q.1 ≤ pc) && decide (pc < q.2.1)) = false) (hP : P (.threw x) h) : jy_E G d M pc L x h P := by
  intro h0 p e R s m args below meth c H locs ls stk hX hH hL hl h1 h2 T hT X
  have hlocks : meth.locks = false := hX.2.2.2.1
  have htab := hX.2.2.2.2.2.2.2.1
  obtain ⟨a1, a2, a3, a4, a5⟩ := X.leaveThrown (jy_a G x) (g := F0 m pc ls stk) rfl rfl rfl (fun y hy => by
    have := hout (y.startPc, y.endPc, y.handlerPc, y.catchType) (by rw [← htab]; exact List.mem_map_of_mem hy)
    exact this)
  exact ⟨_, a1, .threw x, h, hP, h1, h2, a2, a3, by rw [← hT] at hH; exact hH, a4, locs, a5, hl⟩
/-- 'athrow' -/
theorem jr_athrow {x : Nat} (hd : decode (jy_c M) pc = .ok (.athrow, 1)) (k : jy_E G d M pc L x h P) : jy_J G d M pc L (.ref x :: st) h P := by
  intro h0 p e R s m args below meth c H locs ls hX hH hL hl h1 h2 T hT X
  have hexec := hX.1
  have hb := hX.2.1
  obtain ⟨t, a1, a2⟩ := k h0 p e R s m args below meth c H locs ls (st.map (jy_v G)) hX hH hL hl h1 h2 T hT X
  refine ⟨t, ?_, a2⟩
  show Steps p.tables e below (T.setTop (F0 m pc ls (.ref (jy_a G x) :: st.map (jy_v G)))) _
  jvm_step X.here [hexec, hb, hd, athrow.wp_sem]
  exact a1
end JE
/-! the search for a handler, the catch types resolved on the way -/
section JF
variable {e : Env} {s S : State} {f : JFrame} {a : Addr}
theorem jy_go {x : ExceptionTableEntry} {c : ClassId} {cell : Cell} {vm' : Vm} (hx : covers x f.pc = true) (h0 : x.catchType ≠ 0) (hg : (Jvm.resolveClass f.method.cls x.catchType).Gives e.toSetting S.vm (.ok c) vm') (hsz : vm'.classes.size ≤ S.vm.classes.size)
    (hcell : S.heap[a]? = some cell) (hobj : ∀ k, cell.vm ≠ .statics k) (hk : ∃ k, vm'.classes[cell.cls]? = some k) (hc : ∃ k, vm'.classes[c]? = some k) (t : List ExceptionTableEntry) (Q : Handler → Pre) (E : CtlPost) (d : Bool) (acts : List Action) :
    wp (findHandler.go f a (x :: t)) Q E e d acts S ↔ if vm'.assignable cell.cls c = true then Q (.found x.handlerPc) d acts (S.setVm vm') else wp (findHandler.go f a t) Q E e d acts (S.setVm vm') := by
  simp only [covers] at hx
  obtain ⟨ha, ht⟩ := hg.op (op := VmOp.resolveClass f.method.cls x.catchType) rfl
  have hcell' : (S.setVm vm').heap[a]? = some cell := hcell
  cases hfit : vm'.assignable cell.cls c <;>
    simp [findHandler.go, hx, h0, ha, ht, hsz, hcell, hcell', hobj, hk, hc, hfit, VmOp.dirties, VmOp.acts]
end JF
section JC
variable {G : jy_G} {d : Nat} {M : jy_M} {pc : Nat} {L : List (Option Value)} {st : List Value} {h : jy_P} {P : Outcome → jy_P → Prop}
/-- one entry of the table that covers the pc: its class is resolved; the object's class is that of number ci, the entry's that of number cj -/
theorem jy_entry {e : Env} {s S : State} {m : MethodId} {f : JFrame} {a ci cj : Nat} {cell : Cell} {own : String} {x : ExceptionTableEntry} {r ri : vw_C} (hpl : e.platform.magicAccessors = ({} : Platform).magicAccessors) (hT : jy_T G s) (hW : s.WarmedH S.vm) (hfm : f.method = m) (hown : s.vm.findClass own = some m.cls) (hx : covers x f.pc = true) (h0 : x.catchType ≠ 0) (hw : Cond.classLink own x.catchType r.1 ∈ lw_tbl) (hcj : classes[cj]? = some r) (hci : classes[ci]? = some ri)
    (hcell : S.heap[a]? = some cell) (hobj : cell.vm = .none) (hcls : cell.cls = G.2.2.2.1 ci) :
    ∃ vm', s.WarmedH vm' ∧ ∀ (t : List ExceptionTableEntry) (Q : Handler → Pre) (E : CtlPost) (d : Bool) (acts : List Action),
      (wp (findHandler.go f a (x :: t)) Q E e d acts S ↔ if s.vm.assignable (G.2.2.2.1 ci) (G.2.2.2.1 cj) = true then Q (.found x.handlerPc) d acts (S.setVm vm') else wp (findHandler.go f a t) Q E e d acts (S.setVm vm')) := by
  subst hfm
  obtain ⟨cc, hfcc, hcl⟩ := Cond.classLink_spec hown (hT.word hw rfl rfl #[]) e.platform hpl
  obtain ⟨hg₁, hwarm₁, hready₁⟩ := State.classEntry (e := e) hW hcl
  have hcc : cc = G.2.2.2.1 cj := Option.some.inj (hfcc.symm.trans (hT.2.1 cj r hcj).2.1)
  subst hcc
  obtain ⟨k1, hk1, -⟩ := (hT.2.1 cj r hcj).2.2
  obtain ⟨k2, hk2, -⟩ := (hT.2.1 ci ri hci).2.2
  obtain ⟨k1', hk1', -⟩ := hwarm₁.alike.2.2 _ _ hk1
  obtain ⟨k2', hk2', -⟩ := hwarm₁.alike.2.2 _ _ hk2
  refine ⟨_, hwarm₁, fun t Q E d acts => ?_⟩
  rw [jy_go hx h0 hg₁ (by no_record) hcell (fun k => by rw [hobj]; exact fun z => by cases z) ⟨k2', by rw [hcls]; exact hk2'⟩ ⟨k1', hk1'⟩ t Q E d acts, hcls, hwarm₁.alike.assignable]
theorem jy_caught {p : Program} {l : Launch} {e : Env} {R : Room} {s : State} {m : MethodId} {args : Array Value} {below : List Frame} {meth : Method} {c : Code} {T : State} {locs : List Loc} {cells slots : Nat} (X : Stand p l e R s m args below meth c T locs cells slots) (a : Addr) {g : JFrame} (hg : g.method = m) {hpc : Nat} {vm' : Vm}
    (hfind : ∀ (Q : Handler → Pre) (E : CtlPost) (d : Bool) (acts : List Action), wp (findHandler g a) Q E e d acts ((T.setTop g).pushFrame (.throwing a)) ↔ Q (.found hpc) d acts (((T.setTop g).pushFrame (.throwing a)).setVm vm')) {target : State}
    (hrest : Steps p.tables e below ((T.setVm vm').setTop { g with pc := hpc, stack := [.ref a] }) target) : Steps p.tables e below ((T.setTop g).pushFrame (.throwing a)) target := by
  have h : At T g.method c below := by rw [hg]; exact X.here
  obtain ⟨hgo, hw⟩ := h.throwing a
  refine Steps.head hgo hw ?_
  rw [stepThread_throwing (frames_entered h.top _)]
  have hstep : (stepThrowing e ((T.setTop g).pushFrame (.throwing a)) a (.java g :: T.frames.tail)).1 = (((T.setTop g).pushFrame (.throwing a)).setVm vm').setFrames (.java { g with pc := hpc, stack := [.ref a] } :: T.frames.tail) := by
    simp only [stepThrowing, searchFrame, vmDo]
    generalize hr : Sem.go _ e false [] ((T.setTop g).pushFrame (.throwing a)) = res
    obtain ⟨as, rfl, ha⟩ := Sem.eq_ok_of hr (a := Handler.found hpc) (s' := ((T.setTop g).pushFrame (.throwing a)).setVm vm') (acts' := []) (by simp [hfind _ _ _ _])
    rfl
  rw [hstep]
  obtain ⟨g₀, hg0⟩ := Option.isSome_iff_exists.mp h.top
  obtain ⟨r, hr⟩ := State.topJava?_eq_some.mp hg0
  have hr2 : (T.setVm vm').frames = .java g₀ :: r := hr
  rw [State.setTop_of_frames _ hr2] at hrest
  have e1 : ∀ (fs gs hs : List Frame), (((T.setFrames fs).setFrames gs).setVm vm').setFrames hs = (T.setVm vm').setFrames hs := by
    intro fs gs hs
    rw [State.setFrames_setFrames]
    show ((T.setVm vm').setFrames gs).setFrames hs = _
    rw [State.setFrames_setFrames]
  rw [State.pushFrame, State.setTop_of_frames _ hr, hr, e1]
  exact hrest
end JC
