/-! the constructor of Wrong: a message's constructor of the JDK's, then the field -/
/-- the words that it takes, but for the two statics -/
def jy_wrW : List Cond := Bundle.throwableAtoms ++ Bundle.throwableSAtoms ++ Bundle.chainSAtoms "java/lang/RuntimeException" ["java/lang/Exception"] ++
  [.methodLink "HazardTables$Wrong" 3 (Bundle.initS "java/lang/RuntimeException"), .selects "HazardTables$Wrong" Bundle.tFill0 Bundle.tFill0, .selects "HazardTables$Wrong" Bundle.tFill Bundle.tFill,
   .lays "HazardTables$Wrong" Bundle.tN "cause" "Ljava/lang/Throwable;", .lays "HazardTables$Wrong" Bundle.tN "stackTrace" Bundle.steD, .lays "HazardTables$Wrong" Bundle.tN "suppressedExceptions" Bundle.listD, .lays "HazardTables$Wrong" Bundle.tN "detailMessage" "Ljava/lang/String;",
   .isRef (.static Bundle.tN "UNASSIGNED_STACK" Bundle.steD), .isRef (.static Bundle.tN "SUPPRESSED_SENTINEL" Bundle.listD),
   .fieldLink Bundle.tN 198 Bundle.tN "backtrace" "Ljava/lang/Object;", .lays Bundle.tN Bundle.tN "backtrace" "Ljava/lang/Object;", .lays "HazardTables$Wrong" Bundle.tN "backtrace" "Ljava/lang/Object;", .laysFinal "HazardTables$Wrong" "HazardTables$Wrong" "place" "I"]
theorem jy_wrAt : ∀ w ∈ jy_wrW, (w ∈ lw_tbl ∧ jy_ok w = true ∧ w.onTables = true) ∨ jy_q4 w := by
  unfold jy_q4
  decide +kernel
theorem jy_at_IB : jy_at "HazardTables" 65 "java/lang/IndexOutOfBoundsException" := by
  unfold jy_at jy_q4
  decide +kernel
theorem d_WR_init_0 : decode (jy_c m_WR_init) 0 = .ok (.aload_n 0, 1) := by decide +kernel
theorem d_WR_init_1 : decode (jy_c m_WR_init) 1 = .ok (.ldc 1, 2) := by decide +kernel
theorem d_WR_init_3 : decode (jy_c m_WR_init) 3 = .ok (.invokespecial 3, 3) := by decide +kernel
theorem d_WR_init_6 : decode (jy_c m_WR_init) 6 = .ok (.aload_n 0, 1) := by decide +kernel
theorem d_WR_init_7 : decode (jy_c m_WR_init) 7 = .ok (.iload_n 1, 1) := by decide +kernel
theorem d_WR_init_8 : decode (jy_c m_WR_init) 8 = .ok (.putfield 9, 3) := by decide +kernel
theorem d_WR_init_11 : decode (jy_c m_WR_init) 11 = .ok (.return_, 1) := by decide +kernel
theorem k_WR : jy_CF 8 (R_WR, F_WR, 1) t_WR := ⟨rfl, by decide, by decide +kernel, by decide +kernel, by decide +kernel⟩
theorem k_WF : jy_CF 13 (R_WF, F_WF, 7) t_WF := ⟨rfl, by decide, by decide +kernel, by decide +kernel, by decide +kernel⟩
theorem f_WR_9 : jy_F "HazardTables$Wrong" 9 8 0 .int true := ⟨_, _, k_WR, by decide, Or.inl (by decide +kernel), rfl, rfl, rfl⟩
theorem jc_wrong6 {G : jy_G} {d : Nat} {h : jy_P} {x : Nat} {k : Int32} (hx : h[x]? = some (8, [.int 0])) (hx0 : 0 < x) : jy_J G d m_WR_init 6 [some (.ref x), some (.int k)] [] h (fun o h' => o = .returned none ∧ h' = h.set x (8, [.int k])) := by
  refine jr_aload_n d_WR_init_6 rfl rfl ?_
  refine jr_iload_n d_WR_init_7 rfl rfl ?_
  refine jr_putF d_WR_init_8 f_WR_9 rfl rfl jy_fv_int hx0 hx rfl ?_
  exact jr_return d_WR_init_11 rfl ⟨rfl, rfl⟩
set_option maxHeartbeats 4000000 in
/-- Wrong(k) on a fresh object -/
theorem jc_wrong {G : jy_G} {d : Nat} {h : jy_P} {x : Nat} {k : Int32} (hdd : 5 ≤ d) (hx : h[x]? = some (13, [.null, .null, .null, .null, .null, .int 0, .int 0])) (hx0 : 0 < x) : jy_C G d m_WR_init [.ref x, .int k] h (fun o h' => o = .returned none ∧ h' = h.set x (8, [.int k])) := by
  intro p e R s m args below meth c hX h2
  obtain ⟨hx1, hb, hret, hlocks, hml, hnm, hme, htab, hT, hR1, hR2, hRc, hRs, hH⟩ := id hX
  have hown : s.vm.findClass "HazardTables$Wrong" = some m.cls := findClass_of_methodNamed hnm
  have hL : jy_L G ((lg_sl (([.ref x, .int k] : List Value).map (jy_v G)) ++ List.replicate (jy_l m_WR_init - (lg_sl (([.ref x, .int k] : List Value).map (jy_v G))).length) Slot.unset).toArray) (jy_l m_WR_init) (jy_en (jy_l m_WR_init) [.ref x, .int k]) := jy_entryL (show 2 ≤ 2 from Nat.le_refl 2)
  have hL0 : jy_en (jy_l m_WR_init) [.ref x, .int k] = [some (.ref x), some (.int k)] := rfl
  rw [hL0] at hL
  generalize (lg_sl (([.ref x, .int k] : List Value).map (jy_v G)) ++ List.replicate (jy_l m_WR_init - (lg_sl (([.ref x, .int k] : List Value).map (jy_v G))).length) Slot.unset).toArray = ls at hL ⊢
  refine lv_aload_n hx1 hb d_WR_init_0 rfl (hL.2.2 0 (.ref x) rfl) ?_
  obtain ⟨-, -, aS, hZ⟩ := hT.2.2.2.2.2.1
  refine va_ldcS hx1 hb hown hZ d_WR_init_1 ?_
  intro T hT2 X
  have howns : e.platform.frameOwnsMonitors = true := by rw [X.admits.platform]
  have hfin : e.platform.finalization = false := by rw [X.admits.platform]
  have hpl : e.platform.magicAccessors = ({} : Platform).magicAccessors := by rw [X.admits.platform]
  have a' : ∀ w ∈ jy_wrW, w.holds args s none s [] = true := by
    intro w hw
    rcases jy_wrAt w hw with ⟨q1, q2, q3⟩ | q
    · exact hT.word q1 q3 q2 args
    · exact q.use hT.2.2.2.2.2.1 hH.2.2.1
  obtain ⟨TT, Z0, LL, -, Y⟩ := ThrowableC.of_atoms (args := args) howns hfin hpl (fun w hw => a' w (by simp [jy_wrW, hw]))
  obtain ⟨Z, MM, LZ, LM, hnZ⟩ := Init0T.ofS_atoms (args := args) hpl LL Y (fun w hw => a' w (by simp [jy_wrW, hw]))
  obtain ⟨P1, Ps, hlen, L1, hLs, hP1m, hlink1, hlink⟩ := Bundle.chainS (args := args) hpl hnZ ["java/lang/Exception"] "java/lang/RuntimeException" (by decide) (by decide) (fun w hw => a' w (by simp [jy_wrW, hw]))
  obtain ⟨z, z1, z2, z3, z4, z5, zm⟩ := jy_obj hH hx k_WF
  obtain ⟨hSl, hfcW, kX, hk, hord⟩ := hT.2.1 13 _ k_WF.1
  have hfound : s.vm.findClass "HazardTables$Wrong" = some z.cls := by rw [z3]; exact hfcW
  have hkz : s.vm.classes[z.cls]? = some kX := by rw [z3]; exact hk
  have hsel0 : selectMethod e.platform s.vm z.cls TT.fill0 = .method TT.fill0 := by
    obtain ⟨c2, r2, m2, q1, q2, q3, q4, -⟩ := Cond.selects_spec (a' (.selects "HazardTables$Wrong" Bundle.tFill0 Bundle.tFill0) (by simp [jy_wrW]))
    cases Option.some.inj (q1.symm.trans hfound)
    cases Option.some.inj (q2.symm.trans (State.methodFound?_of_named Y.fill0 (by decide)))
    cases Option.some.inj (q3.symm.trans Y.fill0)
    rw [Launch.admits_selectMethod X.admits]; exact q4
  have hselF : selectMethod e.platform s.vm z.cls TT.fill = .method TT.fill := by
    obtain ⟨c2, r2, m2, q1, q2, q3, q4, -⟩ := Cond.selects_spec (a' (.selects "HazardTables$Wrong" Bundle.tFill Bundle.tFill) (by simp [jy_wrW]))
    cases Option.some.inj (q1.symm.trans hfound)
    cases Option.some.inj (q2.symm.trans (State.methodFound?_of_named Y.fill (by decide)))
    cases Option.some.inj (q3.symm.trans Y.fill)
    rw [Launch.admits_selectMethod X.admits]; exact q4
  obtain ⟨cellS0, hcS0, hiss⟩ := Y.statics
  obtain ⟨u0, hu0⟩ := Cond.staticRefV Y.unassigned LL.unassignedStatic LL.statics hcS0 hiss (a' (.isRef (.static Bundle.tN "UNASSIGNED_STACK" Bundle.steD)) (by simp [jy_wrW]))
  obtain ⟨sen, hsen⟩ := Cond.staticRefV Y.sentinel LL.sentinelStatic LL.statics hcS0 hiss (a' (.isRef (.static Bundle.tN "SUPPRESSED_SENTINEL" Bundle.listD)) (by simp [jy_wrW]))
  obtain ⟨ci198, i198, fB, hk198, hg198, ha198, hsB, -, hnB, htB, hffB⟩ := Cond.ownField (t := .object "java/lang/Object") Y.found LL.cls (by decide +kernel) (a' (.fieldLink Bundle.tN 198 Bundle.tN "backtrace" "Ljava/lang/Object;") (by simp [jy_wrW])) (a' (.lays Bundle.tN Bundle.tN "backtrace" "Ljava/lang/Object;") (by simp [jy_wrW])) e.platform hpl
  have hcellS : T.heap[TT.aS]? = some cellS0 := by rw [hT2]; exact hcS0
  have hknownS : cellS0.vm ≠ .unknown := by
    intro hu
    rw [hu] at hiss
    cases hiss
  have hneS : TT.aS ≠ jy_a G x := by
    intro q
    rw [q] at hcS0
    cases hcS0.symm.trans z1
    rw [z2] at hiss
    cases hiss
  obtain ⟨iM, hffM⟩ := Y.msg
  obtain ⟨tyC, dC, hdC, hdnC⟩ := Cond.laysAt hfound hkz Y.cause (a' (.lays "HazardTables$Wrong" Bundle.tN "cause" "Ljava/lang/Throwable;") (by simp [jy_wrW]))
  obtain ⟨tyS, dS, hdS, hdnS⟩ := Cond.laysAt hfound hkz Y.stack (a' (.lays "HazardTables$Wrong" Bundle.tN "stackTrace" Bundle.steD) (by simp [jy_wrW]))
  obtain ⟨tyP, dP, hdP, hdnP⟩ := Cond.laysAt hfound hkz Y.supp (a' (.lays "HazardTables$Wrong" Bundle.tN "suppressedExceptions" Bundle.listD) (by simp [jy_wrW]))
  obtain ⟨tyM, dM, hdM, hdnM⟩ := Cond.laysAt hfound hkz hffM (a' (.lays "HazardTables$Wrong" Bundle.tN "detailMessage" "Ljava/lang/String;") (by simp [jy_wrW]))
  obtain ⟨tyB, dB, hdB, hdnB⟩ := Cond.laysAt hfound hkz hffB (a' (.lays "HazardTables$Wrong" Bundle.tN "backtrace" "Ljava/lang/Object;") (by simp [jy_wrW]))
  have bC := Cond.laysApart hdB hdC hdnB hdnC (by rw [hnB, Y.causeName]; decide)
  have bS := Cond.laysApart hdB hdS hdnB hdnS (by rw [hnB, Y.stackName]; decide)
  have bP := Cond.laysApart hdB hdP hdnB hdnP (by rw [hnB, Y.suppName]; decide)
  -- the slots of the seven fields
  obtain ⟨_, hap⟩ := jy_apart (args := args) hT k_WF
  have sC : TT.fCause.slot = G.2.2.2.2.1 13 0 := by
    obtain ⟨_, _, _, fd, hi, he⟩ := hSl 0 (by decide)
    have := hi.symm.trans Y.cause
    simp only [Option.some.injEq, Prod.mk.injEq] at this
    rw [← he, this.2.2.2]
  have sS : TT.fStack.slot = G.2.2.2.2.1 13 1 := by
    obtain ⟨_, _, _, fd, hi, he⟩ := hSl 1 (by decide)
    have := hi.symm.trans Y.stack
    simp only [Option.some.injEq, Prod.mk.injEq] at this
    rw [← he, this.2.2.2]
  have sP : TT.fSupp.slot = G.2.2.2.2.1 13 2 := by
    obtain ⟨_, _, _, fd, hi, he⟩ := hSl 2 (by decide)
    have := hi.symm.trans Y.supp
    simp only [Option.some.injEq, Prod.mk.injEq] at this
    rw [← he, this.2.2.2]
  have sM : TT.fMsg.slot = G.2.2.2.2.1 13 3 := by
    obtain ⟨_, _, _, fd, hi, he⟩ := hSl 3 (by decide)
    have := hi.symm.trans hffM
    simp only [Option.some.injEq, Prod.mk.injEq] at this
    rw [← he, this.2.2.2]
  have sB : fB.slot = G.2.2.2.2.1 13 4 := by
    obtain ⟨_, _, _, fd, hi, he⟩ := hSl 4 (by decide)
    have := hi.symm.trans hffB
    simp only [Option.some.injEq, Prod.mk.injEq] at this
    rw [← he, this.2.2.2]
  have sQ : G.2.2.2.2.1 8 0 = G.2.2.2.2.1 13 5 := by
    obtain ⟨_, _, _, fd, hi, he⟩ := hSl 5 (by decide)
    obtain ⟨_, _, _, fd2, hi2, he2⟩ := (hT.2.1 8 _ k_WR.1).1 0 (by decide)
    have := hi.symm.trans hi2
    simp only [Option.some.injEq, Prod.mk.injEq] at this
    rw [← he, ← he2, this.2.2.2]
  have lt0 : ∀ (j : Nat) (v : Value), ([.null, .null, .null, .null, .null, .int 0, .int 0] : List Value)[j]? = some v → G.2.2.2.2.1 13 j < z.slots.size := fun j v hj => (Array.getElem?_eq_some_iff.mp (z5 j v hj)).1
  have tk : ∀ (f : Field) (v : Value), f.slot < z.slots.size → Takes s (freshCell z.cls kX) f v → Takes s z f v := by
    intro f v q1 q2
    refine ⟨q1, ?_⟩
    have := q2.2
    rw [z2]
    exact this
  have hskip : SkipFacts TT e.platform s (fun u => u) u0 ((preparedCellV TT.toThrowableT z (jy_a G x) u0 sen).withEntry T.cur) :=
    ⟨{ ci198 := ci198, i198 := i198, fBack := fB }, ⟨hk198, hg198, ha198, hsB⟩, by
      have := z5 4 .null rfl
      rw [← sB] at this
      simpa [preparedCellV, Cell.setSlot, Cell.withEntry, Array.getElem?_setIfInBounds, bC, bS, bP, bC.symm, bS.symm, bP.symm, jy_v] using this, fun _ _ => rfl⟩
  obtain ⟨tm, methC, cdC, kC, vm₁, hnC, -, -, -, -, -, -, -, hW₁, st1⟩ := Steps.initColdS (tb := p.tables) (e := e) (below := below) (s := s) (U := T) X.here hx1 X.warmed hpl hown (t := Bundle.initS "java/lang/RuntimeException") rfl rfl (by decide)
    (a' (.methodLink "HazardTables$Wrong" 3 (Bundle.initS "java/lang/RuntimeException")) (by simp [jy_wrW])) (a' (.instanceMethod (Bundle.initS "java/lang/RuntimeException")) (by simp [jy_wrW, Bundle.chainSAtoms, Bundle.passSAtoms])) (bytes := Bundle.six) (maxL := 2) (a' (.code (Bundle.initS "java/lang/RuntimeException") Bundle.six 2 none) (by simp [jy_wrW, Bundle.chainSAtoms, Bundle.passSAtoms]))
    (f := F0 m 3 ls [.ref aS, .ref (jy_a G x)]) rfl (a := jy_a G x) (msg := .ref aS) (rest := []) rfl (by rw [hb]; exact d_WR_init_3)
  cases Option.some.inj (hnC.symm.trans hP1m)
  have X₁ := X.noted hW₁
  obtain ⟨vm₂, X₂, st2⟩ := X₁.ctorMessageOffV hx1 (g := F0 m 3 ls []) rfl (by rw [hml]; exact hL.1) TT LL Z LZ MM LM (P1 :: Ps)
    (fun P hP => by rcases List.mem_cons.mp hP with rfl | hP; exact L1; exact hLs P hP) ⟨hlink1, hlink⟩ (u0 := u0) (sen := sen) (self := jy_a G x) (msg := .ref aS) rfl (cell := z) (cellS := cellS0)
    (by show T.heap[_]? = _; rw [hT2]; exact z1) (fun q => by rw [z2]; exact fun w => by cases w) (by rw [z2]; exact fun w => by cases w) zm.1 zm.2 hsel0 hselF hcellS hneS hknownS hu0 hsen
    (tk _ _ (by rw [sC]; exact lt0 0 _ rfl) (Takes.of_laid hkz hord tyC (by rw [Y.causeType]; rfl))) (tk _ _ (by rw [sS]; exact lt0 1 _ rfl) (Takes.of_laid hkz hord tyS (by rw [Y.stackType]; exact fits_refV_array _ u0))) (tk _ _ (by rw [sP]; exact lt0 2 _ rfl) (Takes.of_laid hkz hord tyP (by rw [Y.suppType]; exact fits_refV_object _ sen)))
    (tk _ _ (by rw [sM]; exact lt0 3 _ rfl) (Takes.of_laid hkz hord tyM (by rw [Y.msgType]; rfl))) Y.objLocals hskip (Launch.traces_off hT.2.2.2.2.1 X.admits) [] (by rw [hb]; exact d_WR_init_3)
    (by simp only [List.length_cons, hlen]; show 2 + 2 < _; omega) (by
      simp only [List.length_cons, hlen]
      show 2 * 0 + 0 + (13 * (1 + 1) + 42) ≤ _
      omega)
  have hcell' : jy_cell G (8, [.int 0]) (plainBareV TT.toThrowableT z (jy_a G x) u0 sen (.ref aS)) := by
    refine Or.inl ⟨by decide, z2, ?_, _, k_WR.1, rfl, zm, fun j v hj => ?_⟩
    · show z.cls = _
      have q1 := (hT.2.1 8 _ k_WR.1).2.1
      exact Option.some.inj (hfound.symm.trans q1)
    · have hj0 : j = 0 := by
        have := (List.getElem?_eq_some_iff.mp hj).1
        simp at this
        omega
      subst hj0
      simp at hj
      subst hj
      show (plainBareV TT.toThrowableT z (jy_a G x) u0 sen (.ref aS)).slots[G.2.2.2.2.1 8 0]? = _
      have hz := z5 5 (.int 0) rfl
      have n0 := hap 0 5 (by decide) (by decide) (by decide)
      have n1 := hap 1 5 (by decide) (by decide) (by decide)
      have n2 := hap 2 5 (by decide) (by decide) (by decide)
      have n3 := hap 3 5 (by decide) (by decide) (by decide)
      rw [sQ]
      simpa [plainBareV, preparedCellV, Cell.setSlot, Array.getElem?_setIfInBounds, sC, sS, sP, sM, n0, n1, n2, n3] using hz
  have hlt : jy_a G x < ((T.setVm vm₁).setVm vm₂).heap.size := by show jy_a G x < T.heap.size; rw [hT2]; exact (Array.getElem?_eq_some_iff.mp z1).1
  have hH' := hH.set (H' := (((T.setVm vm₁).setVm vm₂).setCell (jy_a G x) (plainBareV TT.toThrowableT z (jy_a G x) u0 sen (.ref aS))).heap) hT.2.2.2.1 hx hx0 (heapAt_setCell_self _ hlt) (by rw [size_setCell]; show T.heap.size = _; rw [hT2]) (fun q hq => by rw [heapAt_setCell_ne _ (Ne.symm hq)]; show T.heap[q]? = _; rw [hT2]) hcell'
  have hset : (h.set x (8, [.int 0]))[x]? = some (8, [.int 0]) := List.getElem?_set_self (List.getElem?_eq_some_iff.mp hx).1
  have hres := jc_wrong6 (G := G) (d := d) (k := k) hset hx0 h p e R s m args below meth c _ ([] ++ [⟨jy_a G x, TT.fCause.slot⟩, ⟨jy_a G x, TT.fStack.slot⟩, ⟨jy_a G x, TT.fSupp.slot⟩, ⟨jy_a G x, TT.fStack.slot⟩, ⟨jy_a G x, TT.fMsg.slot⟩]) ls hX hH' hL (fun q hq => by
      simp only [List.nil_append, List.mem_cons, List.not_mem_nil, or_false] at hq
      rcases hq with rfl | rfl | rfl | rfl | rfl <;> exact jy_a_ge hx0) (by simp) (by simpa using h2) _ rfl (by simpa using X₂)
  obtain ⟨t, t1, o, h', ⟨ho, hh'⟩, t2⟩ := hres
  refine ⟨t, st1 t (fun acts => ?_), o, h', ⟨ho, by rw [hh', List.set_set]⟩, t2⟩
  rw [doInvoke_state]
  exact st2 t t1
