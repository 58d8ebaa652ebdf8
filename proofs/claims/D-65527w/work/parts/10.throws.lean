/-! rows: an exception of the JDK's is made and leaves the method -/
/-- the words of 'throw new cls()' that aren't words of the tables alone -/
def jy_q4 (w : Cond) : Prop := w = .laysStatic "java/lang/Throwable" "UNASSIGNED_STACK" "[Ljava/lang/StackTraceElement;" ∨ w = .laysStatic "java/lang/Throwable" "SUPPRESSED_SENTINEL" "Ljava/util/List;" ∨ w = .isRef (.static "java/lang/Throwable" "UNASSIGNED_STACK" "[Ljava/lang/StackTraceElement;") ∨ w = .isRef (.static "java/lang/Throwable" "SUPPRESSED_SENTINEL" "Ljava/util/List;")
def jy_at (own : String) (ic : Nat) (cls : String) : Prop := ∀ w ∈ Bundle.ownAtoms0 own ic cls ["java/lang/RuntimeException", "java/lang/Exception"], (w ∈ lw_tbl ∧ jy_ok w = true ∧ w.onTables = true) ∨ jy_q4 w
theorem jy_q4.use {G : jy_G} {s : State} {w : Cond} {args : Array Value} (h : jy_q4 w) (hS : jy_S G s) (hh : ∀ a : Nat, a < G.2.1.size → s.heap[a]? = G.2.1[a]?) : w.before args s = true := by
  rcases h with rfl | rfl | rfl | rfl
  · exact (hS.1.use hh).1
  · exact (hS.2.1.use hh).1
  · exact (hS.1.use hh).2
  · exact (hS.2.1.use hh).2
theorem jy_plainLocs {G : jy_G} {h : jy_P} {H : Heap} (hH : jy_H G h H) {locs : List Loc} (hl : ∀ q ∈ locs, G.2.1.size ≤ q.base) : ∀ x ∈ locs, ∀ cell, H[x.base]? = some cell → cell.vm.isStatics = false := by
  intro x hx cell hc
  have h1 := hl x hx
  have h2 := (Array.getElem?_eq_some_iff.mp hc).1
  obtain ⟨g1, g2, g3, g4⟩ := hH
  have gen : ∀ n N K S : Nat, N ≤ n → n < S → S + 1 = N + K → n - N + 1 < K ∧ N + (n - N) = n := by
    intro n N K S q1 q2 q3
    omega
  have hi : x.base - G.2.1.size + 1 < h.length := (gen _ _ _ _ h1 h2 g2).1
  obtain ⟨y, y1, y2⟩ := g4 (x.base - G.2.1.size + 1) _ (List.getElem?_eq_getElem hi)
  have e1 : jy_a G (x.base - G.2.1.size + 1) = x.base := by
    exact (gen _ _ _ _ h1 h2 g2).2
  rw [e1] at y1
  cases hc.symm.trans y1
  rcases y2 with ⟨-, w1, -⟩ | ⟨-, -, w1, -⟩
  · rw [w1]; rfl
  · cases hv : cell.vm <;> first | rfl | exact absurd hv (w1 _)
/-- nothing that was there has changed -/
theorem jy_same {s t : State} {k n : Nat} (h : s.sameButNew t [] k n) : s.heap.size ≤ t.heap.size ∧ t.heap.size ≤ s.heap.size + k ∧ ∀ a : Nat, a < s.heap.size → t.heap[a]? = s.heap[a]? := by
  obtain ⟨-, h2, h3, -, -, h6⟩ := h
  refine ⟨h2, h3, fun a ha => ?_⟩
  obtain ⟨c', q1, q2, q3, q4⟩ := h6 a _ (Array.getElem?_eq_getElem ha)
  rw [q1, Array.getElem?_eq_getElem ha, q2]
  congr 1
  have : c'.slots = (s.heap[a]'ha).slots := by
    apply Array.ext_getElem?
    intro i
    exact q4 i (by simp)
  rw [this]
section JT
variable {G : jy_G} {d : Nat} {M : jy_M} {h : jy_P}
/-- 'if (!good) throw new cls();' -/
theorem jc_guard {idx ic ci : Nat} {cls : String} {F : u_T} (e0 : decode (jy_c M) 0 = .ok (.iload_n 0, 1)) (e1 : decode (jy_c M) 1 = .ok (.ifCond .ne 11, 3)) (d1 : decode (jy_c M) 4 = .ok (.new idx, 3)) (d2 : decode (jy_c M) 7 = .ok (.dup, 1)) (d3 : decode (jy_c M) 8 = .ok (.invokespecial ic, 3)) (d4 : decode (jy_c M) 11 = .ok (.athrow, 1)) (d5 : decode (jy_c M) 12 = .ok (.return_, 1)) (hr : jy_r M = none) (hl1 : jy_l M = 1) (hci : classes[ci]? = some (cls, F, 0)) (h50 : ci < 50) (hft : Bundle.fit cls = true) (hat : jy_at (jy_y M).cls ic cls) (hw1 : Cond.classLink (jy_y M).cls idx cls ∈ lw_tbl) (hw2 : Cond.instantiable cls 6 ∈ lw_tbl) (hw3 : Cond.initialized cls ∈ lw_tbl) (hh : jy_h M = []) (hf : h.length < jy_K) (hdd : 6 ≤ d) (b : Int32) :
    jy_C G d M [.int b] h (fun o h' => (¬ b = 0 ∧ o = .returned none ∧ h' = h) ∨ (b = 0 ∧ o = .threw h.length ∧ h' = h ++ [(ci, [])])) := by
  by_cases hb0 : b = 0
  case neg =>
    refine jy_C.of [some (.int b)] (by rw [hl1]; rfl) (by rw [hl1]; exact Nat.le_refl 1) ?_
    refine jr_iload_n e0 rfl rfl ?_
    refine jr_if_ne (tgt := 12) e1 (by decide) (fun _ => ?_) (fun q => absurd q hb0)
    exact jr_return d5 hr (Or.inl ⟨hb0, rfl, rfl⟩)
  case pos =>
    intro p e R s m args below meth c hX h2
    obtain ⟨hx, hb, -, hlocks, hml, hnm, -, htab, hT, hR1, hR2, hRc, hRs, hH⟩ := id hX
    have hown := findClass_of_methodNamed hnm
    have hcap := jy_cap_12 h.length
    have hcK := jy_cap_mono (show h.length + 1 ≤ jy_K from hf)
    have hL : jy_L G ((lg_sl (([.int b] : List Value).map (jy_v G)) ++ List.replicate (jy_l M - (lg_sl (([.int b] : List Value).map (jy_v G))).length) Slot.unset).toArray) (jy_l M) (jy_en (jy_l M) [.int b]) := jy_entryL (by rw [hl1]; exact Nat.le_refl 1)
    have hL0 : (jy_en (jy_l M) [.int b])[0]? = some (some (.int b)) := by rw [hl1]; rfl
    generalize (lg_sl (([.int b] : List Value).map (jy_v G)) ++ List.replicate (jy_l M - (lg_sl (([.int b] : List Value).map (jy_v G))).length) Slot.unset).toArray = ls at hL ⊢
    refine lv_iload_n hx hb e0 rfl (hL.2.2 0 _ hL0) ?_
    refine lv_if_ne (tgt := 12) hx hb e1 (by decide) (fun q => absurd hb0 q) (fun _ => ?_)
    refine W.newc hx hb hown (hT.word hw1 rfl rfl args) (hT.word hw2 rfl rfl args) (hT.word hw3 rfl rfl args) rfl d1 (by omega) (by omega) (fun cC kC g1 g2 g3 g4 => ?_)
    have hcc : cC = G.2.2.2.1 ci := Option.some.inj (g1.symm.trans (hT.2.1 ci _ hci).2.1)
    refine lv_dup hx hb d2 rfl ?_
    intro T hT2 X
    have hpl0 : T.heap[s.heap.size]? = some (freshCell cC kC) := by rw [hT2]; simp
    obtain ⟨U, u1, u2, u3, u4, u5, ce, u6, u7⟩ := X.ctorThrow0 hx (Launch.traces_off hT.2.2.2.2.1 X.admits) (own := (jy_y M).cls) (cls := cls) (names := ["java/lang/RuntimeException", "java/lang/Exception"]) (ic := ic) hown hft (by decide) (fun w hw => by
        rcases hat w hw with ⟨q1, q2, q3⟩ | q
        · exact hT.word q1 q3 q2 args
        · exact q.use hT.2.2.2.2.2.1 hH.2.2.1) (fun x hx => by cases hx) (a := s.heap.size) g1 g2 hpl0 (Nat.le_refl _) (g := F0 m 8 ls [.ref s.heap.size, .ref s.heap.size]) rfl (by rw [hml]; exact hL.1) rfl rfl (rest := []) rfl (by rw [hb]; exact d3) (by rw [hb]; exact d4)
        (fun y hy => by
          have : (y.startPc, y.endPc, y.handlerPc, y.catchType) ∈ jy_h M := by rw [← htab]; exact List.mem_map_of_mem hy
          rw [hh] at this
          cases this) (by show 2 + 3 < _; omega) (by
          show 2 * 0 + (1 + 0) + (13 * (2 + 1) + 41) ≤ _
          omega)
    have hsm := jy_same u5
    have hlt := (Array.getElem?_eq_some_iff.mp u6).1
    have e9 : (h ++ [(ci, ([] : List Value))]).length = h.length + 1 := by simp
    refine ⟨U, u1, .threw h.length, h ++ [(ci, [])], Or.inr ⟨hb0, rfl, rfl⟩, by simp, by rw [e9]; exact hf, u2, ?_, ?_, u4, [], ?_, fun q hq => by cases hq⟩
    · show Ended U below (.threw (jy_a G h.length))
      rw [jy_a_new hH]
      exact u3
    · refine hH.push (x := ce) u6 ?_ hsm.2.2 (Or.inl ⟨h50, u7.vm, ?_, _, hci, rfl, by rw [u7.monitor]; exact ⟨rfl, rfl⟩, fun k v hk => by simp at hk⟩)
      · have q1 : U.heap.size ≤ s.heap.size + (0 + 1) := hsm.2.1
        omega
      · have q1 := u7.cls
        rw [(hT.2.1 ci _ hci).2.1] at q1
        exact (Option.some.inj q1).symm
    · rw [e9]
      exact u5.weaken (fun y hy _ => hy) (by omega) (by omega)
end JT
