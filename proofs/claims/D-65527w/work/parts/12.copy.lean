/-! System.arraycopy of bytes into the whole of a new array -/
theorem jy_takes {s : State} {comp : ClassId} {v : Value} (h : ∀ q, v ≠ .ref q) : s.takes comp v := by
  cases v with
  | ref q => exact absurd rfl (h q)
  | _ => exact True.intro
section JB
variable {G : jy_G} {d : Nat} {M : jy_M} {pc : Nat} {L : List (Option Value)} {st : List Value} {h : jy_P} {P : Outcome → jy_P → Prop}
theorem jr_copyb {idx a b : Nat} {vs ws : List Value} {sp n : Int32} {h' : jy_P} (hd : decode (jy_c M) pc = .ok (.invokestatic idx, 3)) (hw1 : Cond.methodLink (jy_y M).cls idx arraycopyName ∈ lw_tbl) (hw2 : Cond.native arraycopyName ∈ lw_tbl) (hw3 : Cond.static arraycopyName ∈ lw_tbl) (hw4 : Cond.initialized "java/lang/System" ∈ lw_tbl)
    (ha : h[a]? = some (51, vs)) (hb : h[b]? = some (51, ws)) (hb0 : 0 < b) (h1 : ¬ sp < 0) (h3 : ¬ n < 0) (h4 : sp.toNatClampNeg + n.toNatClampNeg ≤ vs.length) (h5 : n.toNatClampNeg = ws.length) (hby : ∀ v ∈ vs, fits .byte v = true ∧ ∀ q, v ≠ .ref q) (hdd : 1 ≤ d) (hst : (st.map fun v => v.category).sum ≤ 8) (hh : h.set b (51, (vs.drop sp.toNatClampNeg).take n.toNatClampNeg) = h')
    (k : jy_J G d M (pc + 3) L st h' P) : jy_J G d M pc L (.int n :: .int 0 :: .ref b :: .int sp :: .ref a :: st) h P := by
  subst hh
  intro h0 p e R s m args below meth c H locs ls hX hH hL hl g1 g2
  obtain ⟨hx, hbc, -, -, hml, hnm, -, -, hT, hR1, hR2, -⟩ := id hX
  have hown := findClass_of_methodNamed hnm
  obtain ⟨x, x1, x2, x3, x4, x5, ⟨-, kx, kx1, cx, kx2⟩, x7⟩ := jy_arr hT hH ha (ty := .byte) rfl
  obtain ⟨y, y1, y2, y3, y4, y5, ⟨-, ky, ky1, cy, ky2⟩, y7⟩ := jy_arr hT hH hb (ty := .byte) rfl
  have nn : ∀ z : Int32, ¬ z < 0 → z.toInt = (z.toNatClampNeg : Int) := by
    intro z hz
    have hz0 : (0 : Int) ≤ z.toInt := by
      have := Int32.not_lt.mp hz
      simpa using Int32.le_iff_toInt_le.mp this
    show z.toInt = ((z.toInt.toNat : Nat) : Int)
    omega
  have xs : x.slots.size = vs.length := by rw [x5]; simp
  have ys : y.slots.size = ws.length := by rw [y5]; simp
  have el : ∀ i : Nat, i < n.toNatClampNeg → ∃ v, v ∈ vs ∧ vs[sp.toNatClampNeg + i]? = some v ∧ x.slots.getD (sp.toNatClampNeg + i) .null = v := by
    intro i hi
    have hlt : sp.toNatClampNeg + i < vs.length := by omega
    refine ⟨vs[sp.toNatClampNeg + i], List.getElem_mem hlt, List.getElem?_eq_getElem hlt, ?_⟩
    rw [Array.getD_eq_getD_getElem?, jy_arr_at x5 (List.getElem?_eq_getElem hlt)]
    exact jy_v_noref (hby _ (List.getElem_mem hlt)).2
  intro T hT2 X
  obtain ⟨vm', X', step⟩ := X.arraycopy hx hown (hT.word hw1 rfl rfl args) (hT.word hw2 rfl rfl args) (hT.word hw3 rfl rfl args) (hT.word hw4 rfl rfl args) (src := jy_a G a) (dst := jy_a G b) (cs := x) (cd := y) (srcPos := sp) (destPos := 0) (n := n) (by rw [hT2]; exact x1) (by rw [hT2]; exact y1)
    x3 y3 x2 y2 kx1 ky1 kx2 ky2 rfl h1 (by decide) h3
    (by rw [nn sp h1, nn n h3, xs]; omega)
    (by rw [nn n h3, ys]; show ¬ (0 : Int) + _ > _; omega)
    (fun vm₁ hal i hi => by
      obtain ⟨v, v1, v2, v3⟩ := el i hi
      rw [v3]
      exact ⟨(hby v v1).1, jy_takes (hby v v1).2⟩)
    (g := F0 m pc ls (.int n :: .int 0 :: .ref (jy_a G b) :: .int sp :: .ref (jy_a G a) :: st.map (jy_v G))) rfl (by rw [hml]; exact hL.1) (rest := st.map (jy_v G)) rfl (by rw [hbc]; exact hd) (by omega) (by
      show 2 * 0 + ((st.map (jy_v G)).map fun v => v.category).sum + (nativeFrameWords "java/lang/System" "arraycopy" 5 + 11) ≤ _
      rw [jy_cats]
      have : nativeFrameWords "java/lang/System" "arraycopy" 5 + 11 ≤ 24 := by decide
      omega)
  have hslots : (copied x y sp 0 n).slots = (((vs.drop sp.toNatClampNeg).take n.toNatClampNeg).map (jy_v G)).toArray := by
    have hlen : (x.stretch sp.toNatClampNeg n.toNatClampNeg).length = n.toNatClampNeg := by simp [Cell.stretch]
    apply Array.ext_getElem?
    intro j
    have hz0 : (0 : Int32).toNatClampNeg = 0 := by decide
    have hg := Cell.storeRun_get y (0 : Int32).toNatClampNeg (x.stretch sp.toNatClampNeg n.toNatClampNeg) j (by rw [hz0, hlen, ys]; omega)
    rw [hg, hz0]
    by_cases hj : j < n.toNatClampNeg
    · obtain ⟨v, v1, v2, v3⟩ := el j hj
      have e1 : (x.stretch sp.toNatClampNeg n.toNatClampNeg)[j - 0]? = some v := by
        rw [← v3, Array.getD_eq_getD_getElem?]
        simp [Cell.stretch, hj]
      have e2 : ((((vs.drop sp.toNatClampNeg).take n.toNatClampNeg).map (jy_v G)).toArray)[j]? = some v := by
        simp [List.getElem?_take, hj, List.getElem?_drop, v2, jy_v_noref (hby v v1).2]
      rw [e2, if_pos (by rw [hlen]; omega), e1]
    · have e2 : ((((vs.drop sp.toNatClampNeg).take n.toNatClampNeg).map (jy_v G)).toArray)[j]? = none := by
        rw [List.getElem?_toArray, List.getElem?_map, List.getElem?_take, if_neg hj]
        rfl
      rw [e2, if_neg (by rw [hlen]; omega)]
      exact Array.getElem?_eq_none (by rw [ys]; omega)
  obtain ⟨f1, f2, f3, f4, f5⟩ := Cell.storeRun_facts y (0 : Int32).toNatClampNeg (x.stretch sp.toNatClampNeg n.toNatClampNeg)
  have hlt : jy_a G b < (T.setVm vm').heap.size := by show jy_a G b < T.heap.size; rw [hT2]; exact (Array.getElem?_eq_some_iff.mp y1).1
  have hH' := hH.set (H' := ((T.setVm vm').setCell (jy_a G b) (copied x y sp 0 n)).heap) hT.2.2.2.1 hb hb0 (heapAt_setCell_self _ hlt) (by rw [size_setCell]; show T.heap.size = _; rw [hT2]) (fun q hq => by rw [heapAt_setCell_ne _ (Ne.symm hq)]; show T.heap[q]? = _; rw [hT2]) (c := (51, (vs.drop sp.toNatClampNeg).take n.toNatClampNeg)) (Or.inr ⟨y7, by rw [f2]; exact y2, by rw [f2]; exact y3, by rw [f1]; exact y4, hslots⟩)
  obtain ⟨t, t1, t2⟩ := k h0 p e R s m args below meth c _ (locs ++ (x.stretch sp.toNatClampNeg n.toNatClampNeg).zipIdx.map fun q => ⟨jy_a G b, (0 : Int32).toNatClampNeg + q.2⟩) ls hX hH' hL (t_lL hl (fun q hq => by
      obtain ⟨z, -, hz⟩ := List.mem_map.mp hq
      rw [← hz]
      exact jy_a_ge hb0)) (by simpa using g1) (by simpa using g2) _ rfl (by simpa using X')
  exact ⟨t, step t t1, t2⟩
end JB
