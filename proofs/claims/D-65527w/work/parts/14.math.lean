/-! Math, the four guards, further rows -/
section JW
variable {G : jy_G} {d : Nat} {M : jy_M} {pc : Nat} {L : List (Option Value)} {st : List Value} {h : jy_P} {P : Outcome → jy_P → Prop}
theorem jy_mathW : (Cond.static Lib.Math.max.name ∈ lw_tbl ∧ Cond.static Lib.Math.min.name ∈ lw_tbl) ∧ Cond.initialized "java/lang/Math" ∈ lw_tbl ∧ Cond.code Lib.Math.max.name Lib.Math.max.code 2 (some .int) ∈ lw_tbl ∧ Cond.code Lib.Math.min.name Lib.Math.min.code 2 (some .int) ∈ lw_tbl := by decide +kernel
theorem jr_max {idx : Nat} {x y : Int32} (hd : decode (jy_c M) pc = .ok (.invokestatic idx, 3)) (hw : Cond.methodLink (jy_y M).cls idx ⟨"java/lang/Math", "max", "(II)I"⟩ ∈ lw_tbl) (hdd : 1 ≤ d) (hst : (st.map fun v => v.category).sum ≤ 8) (k : jy_J G d M (pc + 3) L (.int (if x < y then y else x) :: st) h P) : jy_J G d M pc L (.int y :: .int x :: st) h P := by
  intro h0 p e R s m args below meth c H locs ls hX hH hL hl h1 h2
  obtain ⟨hx, hb, -, -, hml, hnm, -, -, hT, hR1, hR2, hRc, hRs, -⟩ := id hX
  have hcm := jy_cap_mono h1
  have hcK := jy_cap_mono h2
  refine va_mmax hx hb (by rw [hml]; exact hL.1.symm) (findClass_of_methodNamed hnm) (hT.word hw rfl rfl args) (hT.word jy_mathW.1.1 rfl rfl args) (hT.word jy_mathW.2.1 rfl rfl args) (hT.word jy_mathW.2.2.1 rfl rfl args) (by omega) ?_ (by omega) (by omega) hd (k h0 p e R s m args below meth c H locs ls hX hH hL hl h1 h2)
  rw [jy_cats]
  omega
theorem jr_min {idx : Nat} {x y : Int32} (hd : decode (jy_c M) pc = .ok (.invokestatic idx, 3)) (hw : Cond.methodLink (jy_y M).cls idx ⟨"java/lang/Math", "min", "(II)I"⟩ ∈ lw_tbl) (hdd : 1 ≤ d) (hst : (st.map fun v => v.category).sum ≤ 8) (k : jy_J G d M (pc + 3) L (.int (if y < x then y else x) :: st) h P) : jy_J G d M pc L (.int y :: .int x :: st) h P := by
  intro h0 p e R s m args below meth c H locs ls hX hH hL hl h1 h2
  obtain ⟨hx, hb, -, -, hml, hnm, -, -, hT, hR1, hR2, hRc, hRs, -⟩ := id hX
  have hcm := jy_cap_mono h1
  have hcK := jy_cap_mono h2
  refine va_mmin hx hb (by rw [hml]; exact hL.1.symm) (findClass_of_methodNamed hnm) (hT.word hw rfl rfl args) (hT.word jy_mathW.1.2 rfl rfl args) (hT.word jy_mathW.2.1 rfl rfl args) (hT.word jy_mathW.2.2.2 rfl rfl args) (by omega) ?_ (by omega) (by omega) hd (k h0 p e R s m args below meth c H locs ls hX hH hL hl h1 h2)
  rw [jy_cats]
  omega
theorem jr_iinc1 {i : Nat} {x : Int32} (hd : decode (jy_c M) pc = .ok (.iinc i 1, 3)) (hx : L[i]? = some (some (.int x))) (hn : i < jy_l M) (k : jy_J G d M (pc + 3) (jy_st L i (.int (x + 1))) st h P) : jy_J G d M pc L st h P := jr_iinc hd hx rfl hn k
theorem jr_iincm1 {i : Nat} {x : Int32} (hd : decode (jy_c M) pc = .ok (.iinc i (-1), 3)) (hx : L[i]? = some (some (.int x))) (hn : i < jy_l M) (k : jy_J G d M (pc + 3) (jy_st L i (.int (x - 1))) st h P) : jy_J G d M pc L st h P := jr_iinc hd hx (by rw [Int32.sub_eq_add_neg]; rfl) hn k
/-- a point where roads meet, with one int on the stack -/
theorem jy_cut0 (E : Nat) (Φ : Int32 → Prop) (k1 : (∀ z, Φ z → jy_J G d M E L (.int z :: st) h P) → jy_J G d M pc L st h P) (k2 : ∀ z, Φ z → jy_J G d M E L (.int z :: st) h P) : jy_J G d M pc L st h P := k1 k2
theorem jy_cut1 {v1 : Value} (E : Nat) (Φ : Int32 → Prop) (k1 : (∀ z, Φ z → jy_J G d M E L (.int z :: st) h P) → jy_J G d M pc L (v1 :: st) h P) (k2 : ∀ z, Φ z → jy_J G d M E L (.int z :: st) h P) : jy_J G d M pc L (v1 :: st) h P := k1 k2
theorem jy_cut2 {v1 v2 : Value} (E : Nat) (Φ : Int32 → Prop) (k1 : (∀ z, Φ z → jy_J G d M E L (.int z :: st) h P) → jy_J G d M pc L (v1 :: v2 :: st) h P) (k2 : ∀ z, Φ z → jy_J G d M E L (.int z :: st) h P) : jy_J G d M pc L (v1 :: v2 :: st) h P := k1 k2
theorem jy_cut3 {v1 v2 v3 : Value} (E : Nat) (Φ : Int32 → Prop) (k1 : (∀ z, Φ z → jy_J G d M E L (.int z :: st) h P) → jy_J G d M pc L (v1 :: v2 :: v3 :: st) h P) (k2 : ∀ z, Φ z → jy_J G d M E L (.int z :: st) h P) : jy_J G d M pc L (v1 :: v2 :: v3 :: st) h P := k1 k2
end JW
/-- 0 or 1 -/
def bI (b : Bool) : Int32 := if b then 1 else 0
theorem bI_t : bI true = 1 := rfl
theorem bI_f : bI false = 0 := rfl
theorem bI_01 (b : Bool) : bI b = 0 ∨ bI b = 1 := by cases b <;> simp [bI]
theorem bI_eq0 {b : Bool} : bI b = 0 ↔ b = false := by cases b <;> decide
theorem bI_ne0 {b : Bool} : ¬ bI b = 0 ↔ b = true := by cases b <;> decide
theorem bI_eq1 {b : Bool} : bI b = 1 ↔ b = true := by cases b <;> decide
theorem bI_nar (b : Bool) : narrow .boolean (.int (bI b)) = .int (bI b) := by cases b <;> decide
/-! contents of arrays -/
def ints (n : Nat) (f : Nat → Int32) : List Value := (List.range n).map (fun j => Value.int (f j))
theorem ints_len (n : Nat) (f : Nat → Int32) : (ints n f).length = n := by simp [ints]
theorem ints_get {n j : Nat} {f : Nat → Int32} (h : j < n) : (ints n f)[j]? = some (.int (f j)) := by simp [ints, h]
theorem ints_set {n j : Nat} {f : Nat → Int32} {x : Int32} : (ints n f).set j (.int x) = ints n (upd f j x) := by
  apply List.ext_getElem?
  intro i
  rw [List.getElem?_set]
  by_cases hi : i < n
  · by_cases hj : j = i
    · subst hj
      rw [if_pos rfl, if_pos (by rw [ints_len]; exact hi), ints_get hi]
      simp [upd]
    · have : ¬ i = j := fun q => hj q.symm
      simp [hj, upd, this, ints_get hi]
  · have e1 : (ints n (upd f j x))[i]? = none := List.getElem?_eq_none (by rw [ints_len]; omega)
    have e2 : (ints n f)[i]? = none := List.getElem?_eq_none (by rw [ints_len]; omega)
    rw [e1, e2]
    split
    · rw [if_neg (by rw [ints_len]; omega)]
    · rfl
theorem ints_rep (n : Nat) (x : Int32) : List.replicate n (Value.int x) = ints n (fun _ => x) := by
  apply List.ext_getElem?
  intro i
  by_cases hi : i < n
  · rw [ints_get hi]; simp [hi]
  · rw [List.getElem?_eq_none (by simp; omega), List.getElem?_eq_none (by rw [ints_len]; omega)]
theorem ints_congr {n : Nat} {f g : Nat → Int32} (h : ∀ j, j < n → f j = g j) : ints n f = ints n g := by
  unfold ints
  apply List.map_congr_left
  intro j hj
  rw [h j (List.mem_range.mp hj)]
def upd2 (a : Nat → Nat → Int32) (A j : Nat) (x : Int32) : Nat → Nat → Int32 := fun B => if B = A then upd (a A) j x else a B
theorem upd2_s {a : Nat → Nat → Int32} {A j : Nat} {x : Int32} : upd2 a A j x A = upd (a A) j x := by simp [upd2]
theorem upd2_n {a : Nat → Nat → Int32} {A B j : Nat} {x : Int32} (h : B ≠ A) : upd2 a A j x B = a B := by simp [upd2, h]
theorem nI_ok {i : Int32} {j : Nat} (h : i = nI j) (hj : j < 2 ^ 31) : ¬ i < 0 ∧ i.toNatClampNeg = j := by
  subst h
  exact ⟨nI_pos hj, nI_clamp hj⟩
