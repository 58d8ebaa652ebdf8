/-! THE REFERENCE (HazardTablesModel): object 11, arrays 12 .. 24. f: its fields by number; a: its arrays by address. -/
def mf (f : Nat → Int32) : List Value := [.int (f 0), .int (f 1), .ref 12, .int (f 3), .int (f 4), .int (f 5), .ref 13, .int (f 7), .int (f 8), .ref 14, .int (f 10), .int (f 11), .int (f 12), .ref 15, .ref 16, .ref 17, .int (f 16), .int (f 17), .int (f 18), .int (f 19), .ref 18, .ref 19, .ref 20, .int (f 23), .ref 21, .int (f 25), .ref 22, .int (f 27), .ref 23, .ref 24]
def mlen : Nat → Nat
  | 12 => 400
  | 13 => 559
  | 14 => 559
  | 15 => 8
  | 16 => 8
  | 17 => 8
  | 18 => 40
  | 19 => 40
  | 20 => 40
  | 21 => 40
  | 22 => 5
  | 23 => 8
  | 24 => 99
  | _ => 0
def mtag : Nat → Nat
  | 20 => 52
  | _ => 50
def Mo (h : jy_P) (f : Nat → Int32) (a : Nat → Nat → Int32) : Prop := h[11]? = some (7, mf f) ∧ ∀ A : Nat, 12 ≤ A → A ≤ 24 → h[A]? = some (mtag A, ints (mlen A) (a A))
/-- nothing but the cells lo .. hi has changed -/
def Fr (lo hi : Nat) (h h' : jy_P) : Prop := h'.length = h.length ∧ ∀ i : Nat, (i < lo ∨ hi < i) → h'[i]? = h[i]?
theorem Fr.rf {lo hi : Nat} {h : jy_P} : Fr lo hi h h := ⟨rfl, fun _ _ => rfl⟩
theorem Fr.tr {lo hi : Nat} {h h1 h2 : jy_P} (q1 : Fr lo hi h h1) (q2 : Fr lo hi h1 h2) : Fr lo hi h h2 := ⟨q2.1.trans q1.1, fun i hi => (q2.2 i hi).trans (q1.2 i hi)⟩
theorem Fr.set {lo hi i : Nat} {h : jy_P} {c : Nat × List Value} (h1 : lo ≤ i) (h2 : i ≤ hi) : Fr lo hi h (h.set i c) := ⟨by simp, fun j hj => List.getElem?_set_ne (by omega)⟩
def MS (h0 h : jy_P) (f : Nat → Int32) (a : Nat → Nat → Int32) : Prop := Mo h f a ∧ Fr 11 24 h0 h
theorem MS.rf {h : jy_P} {f : Nat → Int32} {a : Nat → Nat → Int32} (hM : Mo h f a) : MS h h f a := ⟨hM, Fr.rf⟩
theorem MS.tr {h0 h h1 : jy_P} {f f1 : Nat → Int32} {a a1 : Nat → Nat → Int32} (q : MS h0 h f a) (q1 : MS h h1 f1 a1) : MS h0 h1 f1 a1 := ⟨q1.1, q.2.tr q1.2⟩
/-- which fields are numbers -/
def mfi : Nat → Bool
  | 0 => true
  | 1 => true
  | 3 => true
  | 4 => true
  | 5 => true
  | 7 => true
  | 8 => true
  | 10 => true
  | 11 => true
  | 12 => true
  | 16 => true
  | 17 => true
  | 18 => true
  | 19 => true
  | 23 => true
  | 25 => true
  | 27 => true
  | _ => false
theorem mf_set {f : Nat → Int32} {k : Nat} {x : Int32} (hk : mfi k = true) : (mf f).set k (.int x) = mf (upd f k x) := by
  unfold mfi at hk
  split at hk <;> first | rfl | cases hk
theorem Mo.put {h : jy_P} {f : Nat → Int32} {a : Nat → Nat → Int32} {k : Nat} {x : Int32} (hM : Mo h f a) (hk : mfi k = true) : Mo (h.set 11 (7, (mf f).set k (.int x))) (upd f k x) a := by
  obtain ⟨h1, h2⟩ := hM
  refine ⟨?_, fun A hA hB => ?_⟩
  · rw [List.getElem?_set_self (List.getElem?_eq_some_iff.mp h1).1, mf_set hk]
  · rw [List.getElem?_set_ne (by omega)]
    exact h2 A hA hB
theorem Mo.ast {h : jy_P} {f : Nat → Int32} {a : Nat → Nat → Int32} {A j : Nat} {x : Int32} (hM : Mo h f a) (hA : 12 ≤ A) (hB : A ≤ 24) : Mo (h.set A (mtag A, (ints (mlen A) (a A)).set j (.int x))) f (upd2 a A j x) := by
  obtain ⟨h1, h2⟩ := hM
  refine ⟨by rw [List.getElem?_set_ne (by omega)]; exact h1, fun B hC hD => ?_⟩
  by_cases hAB : A = B
  · subst hAB
    rw [List.getElem?_set_self (List.getElem?_eq_some_iff.mp (h2 A hA hB)).1, ints_set, upd2_s]
  · rw [List.getElem?_set_ne hAB, upd2_n (fun q => hAB q.symm)]
    exact h2 B hC hD
/-- the end of a reference's method -/
def mP (h : jy_P) (r : Option Value) (f : Nat → Int32) (a : Nat → Nat → Int32) : Outcome → jy_P → Prop := fun o h' => o = .returned r ∧ MS h h' f a
/-- the end of a method that only answers -/
def pP (h : jy_P) (r : Option Value) : Outcome → jy_P → Prop := fun o h' => o = .returned r ∧ h' = h
section MR
variable {G : jy_G} {d d' : Nat} {M M' : jy_M} {pc : Nat} {L : List (Option Value)} {st : List Value} {h0 h : jy_P} {P : Outcome → jy_P → Prop} {f f' : Nat → Int32} {a a' : Nat → Nat → Int32}
theorem mr_get {idx k : Nat} {v : Value} {t : FieldType} {fin : Bool} (hd : decode (jy_c M) pc = .ok (.getfield idx, 3)) (hF : jy_F (jy_y M).cls idx 7 k t fin) (hM : MS h0 h f a) (hv : (mf f)[k]? = some v) (kk : jy_J G d M (pc + 3) L (v :: st) h P) : jy_J G d M pc L (.ref 11 :: st) h P := jr_get hd hF hM.1.1 hv kk
theorem mr_put {idx k : Nat} {x : Int32} (hd : decode (jy_c M) pc = .ok (.putfield idx, 3)) (hF : jy_F (jy_y M).cls idx 7 k .int false) (hk : mfi k = true) (hM : MS h0 h f a) (kk : ∀ h1, MS h0 h1 (upd f k x) a → jy_J G d M (pc + 3) L st h1 P) : jy_J G d M pc L (.int x :: .ref 11 :: st) h P :=
  jr_put hd hF jy_fv_int (by decide) hM.1.1 rfl (kk _ ⟨hM.1.put hk, hM.2.tr (Fr.set (by decide) (by decide))⟩)
theorem mr_putZ {idx k : Nat} {x : Int32} (hd : decode (jy_c M) pc = .ok (.putfield idx, 3)) (hF : jy_F (jy_y M).cls idx 7 k .boolean false) (hk : mfi k = true) (hx : x = 0 ∨ x = 1) (hM : MS h0 h f a) (kk : ∀ h1, MS h0 h1 (upd f k x) a → jy_J G d M (pc + 3) L st h1 P) : jy_J G d M pc L (.int x :: .ref 11 :: st) h P :=
  jr_put hd hF (jy_fv_bool hx) (by decide) hM.1.1 rfl (kk _ ⟨hM.1.put hk, hM.2.tr (Fr.set (by decide) (by decide))⟩)
theorem mr_ald {A j : Nat} {i : Int32} (hd : decode (jy_c M) pc = .ok (.iaload, 1)) (hM : MS h0 h f a) (hA : 12 ≤ A ∧ A ≤ 24 ∧ A ≠ 20) (hi : i = nI j) (hj : j < mlen A) (kk : jy_J G d M (pc + 1) L (.int (a A j) :: st) h P) : jy_J G d M pc L (.int i :: .ref A :: st) h P := by
  have hb : mlen A < 2 ^ 31 := by unfold mlen; split <;> decide
  obtain ⟨q1, q2⟩ := nI_ok hi (by omega)
  have ht : mtag A = 50 := by unfold mtag; split <;> first | omega | rfl
  have ho := hM.1.2 A hA.1 hA.2.1
  rw [ht] at ho
  exact jr_iald hd rfl ho q1 (by rw [q2]; exact ints_get hj) kk
theorem mr_zald {j : Nat} {i : Int32} (hd : decode (jy_c M) pc = .ok (.baload, 1)) (hM : MS h0 h f a) (hi : i = nI j) (hj : j < 40) (kk : jy_J G d M (pc + 1) L (.int (a 20 j) :: st) h P) : jy_J G d M pc L (.int i :: .ref 20 :: st) h P := by
  obtain ⟨q1, q2⟩ := nI_ok hi (by omega)
  have ho := hM.1.2 20 (by decide) (by decide)
  exact jr_zald hd ho q1 (by rw [q2]; exact ints_get hj) kk
theorem mr_ast {A j : Nat} {i x : Int32} (hd : decode (jy_c M) pc = .ok (.iastore, 1)) (hM : MS h0 h f a) (hA : 12 ≤ A ∧ A ≤ 24 ∧ A ≠ 20) (hi : i = nI j) (hj : j < mlen A) (kk : ∀ h1, MS h0 h1 f (upd2 a A j x) → jy_J G d M (pc + 1) L st h1 P) : jy_J G d M pc L (.int x :: .int i :: .ref A :: st) h P := by
  have hb : mlen A < 2 ^ 31 := by unfold mlen; split <;> decide
  obtain ⟨q1, q2⟩ := nI_ok hi (by omega)
  have ht : mtag A = 50 := by unfold mtag; split <;> first | omega | rfl
  have ho := hM.1.2 A hA.1 hA.2.1
  have hn := hM.1.ast (j := j) (x := x) hA.1 hA.2.1
  rw [ht] at ho hn
  exact jr_iast hd (by omega) ho q1 (by rw [q2, ints_len]; exact hj) rfl (by rw [q2]; exact kk _ ⟨hn, hM.2.tr (Fr.set (by omega) (by omega))⟩)
theorem mr_zast {j : Nat} {i x : Int32} (hd : decode (jy_c M) pc = .ok (.bastore, 1)) (hM : MS h0 h f a) (hi : i = nI j) (hj : j < 40) (hx : x = 0 ∨ x = 1) (kk : ∀ h1, MS h0 h1 f (upd2 a 20 j x) → jy_J G d M (pc + 1) L st h1 P) : jy_J G d M pc L (.int x :: .int i :: .ref 20 :: st) h P := by
  obtain ⟨q1, q2⟩ := nI_ok hi (by omega)
  have ho := hM.1.2 20 (by decide) (by decide)
  have hn := hM.1.ast (A := 20) (j := j) (x := x) (by decide) (by decide)
  have hx1 : x &&& 1 = x := by rcases hx with rfl | rfl <;> decide
  exact jr_zast hd (by decide) ho q1 (by rw [q2, ints_len]; exact hj) rfl (by rw [q2, hx1]; exact kk _ ⟨hn, hM.2.tr (Fr.set (by decide) (by decide))⟩)
/-- calls of the reference's own methods -/
theorem mr_call {idx n : Nat} {As : List Value} {r : Option Value} (hd : decode (jy_c M) pc = .ok (.invokevirtual idx, 3)) (hI : jy_IV (jy_y M).cls idx M' 7 n) (hn : As.length = n) (hM : MS h0 h f a) (hst : (st.map fun v => v.category).sum ≤ 8) (hdd : d' < d) (hC : jy_C G d' M' (.ref 11 :: As) h (mP h r f' a')) (kk : ∀ h1, MS h0 h1 f' a' → jy_J G d M (pc + 3) L (r.toList ++ st) h1 P) : jy_J G d M pc L (As.reverse ++ .ref 11 :: st) h P :=
  jr_callV hd hI hn hM.1.1 hst hdd hC (fun v h' q => by
    obtain ⟨q1, q2⟩ := q
    cases q1
    exact kk h' (hM.tr q2)) (fun x h' q => by cases q.1)
theorem mr_call0 {idx : Nat} {r : Option Value} (hd : decode (jy_c M) pc = .ok (.invokevirtual idx, 3)) (hI : jy_IV (jy_y M).cls idx M' 7 0) (hM : MS h0 h f a) (hst : (st.map fun v => v.category).sum ≤ 8) (hdd : d' < d) (hC : jy_C G d' M' [.ref 11] h (mP h r f' a')) (kk : ∀ h1, MS h0 h1 f' a' → jy_J G d M (pc + 3) L (r.toList ++ st) h1 P) : jy_J G d M pc L (.ref 11 :: st) h P := mr_call (As := []) hd hI rfl hM hst hdd hC kk
theorem mr_call1 {idx : Nat} {v1 : Value} {r : Option Value} (hd : decode (jy_c M) pc = .ok (.invokevirtual idx, 3)) (hI : jy_IV (jy_y M).cls idx M' 7 1) (hM : MS h0 h f a) (hst : (st.map fun v => v.category).sum ≤ 8) (hdd : d' < d) (hC : jy_C G d' M' [.ref 11, v1] h (mP h r f' a')) (kk : ∀ h1, MS h0 h1 f' a' → jy_J G d M (pc + 3) L (r.toList ++ st) h1 P) : jy_J G d M pc L (v1 :: .ref 11 :: st) h P := mr_call (As := [v1]) hd hI rfl hM hst hdd hC kk
theorem mr_call2 {idx : Nat} {v1 v2 : Value} {r : Option Value} (hd : decode (jy_c M) pc = .ok (.invokevirtual idx, 3)) (hI : jy_IV (jy_y M).cls idx M' 7 2) (hM : MS h0 h f a) (hst : (st.map fun v => v.category).sum ≤ 8) (hdd : d' < d) (hC : jy_C G d' M' [.ref 11, v1, v2] h (mP h r f' a')) (kk : ∀ h1, MS h0 h1 f' a' → jy_J G d M (pc + 3) L (r.toList ++ st) h1 P) : jy_J G d M pc L (v2 :: v1 :: .ref 11 :: st) h P := mr_call (As := [v1, v2]) hd hI rfl hM hst hdd hC kk
theorem mr_call3 {idx : Nat} {v1 v2 v3 : Value} {r : Option Value} (hd : decode (jy_c M) pc = .ok (.invokevirtual idx, 3)) (hI : jy_IV (jy_y M).cls idx M' 7 3) (hM : MS h0 h f a) (hst : (st.map fun v => v.category).sum ≤ 8) (hdd : d' < d) (hC : jy_C G d' M' [.ref 11, v1, v2, v3] h (mP h r f' a')) (kk : ∀ h1, MS h0 h1 f' a' → jy_J G d M (pc + 3) L (r.toList ++ st) h1 P) : jy_J G d M pc L (v3 :: v2 :: v1 :: .ref 11 :: st) h P := mr_call (As := [v1, v2, v3]) hd hI rfl hM hst hdd hC kk
/-- calls of methods that only answer -/
theorem mr_callP {idx n : Nat} {As : List Value} {r : Option Value} (hd : decode (jy_c M) pc = .ok (.invokevirtual idx, 3)) (hI : jy_IV (jy_y M).cls idx M' 7 n) (hn : As.length = n) (hM : MS h0 h f a) (hst : (st.map fun v => v.category).sum ≤ 8) (hdd : d' < d) (hC : jy_C G d' M' (.ref 11 :: As) h (pP h r)) (kk : jy_J G d M (pc + 3) L (r.toList ++ st) h P) : jy_J G d M pc L (As.reverse ++ .ref 11 :: st) h P :=
  jr_callV hd hI hn hM.1.1 hst hdd hC (fun v h' q => by
    obtain ⟨q1, q2⟩ := q
    cases q1
    subst q2
    exact kk) (fun x h' q => by cases q.1)
theorem mr_callP0 {idx : Nat} {r : Option Value} (hd : decode (jy_c M) pc = .ok (.invokevirtual idx, 3)) (hI : jy_IV (jy_y M).cls idx M' 7 0) (hM : MS h0 h f a) (hst : (st.map fun v => v.category).sum ≤ 8) (hdd : d' < d) (hC : jy_C G d' M' [.ref 11] h (pP h r)) (kk : jy_J G d M (pc + 3) L (r.toList ++ st) h P) : jy_J G d M pc L (.ref 11 :: st) h P := mr_callP (As := []) hd hI rfl hM hst hdd hC kk
theorem mr_callP1 {idx : Nat} {v1 : Value} {r : Option Value} (hd : decode (jy_c M) pc = .ok (.invokevirtual idx, 3)) (hI : jy_IV (jy_y M).cls idx M' 7 1) (hM : MS h0 h f a) (hst : (st.map fun v => v.category).sum ≤ 8) (hdd : d' < d) (hC : jy_C G d' M' [.ref 11, v1] h (pP h r)) (kk : jy_J G d M (pc + 3) L (r.toList ++ st) h P) : jy_J G d M pc L (v1 :: .ref 11 :: st) h P := mr_callP (As := [v1]) hd hI rfl hM hst hdd hC kk
theorem mr_callP2 {idx : Nat} {v1 v2 : Value} {r : Option Value} (hd : decode (jy_c M) pc = .ok (.invokevirtual idx, 3)) (hI : jy_IV (jy_y M).cls idx M' 7 2) (hM : MS h0 h f a) (hst : (st.map fun v => v.category).sum ≤ 8) (hdd : d' < d) (hC : jy_C G d' M' [.ref 11, v1, v2] h (pP h r)) (kk : jy_J G d M (pc + 3) L (r.toList ++ st) h P) : jy_J G d M pc L (v2 :: v1 :: .ref 11 :: st) h P := mr_callP (As := [v1, v2]) hd hI rfl hM hst hdd hC kk
theorem mr_callP3 {idx : Nat} {v1 v2 v3 : Value} {r : Option Value} (hd : decode (jy_c M) pc = .ok (.invokevirtual idx, 3)) (hI : jy_IV (jy_y M).cls idx M' 7 3) (hM : MS h0 h f a) (hst : (st.map fun v => v.category).sum ≤ 8) (hdd : d' < d) (hC : jy_C G d' M' [.ref 11, v1, v2, v3] h (pP h r)) (kk : jy_J G d M (pc + 3) L (r.toList ++ st) h P) : jy_J G d M pc L (v3 :: v2 :: v1 :: .ref 11 :: st) h P := mr_callP (As := [v1, v2, v3]) hd hI rfl hM hst hdd hC kk
/-- a static method that only answers -/
theorem jr_callSp {idx n : Nat} {As : List Value} {r : Option Value} (hd : decode (jy_c M) pc = .ok (.invokestatic idx, 3)) (hI : jy_IS (jy_y M).cls idx M' n) (hn : As.length = n) (hst : (st.map fun v => v.category).sum ≤ 8) (hdd : d' < d) (hC : jy_C G d' M' As h (pP h r)) (kk : jy_J G d M (pc + 3) L (r.toList ++ st) h P) : jy_J G d M pc L (As.reverse ++ st) h P :=
  jr_callS hd hI hn hst hdd hC (fun v h' q => by
    obtain ⟨q1, q2⟩ := q
    cases q1
    subst q2
    exact kk) (fun x h' q => by cases q.1)
theorem jr_callSp2 {idx : Nat} {v1 v2 : Value} {r : Option Value} (hd : decode (jy_c M) pc = .ok (.invokestatic idx, 3)) (hI : jy_IS (jy_y M).cls idx M' 2) (hst : (st.map fun v => v.category).sum ≤ 8) (hdd : d' < d) (hC : jy_C G d' M' [v1, v2] h (pP h r)) (kk : jy_J G d M (pc + 3) L (r.toList ++ st) h P) : jy_J G d M pc L (v2 :: v1 :: st) h P := jr_callSp (As := [v1, v2]) hd hI rfl hst hdd hC kk
theorem jr_callSp3 {idx : Nat} {v1 v2 v3 : Value} {r : Option Value} (hd : decode (jy_c M) pc = .ok (.invokestatic idx, 3)) (hI : jy_IS (jy_y M).cls idx M' 3) (hst : (st.map fun v => v.category).sum ≤ 8) (hdd : d' < d) (hC : jy_C G d' M' [v1, v2, v3] h (pP h r)) (kk : jy_J G d M (pc + 3) L (r.toList ++ st) h P) : jy_J G d M pc L (v3 :: v2 :: v1 :: st) h P := jr_callSp (As := [v1, v2, v3]) hd hI rfl hst hdd hC kk
end MR
