/-! THE CLASS: rows, guards, what stands for what -/
section CR
variable {G : jy_G} {d d' : Nat} {M M' : jy_M} {pc : Nat} {L : List (Option Value)} {st : List Value} {h : jy_P} {P : Outcome → jy_P → Prop}
theorem jr_tabOut {dflt lo hi : Int} {offs : Array Int} {len : Nat} {x : Int32} {tgt : Nat} (hd : decode (jy_c M) pc = .ok (.tableswitch dflt lo hi offs, len)) (hx : x.toInt < lo ∨ hi < x.toInt) (ht : (pc : Int) + dflt = (tgt : Int)) (k : jy_J G d M tgt L st h P) : jy_J G d M pc L (.int x :: st) h P := by
  intro h0 p e R s m args below meth c H locs ls hX hH hL hl h1 h2
  exact lv_tableOut hX.1 hX.2.1 hd hx ht (k h0 p e R s m args below meth c H locs ls hX hH hL hl h1 h2)
theorem jr_tabIn {dflt lo hi : Int} {offs : Array Int} {len : Nat} {x : Int32} {off : Int} {tgt : Nat} (hd : decode (jy_c M) pc = .ok (.tableswitch dflt lo hi offs, len)) (h1' : ¬ x.toInt < lo) (h2' : ¬ hi < x.toInt) (ho : offs[(x.toInt - lo).toNat]? = some off) (ht : (pc : Int) + off = (tgt : Int)) (k : jy_J G d M tgt L st h P) : jy_J G d M pc L (.int x :: st) h P := by
  intro h0 p e R s m args below meth c H locs ls hX hH hL hl h1 h2
  exact lv_tableIn hX.1 hX.2.1 hd h1' h2' ho ht (k h0 p e R s m args below meth c H locs ls hX hH hL hl h1 h2)
/-- the end of a guard -/
def gP (ci : Nat) (h : jy_P) (b : Int32) : Outcome → jy_P → Prop := fun o h' => (¬ b = 0 ∧ o = .returned none ∧ h' = h) ∨ (b = 0 ∧ o = .threw h.length ∧ h' = h ++ [(ci, [])])
theorem jr_guard {idx ci : Nat} {b : Int32} (hd : decode (jy_c M) pc = .ok (.invokestatic idx, 3)) (hI : jy_IS (jy_y M).cls idx M' 1) (hC : jy_C G 6 M' [.int b] h (gP ci h b)) (hst : (st.map fun v => v.category).sum ≤ 8) (hdd : 6 < d) (hout : ∀ q ∈ jy_h M, (decide (q.1 ≤ pc) && decide (pc < q.2.1)) = false) (kr : ¬ b = 0 → jy_J G d M (pc + 3) L st h P) (kt : b = 0 → P (.threw h.length) (h ++ [(ci, [])])) : jy_J G d M pc L (.int b :: st) h P :=
  jr_callS (As := [.int b]) hd hI rfl hst hdd hC (fun v h' q => by
    rcases q with ⟨q0, q1, q2⟩ | ⟨q0, q1, q2⟩
    · cases q1
      subst q2
      exact kr q0
    · cases q1) (fun x h' q => by
    rcases q with ⟨q0, q1, q2⟩ | ⟨q0, q1, q2⟩
    · cases q1
    · cases q1
      subst q2
      exact jy_E.out hout (kt q0))
theorem jr_callVp {idx n ci A : Nat} {As fs : List Value} {r : Option Value} (hd : decode (jy_c M) pc = .ok (.invokevirtual idx, 3)) (hI : jy_IV (jy_y M).cls idx M' ci n) (hn : As.length = n) (ho : h[A]? = some (ci, fs)) (hst : (st.map fun v => v.category).sum ≤ 8) (hdd : d' < d) (hC : jy_C G d' M' (.ref A :: As) h (pP h r)) (kk : jy_J G d M (pc + 3) L (r.toList ++ st) h P) : jy_J G d M pc L (As.reverse ++ .ref A :: st) h P :=
  jr_callV hd hI hn ho hst hdd hC (fun v h' q => by
    obtain ⟨q1, q2⟩ := q
    cases q1
    subst q2
    exact kk) (fun x h' q => by cases q.1)
theorem jr_callVp0 {idx ci A : Nat} {fs : List Value} {r : Option Value} (hd : decode (jy_c M) pc = .ok (.invokevirtual idx, 3)) (hI : jy_IV (jy_y M).cls idx M' ci 0) (ho : h[A]? = some (ci, fs)) (hst : (st.map fun v => v.category).sum ≤ 8) (hdd : d' < d) (hC : jy_C G d' M' [.ref A] h (pP h r)) (kk : jy_J G d M (pc + 3) L (r.toList ++ st) h P) : jy_J G d M pc L (.ref A :: st) h P := jr_callVp (As := []) hd hI rfl ho hst hdd hC kk
theorem jr_callVp1 {idx ci A : Nat} {fs : List Value} {v1 : Value} {r : Option Value} (hd : decode (jy_c M) pc = .ok (.invokevirtual idx, 3)) (hI : jy_IV (jy_y M).cls idx M' ci 1) (ho : h[A]? = some (ci, fs)) (hst : (st.map fun v => v.category).sum ≤ 8) (hdd : d' < d) (hC : jy_C G d' M' [.ref A, v1] h (pP h r)) (kk : jy_J G d M (pc + 3) L (r.toList ++ st) h P) : jy_J G d M pc L (v1 :: .ref A :: st) h P := jr_callVp (As := [v1]) hd hI rfl ho hst hdd hC kk
theorem jr_callVp2 {idx ci A : Nat} {fs : List Value} {v1 v2 : Value} {r : Option Value} (hd : decode (jy_c M) pc = .ok (.invokevirtual idx, 3)) (hI : jy_IV (jy_y M).cls idx M' ci 2) (ho : h[A]? = some (ci, fs)) (hst : (st.map fun v => v.category).sum ≤ 8) (hdd : d' < d) (hC : jy_C G d' M' [.ref A, v1, v2] h (pP h r)) (kk : jy_J G d M (pc + 3) L (r.toList ++ st) h P) : jy_J G d M pc L (v2 :: v1 :: .ref A :: st) h P := jr_callVp (As := [v1, v2]) hd hI rfl ho hst hdd hC kk
theorem cr_iald {A n j : Nat} {F : Ft} {i : Int32} (hd : decode (jy_c M) pc = .ok (.iaload, 1)) (ho : h[A]? = some (50, ints n F)) (hi : i = nI j) (hj : j < n) (hn : n < 2 ^ 31) (kk : jy_J G d M (pc + 1) L (.int (F j) :: st) h P) : jy_J G d M pc L (.int i :: .ref A :: st) h P := by
  obtain ⟨q1, q2⟩ := nI_ok hi (by omega)
  exact jr_iald hd rfl ho q1 (by rw [q2]; exact ints_get hj) kk
theorem cr_bald {A n j : Nat} {F : Ft} {i : Int32} (hd : decode (jy_c M) pc = .ok (.baload, 1)) (ho : h[A]? = some (51, ints n F)) (hi : i = nI j) (hj : j < n) (hn : n < 2 ^ 31) (kk : jy_J G d M (pc + 1) L (.int (F j) :: st) h P) : jy_J G d M pc L (.int i :: .ref A :: st) h P := by
  obtain ⟨q1, q2⟩ := nI_ok hi (by omega)
  exact jr_bald hd ho q1 (by rw [q2]; exact ints_get hj) kk
theorem cr_aald {A t j : Nat} {vs : List Value} {v : Value} {ty : FieldType} {i : Int32} (hd : decode (jy_c M) pc = .ok (.aaload, 1)) (ht : jy_ty t = some ty) (hr : ty.isReference = true) (ho : h[A]? = some (t, vs)) (hi : i = nI j) (hv : vs[j]? = some v) (hj : j < 2 ^ 31) (kk : jy_J G d M (pc + 1) L (v :: st) h P) : jy_J G d M pc L (.int i :: .ref A :: st) h P := by
  obtain ⟨q1, q2⟩ := nI_ok hi hj
  exact jr_aald hd ht hr ho q1 (by rw [q2]; exact hv) kk
theorem cr_iast {A n j : Nat} {F : Ft} {i x : Int32} (hd : decode (jy_c M) pc = .ok (.iastore, 1)) (hA : 0 < A) (ho : h[A]? = some (50, ints n F)) (hi : i = nI j) (hj : j < n) (hn : n < 2 ^ 31) (kk : jy_J G d M (pc + 1) L st (h.set A (50, ints n (upd F j x))) P) : jy_J G d M pc L (.int x :: .int i :: .ref A :: st) h P := by
  obtain ⟨q1, q2⟩ := nI_ok hi (by omega)
  exact jr_iast hd hA ho q1 (by rw [q2, ints_len]; exact hj) rfl (by rw [q2, ints_set]; exact kk)
theorem cr_bast {A n j : Nat} {F : Ft} {i x : Int32} (hd : decode (jy_c M) pc = .ok (.bastore, 1)) (hA : 0 < A) (ho : h[A]? = some (51, ints n F)) (hi : i = nI j) (hj : j < n) (hn : n < 2 ^ 31) (kk : jy_J G d M (pc + 1) L st (h.set A (51, ints n (upd F j x.toInt8.toInt32))) P) : jy_J G d M pc L (.int x :: .int i :: .ref A :: st) h P := by
  obtain ⟨q1, q2⟩ := nI_ok hi (by omega)
  exact jr_bast hd hA ho q1 (by rw [q2, ints_len]; exact hj) rfl (by rw [q2, ints_set]; exact kk)
end CR
theorem d_HT_known_0 : decode (jy_c m_HT_known) 0 = .ok (.iload_n 0, 1) := by decide +kernel
theorem d_HT_known_1 : decode (jy_c m_HT_known) 1 = .ok (.ifCond .ne 11, 3) := by decide +kernel
theorem d_HT_known_4 : decode (jy_c m_HT_known) 4 = .ok (.new 60, 3) := by decide +kernel
theorem d_HT_known_7 : decode (jy_c m_HT_known) 7 = .ok (.dup, 1) := by decide +kernel
theorem d_HT_known_8 : decode (jy_c m_HT_known) 8 = .ok (.invokespecial 62, 3) := by decide +kernel
theorem d_HT_known_11 : decode (jy_c m_HT_known) 11 = .ok (.athrow, 1) := by decide +kernel
theorem d_HT_known_12 : decode (jy_c m_HT_known) 12 = .ok (.return_, 1) := by decide +kernel
theorem d_HT_within_0 : decode (jy_c m_HT_within) 0 = .ok (.iload_n 0, 1) := by decide +kernel
theorem d_HT_within_1 : decode (jy_c m_HT_within) 1 = .ok (.ifCond .ne 11, 3) := by decide +kernel
theorem d_HT_within_4 : decode (jy_c m_HT_within) 4 = .ok (.new 63, 3) := by decide +kernel
theorem d_HT_within_7 : decode (jy_c m_HT_within) 7 = .ok (.dup, 1) := by decide +kernel
theorem d_HT_within_8 : decode (jy_c m_HT_within) 8 = .ok (.invokespecial 65, 3) := by decide +kernel
theorem d_HT_within_11 : decode (jy_c m_HT_within) 11 = .ok (.athrow, 1) := by decide +kernel
theorem d_HT_within_12 : decode (jy_c m_HT_within) 12 = .ok (.return_, 1) := by decide +kernel
theorem d_HT_must_0 : decode (jy_c m_HT_must) 0 = .ok (.iload_n 0, 1) := by decide +kernel
theorem d_HT_must_1 : decode (jy_c m_HT_must) 1 = .ok (.ifCond .ne 11, 3) := by decide +kernel
theorem d_HT_must_4 : decode (jy_c m_HT_must) 4 = .ok (.new 66, 3) := by decide +kernel
theorem d_HT_must_7 : decode (jy_c m_HT_must) 7 = .ok (.dup, 1) := by decide +kernel
theorem d_HT_must_8 : decode (jy_c m_HT_must) 8 = .ok (.invokespecial 68, 3) := by decide +kernel
theorem d_HT_must_11 : decode (jy_c m_HT_must) 11 = .ok (.athrow, 1) := by decide +kernel
theorem d_HT_must_12 : decode (jy_c m_HT_must) 12 = .ok (.return_, 1) := by decide +kernel
theorem d_HT_room_0 : decode (jy_c m_HT_room) 0 = .ok (.iload_n 0, 1) := by decide +kernel
theorem d_HT_room_1 : decode (jy_c m_HT_room) 1 = .ok (.ifCond .ne 11, 3) := by decide +kernel
theorem d_HT_room_4 : decode (jy_c m_HT_room) 4 = .ok (.new 69, 3) := by decide +kernel
theorem d_HT_room_7 : decode (jy_c m_HT_room) 7 = .ok (.dup, 1) := by decide +kernel
theorem d_HT_room_8 : decode (jy_c m_HT_room) 8 = .ok (.invokespecial 71, 3) := by decide +kernel
theorem d_HT_room_11 : decode (jy_c m_HT_room) 11 = .ok (.athrow, 1) := by decide +kernel
theorem d_HT_room_12 : decode (jy_c m_HT_room) 12 = .ok (.return_, 1) := by decide +kernel
theorem jy_at_IA : jy_at "HazardTables" 62 "java/lang/IllegalArgumentException" := by
  unfold jy_at jy_q4
  decide +kernel
theorem jy_at_IS : jy_at "HazardTables" 68 "java/lang/IllegalStateException" := by
  unfold jy_at jy_q4
  decide +kernel
theorem jy_at_UO : jy_at "HazardTables" 71 "java/lang/UnsupportedOperationException" := by
  unfold jy_at jy_q4
  decide +kernel
theorem g_words : (Cond.instantiable "java/lang/IllegalArgumentException" 6 ∈ lw_tbl ∧ Cond.instantiable "java/lang/IndexOutOfBoundsException" 6 ∈ lw_tbl ∧ Cond.instantiable "java/lang/IllegalStateException" 6 ∈ lw_tbl ∧ Cond.instantiable "java/lang/UnsupportedOperationException" 6 ∈ lw_tbl) ∧ Cond.initialized "java/lang/IllegalArgumentException" ∈ lw_tbl ∧ Cond.initialized "java/lang/IndexOutOfBoundsException" ∈ lw_tbl ∧ Cond.initialized "java/lang/IllegalStateException" ∈ lw_tbl ∧ Cond.initialized "java/lang/UnsupportedOperationException" ∈ lw_tbl := by decide +kernel
theorem g_known {G : jy_G} {h : jy_P} (hK : h.length < jy_K) {b : Int32} : jy_C G 6 m_HT_known [.int b] h (gP 12 h b) := jc_guard d_HT_known_0 d_HT_known_1 d_HT_known_4 d_HT_known_7 d_HT_known_8 d_HT_known_11 d_HT_known_12 rfl rfl rfl (by decide) (by decide +kernel) jy_at_IA l_HT_60 g_words.1.1 g_words.2.1 rfl hK (by decide) b
theorem g_within {G : jy_G} {h : jy_P} (hK : h.length < jy_K) {b : Int32} : jy_C G 6 m_HT_within [.int b] h (gP 9 h b) := jc_guard d_HT_within_0 d_HT_within_1 d_HT_within_4 d_HT_within_7 d_HT_within_8 d_HT_within_11 d_HT_within_12 rfl rfl rfl (by decide) (by decide +kernel) jy_at_IB l_HT_63 g_words.1.2.1 g_words.2.2.1 rfl hK (by decide) b
theorem g_must {G : jy_G} {h : jy_P} (hK : h.length < jy_K) {b : Int32} : jy_C G 6 m_HT_must [.int b] h (gP 11 h b) := jc_guard d_HT_must_0 d_HT_must_1 d_HT_must_4 d_HT_must_7 d_HT_must_8 d_HT_must_11 d_HT_must_12 rfl rfl rfl (by decide) (by decide +kernel) jy_at_IS l_HT_66 g_words.1.2.2.1 g_words.2.2.2.1 rfl hK (by decide) b
theorem g_room {G : jy_G} {h : jy_P} (hK : h.length < jy_K) {b : Int32} : jy_C G 6 m_HT_room [.int b] h (gP 10 h b) := jc_guard d_HT_room_0 d_HT_room_1 d_HT_room_4 d_HT_room_7 d_HT_room_8 d_HT_room_11 d_HT_room_12 rfl rfl rfl (by decide) (by decide +kernel) jy_at_UO l_HT_69 g_words.1.2.2.2 g_words.2.2.2.2 rfl hK (by decide) b
/-! what stands for row k of the table R -/
def DRep (h : jy_P) (x : Nat) (R : Ft) (k : Nat) : Prop := 26 ≤ x ∧ ∃ y : Nat, 26 ≤ y ∧ h[x]? = some (4, [.int (R (43 * k + 2)), .int (R (43 * k + 3)), .ref y]) ∧ h[y]? = some (50, ints 4 (fun j => R (43 * k + 4 + j)))
def NRep (h : jy_P) (x : Nat) (R : Ft) (k m : Nat) : Prop := 26 ≤ x ∧ ∃ nv : List Value, h[x]? = some (57, nv) ∧ nv.length = 3 ∧ ∀ i, i < m → ∃ y : Nat, nv[i]? = some (.ref y) ∧ 26 ≤ y ∧ h[y]? = some (51, ints (ln R k i) (fun j => R (43 * k + 10 + 11 * i + 1 + j)))
def MRep (h : jy_P) (x : Nat) (R : Ft) (k dv : Nat) : Prop := 26 ≤ x ∧ ∃ na : Nat, h[x]? = some (3, [.int (R (43 * k)), .ref na, .int (R (43 * k + 9)), .int (R (43 * k + 1)), .int (R (43 * k + 8)), .ref dv]) ∧ NRep h na R k (my R k)
def VRep (h : jy_P) (mv : Value) (R : Ft) (j : Nat) : Prop := (j < 12 ∧ ∃ x dv : Nat, mv = .ref x ∧ MRep h x R j dv) ∨ (j = 12 ∧ mv = .null ∧ R 517 = 0 ∧ R 524 = 0)
def PRep (h : jy_P) (x : Nat) (n l : Int32) (R : Ft) (j : Nat) : Prop := 26 ≤ x ∧ ∃ (mv : Value) (dv : Nat), h[x]? = some (5, [.int n, mv, .ref dv, .int l]) ∧ DRep h dv R j ∧ VRep h mv R j
def GRep (h : jy_P) (gv : Value) (R : Ft) (g : Bool) : Prop := (g = true ∧ ∃ x : Nat, gv = .ref x ∧ DRep h x R 12) ∨ (g = false ∧ gv = .null)
def TRep (h : jy_P) (T : Nat) (R : Ft) (m : Nat) (g : Bool) : Prop := ∃ (ma : Nat) (gv : Value) (mv : List Value), h[T]? = some (2, [.ref ma, .int (nI m), gv]) ∧ (ma = 5 ∨ 26 ≤ ma) ∧ h[ma]? = some (54, mv) ∧ mv.length = 12 ∧ (∀ k, k < m → ∃ x dv : Nat, mv[k]? = some (.ref x) ∧ MRep h x R k dv ∧ DRep h dv R k) ∧ GRep h gv R g
/-- cells of the table's kinds stay -/
def Kq (h h' : jy_P) : Prop := ∀ i c, h[i]? = some c → 26 ≤ i → (c.1 = 3 ∨ c.1 = 4 ∨ c.1 = 5 ∨ c.1 = 50 ∨ c.1 = 51 ∨ c.1 = 57) → h'[i]? = some c
theorem DRep.kq {h h' : jy_P} {x : Nat} {R : Ft} {k : Nat} (q : DRep h x R k) (hk : Kq h h') : DRep h' x R k := by
  obtain ⟨a, y, b, c, e⟩ := q
  exact ⟨a, y, b, hk _ _ c a (by simp), hk _ _ e b (by simp)⟩
theorem NRep.kq {h h' : jy_P} {x : Nat} {R : Ft} {k m : Nat} (q : NRep h x R k m) (hk : Kq h h') : NRep h' x R k m := by
  obtain ⟨a, nv, b, c, e⟩ := q
  refine ⟨a, nv, hk _ _ b a (by simp), c, fun i hi => ?_⟩
  obtain ⟨y, e1, e2, e3⟩ := e i hi
  exact ⟨y, e1, e2, hk _ _ e3 e2 (by simp)⟩
theorem MRep.kq {h h' : jy_P} {x : Nat} {R : Ft} {k dv : Nat} (q : MRep h x R k dv) (hk : Kq h h') : MRep h' x R k dv := by
  obtain ⟨a, na, b, c⟩ := q
  exact ⟨a, na, hk _ _ b a (by simp), c.kq hk⟩
theorem VRep.kq {h h' : jy_P} {mv : Value} {R : Ft} {j : Nat} (q : VRep h mv R j) (hk : Kq h h') : VRep h' mv R j := by
  rcases q with ⟨a, x, dv, b, c⟩ | q
  · exact Or.inl ⟨a, x, dv, b, c.kq hk⟩
  · exact Or.inr q
theorem PRep.kq {h h' : jy_P} {x : Nat} {n l : Int32} {R : Ft} {j : Nat} (q : PRep h x n l R j) (hk : Kq h h') : PRep h' x n l R j := by
  obtain ⟨a, mv, dv, b, c, e⟩ := q
  exact ⟨a, mv, dv, hk _ _ b a (by simp), c.kq hk, e.kq hk⟩
theorem GRep.kq {h h' : jy_P} {gv : Value} {R : Ft} {g : Bool} (q : GRep h gv R g) (hk : Kq h h') : GRep h' gv R g := by
  rcases q with ⟨a, x, b, c⟩ | q
  · exact Or.inl ⟨a, x, b, c.kq hk⟩
  · exact Or.inr q
/-! leaves -/
def brR (R : Ft) (i j : Nat) : Bool := decide ((R (43 * i + 8) >>> (R (43 * j + 1) &&& 31)) &&& 1 = 1)
theorem d_PT_kind_0 : decode (jy_c m_PT_kind) 0 = .ok (.aload_n 0, 1) := by decide +kernel
theorem d_PT_kind_1 : decode (jy_c m_PT_kind) 1 = .ok (.getfield 15, 3) := by decide +kernel
theorem d_PT_kind_4 : decode (jy_c m_PT_kind) 4 = .ok (.ifnonnull 7, 3) := by decide +kernel
theorem d_PT_kind_7 : decode (jy_c m_PT_kind) 7 = .ok (.iconst 0, 1) := by decide +kernel
theorem d_PT_kind_8 : decode (jy_c m_PT_kind) 8 = .ok (.goto 10, 3) := by decide +kernel
theorem d_PT_kind_11 : decode (jy_c m_PT_kind) 11 = .ok (.aload_n 0, 1) := by decide +kernel
theorem d_PT_kind_12 : decode (jy_c m_PT_kind) 12 = .ok (.getfield 15, 3) := by decide +kernel
theorem d_PT_kind_15 : decode (jy_c m_PT_kind) 15 = .ok (.getfield 27, 3) := by decide +kernel
theorem d_PT_kind_18 : decode (jy_c m_PT_kind) 18 = .ok (.ireturn, 1) := by decide +kernel
theorem c_PT_kind {G : jy_G} {h : jy_P} {x : Nat} {n l : Int32} {R : Ft} {j : Nat} (hP : PRep h x n l R j) : jy_C G 1 m_PT_kind [.ref x] h (pP h (some (.int (R (43 * j + 1))))) := by
  refine jy_C.of [some (.ref x)] rfl (Nat.le_refl 1) ?_
  obtain ⟨-, mv, dv, hx, -, hV⟩ := hP
  refine jr_aload_n d_PT_kind_0 rfl rfl ?_
  refine jr_get d_PT_kind_1 f_PT_15 hx rfl ?_
  rcases hV with ⟨-, y, dv2, rfl, -, na, hy, -⟩ | ⟨rfl, rfl, e1, -⟩
  · refine jr_ifnonnull d_PT_kind_4 (tgt := 11) (by decide) ?_
    refine jr_aload_n d_PT_kind_11 rfl rfl ?_
    refine jr_get d_PT_kind_12 f_PT_15 hx rfl ?_
    refine jr_get d_PT_kind_15 f_PT_27 hy rfl ?_
    refine jr_ireturn d_PT_kind_18 rfl rfl ?_
    exact ⟨rfl, rfl⟩
  · refine jr_ifnonnullN d_PT_kind_4 ?_
    refine jr_iconst (v := 0) d_PT_kind_7 (by decide) ?_
    refine jr_goto (tgt := 18) d_PT_kind_8 (by decide) ?_
    refine jr_ireturn d_PT_kind_18 rfl rfl ?_
    exact ⟨by rw [e1], rfl⟩
theorem d_PT_bars_0 : decode (jy_c m_PT_bars) 0 = .ok (.aload_n 0, 1) := by decide +kernel
theorem d_PT_bars_1 : decode (jy_c m_PT_bars) 1 = .ok (.getfield 15, 3) := by decide +kernel
theorem d_PT_bars_4 : decode (jy_c m_PT_bars) 4 = .ok (.ifnull 25, 3) := by decide +kernel
theorem d_PT_bars_7 : decode (jy_c m_PT_bars) 7 = .ok (.aload_n 0, 1) := by decide +kernel
theorem d_PT_bars_8 : decode (jy_c m_PT_bars) 8 = .ok (.getfield 15, 3) := by decide +kernel
theorem d_PT_bars_11 : decode (jy_c m_PT_bars) 11 = .ok (.getfield 32, 3) := by decide +kernel
theorem d_PT_bars_14 : decode (jy_c m_PT_bars) 14 = .ok (.aload_n 1, 1) := by decide +kernel
theorem d_PT_bars_15 : decode (jy_c m_PT_bars) 15 = .ok (.invokevirtual 35, 3) := by decide +kernel
theorem d_PT_bars_18 : decode (jy_c m_PT_bars) 18 = .ok (.ishr, 1) := by decide +kernel
theorem d_PT_bars_19 : decode (jy_c m_PT_bars) 19 = .ok (.iconst 1, 1) := by decide +kernel
theorem d_PT_bars_20 : decode (jy_c m_PT_bars) 20 = .ok (.iand, 1) := by decide +kernel
theorem d_PT_bars_21 : decode (jy_c m_PT_bars) 21 = .ok (.iconst 1, 1) := by decide +kernel
theorem d_PT_bars_22 : decode (jy_c m_PT_bars) 22 = .ok (.if_icmp .ne 7, 3) := by decide +kernel
theorem d_PT_bars_25 : decode (jy_c m_PT_bars) 25 = .ok (.iconst 1, 1) := by decide +kernel
theorem d_PT_bars_26 : decode (jy_c m_PT_bars) 26 = .ok (.goto 4, 3) := by decide +kernel
theorem d_PT_bars_29 : decode (jy_c m_PT_bars) 29 = .ok (.iconst 0, 1) := by decide +kernel
theorem d_PT_bars_30 : decode (jy_c m_PT_bars) 30 = .ok (.ireturn, 1) := by decide +kernel
theorem c_PT_bars {G : jy_G} {h : jy_P} {x y : Nat} {n l n' l' : Int32} {R : Ft} {i j : Nat} (hP : PRep h x n l R i) (hQ : PRep h y n' l' R j) : jy_C G 2 m_PT_bars [.ref x, .ref y] h (pP h (some (.int (bI (brR R i j))))) := by
  refine jy_C.of [some (.ref x), some (.ref y)] rfl (Nat.le_refl 2) ?_
  obtain ⟨-, mv, dv, hx, -, hV⟩ := hP
  have hQ0 := hQ
  obtain ⟨-, mv2, dv2, hy, -⟩ := hQ0
  refine jr_aload_n d_PT_bars_0 rfl rfl ?_
  refine jr_get d_PT_bars_1 f_PT_15 hx rfl ?_
  rcases hV with ⟨-, z, dv3, rfl, -, na, hz, -⟩ | ⟨rfl, rfl, -, e1⟩
  · refine jr_ifnull d_PT_bars_4 ?_
    refine jr_aload_n d_PT_bars_7 rfl rfl ?_
    refine jr_get d_PT_bars_8 f_PT_15 hx rfl ?_
    refine jr_get d_PT_bars_11 f_PT_32 hz rfl ?_
    refine jr_aload_n d_PT_bars_14 rfl rfl ?_
    refine jr_callVp0 d_PT_bars_15 i_PT_35 hy (Nat.le_of_ble_eq_true rfl) (by decide) (c_PT_kind hQ) ?_
    refine jr_ishr d_PT_bars_18 ?_
    refine jr_iconst (v := 1) d_PT_bars_19 (by decide) ?_
    refine jr_iand d_PT_bars_20 ?_
    refine jr_iconst (v := 1) d_PT_bars_21 (by decide) ?_
    refine jr_icmp_ne (tgt := 29) d_PT_bars_22 (by decide) (fun hc => ?_) (fun hc => ?_)
    · refine jr_iconst (v := 0) d_PT_bars_29 (by decide) ?_
      refine jr_ireturn d_PT_bars_30 rfl rfl ?_
      exact ⟨by rw [brR, decide_eq_false hc]; rfl, rfl⟩
    · refine jr_iconst (v := 1) d_PT_bars_25 (by decide) ?_
      refine jr_goto (tgt := 30) d_PT_bars_26 (by decide) ?_
      refine jr_ireturn d_PT_bars_30 rfl rfl ?_
      exact ⟨by rw [brR, decide_eq_true hc]; rfl, rfl⟩
  · refine jr_ifnullN d_PT_bars_4 (tgt := 29) (by decide) ?_
    refine jr_iconst (v := 0) d_PT_bars_29 (by decide) ?_
    refine jr_ireturn d_PT_bars_30 rfl rfl ?_
    refine ⟨?_, rfl⟩
    have : brR R 12 j = false := by
      unfold brR
      rw [show 43 * 12 + 8 = 524 from rfl, e1, Int32.zero_shiftRight]
      decide
    rw [this]; rfl
def ctrR (R : Ft) (i j : Nat) : Bool := brR R i j || brR R j i
theorem d_PT_contradicts_0 : decode (jy_c m_PT_contradicts) 0 = .ok (.aload_n 0, 1) := by decide +kernel
theorem d_PT_contradicts_1 : decode (jy_c m_PT_contradicts) 1 = .ok (.aload_n 1, 1) := by decide +kernel
theorem d_PT_contradicts_2 : decode (jy_c m_PT_contradicts) 2 = .ok (.invokevirtual 38, 3) := by decide +kernel
theorem d_PT_contradicts_5 : decode (jy_c m_PT_contradicts) 5 = .ok (.ifCond .ne 11, 3) := by decide +kernel
theorem d_PT_contradicts_8 : decode (jy_c m_PT_contradicts) 8 = .ok (.aload_n 1, 1) := by decide +kernel
theorem d_PT_contradicts_9 : decode (jy_c m_PT_contradicts) 9 = .ok (.aload_n 0, 1) := by decide +kernel
theorem d_PT_contradicts_10 : decode (jy_c m_PT_contradicts) 10 = .ok (.invokevirtual 38, 3) := by decide +kernel
theorem d_PT_contradicts_13 : decode (jy_c m_PT_contradicts) 13 = .ok (.ifCond .eq 7, 3) := by decide +kernel
theorem d_PT_contradicts_16 : decode (jy_c m_PT_contradicts) 16 = .ok (.iconst 1, 1) := by decide +kernel
theorem d_PT_contradicts_17 : decode (jy_c m_PT_contradicts) 17 = .ok (.goto 4, 3) := by decide +kernel
theorem d_PT_contradicts_20 : decode (jy_c m_PT_contradicts) 20 = .ok (.iconst 0, 1) := by decide +kernel
theorem d_PT_contradicts_21 : decode (jy_c m_PT_contradicts) 21 = .ok (.ireturn, 1) := by decide +kernel
theorem c_PT_contradicts {G : jy_G} {h : jy_P} {x y : Nat} {n l n' l' : Int32} {R : Ft} {i j : Nat} (hP : PRep h x n l R i) (hQ : PRep h y n' l' R j) : jy_C G 3 m_PT_contradicts [.ref x, .ref y] h (pP h (some (.int (bI (ctrR R i j))))) := by
  refine jy_C.of [some (.ref x), some (.ref y)] rfl (Nat.le_refl 2) ?_
  have hP0 := hP
  have hQ0 := hQ
  obtain ⟨-, mv, dv, hx, -⟩ := hP0
  obtain ⟨-, mv2, dv2, hy, -⟩ := hQ0
  refine jr_aload_n d_PT_contradicts_0 rfl rfl ?_
  refine jr_aload_n d_PT_contradicts_1 rfl rfl ?_
  refine jr_callVp1 d_PT_contradicts_2 i_PT_38 hx (Nat.le_of_ble_eq_true rfl) (by decide) (c_PT_bars hP hQ) ?_
  refine jr_if_ne (tgt := 16) d_PT_contradicts_5 (by decide) (fun hc => ?_) (fun hc => ?_)
  · refine jr_iconst (v := 1) d_PT_contradicts_16 (by decide) ?_
    refine jr_goto (tgt := 21) d_PT_contradicts_17 (by decide) ?_
    refine jr_ireturn d_PT_contradicts_21 rfl rfl ?_
    exact ⟨by rw [ctrR, bI_ne0.mp hc]; rfl, rfl⟩
  · refine jr_aload_n d_PT_contradicts_8 rfl rfl ?_
    refine jr_aload_n d_PT_contradicts_9 rfl rfl ?_
    refine jr_callVp1 d_PT_contradicts_10 i_PT_38 hy (Nat.le_of_ble_eq_true rfl) (by decide) (c_PT_bars hQ hP) ?_
    refine jr_if_eq (tgt := 20) d_PT_contradicts_13 (by decide) (fun hc2 => ?_) (fun hc2 => ?_)
    · refine jr_iconst (v := 0) d_PT_contradicts_20 (by decide) ?_
      refine jr_ireturn d_PT_contradicts_21 rfl rfl ?_
      exact ⟨by rw [ctrR, bI_eq0.mp hc, bI_eq0.mp hc2]; rfl, rfl⟩
    · refine jr_iconst (v := 1) d_PT_contradicts_16 (by decide) ?_
      refine jr_goto (tgt := 21) d_PT_contradicts_17 (by decide) ?_
      refine jr_ireturn d_PT_contradicts_21 rfl rfl ?_
      exact ⟨by rw [ctrR, bI_ne0.mp hc2, Bool.or_true]; rfl, rfl⟩
theorem d_DU_distance_0 : decode (jy_c m_DU_distance) 0 = .ok (.aload_n 0, 1) := by decide +kernel
theorem d_DU_distance_1 : decode (jy_c m_DU_distance) 1 = .ok (.getfield 7, 3) := by decide +kernel
theorem d_DU_distance_4 : decode (jy_c m_DU_distance) 4 = .ok (.iload_n 1, 1) := by decide +kernel
theorem d_DU_distance_5 : decode (jy_c m_DU_distance) 5 = .ok (.ifCond .eq 7, 3) := by decide +kernel
theorem d_DU_distance_8 : decode (jy_c m_DU_distance) 8 = .ok (.iconst 2, 1) := by decide +kernel
theorem d_DU_distance_9 : decode (jy_c m_DU_distance) 9 = .ok (.goto 4, 3) := by decide +kernel
theorem d_DU_distance_12 : decode (jy_c m_DU_distance) 12 = .ok (.iconst 0, 1) := by decide +kernel
theorem d_DU_distance_13 : decode (jy_c m_DU_distance) 13 = .ok (.iload_n 2, 1) := by decide +kernel
theorem d_DU_distance_14 : decode (jy_c m_DU_distance) 14 = .ok (.ifCond .eq 7, 3) := by decide +kernel
theorem d_DU_distance_17 : decode (jy_c m_DU_distance) 17 = .ok (.iconst 1, 1) := by decide +kernel
theorem d_DU_distance_18 : decode (jy_c m_DU_distance) 18 = .ok (.goto 4, 3) := by decide +kernel
theorem d_DU_distance_21 : decode (jy_c m_DU_distance) 21 = .ok (.iconst 0, 1) := by decide +kernel
theorem d_DU_distance_22 : decode (jy_c m_DU_distance) 22 = .ok (.iadd, 1) := by decide +kernel
theorem d_DU_distance_23 : decode (jy_c m_DU_distance) 23 = .ok (.iaload, 1) := by decide +kernel
theorem d_DU_distance_24 : decode (jy_c m_DU_distance) 24 = .ok (.ireturn, 1) := by decide +kernel
def dcl (lg nt : Bool) : Nat := (if lg then 2 else 0) + (if nt then 1 else 0)
theorem c_DU_distance {G : jy_G} {h : jy_P} {x : Nat} {R : Ft} {k : Nat} (hD : DRep h x R k) (lg nt : Bool) : jy_C G 1 m_DU_distance [.ref x, .int (bI lg), .int (bI nt)] h (pP h (some (.int (R (43 * k + 4 + dcl lg nt))))) := by
  refine jy_C.of [some (.ref x), some (.int (bI lg)), some (.int (bI nt))] rfl (Nat.le_refl 3) ?_
  obtain ⟨-, y, -, hx, hy⟩ := hD
  refine jr_aload_n d_DU_distance_0 rfl rfl ?_
  refine jr_get d_DU_distance_1 f_DU_7 hx rfl ?_
  refine jr_iload_n d_DU_distance_4 rfl rfl ?_
  refine jy_cut1 13 (fun z => z = nI (if lg then 2 else 0)) (fun K => ?_) (fun z hz => ?_)
  · refine jr_if_eq (tgt := 12) d_DU_distance_5 (by decide) (fun hc => ?_) (fun hc => ?_)
    · refine jr_iconst (v := 0) d_DU_distance_12 (by decide) ?_
      exact K _ (by rw [bI_eq0.mp hc]; rfl)
    · refine jr_iconst (v := 2) d_DU_distance_8 (by decide) ?_
      refine jr_goto (tgt := 13) d_DU_distance_9 (by decide) ?_
      exact K _ (by rw [bI_ne0.mp hc]; rfl)
  subst hz
  refine jr_iload_n d_DU_distance_13 rfl rfl ?_
  refine jy_cut1 22 (fun z => z = nI (if nt then 1 else 0)) (fun K => ?_) (fun z hz => ?_)
  · refine jr_if_eq (tgt := 21) d_DU_distance_14 (by decide) (fun hc => ?_) (fun hc => ?_)
    · refine jr_iconst (v := 0) d_DU_distance_21 (by decide) ?_
      exact K _ (by rw [bI_eq0.mp hc]; rfl)
    · refine jr_iconst (v := 1) d_DU_distance_17 (by decide) ?_
      refine jr_goto (tgt := 22) d_DU_distance_18 (by decide) ?_
      exact K _ (by rw [bI_ne0.mp hc]; rfl)
  subst hz
  refine jr_iadd d_DU_distance_22 ?_
  refine cr_iald d_DU_distance_23 hy (nI_add _ _) (by cases lg <;> cases nt <;> decide) (by decide) ?_
  refine jr_ireturn d_DU_distance_24 rfl rfl ?_
  exact ⟨rfl, rfl⟩
theorem d_TB_of_0 : decode (jy_c m_TB_of) 0 = .ok (.iconst 0, 1) := by decide +kernel
theorem d_TB_of_1 : decode (jy_c m_TB_of) 1 = .ok (.istore_n 2, 1) := by decide +kernel
theorem d_TB_of_2 : decode (jy_c m_TB_of) 2 = .ok (.iload_n 2, 1) := by decide +kernel
theorem d_TB_of_3 : decode (jy_c m_TB_of) 3 = .ok (.aload_n 0, 1) := by decide +kernel
theorem d_TB_of_4 : decode (jy_c m_TB_of) 4 = .ok (.getfield 17, 3) := by decide +kernel
theorem d_TB_of_7 : decode (jy_c m_TB_of) 7 = .ok (.if_icmp .ge 29, 3) := by decide +kernel
theorem d_TB_of_10 : decode (jy_c m_TB_of) 10 = .ok (.aload_n 0, 1) := by decide +kernel
theorem d_TB_of_11 : decode (jy_c m_TB_of) 11 = .ok (.getfield 11, 3) := by decide +kernel
theorem d_TB_of_14 : decode (jy_c m_TB_of) 14 = .ok (.iload_n 2, 1) := by decide +kernel
theorem d_TB_of_15 : decode (jy_c m_TB_of) 15 = .ok (.aaload, 1) := by decide +kernel
theorem d_TB_of_16 : decode (jy_c m_TB_of) 16 = .ok (.getfield 21, 3) := by decide +kernel
theorem d_TB_of_19 : decode (jy_c m_TB_of) 19 = .ok (.iload_n 1, 1) := by decide +kernel
theorem d_TB_of_20 : decode (jy_c m_TB_of) 20 = .ok (.if_icmp .ne 10, 3) := by decide +kernel
theorem d_TB_of_23 : decode (jy_c m_TB_of) 23 = .ok (.aload_n 0, 1) := by decide +kernel
theorem d_TB_of_24 : decode (jy_c m_TB_of) 24 = .ok (.getfield 11, 3) := by decide +kernel
theorem d_TB_of_27 : decode (jy_c m_TB_of) 27 = .ok (.iload_n 2, 1) := by decide +kernel
theorem d_TB_of_28 : decode (jy_c m_TB_of) 28 = .ok (.aaload, 1) := by decide +kernel
theorem d_TB_of_29 : decode (jy_c m_TB_of) 29 = .ok (.areturn, 1) := by decide +kernel
theorem d_TB_of_30 : decode (jy_c m_TB_of) 30 = .ok (.iinc 2 1, 3) := by decide +kernel
theorem d_TB_of_33 : decode (jy_c m_TB_of) 33 = .ok (.goto (-31), 3) := by decide +kernel
theorem d_TB_of_36 : decode (jy_c m_TB_of) 36 = .ok (.aconst_null, 1) := by decide +kernel
theorem d_TB_of_37 : decode (jy_c m_TB_of) 37 = .ok (.areturn, 1) := by decide +kernel
def ofP (h : jy_P) (R : Ft) (o : Option Nat) : Outcome → jy_P → Prop := fun r h' => h' = h ∧ match o with
  | none => r = .returned (some .null)
  | some k => ∃ x dv, r = .returned (some (.ref x)) ∧ MRep h x R k dv ∧ DRep h dv R k
theorem c_TB_of {G : jy_G} {h : jy_P} {T : Nat} {R : Ft} {m : Nat} {g : Bool} (hT : TRep h T R m g) (h12 : m ≤ 12) (n : Int32) : jy_C G 1 m_TB_of [.ref T, .int n] h (ofP h R (fd R n m)) := by
  refine jy_C.of [some (.ref T), some (.int n), none] rfl (Nat.le_of_ble_eq_true rfl) ?_
  obtain ⟨ma, gv, mv, t1, -, t3, t4, t5, -⟩ := hT
  refine jr_iconst (v := 0) d_TB_of_0 (by decide) ?_
  refine jr_istore_n d_TB_of_1 rfl (by decide) ?_
  have key : ∀ p, p ≤ m → fd R n p = none → jy_J G 1 m_TB_of 2 [some (.ref T), some (.int n), some (.int (nI p))] [] h (ofP h R (fd R n m)) := by
    refine jl_up m _ (fun hn => ?_) (fun p hp ih hn => ?_)
    · refine jr_iload_n d_TB_of_2 rfl rfl ?_
      refine jr_aload_n d_TB_of_3 rfl rfl ?_
      refine jr_get d_TB_of_4 f_TB_17 t1 rfl ?_
      refine jr_icmp_ge (tgt := 36) d_TB_of_7 (by decide) (fun _ => ?_) (jl_eq (by omega))
      refine jr_null d_TB_of_36 ?_
      refine jr_areturn d_TB_of_37 rfl (Or.inl ⟨_, rfl⟩) (Or.inl rfl) ?_
      rw [hn]
      exact ⟨rfl, rfl⟩
    · obtain ⟨x, dv, x1, x2, x3⟩ := t5 p hp
      have x2' := x2
      obtain ⟨-, na, y1, -⟩ := x2'
      refine jr_iload_n d_TB_of_2 rfl rfl ?_
      refine jr_aload_n d_TB_of_3 rfl rfl ?_
      refine jr_get d_TB_of_4 f_TB_17 t1 rfl ?_
      refine jr_icmp_ge (tgt := 36) d_TB_of_7 (by decide) (jl_lt (by omega) hp) (fun _ => ?_)
      refine jr_aload_n d_TB_of_10 rfl rfl ?_
      refine jr_get d_TB_of_11 f_TB_11 t1 rfl ?_
      refine jr_iload_n d_TB_of_14 rfl rfl ?_
      refine cr_aald d_TB_of_15 rfl rfl t3 rfl x1 (by omega) ?_
      refine jr_get d_TB_of_16 f_TB_21 y1 rfl ?_
      refine jr_iload_n d_TB_of_19 rfl rfl ?_
      refine jr_icmp_ne (tgt := 30) d_TB_of_20 (by decide) (fun hc => ?_) (fun hc => ?_)
      · refine jr_iinc1 d_TB_of_30 rfl (by decide) ?_
        refine jr_goto (tgt := 2) d_TB_of_33 (by decide) ?_
        rw [nI_1]
        exact ih (by simp [fd, hn, hc])
      · refine jr_aload_n d_TB_of_23 rfl rfl ?_
        refine jr_get d_TB_of_24 f_TB_11 t1 rfl ?_
        refine jr_iload_n d_TB_of_27 rfl rfl ?_
        refine cr_aald d_TB_of_28 rfl rfl t3 rfl x1 (by omega) ?_
        refine jr_areturn d_TB_of_29 rfl (Or.inl ⟨_, rfl⟩) (Or.inr ⟨x, rfl⟩) ?_
        have : fd R n m = some p := fd_keep (k := p + 1) (by simp [fd, hn, hc]) m (by omega)
        rw [this]
        exact ⟨rfl, x, dv, rfl, x2, x3⟩
  exact key 0 (Nat.zero_le _) rfl
theorem d_HT_isIn_0 : decode (jy_c m_HT_isIn) 0 = .ok (.iload_n 0, 1) := by decide +kernel
theorem d_HT_isIn_1 : decode (jy_c m_HT_isIn) 1 = .ok (.iload_n 1, 1) := by decide +kernel
theorem d_HT_isIn_2 : decode (jy_c m_HT_isIn) 2 = .ok (.if_icmp .lt 12, 3) := by decide +kernel
theorem d_HT_isIn_5 : decode (jy_c m_HT_isIn) 5 = .ok (.iload_n 0, 1) := by decide +kernel
theorem d_HT_isIn_6 : decode (jy_c m_HT_isIn) 6 = .ok (.iload_n 2, 1) := by decide +kernel
theorem d_HT_isIn_7 : decode (jy_c m_HT_isIn) 7 = .ok (.if_icmp .gt 7, 3) := by decide +kernel
theorem d_HT_isIn_10 : decode (jy_c m_HT_isIn) 10 = .ok (.iconst 1, 1) := by decide +kernel
theorem d_HT_isIn_11 : decode (jy_c m_HT_isIn) 11 = .ok (.goto 4, 3) := by decide +kernel
theorem d_HT_isIn_14 : decode (jy_c m_HT_isIn) 14 = .ok (.iconst 0, 1) := by decide +kernel
theorem d_HT_isIn_15 : decode (jy_c m_HT_isIn) 15 = .ok (.ireturn, 1) := by decide +kernel
theorem c_HT_isIn {G : jy_G} {h : jy_P} (x lo hi : Int32) : jy_C G 1 m_HT_isIn [.int x, .int lo, .int hi] h (pP h (some (.int (bI (inB x lo hi))))) := by
  refine jy_C.of [some (.int x), some (.int lo), some (.int hi)] rfl (Nat.le_refl 3) ?_
  refine jr_iload_n d_HT_isIn_0 rfl rfl ?_
  refine jr_iload_n d_HT_isIn_1 rfl rfl ?_
  refine jr_icmp_lt (tgt := 14) d_HT_isIn_2 (by decide) (fun hc => ?_) (fun hc => ?_)
  · refine jr_iconst (v := 0) d_HT_isIn_14 (by decide) ?_
    refine jr_ireturn d_HT_isIn_15 rfl rfl ?_
    refine ⟨?_, rfl⟩
    have : inB x lo hi = false := by simp [inB, Int32.not_le.mpr hc]
    rw [this, bI_f]
  · refine jr_iload_n d_HT_isIn_5 rfl rfl ?_
    refine jr_iload_n d_HT_isIn_6 rfl rfl ?_
    refine jr_icmp_gt (tgt := 14) d_HT_isIn_7 (by decide) (fun hc2 => ?_) (fun hc2 => ?_)
    · refine jr_iconst (v := 0) d_HT_isIn_14 (by decide) ?_
      refine jr_ireturn d_HT_isIn_15 rfl rfl ?_
      refine ⟨?_, rfl⟩
      have : inB x lo hi = false := by simp [inB, Int32.not_le.mpr hc2]
      rw [this, bI_f]
    · refine jr_iconst (v := 1) d_HT_isIn_10 (by decide) ?_
      refine jr_goto (tgt := 15) d_HT_isIn_11 (by decide) ?_
      refine jr_ireturn d_HT_isIn_15 rfl rfl ?_
      refine ⟨?_, rfl⟩
      have : inB x lo hi = true := by simp [inB, Int32.not_lt.mp hc, Int32.not_lt.mp hc2]
      rw [this, bI_t]
theorem d_HT_isPoint_0 : decode (jy_c m_HT_isPoint) 0 = .ok (.iload_n 0, 1) := by decide +kernel
theorem d_HT_isPoint_1 : decode (jy_c m_HT_isPoint) 1 = .ok (.sipush (-10000), 3) := by decide +kernel
theorem d_HT_isPoint_4 : decode (jy_c m_HT_isPoint) 4 = .ok (.sipush 10000, 3) := by decide +kernel
theorem d_HT_isPoint_7 : decode (jy_c m_HT_isPoint) 7 = .ok (.invokestatic 72, 3) := by decide +kernel
theorem d_HT_isPoint_10 : decode (jy_c m_HT_isPoint) 10 = .ok (.ifCond .eq 20, 3) := by decide +kernel
theorem d_HT_isPoint_13 : decode (jy_c m_HT_isPoint) 13 = .ok (.iload_n 1, 1) := by decide +kernel
theorem d_HT_isPoint_14 : decode (jy_c m_HT_isPoint) 14 = .ok (.sipush (-10000), 3) := by decide +kernel
theorem d_HT_isPoint_17 : decode (jy_c m_HT_isPoint) 17 = .ok (.sipush 10000, 3) := by decide +kernel
theorem d_HT_isPoint_20 : decode (jy_c m_HT_isPoint) 20 = .ok (.invokestatic 72, 3) := by decide +kernel
theorem d_HT_isPoint_23 : decode (jy_c m_HT_isPoint) 23 = .ok (.ifCond .eq 7, 3) := by decide +kernel
theorem d_HT_isPoint_26 : decode (jy_c m_HT_isPoint) 26 = .ok (.iconst 1, 1) := by decide +kernel
theorem d_HT_isPoint_27 : decode (jy_c m_HT_isPoint) 27 = .ok (.goto 4, 3) := by decide +kernel
theorem d_HT_isPoint_30 : decode (jy_c m_HT_isPoint) 30 = .ok (.iconst 0, 1) := by decide +kernel
theorem d_HT_isPoint_31 : decode (jy_c m_HT_isPoint) 31 = .ok (.ireturn, 1) := by decide +kernel
theorem c_HT_isPoint {G : jy_G} {h : jy_P} (x y : Int32) : jy_C G 2 m_HT_isPoint [.int x, .int y] h (pP h (some (.int (bI (iPt x y))))) := by
  refine jy_C.of [some (.int x), some (.int y)] rfl (Nat.le_refl 2) ?_
  refine jr_iload_n d_HT_isPoint_0 rfl rfl ?_
  refine jr_sipush (v := -10000) d_HT_isPoint_1 (by decide) ?_
  refine jr_sipush (v := 10000) d_HT_isPoint_4 (by decide) ?_
  refine jr_callSp3 d_HT_isPoint_7 i_HT_72 (Nat.le_of_ble_eq_true rfl) (by decide) (c_HT_isIn _ _ _) ?_
  refine jr_if_eq (tgt := 30) d_HT_isPoint_10 (by decide) (fun hc => ?_) (fun hc => ?_)
  · refine jr_iconst (v := 0) d_HT_isPoint_30 (by decide) ?_
    refine jr_ireturn d_HT_isPoint_31 rfl rfl ?_
    exact ⟨by rw [iPt, bI_eq0.mp hc]; rfl, rfl⟩
  · refine jr_iload_n d_HT_isPoint_13 rfl rfl ?_
    refine jr_sipush (v := -10000) d_HT_isPoint_14 (by decide) ?_
    refine jr_sipush (v := 10000) d_HT_isPoint_17 (by decide) ?_
    refine jr_callSp3 d_HT_isPoint_20 i_HT_72 (Nat.le_of_ble_eq_true rfl) (by decide) (c_HT_isIn _ _ _) ?_
    refine jr_if_eq (tgt := 30) d_HT_isPoint_23 (by decide) (fun hc2 => ?_) (fun hc2 => ?_)
    · refine jr_iconst (v := 0) d_HT_isPoint_30 (by decide) ?_
      refine jr_ireturn d_HT_isPoint_31 rfl rfl ?_
      exact ⟨by rw [iPt, bI_eq0.mp hc2, Bool.and_false]; rfl, rfl⟩
    · refine jr_iconst (v := 1) d_HT_isPoint_26 (by decide) ?_
      refine jr_goto (tgt := 31) d_HT_isPoint_27 (by decide) ?_
      refine jr_ireturn d_HT_isPoint_31 rfl rfl ?_
      exact ⟨by rw [iPt, bI_ne0.mp hc, bI_ne0.mp hc2]; rfl, rfl⟩
