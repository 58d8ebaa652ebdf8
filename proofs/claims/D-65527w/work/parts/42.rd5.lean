/-! the class' reader: a material's row -/
theorem d_MA_init_0 : decode (jy_c m_MA_init) 0 = .ok (.aload_n 0, 1) := by decide +kernel
theorem d_MA_init_1 : decode (jy_c m_MA_init) 1 = .ok (.invokespecial 3, 3) := by decide +kernel
theorem d_MA_init_4 : decode (jy_c m_MA_init) 4 = .ok (.aload_n 0, 1) := by decide +kernel
theorem d_MA_init_5 : decode (jy_c m_MA_init) 5 = .ok (.iconst 3, 1) := by decide +kernel
theorem d_MA_init_6 : decode (jy_c m_MA_init) 6 = .ok (.anewarray 9, 3) := by decide +kernel
theorem d_MA_init_9 : decode (jy_c m_MA_init) 9 = .ok (.putfield 11, 3) := by decide +kernel
theorem d_MA_init_12 : decode (jy_c m_MA_init) 12 = .ok (.aload_n 0, 1) := by decide +kernel
theorem d_MA_init_13 : decode (jy_c m_MA_init) 13 = .ok (.iload_n 1, 1) := by decide +kernel
theorem d_MA_init_14 : decode (jy_c m_MA_init) 14 = .ok (.putfield 17, 3) := by decide +kernel
theorem d_MA_init_17 : decode (jy_c m_MA_init) 17 = .ok (.return_, 1) := by decide +kernel
theorem c_MA_init {G : jy_G} {h : jy_P} {X : Nat} (hX : 0 < X) (hK : h.length < jy_K) (ho : h[X]? = some (3, [.int 0, .null, .int 0, .int 0, .int 0, .null])) (v : Int32) : jy_C G 2 m_MA_init [.ref X, .int v] h (fun o h' => o = .returned none ∧ h' = (h ++ [(57, List.replicate 3 Value.null)]).set X (3, [.int v, .ref h.length, .int 0, .int 0, .int 0, .null])) := by
  refine jy_C.of [some (.ref X), some (.int v)] rfl (Nat.le_of_ble_eq_true rfl) ?_
  refine jr_aload_n d_MA_init_0 rfl rfl ?_
  refine jr_objInit d_MA_init_1 o_MA_3 o_inst o_code (by decide) (Nat.le_of_ble_eq_true rfl) ?_
  refine jr_aload_n d_MA_init_4 rfl rfl ?_
  refine jr_iconst (v := 3) d_MA_init_5 (by decide) ?_
  refine jr_anewA d_MA_init_6 (t := 57) (ce := .byte) (N := 3) rfl (by decide) l_MA_9 a_oarraybyte (by decide) (by decide) ⟨hK, Or.inl (by decide)⟩ (by decide) ?_
  have ho' : (h ++ [(57, List.replicate 3 Value.null)])[X]? = some (3, [.int 0, .null, .int 0, .int 0, .int 0, .null]) := by rw [List.getElem?_append_left (len_lt ho)]; exact ho
  refine jr_putF d_MA_init_9 f_MA_11 rfl rfl jy_fv_arr hX ho' rfl ?_
  refine jr_aload_n d_MA_init_12 rfl rfl ?_
  refine jr_iload_n d_MA_init_13 rfl rfl ?_
  refine jr_putF d_MA_init_14 f_MA_17 rfl rfl jy_fv_int hX (gs_eq ho') rfl ?_
  refine jr_return d_MA_init_17 rfl ?_
  exact ⟨rfl, by rw [List.set_set]; rfl⟩
theorem d_TB_init_0 : decode (jy_c m_TB_init) 0 = .ok (.aload_n 0, 1) := by decide +kernel
theorem d_TB_init_1 : decode (jy_c m_TB_init) 1 = .ok (.invokespecial 3, 3) := by decide +kernel
theorem d_TB_init_4 : decode (jy_c m_TB_init) 4 = .ok (.aload_n 0, 1) := by decide +kernel
theorem d_TB_init_5 : decode (jy_c m_TB_init) 5 = .ok (.bipush 12, 2) := by decide +kernel
theorem d_TB_init_7 : decode (jy_c m_TB_init) 7 = .ok (.anewarray 9, 3) := by decide +kernel
theorem d_TB_init_10 : decode (jy_c m_TB_init) 10 = .ok (.putfield 11, 3) := by decide +kernel
theorem d_TB_init_13 : decode (jy_c m_TB_init) 13 = .ok (.return_, 1) := by decide +kernel
theorem c_TB_init {G : jy_G} {h : jy_P} {X : Nat} (hX : 0 < X) (hK : h.length < jy_K) (ho : h[X]? = some (2, [.null, .int 0, .null])) : jy_C G 2 m_TB_init [.ref X] h (fun o h' => o = .returned none ∧ h' = (h ++ [(54, List.replicate 12 Value.null)]).set X (2, [.ref h.length, .int 0, .null])) := by
  refine jy_C.of [some (.ref X)] rfl (Nat.le_of_ble_eq_true rfl) ?_
  refine jr_aload_n d_TB_init_0 rfl rfl ?_
  refine jr_objInit d_TB_init_1 o_TB_3 o_inst o_code (by decide) (Nat.le_of_ble_eq_true rfl) ?_
  refine jr_aload_n d_TB_init_4 rfl rfl ?_
  refine jr_bipush (v := 12) d_TB_init_5 (by decide) ?_
  refine jr_anew d_TB_init_7 (t := 54) (cn := "HazardTables$Material") (N := 12) rfl (by decide) l_TB_9 a_oMaterial (by decide) (by decide) ⟨hK, Or.inl (by decide)⟩ (by decide) ?_
  have ho' : (h ++ [(54, List.replicate 12 Value.null)])[X]? = some (2, [.null, .int 0, .null]) := by rw [List.getElem?_append_left (len_lt ho)]; exact ho
  refine jr_putF d_TB_init_10 f_TB_11 rfl rfl jy_fv_arr hX ho' rfl ?_
  refine jr_return d_TB_init_13 rfl ?_
  exact ⟨rfl, rfl⟩
/-- the table under construction -/
def TC (N : Nat) (h : jy_P) (T : Nat) (F : Ft) (k : Nat) (g : Bool) : Prop := ∃ (ma : Nat) (gv : Value) (mv : List Value), N ≤ T ∧ N ≤ ma ∧ h[T]? = some (2, [.ref ma, .int (nI k), gv]) ∧ h[ma]? = some (54, mv) ∧ mv.length = 12 ∧ (∀ j, j < k → ∃ x dv : Nat, mv[j]? = some (.ref x) ∧ MRep h x F j dv ∧ DRep h dv F j) ∧ GRep h gv F g
theorem TC.rep {N : Nat} {h : jy_P} {T : Nat} {F : Ft} {k : Nat} {g : Bool} (q : TC N h T F k g) (h26 : 26 ≤ N) : TRep h T F k g := by
  obtain ⟨ma, gv, mv, -, q2, q3, q4, q5, q6, q7⟩ := q
  exact ⟨ma, gv, mv, q3, Or.inr (by omega), q4, q5, q6, q7⟩
theorem DRep.ch {h : jy_P} {x : Nat} {F F' : Ft} {k : Nat} (q : DRep h x F k) (e : ∀ y, 43 * k ≤ y → y < 43 * k + 43 → F' y = F y) : DRep h x F' k := by
  obtain ⟨a, y, b, c, d⟩ := q
  refine ⟨a, y, b, by rw [e _ (by omega) (by omega), e _ (by omega) (by omega)]; exact c, ?_⟩
  rw [ints_congr (g := fun j => F (43 * k + 4 + j)) (fun j hj => e _ (by omega) (by omega))]
  exact d
theorem NRep.ch {h : jy_P} {x : Nat} {F F' : Ft} {k m : Nat} (q : NRep h x F k m) (hl : ∀ i, i < m → ln F k i ≤ 10) (e : ∀ i y, i < m → 43 * k + 10 + 11 * i ≤ y → y < 43 * k + 10 + 11 * i + 11 → F' y = F y) : NRep h x F' k m := by
  obtain ⟨a, nv, b, c, d⟩ := q
  refine ⟨a, nv, b, c, fun i hi => ?_⟩
  obtain ⟨y, y1, y2, y3⟩ := d i hi
  have e1 : ln F' k i = ln F k i := by unfold ln; rw [e i _ hi (by omega) (by omega)]
  refine ⟨y, y1, y2, ?_⟩
  rw [e1, ints_congr (g := fun j => F (43 * k + 10 + 11 * i + 1 + j)) (fun j hj => e i _ hi (by omega) (by have := hl i hi; omega))]
  exact y3
theorem MRep.ch {h : jy_P} {x : Nat} {F F' : Ft} {k dv : Nat} (q : MRep h x F k dv) (hr : rOk F k) (e : ∀ y, 43 * k ≤ y → y < 43 * k + 43 → F' y = F y) : MRep h x F' k dv := by
  obtain ⟨a, na, b, c⟩ := q
  have e2 : my F' k = my F k := by unfold my; rw [e _ (by omega) (by omega)]
  refine ⟨a, na, by rw [e _ (by omega) (by omega), e _ (by omega) (by omega), e _ (by omega) (by omega), e _ (by omega) (by omega)]; exact b, ?_⟩
  rw [e2]
  have h3 := hr.2.2.2.2.2.1
  exact c.ch (fun i hi => (hr.2.2.2.2.2.2 i hi).2.2) (fun i y hi y1 y2 => e y (by omega) (by omega))
theorem NRep.sub {h h' : jy_P} {x : Nat} {F : Ft} {k m : Nat} (q : NRep h x F k m) (hk : ∀ i c, h[i]? = some c → 26 ≤ i → (c.1 = 57 ∨ c.1 = 51) → h'[i]? = some c) : NRep h' x F k m := by
  obtain ⟨a, nv, b, c, e⟩ := q
  refine ⟨a, nv, hk _ _ b a (by simp), c, fun i hi => ?_⟩
  obtain ⟨y, e1, e2, e3⟩ := e i hi
  exact ⟨y, e1, e2, hk _ _ e3 e2 (by simp)⟩
/-- a material under construction, at the first new place -/
def MB (h0 h : jy_P) (n p k : Nat) (F : Ft) (c : Nat) (kd br : Int32) (dv : Value) (u : Nat) : Prop :=
  St (fun i => i = 2 ∨ h0.length ≤ i) h0 h ∧ h[2]? = some (rA n p) ∧ h[h0.length]? = some (3, [.int (F (43 * k)), .ref (h0.length + 1), .int (nI c), .int kd, .int br, dv]) ∧ NRep h (h0.length + 1) F k c ∧ h0.length + 2 ≤ h.length ∧ h.length ≤ h0.length + u
section MBs
variable {h0 h : jy_P} {t : Ft} {n p k c u : Nat} {F : Ft} {kd br : Int32} {dv : Value}
theorem MB.at_ {p' : Nat} (q : MB h0 h n p k F c kd br dv u) (hl : 26 ≤ h0.length) : MB h0 (h.set 2 (rA n p')) n p' k F c kd br dv u := by
  obtain ⟨q1, q2, q3, q4, q5, q6⟩ := q
  refine ⟨q1.tr (St.set (Or.inl rfl)), gs_eq q2, by rw [List.getElem?_set_ne (by omega)]; exact q3, q4.sub (fun i c w n _ => by rw [List.getElem?_set_ne (by omega)]; exact w), by simpa using q5, by simpa using q6⟩
theorem MB.fld {fs : List Value} {F' : Ft} {c' : Nat} {kd' br' : Int32} {dv' : Value} (q : MB h0 h n p k F c kd br dv u) (hl : 26 ≤ h0.length) (hf : fs = [.int (F' (43 * k)), .ref (h0.length + 1), .int (nI c'), .int kd', .int br', dv']) (hN : NRep h (h0.length + 1) F' k c') : MB h0 (h.set h0.length (3, fs)) n p k F' c' kd' br' dv' u := by
  obtain ⟨q1, q2, q3, q4, q5, q6⟩ := q
  refine ⟨q1.tr (St.set (Or.inr (Nat.le_refl _))), by rw [List.getElem?_set_ne (by omega)]; exact q2, by rw [gs_eq q3, hf], hN.sub (fun i c w n z => ?_), by simpa using q5, by simpa using q6⟩
  by_cases e : h0.length = i
  · subst e
    rw [q3] at w
    cases w
    rcases z with z | z <;> cases z
  · rw [List.getElem?_set_ne e]; exact w
theorem MB.chF {F' : Ft} (q : MB h0 h n p k F c kd br dv u) (hI : NI F k c) (hc : c ≤ 3) (e : ∀ x, ¬ (43 * k + 1 ≤ x ∧ x ≤ 43 * k + 8) → F' x = F x) : MB h0 h n p k F' c kd br dv u ∧ NI F' k c := by
  obtain ⟨q1, q2, q3, q4, q5, q6⟩ := q
  refine ⟨⟨q1, q2, by rw [e _ (by omega)]; exact q3, q4.ch (fun i hi => ?_) (fun i y hi y1 y2 => e y (by omega)), q5, q6⟩, hI.ch hc (fun x _ _ => e x (by omega))⟩
  obtain ⟨l, l1, l2, l3⟩ := hI.2 i hi
  unfold ln
  rw [l1, nI_clamp (by omega)]
  exact l3
/-- a word more -/
theorem MB.word {z : Ft × Nat} {j : Nat} {nv : List Value} (hl : 26 ≤ h0.length) (q : MB h0 h n p k F c kd br dv u) (hI : NI F k c) (hc : c ≤ 2) (hnv : h[h0.length + 1]? = some (57, nv)) {q0 : Nat} (hj : 0 < j ∧ j ≤ 10) (hz : z = (wdF t n F (43 * k) (q0 + 1) j, sk t n (q0 + 1 + j + 1))) :
    MB h0 ((((h.set h0.length (3, [.int (F (43 * k)), .ref (h0.length + 1), .int (nI (c + 1)), .int kd, .int br, dv])) ++ [(51, ints j (fun i => hr t n (q0 + 1 + i)))]).set 2 (rA n (q0 + 1 + j + 1))).set (h0.length + 1) (57, nv.set c (.ref h.length))) n (q0 + 1 + j + 1) k z.1 (c + 1) kd br dv (u + 1) := by
  obtain ⟨q1, q2, q3, ⟨r1, nv', r2, r3, r4⟩, q5, q6⟩ := q
  rw [hnv] at r2
  cases r2
  subst hz
  generalize hH : (((h.set h0.length (3, [Value.int (F (43 * k)), .ref (h0.length + 1), .int (nI (c + 1)), .int kd, .int br, dv])) ++ [(51, ints j (fun i => hr t n (q0 + 1 + i)))]).set 2 (rA n (q0 + 1 + j + 1))).set (h0.length + 1) (57, nv.set c (.ref h.length)) = H
  have e0 : ∀ i, i ≠ h0.length + 1 → i ≠ 2 → i ≠ h0.length → ∀ cc, h[i]? = some cc → H[i]? = some cc := by
    intro i i1 i2 i3 cc w
    rw [← hH, List.getElem?_set_ne (fun e => i1 e.symm), List.getElem?_set_ne (fun e => i2 e.symm), List.getElem?_append_left (by simpa using len_lt w), List.getElem?_set_ne (fun e => i3 e.symm)]
    exact w
  have eL : H.length = h.length + 1 := by rw [← hH]; simp
  have eX : H[h0.length]? = some (3, [.int (F (43 * k)), .ref (h0.length + 1), .int (nI (c + 1)), .int kd, .int br, dv]) := by
    rw [← hH, List.getElem?_set_ne (by omega), List.getElem?_set_ne (by omega), List.getElem?_append_left (by simpa using len_lt q3)]
    exact gs_eq q3
  have eY : H[h.length]? = some (51, ints j (fun i => hr t n (q0 + 1 + i))) := by
    rw [← hH, List.getElem?_set_ne (by omega), List.getElem?_set_ne (by omega), List.getElem?_append_right (by simp)]
    simp
  have eN : H[h0.length + 1]? = some (57, nv.set c (.ref h.length)) := by
    rw [← hH]
    exact List.getElem?_set_self (by simp; omega)
  have e2 : H[2]? = some (rA n (q0 + 1 + j + 1)) := by
    rw [← hH, List.getElem?_set_ne (by omega)]
    exact List.getElem?_set_self (by simp; omega)
  have F0 : wdF t n F (43 * k) (q0 + 1) j (43 * k) = F (43 * k) := wdF_n hI.1 hc (by omega) (by omega)
  refine ⟨fun i cc w nx => e0 i (by omega) (by omega) (by omega) cc (q1 i cc w nx), e2, by rw [show ((wdF t n F (43 * k) (q0 + 1) j, sk t n (q0 + 1 + j + 1)) : Ft × Nat).1 (43 * k) = F (43 * k) from F0]; exact eX, ⟨r1, _, eN, by simp [r3], fun i hi => ?_⟩, by omega, by omega⟩
  by_cases e : i = c
  · subst e
    have el : ln (wdF t n F (43 * k) (q0 + 1) j) k i = j := by
      unfold ln
      rw [wdF_len hI.1 hc, nI_clamp (by omega)]
    refine ⟨h.length, List.getElem?_set_self (by omega), by omega, ?_⟩
    rw [el, eY, ints_congr (fun jj hjj => (wdF_let hI.1 hc hjj).symm)]
  · obtain ⟨y, y1, y2, y3⟩ := r4 i (by omega)
    obtain ⟨l, l1, l2, l3⟩ := hI.2 i (by omega)
    have el : ln (wdF t n F (43 * k) (q0 + 1) j) k i = ln F k i := by
      unfold ln
      rw [wdF_n hI.1 hc (by omega) (by omega)]
    have l10 : ln F k i ≤ 10 := by unfold ln; rw [l1, nI_clamp (by omega)]; exact l3
    have yn : y ≠ h0.length + 1 := fun w => by rw [w, hnv] at y3; cases y3
    have yx : y ≠ h0.length := fun w => by rw [w, q3] at y3; cases y3
    refine ⟨y, by rw [List.getElem?_set_ne (by omega)]; exact y1, y2, ?_⟩
    rw [el, ints_congr (g := fun jj => F (43 * k + 10 + 11 * i + 1 + jj)) (fun jj hjj => wdF_n hI.1 hc (by omega) (by omega))]
    exact e0 y yn (by omega) yx _ y3
end MBs
