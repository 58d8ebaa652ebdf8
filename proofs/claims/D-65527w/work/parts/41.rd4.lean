/-! the class' reader: what is due, distances -/
/-- an error, seen from outside: all from N on is new -/
def rN (N : Nat) (h : jy_P) (c e : Nat) : Outcome → jy_P → Prop := fun o h' => ∃ x : Nat, o = .threw x ∧ h'[x]? = some (8, [.int (nI e)]) ∧ St (fun i => i = 2 ∨ N ≤ i) h h' ∧ h.length ≤ h'.length ∧ h'.length ≤ h.length + c
theorem rE.rN {N : Nat} {h0 h h' : jy_P} {c c' e : Nat} {o : Outcome} (hs : St (fun i => i = 2 ∨ N ≤ i) h0 h) (h1 : h0.length ≤ h.length) (h2 : h.length + c ≤ h0.length + c') (q : rE h c e o h') : rN N h0 c' e o h' := by
  obtain ⟨x, q1, q2, q3, q4, q5⟩ := q
  exact ⟨x, q1, q2, hs.tr (q3.weak (fun i e => Or.inl e)), by omega, by omega⟩
theorem rN.tr {N : Nat} {h0 h h' : jy_P} {c c' e : Nat} {o : Outcome} (hs : St (fun i => i = 2 ∨ N ≤ i) h0 h) (h1 : h0.length ≤ h.length) (h2 : h.length + c ≤ h0.length + c') (q : rN N h c e o h') : rN N h0 c' e o h' := by
  obtain ⟨x, q1, q2, q3, q4, q5⟩ := q
  exact ⟨x, q1, q2, hs.tr q3, by omega, by omega⟩
def rX (N : Nat) (h : jy_P) (c : Nat) {α : Type} (R : Except Nat α) (Q : α → Option Value → jy_P → Prop) : Outcome → jy_P → Prop := fun o h' => match R with
  | .ok z => ∃ v, o = .returned v ∧ Q z v h'
  | .error e => rN N h c e o h'
theorem jr_callQ {G : jy_G} {d d' : Nat} {M M' : jy_M} {pc : Nat} {L : List (Option Value)} {st : List Value} {h : jy_P} {P : Outcome → jy_P → Prop} {α : Type} {idx n ci A c N : Nat} {As fs : List Value} {R : Except Nat α} {Q : α → Option Value → jy_P → Prop} (hd : decode (jy_c M) pc = .ok (.invokevirtual idx, 3)) (hI : jy_IV (jy_y M).cls idx M' ci n) (hn : As.length = n) (ho : h[A]? = some (ci, fs)) (hst : (st.map fun v => v.category).sum ≤ 8) (hdd : d' < d) (hC : jy_C G d' M' (.ref A :: As) h (rX N h c R Q)) (hout : ∀ q ∈ jy_h M, (decide (q.1 ≤ pc) && decide (pc < q.2.1)) = false) (kk : ∀ z v h', R = .ok z → Q z v h' → jy_J G d M (pc + 3) L (v.toList ++ st) h' P) (ke : ∀ e, R = .error e → ∀ o h', rN N h c e o h' → P o h') : jy_J G d M pc L (As.reverse ++ .ref A :: st) h P := by
  cases R with
  | ok z =>
    exact jr_callV hd hI hn ho hst hdd hC (fun v h' q => by
      obtain ⟨v', q1, q2⟩ := q
      cases q1
      exact kk z _ h' rfl q2) (fun x h' q => by obtain ⟨v', q1, q2⟩ := q; cases q1)
  | error e =>
    exact jr_callV hd hI hn ho hst hdd hC (fun v h' q => by obtain ⟨x, q1, -⟩ := q; cases q1) (fun x h' q => jy_E.out hout (ke e rfl _ _ q))
theorem d_DU_init_0 : decode (jy_c m_DU_init) 0 = .ok (.aload_n 0, 1) := by decide +kernel
theorem d_DU_init_1 : decode (jy_c m_DU_init) 1 = .ok (.invokespecial 1, 3) := by decide +kernel
theorem d_DU_init_4 : decode (jy_c m_DU_init) 4 = .ok (.aload_n 0, 1) := by decide +kernel
theorem d_DU_init_5 : decode (jy_c m_DU_init) 5 = .ok (.iconst 4, 1) := by decide +kernel
theorem d_DU_init_6 : decode (jy_c m_DU_init) 6 = .ok (.newarray .int, 2) := by decide +kernel
theorem d_DU_init_8 : decode (jy_c m_DU_init) 8 = .ok (.putfield 7, 3) := by decide +kernel
theorem d_DU_init_11 : decode (jy_c m_DU_init) 11 = .ok (.return_, 1) := by decide +kernel
theorem c_DU_init {G : jy_G} {h : jy_P} {X : Nat} (hX : 0 < X) (hK : h.length < jy_K) (ho : h[X]? = some (4, [.int 0, .int 0, .null])) : jy_C G 2 m_DU_init [.ref X] h (fun o h' => o = .returned none ∧ h' = (h ++ [(50, ints 4 (fun _ => 0))]).set X (4, [.int 0, .int 0, .ref h.length])) := by
  refine jy_C.of [some (.ref X)] rfl (Nat.le_of_ble_eq_true rfl) ?_
  refine jr_aload_n d_DU_init_0 rfl rfl ?_
  refine jr_objInit d_DU_init_1 o_DU_1 o_inst o_code (by decide) (Nat.le_of_ble_eq_true rfl) ?_
  refine jr_aload_n d_DU_init_4 rfl rfl ?_
  refine jr_iconst (v := 4) d_DU_init_5 (by decide) ?_
  refine jr_newa d_DU_init_6 (t := 50) (ty := .int) (v := .int 0) (N := 4) rfl (by decide) rfl rfl (fun q e => by cases e) a_cint (by decide) (by decide) ⟨hK, Or.inl (by decide)⟩ (by decide) ?_
  have ho' : (h ++ [(50, List.replicate 4 (Value.int 0))])[X]? = some (4, [.int 0, .int 0, .null]) := by rw [List.getElem?_append_left (len_lt ho)]; exact ho
  refine jr_putF d_DU_init_8 f_DU_7 rfl rfl jy_fv_arr hX ho' rfl ?_
  refine jr_return d_DU_init_11 rfl ?_
  exact ⟨rfl, by rw [ints_rep]; rfl⟩
section RDU
variable {G : jy_G} {h h0 : jy_P} {t tb : Ft} {n p N : Nat}
/-- h0 with a new Due -/
def hD (h0 : jy_P) (a b : Int32) (A : Ft) : jy_P := h0 ++ [(4, [.int a, .int b, .ref (h0.length + 1)]), (50, ints 4 A)]
theorem hD_len {a b : Int32} {A : Ft} : (hD h0 a b A).length = h0.length + 2 := by simp [hD]
theorem hD_old {a b : Int32} {A : Ft} {i : Nat} {c : Nat × List Value} (w : h0[i]? = some c) : (hD h0 a b A)[i]? = some c := by
  unfold hD
  rw [List.getElem?_append_left (len_lt w)]; exact w
theorem hD_0 {a b : Int32} {A : Ft} : (hD h0 a b A)[h0.length]? = some (4, [.int a, .int b, .ref (h0.length + 1)]) := by simp [hD]
theorem hD_1 {a b : Int32} {A : Ft} : (hD h0 a b A)[h0.length + 1]? = some (50, ints 4 A) := by simp [hD]
theorem hD_s0 {a b a' b' : Int32} {A : Ft} : (hD h0 a b A).set h0.length (4, [.int a', .int b', .ref (h0.length + 1)]) = hD h0 a' b' A := by simp [hD]
theorem hD_s1 {a b : Int32} {A A' : Ft} : (hD h0 a b A).set (h0.length + 1) (50, ints 4 A') = hD h0 a b A' := by
  unfold hD
  rw [List.set_append_right _ _ (by omega)]
  simp
theorem hD_st {a b : Int32} {A : Ft} {X : Nat → Prop} : St X h0 (hD h0 a b A) := St.app
theorem d_RD_due_0 : decode (jy_c m_RD_due) 0 = .ok (.new 48, 3) := by decide +kernel
theorem d_RD_due_3 : decode (jy_c m_RD_due) 3 = .ok (.dup, 1) := by decide +kernel
theorem d_RD_due_4 : decode (jy_c m_RD_due) 4 = .ok (.invokespecial 50, 3) := by decide +kernel
theorem d_RD_due_7 : decode (jy_c m_RD_due) 7 = .ok (.astore_n 1, 1) := by decide +kernel
theorem d_RD_due_8 : decode (jy_c m_RD_due) 8 = .ok (.aload_n 0, 1) := by decide +kernel
theorem d_RD_due_9 : decode (jy_c m_RD_due) 9 = .ok (.bipush 114, 2) := by decide +kernel
theorem d_RD_due_11 : decode (jy_c m_RD_due) 11 = .ok (.invokevirtual 39, 3) := by decide +kernel
theorem d_RD_due_14 : decode (jy_c m_RD_due) 14 = .ok (.aload_n 1, 1) := by decide +kernel
theorem d_RD_due_15 : decode (jy_c m_RD_due) 15 = .ok (.aload_n 0, 1) := by decide +kernel
theorem d_RD_due_16 : decode (jy_c m_RD_due) 16 = .ok (.iconst 0, 1) := by decide +kernel
theorem d_RD_due_17 : decode (jy_c m_RD_due) 17 = .ok (.bipush 9, 2) := by decide +kernel
theorem d_RD_due_19 : decode (jy_c m_RD_due) 19 = .ok (.invokevirtual 51, 3) := by decide +kernel
theorem d_RD_due_22 : decode (jy_c m_RD_due) 22 = .ok (.putfield 55, 3) := by decide +kernel
theorem d_RD_due_25 : decode (jy_c m_RD_due) 25 = .ok (.aload_n 0, 1) := by decide +kernel
theorem d_RD_due_26 : decode (jy_c m_RD_due) 26 = .ok (.bipush 103, 2) := by decide +kernel
theorem d_RD_due_28 : decode (jy_c m_RD_due) 28 = .ok (.invokevirtual 39, 3) := by decide +kernel
theorem d_RD_due_31 : decode (jy_c m_RD_due) 31 = .ok (.aload_n 1, 1) := by decide +kernel
theorem d_RD_due_32 : decode (jy_c m_RD_due) 32 = .ok (.aload_n 0, 1) := by decide +kernel
theorem d_RD_due_33 : decode (jy_c m_RD_due) 33 = .ok (.bipush 97, 2) := by decide +kernel
theorem d_RD_due_35 : decode (jy_c m_RD_due) 35 = .ok (.bipush 104, 2) := by decide +kernel
theorem d_RD_due_37 : decode (jy_c m_RD_due) 37 = .ok (.iconst 4, 1) := by decide +kernel
theorem d_RD_due_38 : decode (jy_c m_RD_due) 38 = .ok (.invokevirtual 58, 3) := by decide +kernel
theorem d_RD_due_41 : decode (jy_c m_RD_due) 41 = .ok (.putfield 62, 3) := by decide +kernel
theorem d_RD_due_44 : decode (jy_c m_RD_due) 44 = .ok (.aload_n 1, 1) := by decide +kernel
theorem d_RD_due_45 : decode (jy_c m_RD_due) 45 = .ok (.areturn, 1) := by decide +kernel
theorem c_due {F : Ft} {m : Nat} (hT : TH t tb n) (hp : p ≤ n) (h2 : h0[2]? = some (1, [.ref 3, .int (nI n), .int (nI p)])) (h3 : h0[3]? = some (51, ints 400 tb)) (hK : h0.length + 3 < jy_K) : jy_C G 8 m_RD_due [.ref 2] h0 (rX h0.length h0 3 (duP1 t n m (F, sk t n p)) (fun z v h' => v = some (.ref h0.length) ∧ h' = (hD h0 (z.1 (m + 2)) (z.1 (m + 3)) (fun _ => 0)).set 2 (rA n z.2))) := by
  refine jy_C.of [some (.ref 2), none] rfl (Nat.le_of_ble_eq_true rfl) ?_
  have hl := len_lt h2
  have hsk := skb (t := t) hp
  refine jr_new d_RD_due_0 n_RD_48 ⟨by omega, Or.inl (by decide)⟩ ?_
  refine jr_dup d_RD_due_3 rfl ?_
  refine jr_callI' (As := []) d_RD_due_4 i_RD_50 rfl (Nat.le_of_ble_eq_true rfl) (by decide : 2 < 8) (c_DU_init (by omega) (by simp; omega) ga_n) ?_
  have e0 : ((h0 ++ [(4, [Value.int 0, .int 0, .null])]) ++ [(50, ints 4 (fun _ => 0))]).set h0.length (4, [.int 0, .int 0, .ref (h0 ++ [(4, [Value.int 0, .int 0, .null])]).length]) = hD h0 0 0 (fun _ => 0) := by
    simp [hD]
  rw [e0]
  refine jr_astore_n d_RD_due_7 rfl (by decide) ?_
  refine jr_aload_n d_RD_due_8 rfl rfl ?_
  refine jr_bipush (v := 114) d_RD_due_9 (by decide) ?_
  have k2 := hD_old (a := 0) (b := 0) (A := fun _ => 0) h2
  have k3 := hD_old (a := 0) (b := 0) (A := fun _ => 0) h3
  have kl := hD_len (h0 := h0) (a := 0) (b := 0) (A := fun _ => 0)
  have kst : St (fun i => i = 2 ∨ h0.length ≤ i) h0 (hD h0 0 0 (fun _ => 0)) := hD_st
  refine jr_callR (As := [.int 114]) d_RD_due_11 i_RD_39 rfl k2 (Nat.le_of_ble_eq_true rfl) (by decide) (c_sign hT hp k2 k3 (by omega) 114) (fun _ hq => by cases hq) (fun w hw => ?_) (fun e he o h' q => ?_)
  rotate_left
  · have hR : duP1 t n m (F, sk t n p) = .error e := by
      unfold duP1 tzP tkP
      by_cases c : hr t n (sk t n p) = 114
      · rw [if_pos c] at he; cases he
      · rw [if_neg c] at he; cases he
        rw [if_neg c]; rfl
    rw [hR]
    exact q.rN kst (by omega) (by omega)
  by_cases c1 : hr t n (sk t n p) = 114
  rotate_left
  · rw [if_neg c1] at hw; cases hw
  rw [if_pos c1] at hw
  cases hw
  have in1 : sk t n p < n := hr_in (by rw [c1]; decide)
  have R1 : tzP t n 114 (F, sk t n p) = .ok (F, sk t n (sk t n p + 1)) := by unfold tzP tkP; rw [if_pos c1]; rfl
  have a2 := rA_get (n := n) (q := sk t n p + 1) k2
  have a3 := rA_3 (n := n) (q := sk t n p + 1) k3
  refine jr_aload_n d_RD_due_14 rfl rfl ?_
  refine jr_aload_n d_RD_due_15 rfl rfl ?_
  refine jr_iconst (v := 0) d_RD_due_16 (by decide) ?_
  refine jr_bipush (v := 9) d_RD_due_17 (by decide) ?_
  refine jr_callR (As := [.int 0, .int 9]) d_RD_due_19 i_RD_51 rfl a2 (Nat.le_of_ble_eq_true rfl) (by decide) (c_number hT in1 a2 a3 (by simp; omega)) (fun _ hq => by cases hq) (fun w hw => ?_) (fun e he o h' q => ?_)
  rotate_left
  · have hR : duP1 t n m (F, sk t n p) = .error e := by
      unfold duP1
      rw [R1, ebd_ok]
      unfold niP
      rcases ebd_inv2 he with q1 | ⟨w, q1, q2⟩
      · rw [q1]; rfl
      · cases q2
    rw [hR]
    exact q.rN (kst.tr (St.set (Or.inl rfl))) (by simp; omega) (by simp; omega)
  obtain ⟨v, v1, v2⟩ := ebd_inv hw
  cases v2
  have vb := nmP_b v1
  have R2 : niP t n 0 9 (m + 2) (F, sk t n (sk t n p + 1)) = .ok (upd F (m + 2) v.1, sk t n v.2) := by unfold niP; rw [v1]; rfl
  rw [List.set_set]
  have b0 : ((hD h0 0 0 (fun _ => 0)).set 2 (rA n v.2))[h0.length]? = some (4, [.int 0, .int 0, .ref (h0.length + 1)]) := by rw [List.getElem?_set_ne (by omega)]; exact hD_0
  refine jr_put d_RD_due_22 f_RD_55 jy_fv_int (by omega) b0 rfl ?_
  have e1 : ((hD h0 0 0 (fun _ => 0)).set 2 (rA n v.2)).set h0.length (4, [.int v.1, .int 0, .ref (h0.length + 1)]) = (hD h0 v.1 0 (fun _ => 0)).set 2 (rA n v.2) := by
    rw [List.set_comm _ _ (by omega : (2 : Nat) ≠ h0.length), hD_s0]
  rw [show ([Value.int 0, Value.int 0, Value.ref (h0.length + 1)].set 0 (Value.int v.1)) = [.int v.1, .int 0, .ref (h0.length + 1)] from rfl, e1]
  have m2 := hD_old (a := v.1) (b := 0) (A := fun _ => 0) h2
  have m3 := hD_old (a := v.1) (b := 0) (A := fun _ => 0) h3
  have ml := hD_len (h0 := h0) (a := v.1) (b := 0) (A := fun _ => 0)
  have mst : St (fun i => i = 2 ∨ h0.length ≤ i) h0 (hD h0 v.1 0 (fun _ => 0)) := hD_st
  have c2 := rA_get (n := n) (q := v.2) m2
  have c3 := rA_3 (n := n) (q := v.2) m3
  refine jr_aload_n d_RD_due_25 rfl rfl ?_
  refine jr_bipush (v := 103) d_RD_due_26 (by decide) ?_
  refine jr_callR (As := [.int 103]) d_RD_due_28 i_RD_39 rfl c2 (Nat.le_of_ble_eq_true rfl) (by decide) (c_sign hT vb.2 c2 c3 (by simp; omega) 103) (fun _ hq => by cases hq) (fun w hw => ?_) (fun e he o h' q => ?_)
  rotate_left
  · have hR : duP1 t n m (F, sk t n p) = .error e := by
      unfold duP1
      rw [R1, ebd_ok, R2, ebd_ok]
      unfold tzP tkP
      by_cases c : hr t n (sk t n v.2) = 103
      · rw [if_pos c] at he; cases he
      · rw [if_neg c] at he; cases he
        rw [if_neg c]; rfl
    rw [hR]
    exact q.rN (mst.tr (St.set (Or.inl rfl))) (by simp; omega) (by simp; omega)
  by_cases c4 : hr t n (sk t n v.2) = 103
  rotate_left
  · rw [if_neg c4] at hw; cases hw
  rw [if_pos c4] at hw
  cases hw
  rw [List.set_set]
  have in2 : sk t n v.2 < n := hr_in (by rw [c4]; decide)
  have R3 : tzP t n 103 (upd F (m + 2) v.1, sk t n v.2) = .ok (upd F (m + 2) v.1, sk t n (sk t n v.2 + 1)) := by unfold tzP tkP; rw [if_pos c4]; rfl
  have d2 := rA_get (n := n) (q := sk t n v.2 + 1) m2
  have d3 := rA_3 (n := n) (q := sk t n v.2 + 1) m3
  refine jr_aload_n d_RD_due_31 rfl rfl ?_
  refine jr_aload_n d_RD_due_32 rfl rfl ?_
  refine jr_bipush (v := 97) d_RD_due_33 (by decide) ?_
  refine jr_bipush (v := 104) d_RD_due_35 (by decide) ?_
  refine jr_iconst (v := 4) d_RD_due_37 (by decide) ?_
  refine jr_callR (As := [.int 97, .int 104, .int 4]) d_RD_due_38 i_RD_58 rfl d2 (Nat.le_of_ble_eq_true rfl) (by decide) (c_rising (most := 4) hT in2 d2 d3 (by simp; omega) (by decide) (by decide) (by decide)) (fun _ hq => by cases hq) (fun w hw => ?_) (fun e he o h' q => ?_)
  rotate_left
  · have hR : duP1 t n m (F, sk t n p) = .error e := by
      unfold duP1
      rw [R1, ebd_ok, R2, ebd_ok, R3, ebd_ok]
      unfold riP
      rcases ebd_inv2 he with q1 | ⟨w, q1, q2⟩
      · rw [q1]; rfl
      · cases q2
    rw [hR]
    exact q.rN (mst.tr (St.set (Or.inl rfl))) (by simp; omega) (by simp; omega)
  obtain ⟨u, u1, u2⟩ := ebd_inv hw
  cases u2
  rw [List.set_set]
  have R4 : duP1 t n m (F, sk t n p) = .ok (upd (upd F (m + 2) v.1) (m + 3) u.1, u.2) := by
    unfold duP1
    rw [R1, ebd_ok, R2, ebd_ok, R3, ebd_ok]
    unfold riP
    rw [u1]; rfl
  rw [R4]
  have f0 : ((hD h0 v.1 0 (fun _ => 0)).set 2 (rA n u.2))[h0.length]? = some (4, [.int v.1, .int 0, .ref (h0.length + 1)]) := by rw [List.getElem?_set_ne (by omega)]; exact hD_0
  refine jr_put d_RD_due_41 f_RD_62 jy_fv_int (by omega) f0 rfl ?_
  refine jr_aload_n d_RD_due_44 rfl rfl ?_
  refine jr_areturn d_RD_due_45 rfl (Or.inl ⟨_, rfl⟩) (Or.inr ⟨_, rfl⟩) ?_
  refine ⟨_, rfl, rfl, ?_⟩
  show ((hD h0 v.1 0 (fun _ => 0)).set 2 (rA n u.2)).set h0.length (4, [.int v.1, .int u.1, .ref (h0.length + 1)]) = (hD h0 (upd (upd F (m + 2) v.1) (m + 3) u.1 (m + 2)) (upd (upd F (m + 2) v.1) (m + 3) u.1 (m + 3)) (fun _ => 0)).set 2 (rA n u.2)
  rw [List.set_comm _ _ (by omega : (2 : Nat) ≠ h0.length), hD_s0, upd_s, upd_n (by omega), upd_s]
theorem d_RD_distances_0 : decode (jy_c m_RD_distances) 0 = .ok (.aload_n 0, 1) := by decide +kernel
theorem d_RD_distances_1 : decode (jy_c m_RD_distances) 1 = .ok (.bipush 64, 2) := by decide +kernel
theorem d_RD_distances_3 : decode (jy_c m_RD_distances) 3 = .ok (.invokevirtual 39, 3) := by decide +kernel
theorem d_RD_distances_6 : decode (jy_c m_RD_distances) 6 = .ok (.iconst 0, 1) := by decide +kernel
theorem d_RD_distances_7 : decode (jy_c m_RD_distances) 7 = .ok (.istore_n 2, 1) := by decide +kernel
theorem d_RD_distances_8 : decode (jy_c m_RD_distances) 8 = .ok (.iload_n 2, 1) := by decide +kernel
theorem d_RD_distances_9 : decode (jy_c m_RD_distances) 9 = .ok (.iconst 4, 1) := by decide +kernel
theorem d_RD_distances_10 : decode (jy_c m_RD_distances) 10 = .ok (.if_icmp .ge 33, 3) := by decide +kernel
theorem d_RD_distances_13 : decode (jy_c m_RD_distances) 13 = .ok (.iload_n 2, 1) := by decide +kernel
theorem d_RD_distances_14 : decode (jy_c m_RD_distances) 14 = .ok (.ifCond .le 9, 3) := by decide +kernel
theorem d_RD_distances_17 : decode (jy_c m_RD_distances) 17 = .ok (.aload_n 0, 1) := by decide +kernel
theorem d_RD_distances_18 : decode (jy_c m_RD_distances) 18 = .ok (.bipush 44, 2) := by decide +kernel
theorem d_RD_distances_20 : decode (jy_c m_RD_distances) 20 = .ok (.invokevirtual 39, 3) := by decide +kernel
theorem d_RD_distances_23 : decode (jy_c m_RD_distances) 23 = .ok (.aload_n 1, 1) := by decide +kernel
theorem d_RD_distances_24 : decode (jy_c m_RD_distances) 24 = .ok (.getfield 65, 3) := by decide +kernel
theorem d_RD_distances_27 : decode (jy_c m_RD_distances) 27 = .ok (.iload_n 2, 1) := by decide +kernel
theorem d_RD_distances_28 : decode (jy_c m_RD_distances) 28 = .ok (.aload_n 0, 1) := by decide +kernel
theorem d_RD_distances_29 : decode (jy_c m_RD_distances) 29 = .ok (.iconst 0, 1) := by decide +kernel
theorem d_RD_distances_30 : decode (jy_c m_RD_distances) 30 = .ok (.sipush 9999, 3) := by decide +kernel
theorem d_RD_distances_33 : decode (jy_c m_RD_distances) 33 = .ok (.invokevirtual 51, 3) := by decide +kernel
theorem d_RD_distances_36 : decode (jy_c m_RD_distances) 36 = .ok (.iastore, 1) := by decide +kernel
theorem d_RD_distances_37 : decode (jy_c m_RD_distances) 37 = .ok (.iinc 2 1, 3) := by decide +kernel
theorem d_RD_distances_40 : decode (jy_c m_RD_distances) 40 = .ok (.goto (-32), 3) := by decide +kernel
theorem d_RD_distances_43 : decode (jy_c m_RD_distances) 43 = .ok (.return_, 1) := by decide +kernel
theorem c_dist {F : Ft} {m X y : Nat} {a b : Int32} (hT : TH t tb n) (hp : p ≤ n) (h2 : h0[2]? = some (1, [.ref 3, .int (nI n), .int (nI p)])) (h3 : h0[3]? = some (51, ints 400 tb)) (hX : h0[X]? = some (4, [.int a, .int b, .ref y])) (hy : h0[y]? = some (50, ints 4 (fun _ => 0))) (hN : N ≤ y) (h4 : 4 ≤ y) (hK : h0.length + 3 < jy_K) : jy_C G 8 m_RD_distances [.ref 2, .ref X] h0 (rX N h0 3 (ebd (tzP t n 64 (F, sk t n p)) (fun w => dsP t n m w 4)) (fun z v h' => v = none ∧ ∃ p', p' ≤ n ∧ sk t n p' = z.2 ∧ h' = (h0.set y (50, ints 4 (fun j => z.1 (m + 4 + j)))).set 2 (rA n p'))) := by
  refine jy_C.of [some (.ref 2), some (.ref X), none] rfl (Nat.le_of_ble_eq_true rfl) ?_
  have hsk := skb (t := t) hp
  have hX2 : X ≠ 2 := fun e => by rw [e, h2] at hX; cases hX
  have hXy : X ≠ y := fun e => by rw [e, hy] at hX; cases hX
  refine jr_aload_n d_RD_distances_0 rfl rfl ?_
  refine jr_bipush (v := 64) d_RD_distances_1 (by decide) ?_
  refine jr_callR (As := [.int 64]) d_RD_distances_3 i_RD_39 rfl h2 (Nat.le_of_ble_eq_true rfl) (by decide) (c_sign hT hp h2 h3 (by omega) 64) (fun _ hq => by cases hq) (fun w hw => ?_) (fun e he o h' q => ?_)
  rotate_left
  · have hR : tzP t n 64 (F, sk t n p) = .error e := by
      unfold tzP tkP
      by_cases c : hr t n (sk t n p) = 64
      · rw [if_pos c] at he; cases he
      · rw [if_neg c] at he; cases he
        rw [if_neg c]; rfl
    rw [hR]
    exact q.rN St.rf (by omega) (by omega)
  by_cases c1 : hr t n (sk t n p) = 64
  rotate_left
  · rw [if_neg c1] at hw; cases hw
  rw [if_pos c1] at hw
  cases hw
  have in1 : sk t n p < n := hr_in (by rw [c1]; decide)
  have R1 : tzP t n 64 (F, sk t n p) = .ok (F, sk t n (sk t n p + 1)) := by unfold tzP tkP; rw [if_pos c1]; rfl
  rw [R1, ebd_ok]
  generalize hw0 : ((F, sk t n (sk t n p + 1)) : Ft × Nat) = w0
  refine jr_iconst (v := 0) d_RD_distances_6 (by decide) ?_
  refine jr_istore_n d_RD_distances_7 rfl (by decide) ?_
  have key : ∀ k, k ≤ 4 → ∀ (w : Ft × Nat) p' (A : Ft), dsP t n m w0 k = .ok w → p' ≤ n → sk t n p' = w.2 → (∀ j, j < k → A j = w.1 (m + 4 + j)) → jy_J G 8 m_RD_distances 8 [some (.ref 2), some (.ref X), some (.int (nI k))] [] ((h0.set y (50, ints 4 A)).set 2 (rA n p')) (rX N h0 3 (dsP t n m w0 4) (fun z v h' => v = none ∧ ∃ p', p' ≤ n ∧ sk t n p' = z.2 ∧ h' = (h0.set y (50, ints 4 (fun j => z.1 (m + 4 + j)))).set 2 (rA n p'))) := by
    refine jl_up 4 _ (fun w p' A hw hp' hs hA => ?_) (fun k hk ih w p' A hw hp' hs hA => ?_)
    · refine jr_iload_n d_RD_distances_8 rfl rfl ?_
      refine jr_iconst (v := 4) d_RD_distances_9 (by decide) ?_
      refine jr_icmp_ge (tgt := 43) d_RD_distances_10 (by decide) (fun _ => ?_) (fun q => absurd (by decide) q)
      refine jr_return d_RD_distances_43 rfl ?_
      rw [hw]
      exact ⟨_, rfl, rfl, p', hp', hs, by rw [ints_congr hA]⟩
    · have g2 : (h0.set y (50, ints 4 A))[2]? = some (1, [.ref 3, .int (nI n), .int (nI p)]) := by rw [List.getElem?_set_ne (by omega)]; exact h2
      have g3 : (h0.set y (50, ints 4 A))[3]? = some (51, ints 400 tb) := by rw [List.getElem?_set_ne (by omega)]; exact h3
      have gy : (h0.set y (50, ints 4 A))[y]? = some (50, ints 4 A) := gs_eq hy
      have gX : (h0.set y (50, ints 4 A))[X]? = some (4, [.int a, .int b, .ref y]) := by rw [List.getElem?_set_ne (fun e => hXy e.symm)]; exact hX
      have gst : St (fun i => i = 2 ∨ N ≤ i) h0 (h0.set y (50, ints 4 A)) := St.set (Or.inr hN)
      -- the number, at place p2, behind what s says
      have num : ∀ (w2 : Ft × Nat) p2, p2 ≤ n → sk t n p2 = w2.2 → (∀ j, j < k → A j = w2.1 (m + 4 + j)) → dsP t n m w0 (k + 1) = niP t n 0 9999 (m + 4 + k) w2 → jy_J G 8 m_RD_distances 23 [some (.ref 2), some (.ref X), some (.int (nI k))] [] ((h0.set y (50, ints 4 A)).set 2 (rA n p2)) (rX N h0 3 (dsP t n m w0 4) (fun z v h' => v = none ∧ ∃ p', p' ≤ n ∧ sk t n p' = z.2 ∧ h' = (h0.set y (50, ints 4 (fun j => z.1 (m + 4 + j)))).set 2 (rA n p'))) := by
        intro w2 p2 hp2 hs2 hA2 hR
        have s2 := rA_get (n := n) (q := p2) g2
        have s3 := rA_3 (n := n) (q := p2) g3
        have sX : ((h0.set y (50, ints 4 A)).set 2 (rA n p2))[X]? = some (4, [.int a, .int b, .ref y]) := by rw [List.getElem?_set_ne (fun e => hX2 e.symm)]; exact gX
        refine jr_aload_n d_RD_distances_23 rfl rfl ?_
        refine jr_get d_RD_distances_24 f_RD_65 sX rfl ?_
        refine jr_iload_n d_RD_distances_27 rfl rfl ?_
        refine jr_aload_n d_RD_distances_28 rfl rfl ?_
        refine jr_iconst (v := 0) d_RD_distances_29 (by decide) ?_
        refine jr_sipush (v := 9999) d_RD_distances_30 (by decide) ?_
        refine jr_callR (As := [.int 0, .int 9999]) d_RD_distances_33 i_RD_51 rfl s2 (Nat.le_of_ble_eq_true rfl) (by decide) (c_number hT hp2 s2 s3 (by simp; omega)) (fun _ hq => by cases hq) (fun u hu => ?_) (fun e he o h' q => ?_)
        rotate_left
        · have hE : dsP t n m w0 (k + 1) = .error e := by
            rw [hR]
            unfold niP
            rw [← hs2]
            rcases ebd_inv2 he with q1 | ⟨w, q1, q2⟩
            · rw [q1]; rfl
            · cases q2
          rw [dsP_er hE 4 (by omega)]
          exact q.rN (gst.tr (St.set (Or.inl rfl))) (by simp) (by simp)
        obtain ⟨v, v1, v2⟩ := ebd_inv hu
        cases v2
        have vb := nmP_b v1
        rw [List.set_set]
        have sy : ((h0.set y (50, ints 4 A)).set 2 (rA n v.2))[y]? = some (50, ints 4 A) := by rw [List.getElem?_set_ne (by omega)]; exact gy
        refine cr_iast d_RD_distances_36 (by omega) sy rfl hk (by decide) ?_
        refine jr_iinc1 d_RD_distances_37 rfl (by decide) ?_
        refine jr_goto (tgt := 8) d_RD_distances_40 (by decide) ?_
        rw [nI_1, List.set_comm _ _ (by omega : (2 : Nat) ≠ y), List.set_set]
        refine ih (upd w2.1 (m + 4 + k) v.1, sk t n v.2) v.2 (upd A k v.1) ?_ vb.2 rfl (fun j hj => ?_)
        · rw [hR]
          unfold niP
          rw [← hs2, v1]; rfl
        · by_cases e : j = k
          · subst e
            rw [upd_s]; exact upd_s.symm
          · rw [upd_n e]
            show A j = upd w2.1 (m + 4 + k) v.1 (m + 4 + j)
            rw [upd_n (by omega)]
            exact hA2 j (by omega)
      refine jr_iload_n d_RD_distances_8 rfl rfl ?_
      refine jr_iconst (v := 4) d_RD_distances_9 (by decide) ?_
      refine jr_icmp_ge (tgt := 43) d_RD_distances_10 (by decide) (fun q => absurd ((nI_leI (a := 4) (by decide) (by omega)).mp q) (by omega)) (fun _ => ?_)
      refine jr_iload_n d_RD_distances_13 rfl rfl ?_
      cases k with
      | zero =>
        refine jr_if_le (tgt := 23) d_RD_distances_14 (by decide) (fun _ => ?_) (fun q => absurd (by decide) q)
        refine num w p' hp' hs (fun j hj => by omega) ?_
        show ebd (dsP t n m w0 0) _ = _
        rw [hw]; rfl
      | succ k =>
        refine jr_if_le (tgt := 23) d_RD_distances_14 (by decide) (fun q => absurd q (nI_nle (by omega) (by omega))) (fun _ => ?_)
        have s2 := rA_get (n := n) (q := p') g2
        have s3 := rA_3 (n := n) (q := p') g3
        refine jr_aload_n d_RD_distances_17 rfl rfl ?_
        refine jr_bipush (v := 44) d_RD_distances_18 (by decide) ?_
        refine jr_callR (As := [.int 44]) d_RD_distances_20 i_RD_39 rfl s2 (Nat.le_of_ble_eq_true rfl) (by decide) (c_sign hT hp' s2 s3 (by simp; omega) 44) (fun _ hq => by cases hq) (fun u hu => ?_) (fun e he o h' q => ?_)
        rotate_left
        · have hE : dsP t n m w0 (k + 1 + 1) = .error e := by
            show ebd (dsP t n m w0 (k + 1)) _ = _
            rw [hw, ebd_ok, if_neg (by omega)]
            unfold tzP tkP
            rw [← hs]
            by_cases c : hr t n (sk t n p') = 44
            · rw [if_pos c] at he; cases he
            · rw [if_neg c] at he; cases he
              rw [if_neg c]; rfl
          rw [dsP_er hE 4 (by omega)]
          exact q.rN (gst.tr (St.set (Or.inl rfl))) (by simp) (by simp)
        by_cases c : hr t n (sk t n p') = 44
        · rw [if_pos c] at hu
          cases hu
          rw [List.set_set]
          have in2 : sk t n p' < n := hr_in (by rw [c]; decide)
          refine num (w.1, sk t n (sk t n p' + 1)) (sk t n p' + 1) in2 rfl hA ?_
          show ebd (dsP t n m w0 (k + 1)) _ = _
          rw [hw, ebd_ok, if_neg (by omega)]
          unfold tzP tkP
          rw [← hs, if_pos c]
          rfl
        · rw [if_neg c] at hu; cases hu
  have hh : (h0.set 2 (rA n (sk t n p + 1))) = (h0.set y (50, ints 4 (fun _ => 0))).set 2 (rA n (sk t n p + 1)) := by
    have : h0.set y (50, ints 4 (fun _ => 0)) = h0 := by
      apply List.ext_getElem?
      intro i
      by_cases e : y = i
      · subst e; rw [gs_eq hy]; exact hy.symm
      · rw [List.getElem?_set_ne e]
    rw [this]
  rw [hh]
  exact key 0 (by omega) w0 (sk t n p + 1) (fun _ => 0) rfl in1 (by rw [← hw0]) (fun j hj => by omega)
end RDU
