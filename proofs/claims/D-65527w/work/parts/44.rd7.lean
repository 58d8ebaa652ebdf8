/-! the class' reader: a material's row, to its end -/
section MU
variable {G : jy_G} {h0 h : jy_P} {t tb : Ft} {n k T N p c u : Nat} {F : Ft} {g : Bool} {kd br : Int32} {dv : Value}
theorem MB.due {a b : Int32} {A : Ft} {p' : Nat} (q : MB h0 h n p k F c kd br dv u) (h26 : 26 ≤ h0.length) : MB h0 ((hD h a b A).set 2 (rA n p')) n p' k F c kd br dv (u + 2) := by
  obtain ⟨q1, q2, q3, q4, q5, q6⟩ := q
  have o : ∀ i cc, h[i]? = some cc → i ≠ 2 → ((hD h a b A).set 2 (rA n p'))[i]? = some cc := fun i cc w ne => by
    rw [List.getElem?_set_ne (fun e => ne e.symm)]
    exact hD_old w
  exact ⟨(q1.tr hD_st).tr (St.set (Or.inl rfl)), gs_eq (hD_old q2), o _ _ q3 (by omega), q4.sub (fun i c w n _ => o i c w (by omega)), by simp [hD_len]; omega, by simp [hD_len]; omega⟩
theorem MB.arr {y p' : Nat} {v w : List Value} (q : MB h0 h n p k F c kd br dv u) (h26 : 26 ≤ h0.length) (hy : h[y]? = some (50, v)) (hy2 : h0.length + 2 ≤ y) : MB h0 ((h.set y (50, w)).set 2 (rA n p')) n p' k F c kd br dv u := by
  obtain ⟨q1, q2, q3, q4, q5, q6⟩ := q
  have hne : ∀ i cc, h[i]? = some cc → cc.1 ≠ 50 → i ≠ 2 → ((h.set y (50, w)).set 2 (rA n p'))[i]? = some cc := fun i cc z n50 ne => by
    have : y ≠ i := fun e => by subst e; rw [hy] at z; cases z; exact n50 rfl
    rw [List.getElem?_set_ne (fun e => ne e.symm), List.getElem?_set_ne this]
    exact z
  refine ⟨(q1.tr (St.set (Or.inr (by omega)))).tr (St.set (Or.inl rfl)), gs_eq (c0 := rA n p) (by rw [List.getElem?_set_ne (by omega)]; exact q2), hne _ _ q3 (by simp) (by omega), q4.sub (fun i c w' n z => hne i c w' (by omega) (by omega)), by simpa using q5, by simpa using q6⟩
theorem DRep.ch7 {h : jy_P} {x : Nat} {F F' : Ft} {k : Nat} (q : DRep h x F k) (e : ∀ y, 43 * k + 2 ≤ y → y ≤ 43 * k + 7 → F' y = F y) : DRep h x F' k := by
  obtain ⟨a, y, b, c, d⟩ := q
  refine ⟨a, y, b, by rw [e _ (by omega) (by omega), e _ (by omega) (by omega)]; exact c, ?_⟩
  rw [ints_congr (g := fun j => F (43 * k + 4 + j)) (fun j hj => e _ (by omega) (by omega))]
  exact d
theorem rsF_sk {lo hi : Int32} : ∀ k q b l, sk t n q = q → sk t n (rsF t n lo hi k q b l).2 = (rsF t n lo hi k q b l).2 := by
  intro k
  induction k with
  | zero => intro q b l h; exact h
  | succ k ih =>
    intro q b l h
    unfold rsF
    split
    · exact ih _ _ _ sk_sk
    · exact h
theorem rsP_sk {lo hi : Int32} {most q : Nat} {w : Int32 × Nat} (hq : sk t n q = q) (h : rsP t n lo hi most q = .ok w) : sk t n w.2 = w.2 := by
  unfold rsP at h
  split at h
  · split at h
    · cases h
    · cases h
      exact rsF_sk _ _ _ _ hq
  · cases h
theorem DRep.at2 {h : jy_P} {x : Nat} {F : Ft} {k : Nat} {cc : Nat × List Value} (q : DRep h x F k) : DRep (h.set 2 cc) x F k := by
  obtain ⟨a, y, b, c, d⟩ := q
  exact ⟨a, y, b, by rw [List.getElem?_set_ne (by omega)]; exact c, by rw [List.getElem?_set_ne (by omega)]; exact d⟩
/-- into the table -/
theorem rd_mat_fin {D : Nat} {F0 F6 : Ft} {l2 : Option Value} {R : Except Nat (Ft × Nat)} {z6 : Ft × Nat} (h26 : 26 ≤ N) (hN : N ≤ h0.length) (hTC : TC N h0 T F0 k g) (hF : FT F0 k g) (hk : k < 12) (hB : MB h0 h n p k F6 c kd br (.ref D) u) (hu : u ≤ 7) (hI : NI F6 k c) (hc : 1 ≤ c ∧ c ≤ 3) (hD' : DRep h D F6 k) (hkd : F6 (43 * k + 1) = kd) (hbr : F6 (43 * k + 8) = br) (hch : ∀ x, ¬ (43 * k ≤ x ∧ x < 43 * k + 43) → F6 x = F0 x) (hp : p ≤ n) (hR : R = .ok z6) (hz : z6.1 = F6 ∧ sk t n p = z6.2) :
    jy_J G 9 m_RD_material 157 [some (.ref 2), some (.ref T), l2, some (.ref h0.length)] [] h (rX N h0 12 R (fun z v h' => v = none ∧ ∃ p', p' ≤ n ∧ sk t n p' = z.2 ∧ h'[2]? = some (rA n p') ∧ TC N h' T z.1 (k + 1) g ∧ St (fun i => i = 2 ∨ N ≤ i) h0 h' ∧ h0.length ≤ h'.length ∧ h'.length ≤ h0.length + 8)) := by
  obtain ⟨q1, q2, q3, q4, q5, q6⟩ := hB
  obtain ⟨ma, gv, mv, t1, t2, t3, t4, t5, t6, t7⟩ := hTC
  have hTl := len_lt t3
  have hml := len_lt t4
  have a3 := q1 _ _ t3 (by omega)
  have a4 := q1 _ _ t4 (by omega)
  have hTm : T ≠ ma := fun e => by rw [e, t4] at t3; cases t3
  refine jr_aload_n d_RD_material_157 rfl rfl ?_
  refine jr_get d_RD_material_158 f_RD_109 a3 rfl ?_
  refine jr_aload_n d_RD_material_161 rfl rfl ?_
  refine jr_dup d_RD_material_162 rfl ?_
  refine jr_get d_RD_material_163 f_RD_113 a3 rfl ?_
  refine jr_dup_x1 d_RD_material_166 rfl rfl ?_
  refine jr_iconst (v := 1) d_RD_material_167 (by decide) ?_
  refine jr_iadd d_RD_material_168 ?_
  rw [nI_1]
  refine jr_put d_RD_material_169 f_RD_113 jy_fv_int (by omega) a3 rfl ?_
  rw [show ([Value.ref ma, .int (nI k), gv].set 1 (.int (nI (k + 1)))) = [.ref ma, .int (nI (k + 1)), gv] from rfl]
  have b4 : (h.set T (2, [.ref ma, .int (nI (k + 1)), gv]))[ma]? = some (54, mv) := by rw [List.getElem?_set_ne hTm]; exact a4
  have b3 : (h.set T (2, [.ref ma, .int (nI (k + 1)), gv]))[h0.length]? = some (3, [.int (F6 (43 * k)), .ref (h0.length + 1), .int (nI c), .int kd, .int br, .ref D]) := by rw [List.getElem?_set_ne (by omega)]; exact q3
  refine jr_aload_n d_RD_material_172 rfl rfl ?_
  obtain ⟨i1, i2⟩ := nI_ok (i := nI k) (j := k) rfl (by omega)
  refine jr_aast d_RD_material_173 (by omega) b4 b3 rfl i1 (by rw [i2, t5]; exact hk) rfl ?_
  rw [i2]
  refine jr_return d_RD_material_174 rfl ?_
  rw [hR]
  generalize hH : (h.set T (2, [.ref ma, .int (nI (k + 1)), gv])).set ma (54, mv.set k (.ref h0.length)) = H
  have eo : ∀ i cc, h[i]? = some cc → i ≠ T → i ≠ ma → H[i]? = some cc := fun i cc w e1 e2 => by
    rw [← hH, List.getElem?_set_ne (fun e => e2 e.symm), List.getElem?_set_ne (fun e => e1 e.symm)]
    exact w
  have kq : Kq h H := fun i cc w n z => eo i cc w (fun e => by subst e; rw [a3] at w; cases w; simp at z) (fun e => by subst e; rw [a4] at w; cases w; simp at z)
  have kq0 : Kq h0 h := fun i cc w n z => q1 i cc w (by have := len_lt w; omega)
  have my6 : my F6 k = c := by unfold my; rw [hI.1, nI_clamp (by omega)]
  have s0 : St (fun i => i = 2 ∨ N ≤ i) h0 h := q1.weak (fun i e => by omega)
  refine ⟨_, rfl, rfl, p, hp, hz.2, eo _ _ q2 (by omega) (by omega), ?_, fun i cc w nx => eo i cc (s0 i cc w nx) (by omega) (by omega), by rw [← hH]; simp; omega, by rw [← hH]; simp; omega⟩
  rw [hz.1]
  refine ⟨ma, gv, mv.set k (.ref h0.length), t1, t2, ?_, ?_, by simp [t5], fun j hj => ?_, ?_⟩
  · rw [← hH, List.getElem?_set_ne (fun e => hTm e.symm)]
    exact gs_eq a3
  · rw [← hH]
    exact gs_eq b4
  · by_cases e : j = k
    · subst e
      refine ⟨h0.length, D, List.getElem?_set_self (by omega), ⟨by omega, h0.length + 1, ?_, ?_⟩, hD'.kq kq⟩
      · rw [hkd, hbr, hI.1]
        exact eo _ _ q3 (by omega) (by omega)
      · rw [my6]
        exact q4.kq kq
    · obtain ⟨x, dx, x1, x2, x3⟩ := t6 j (by omega)
      refine ⟨x, dx, by rw [List.getElem?_set_ne (by omega)]; exact x1, ?_, ?_⟩
      · exact ((x2.ch (hF.2.1 j (by omega)) (fun y y1 y2 => hch y (by omega))).kq kq0).kq kq
      · exact ((x3.ch (fun y y1 y2 => hch y (by omega))).kq kq0).kq kq
  · rcases t7 with ⟨g1, x, g2, g3⟩ | g1
    · exact Or.inl ⟨g1, x, g2, ((g3.ch (fun y y1 y2 => hch y (by omega))).kq kq0).kq kq⟩
    · exact Or.inr g1
theorem rd_mat3 {F0 : Ft} {l2 : Option Value} (hT : TH t tb n) (h3 : h0[3]? = some (51, ints 400 tb)) (h26 : 26 ≤ N) (hN : N ≤ h0.length) (hK : h0.length + 20 < jy_K) (hTC : TC N h0 T F0 k g) (hF : FT F0 k g) (hk : k < 12) (hB : MB h0 h n p k F c 0 0 .null 5) (hI : NI F k c) (hc : 1 ≤ c ∧ c ≤ 3) (hch : ∀ x, ¬ (43 * k ≤ x ∧ x < 43 * k + 43) → F x = F0 x) (hp : p ≤ n) :
    jy_J G 9 m_RD_material 100 [some (.ref 2), some (.ref T), l2, some (.ref h0.length)] [] h (rX N h0 12 (mrP3 t n k (F, sk t n p)) (fun z v h' => v = none ∧ ∃ p', p' ≤ n ∧ sk t n p' = z.2 ∧ h'[2]? = some (rA n p') ∧ TC N h' T z.1 (k + 1) g ∧ St (fun i => i = 2 ∨ N ≤ i) h0 h' ∧ h0.length ≤ h'.length ∧ h'.length ≤ h0.length + 8)) := by
  have h26' : 26 ≤ h0.length := by omega
  have wk : ∀ {h}, St (fun i => i = 2 ∨ h0.length ≤ i) h0 h → St (fun i => i = 2 ∨ N ≤ i) h0 h := fun q => q.weak (fun i e => by omega)
  obtain ⟨q1, q2, q3, q4, q5, q6⟩ := id hB
  have h3' := q1 _ _ h3 (by omega)
  refine jr_aload_n d_RD_material_100 rfl rfl ?_
  refine jr_bipush (v := 99) d_RD_material_101 (by decide) ?_
  refine jr_callR (As := [.int 99]) d_RD_material_103 i_RD_39 rfl q2 (Nat.le_of_ble_eq_true rfl) (by decide) (c_sign hT hp q2 h3' (by omega) 99) (fun _ hq => by cases hq) (fun w hw => ?_) (fun e he o h' q => ?_)
  rotate_left
  · have hR : mrP3 t n k (F, sk t n p) = .error e := by
      unfold mrP3 tzP tkP
      by_cases c : hr t n (sk t n p) = 99
      · rw [if_pos c] at he; cases he
      · rw [if_neg c] at he; cases he
        rw [if_neg c]; rfl
    rw [hR]
    exact q.rN (wk q1) (by omega) (by omega)
  by_cases c1 : hr t n (sk t n p) = 99
  rotate_left
  · rw [if_neg c1] at hw; cases hw
  rw [if_pos c1] at hw
  cases hw
  have in1 : sk t n p < n := hr_in (by rw [c1]; decide)
  have R1 : tzP t n 99 (F, sk t n p) = .ok (F, sk t n (sk t n p + 1)) := by unfold tzP tkP; rw [if_pos c1]; rfl
  have hB := hB.at_ (p' := sk t n p + 1) h26'
  generalize h.set 2 (rA n (sk t n p + 1)) = ha at hB ⊢
  obtain ⟨a1, a2, a3, a4, a5, a6⟩ := id hB
  refine jr_aload_n d_RD_material_106 rfl rfl ?_
  refine jr_aload_n d_RD_material_107 rfl rfl ?_
  refine jr_iconst (v := 1) d_RD_material_108 (by decide) ?_
  refine jr_bipush (v := 9) d_RD_material_109 (by decide) ?_
  refine jr_callR (As := [.int 1, .int 9]) d_RD_material_111 i_RD_51 rfl a2 (Nat.le_of_ble_eq_true rfl) (by decide) (c_number hT in1 a2 (a1 _ _ h3 (by omega)) (by show ha.length < jy_K; omega)) (fun _ hq => by cases hq) (fun w hw => ?_) (fun e he o h' q => ?_)
  rotate_left
  · have hR : mrP3 t n k (F, sk t n p) = .error e := by
      unfold mrP3
      rw [R1, ebd_ok]
      unfold niP
      rcases ebd_inv2 he with q1 | ⟨w, q1, q2⟩
      · rw [q1]; rfl
      · cases q2
    rw [hR]
    exact q.rN (wk a1) (by omega) (by omega)
  obtain ⟨v, v1, v2⟩ := ebd_inv hw
  cases v2
  have vb := nmP_b v1
  have R2 : niP t n 1 9 (43 * k + 1) (F, sk t n (sk t n p + 1)) = .ok (upd F (43 * k + 1) v.1, sk t n v.2) := by unfold niP; rw [v1]; rfl
  have hB := hB.at_ (p' := v.2) h26'
  generalize ha.set 2 (rA n v.2) = hb at hB ⊢
  obtain ⟨hB, hI⟩ := hB.chF (F' := upd F (43 * k + 1) v.1) hI hc.2 (fun x hx => upd_n (by omega))
  obtain ⟨b1, b2, b3, b4, b5, b6⟩ := id hB
  refine jr_put d_RD_material_114 f_RD_89 jy_fv_int (by omega) b3 rfl ?_
  have hB := hB.fld (kd' := v.1) (br' := 0) (dv' := .null) (fs := [Value.int (upd F (43 * k + 1) v.1 (43 * k)), .ref (h0.length + 1), .int (nI c), .int 0, .int 0, .null].set 3 (.int v.1)) h26' rfl b4
  have hch3 : ∀ x, ¬ (43 * k ≤ x ∧ x < 43 * k + 43) → upd F (43 * k + 1) v.1 x = F0 x := fun x hx => by rw [upd_n (by omega)]; exact hch x hx
  have hk3 : upd F (43 * k + 1) v.1 (43 * k + 1) = v.1 := upd_s
  generalize hb.set h0.length (3, [Value.int (upd F (43 * k + 1) v.1 (43 * k)), .ref (h0.length + 1), .int (nI c), .int 0, .int 0, .null].set 3 (.int v.1)) = hc' at hB ⊢
  generalize upd F (43 * k + 1) v.1 = F3 at hB hI hch3 hk3 R2 ⊢
  obtain ⟨b1, b2, b3, b4, b5, b6⟩ := id hB
  refine jr_aload_n d_RD_material_117 rfl rfl ?_
  refine jr_aload_n d_RD_material_118 rfl rfl ?_
  refine jr_callQ (As := []) d_RD_material_119 i_RD_92 rfl b2 (Nat.le_of_ble_eq_true rfl) (by decide) (c_due (F := F3) (m := 43 * k) hT vb.2 b2 (b1 _ _ h3 (by omega)) (by omega)) (fun _ hq => by cases hq) (fun z vv h' hz hq => ?_) (fun e he o h' q => ?_)
  rotate_left
  · have hR : mrP3 t n k (F, sk t n p) = .error e := by
      unfold mrP3
      rw [R1, ebd_ok, R2, ebd_ok]
      unfold duP
      rw [he]; rfl
    rw [hR]
    obtain ⟨x, x1, x2, x3, x4, x5⟩ := q
    exact ⟨x, x1, x2, (wk b1).tr (x3.weak (fun i e => by omega)), by omega, by omega⟩
  obtain ⟨rfl, rfl⟩ := hq
  have R3 := hz
  have zb := (duP1_g (t := t) (m := 43 * k) (z := (F3, sk t n v.2)) (skb vb.2).2).1 z hz
  have zsk : sk t n z.2 = z.2 := by
    obtain ⟨z3, g3, g4⟩ := ebd_inv hz
    obtain ⟨w, w1, rfl⟩ := riP_ok g4
    obtain ⟨z4, g5, g6⟩ := ebd_inv g3
    obtain ⟨-, rfl⟩ := tzP_ok g6
    exact rsP_sk sk_sk w1
  have hB := hB.due (a := z.1 (43 * k + 2)) (b := z.1 (43 * k + 3)) (A := fun _ => 0) (p' := z.2) h26'
  have hcl : hc'.length ≤ h0.length + 5 := b6
  have hcl2 : h0.length + 2 ≤ hc'.length := b5
  have dd0 : ((hD hc' (z.1 (43 * k + 2)) (z.1 (43 * k + 3)) (fun _ => 0)).set 2 (rA n z.2))[hc'.length]? = some (4, [.int (z.1 (43 * k + 2)), .int (z.1 (43 * k + 3)), .ref (hc'.length + 1)]) := by rw [List.getElem?_set_ne (by omega)]; exact hD_0
  have dd1 : ((hD hc' (z.1 (43 * k + 2)) (z.1 (43 * k + 3)) (fun _ => 0)).set 2 (rA n z.2))[hc'.length + 1]? = some (50, ints 4 (fun _ => 0)) := by rw [List.getElem?_set_ne (by omega)]; exact hD_1
  generalize (hD hc' (z.1 (43 * k + 2)) (z.1 (43 * k + 3)) (fun _ => 0)).set 2 (rA n z.2) = hd at hB dd0 dd1 ⊢
  generalize hc'.length = D at hcl hcl2 dd0 dd1 ⊢
  obtain ⟨hB, hI⟩ := hB.chF (F' := z.1) hI hc.2 (fun x hx => duP1_ch hz x (by omega))
  have hch4 : ∀ x, ¬ (43 * k ≤ x ∧ x < 43 * k + 43) → z.1 x = F0 x := fun x hx => by rw [duP1_ch hz x (by omega)]; exact hch3 x hx
  have hk4 : z.1 (43 * k + 1) = v.1 := by rw [duP1_ch hz _ (by omega)]; exact hk3
  obtain ⟨b1, b2, b3, b4, b5, b6⟩ := id hB
  refine jr_put d_RD_material_122 f_RD_96 jy_fv_ref (by omega) b3 rfl ?_
  have hB := hB.fld (kd' := v.1) (br' := 0) (dv' := .ref D) (fs := [Value.int (z.1 (43 * k)), .ref (h0.length + 1), .int (nI c), .int v.1, .int 0, .null].set 5 (.ref D)) h26' rfl b4
  have dd0 : (hd.set h0.length (3, [Value.int (z.1 (43 * k)), .ref (h0.length + 1), .int (nI c), .int v.1, .int 0, .null].set 5 (.ref D)))[D]? = some (4, [.int (z.1 (43 * k + 2)), .int (z.1 (43 * k + 3)), .ref (D + 1)]) := by rw [List.getElem?_set_ne (by omega)]; exact dd0
  have dd1 : (hd.set h0.length (3, [Value.int (z.1 (43 * k)), .ref (h0.length + 1), .int (nI c), .int v.1, .int 0, .null].set 5 (.ref D)))[D + 1]? = some (50, ints 4 (fun _ => 0)) := by rw [List.getElem?_set_ne (by omega)]; exact dd1
  generalize hd.set h0.length (3, [Value.int (z.1 (43 * k)), .ref (h0.length + 1), .int (nI c), .int v.1, .int 0, .null].set 5 (.ref D)) = he at hB dd0 dd1 ⊢
  obtain ⟨b1, b2, b3, b4, b5, b6⟩ := id hB
  refine jr_aload_n d_RD_material_125 rfl rfl ?_
  refine jr_aload_n d_RD_material_126 rfl rfl ?_
  refine jr_get d_RD_material_127 f_RD_96 b3 rfl ?_
  refine jr_callQ (As := [.ref D]) d_RD_material_130 i_RD_99 rfl b2 (Nat.le_of_ble_eq_true rfl) (by decide) (c_dist (F := z.1) (m := 43 * k) (N := h0.length) hT zb.2 b2 (b1 _ _ h3 (by omega)) dd0 dd1 (by omega) (by omega) (by omega)) (fun _ hq => by cases hq) (fun z5 vv h' hz5 hq => ?_) (fun e he2 o h' q => ?_)
  rotate_left
  · have hR : mrP3 t n k (F, sk t n p) = .error e := by
      unfold mrP3
      rw [R1, ebd_ok, R2, ebd_ok]
      unfold duP
      rw [hz, ebd_ok]
      rw [zsk] at he2
      rw [he2]; rfl
    rw [hR]
    obtain ⟨x, x1, x2, x3, x4, x5⟩ := q
    exact ⟨x, x1, x2, (wk b1).tr (x3.weak (fun i e => by omega)), by omega, by omega⟩
  obtain ⟨rfl, p5, p5n, s5, rfl⟩ := hq
  rw [zsk] at hz5
  have R4 : duP t n (43 * k) (F3, sk t n v.2) = .ok z5 := by
    unfold duP
    rw [hz, ebd_ok]
    exact hz5
  have RR : mrP3 t n k (F, sk t n p) = brP t n (43 * k) z5 := by
    unfold mrP3
    rw [R1, ebd_ok, R2, ebd_ok, R4, ebd_ok]
  have ch5 : ∀ x, ¬ (43 * k + 4 ≤ x ∧ x < 43 * k + 4 + 4) → z5.1 x = z.1 x := by
    obtain ⟨zz, g1, g2⟩ := ebd_inv hz5
    obtain ⟨-, rfl⟩ := tzP_ok g1
    have g3 : dsP t n (43 * k) (z.1, sk t n (z.2 + 1)) 4 = .ok z5 := g2
    intro x hx
    have g4 := dsP_ch 4 g3 x hx
    exact g4
  have hB := hB.arr (y := D + 1) (p' := p5) (w := ints 4 (fun j => z5.1 (43 * k + 4 + j))) h26' dd1 (by omega)
  have hDR : DRep ((he.set (D + 1) (50, ints 4 (fun j => z5.1 (43 * k + 4 + j)))).set 2 (rA n p5)) D z5.1 k := by
    refine ⟨by omega, D + 1, by omega, ?_, ?_⟩
    · rw [List.getElem?_set_ne (by omega), List.getElem?_set_ne (by omega), ch5 _ (by omega), ch5 _ (by omega)]
      exact dd0
    · rw [List.getElem?_set_ne (by omega)]
      exact gs_eq dd1
  generalize (he.set (D + 1) (50, ints 4 (fun j => z5.1 (43 * k + 4 + j)))).set 2 (rA n p5) = hf at hB hDR ⊢
  obtain ⟨hB, hI⟩ := hB.chF (F' := z5.1) hI hc.2 (fun x hx => ch5 x (by omega))
  have hch5 : ∀ x, ¬ (43 * k ≤ x ∧ x < 43 * k + 43) → z5.1 x = F0 x := fun x hx => by rw [ch5 x (by omega)]; exact hch4 x hx
  have hk5 : z5.1 (43 * k + 1) = v.1 := by rw [ch5 _ (by omega)]; exact hk4
  obtain ⟨b1, b2, b3, b4, b5, b6⟩ := id hB
  have hsk5 := skb (t := t) p5n
  refine jr_aload_n d_RD_material_133 rfl rfl ?_
  refine jr_bipush (v := 120) d_RD_material_134 (by decide) ?_
  refine jr_callX (As := [.int 120]) d_RD_material_136 i_RD_102 rfl b2 (Nat.le_of_ble_eq_true rfl) (by decide) (c_goesOn hT p5n b2 (b1 _ _ h3 (by omega)) 120) ?_
  rw [s5]
  have hs5 : z5.2 ≤ n := by rw [← s5]; exact hsk5.2
  have sk5 : sk t n z5.2 = z5.2 := by rw [← s5, sk_sk]
  refine jr_if_eq (tgt := 157) d_RD_material_139 (by decide) (fun hcx => ?_) (fun hcx => ?_)
  · have e : ¬ hr t n z5.2 = 120 := of_decide_eq_false (bI_eq0.mp hcx)
    rw [if_neg e]
    have hB := hB.at_ (p' := z5.2) h26'
    obtain ⟨hB, hI⟩ := hB.chF (F' := upd z5.1 (43 * k + 8) 0) hI hc.2 (fun x hx => upd_n (by omega))
    refine rd_mat_fin (z6 := (upd z5.1 (43 * k + 8) 0, z5.2)) h26 hN hTC hF hk hB (by omega) hI hc ((hDR.at2).ch7 (fun y y1 y2 => upd_n (by omega))) (by rw [upd_n (by omega)]; exact hk5) upd_s (fun x hx => by rw [upd_n (by omega)]; exact hch5 x hx) hs5 ?_ ⟨rfl, sk5⟩
    rw [RR]
    unfold brP
    rw [if_neg e]
  · have e : hr t n z5.2 = 120 := of_decide_eq_true (bI_ne0.mp hcx)
    rw [if_pos e]
    have in5 : z5.2 < n := hr_in (by rw [e]; decide)
    have hB := hB.at_ (p' := z5.2 + 1) h26'
    have hDR := hDR.at2 (cc := rA n (z5.2 + 1))
    generalize hf.set 2 (rA n (z5.2 + 1)) = hg at hB hDR ⊢
    obtain ⟨b1, b2, b3, b4, b5, b6⟩ := id hB
    refine jr_aload_n d_RD_material_142 rfl rfl ?_
    refine jr_iconst (v := 2) d_RD_material_143 (by decide) ?_
    refine jr_aload_n d_RD_material_144 rfl rfl ?_
    refine jr_bipush (v := 49) d_RD_material_145 (by decide) ?_
    refine jr_bipush (v := 57) d_RD_material_147 (by decide) ?_
    refine jr_iconst (v := 3) d_RD_material_149 (by decide) ?_
    refine jr_callR (As := [.int 49, .int 57, .int 3]) d_RD_material_150 i_RD_58 rfl b2 (Nat.le_of_ble_eq_true rfl) (by decide) (c_rising (most := 3) hT in5 b2 (b1 _ _ h3 (by omega)) (by omega) (by decide) (by decide) (by decide)) (fun _ hq => by cases hq) (fun w hw => ?_) (fun e2 he2 o h' q => ?_)
    rotate_left
    · have hR : mrP3 t n k (F, sk t n p) = .error e2 := by
        rw [RR]
        unfold brP
        rw [if_pos e]
        rcases ebd_inv2 he2 with q1 | ⟨w, q1, q2⟩
        · rw [q1]; rfl
        · cases q2
      rw [hR]
      exact q.rN (wk b1) (by omega) (by omega)
    obtain ⟨u, u1, u2⟩ := ebd_inv hw
    cases u2
    have ub := rsP_b (by decide) (skb in5).2 u1
    have hB := hB.at_ (p' := u.2) h26'
    have hDR := hDR.at2 (cc := rA n u.2)
    generalize hg.set 2 (rA n u.2) = hh at hB hDR ⊢
    obtain ⟨hB, hI⟩ := hB.chF (F' := upd (upd z5.1 (43 * k + 8) 0) (43 * k + 8) (u.1 <<< (1 &&& 31))) hI hc.2 (fun x hx => by rw [upd_n (by omega), upd_n (by omega)])
    obtain ⟨b1, b2, b3, b4, b5, b6⟩ := id hB
    refine jr_imul d_RD_material_153 ?_
    rw [← shl1]
    refine jr_put d_RD_material_154 f_RD_106 jy_fv_int (by omega) b3 rfl ?_
    have hDR2 : DRep (hh.set h0.length (3, [Value.int (upd (upd z5.1 (43 * k + 8) 0) (43 * k + 8) (u.1 <<< (1 &&& 31)) (43 * k)), .ref (h0.length + 1), .int (nI c), .int v.1, .int 0, .ref D].set 4 (.int (u.1 <<< (1 &&& 31))))) D (upd (upd z5.1 (43 * k + 8) 0) (43 * k + 8) (u.1 <<< (1 &&& 31))) k := by
      have := hDR.ch7 (F' := upd (upd z5.1 (43 * k + 8) 0) (43 * k + 8) (u.1 <<< (1 &&& 31))) (fun y y1 y2 => by rw [upd_n (by omega), upd_n (by omega)])
      obtain ⟨d1, y, d2, d3, d4⟩ := this
      have e1 : h0.length ≠ D := fun w => by rw [w] at b3; rw [b3] at d3; cases d3
      have e2 : h0.length ≠ y := fun w => by rw [w] at b3; rw [b3] at d4; cases d4
      exact ⟨d1, y, d2, by rw [List.getElem?_set_ne e1]; exact d3, by rw [List.getElem?_set_ne e2]; exact d4⟩
    have hB := hB.fld (kd' := v.1) (br' := u.1 <<< (1 &&& 31)) (dv' := .ref D) (fs := [Value.int (upd (upd z5.1 (43 * k + 8) 0) (43 * k + 8) (u.1 <<< (1 &&& 31)) (43 * k)), .ref (h0.length + 1), .int (nI c), .int v.1, .int 0, .ref D].set 4 (.int (u.1 <<< (1 &&& 31)))) h26' rfl b4
    refine rd_mat_fin (z6 := (upd (upd z5.1 (43 * k + 8) 0) (43 * k + 8) (u.1 <<< (1 &&& 31)), u.2)) h26 hN hTC hF hk hB (by omega) hI hc hDR2 (by rw [upd_n (by omega), upd_n (by omega)]; exact hk5) upd_s (fun x hx => by rw [upd_n (by omega), upd_n (by omega)]; exact hch5 x hx) ub.2 ?_ ⟨rfl, rsP_sk sk_sk u1⟩
    rw [RR]
    unfold brP
    rw [if_pos e, u1]
    rfl
end MU
