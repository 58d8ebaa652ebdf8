/-! the class' reader: a material's row, whole -/
section MV
variable {G : jy_G} {h0 : jy_P} {t tb : Ft} {n k T N p : Nat} {F : Ft} {g : Bool}
def matR (t : Ft) (n k : Nat) (z : Ft × Nat) : Except Nat (Ft × Nat) := ebd (ebd (mrP1 t n k z) (mrP2 t n k)) (mrP3 t n k)
def matQ (t : Ft) (n N : Nat) (h0 : jy_P) (T k : Nat) (g : Bool) : Ft × Nat → Option Value → jy_P → Prop := fun z v h' => v = none ∧ ∃ p', p' ≤ n ∧ sk t n p' = z.2 ∧ h'[2]? = some (rA n p') ∧ TC N h' T z.1 (k + 1) g ∧ St (fun i => i = 2 ∨ N ≤ i) h0 h' ∧ h0.length ≤ h'.length ∧ h'.length ≤ h0.length + 8
theorem rN.base {N N' : Nat} {h h' : jy_P} {c c' e : Nat} {o : Outcome} (hN : N' ≤ N) (hc : c ≤ c') (q : rN N h c e o h') : rN N' h c' e o h' := by
  obtain ⟨x, q1, q2, q3, q4, q5⟩ := q
  exact ⟨x, q1, q2, q3.weak (fun i e => by omega), q4, by omega⟩
theorem TC.st {h h' : jy_P} (q : TC N h T F k g) (h26 : 26 ≤ N) (hs : St (fun i => i = 2 ∨ h.length ≤ i) h h') : TC N h' T F k g := by
  obtain ⟨ma, gv, mv, t1, t2, t3, t4, t5, t6, t7⟩ := q
  have o : ∀ i cc, h[i]? = some cc → 26 ≤ i → h'[i]? = some cc := fun i cc w n => hs i cc w (by have := len_lt w; omega)
  have kq : Kq h h' := fun i cc w n _ => o i cc w n
  refine ⟨ma, gv, mv, t1, t2, o _ _ t3 (by omega), o _ _ t4 (by omega), t5, fun j hj => ?_, t7.kq kq⟩
  obtain ⟨x, dv, x1, x2, x3⟩ := t6 j hj
  exact ⟨x, dv, x1, x2.kq kq, x3.kq kq⟩
theorem c_material (hT : TH t tb n) (hby : ∀ j, ∃ w : Int32, tb j = sx w) (hp : p ≤ n) (h2 : h0[2]? = some (1, [.ref 3, .int (nI n), .int (nI p)])) (h3 : h0[3]? = some (51, ints 400 tb)) (h26 : 26 ≤ N) (hN : N ≤ h0.length) (hK : h0.length + 20 < jy_K) (hTC : TC N h0 T F k g) (hF : FT F k g) (hk : k < 12) :
    jy_C G 9 m_RD_material [.ref 2, .ref T] h0 (rX N h0 12 (matR t n k (F, sk t n p)) (matQ t n N h0 T k g)) := by
  refine jy_C.of [some (.ref 2), some (.ref T), none, none] rfl (Nat.le_of_ble_eq_true rfl) ?_
  have hl2 := len_lt h2
  have h26' : 26 ≤ h0.length := by omega
  refine jr_aload_n d_RD_material_0 rfl rfl ?_
  refine jr_iconst (v := 1) d_RD_material_1 (by decide) ?_
  refine jr_sipush (v := 9999) d_RD_material_2 (by decide) ?_
  refine jr_callR (As := [.int 1, .int 9999]) d_RD_material_5 i_RD_51 rfl h2 (Nat.le_of_ble_eq_true rfl) (by decide) (c_number hT hp h2 h3 (by omega)) (fun _ hq => by cases hq) (fun w hw => ?_) (fun e he o h' q => ?_)
  rotate_left
  · have hR : matR t n k (F, sk t n p) = .error e := by
      unfold matR mrP1
      rcases ebd_inv2 he with q1 | ⟨w, q1, q2⟩
      · rw [q1]; rfl
      · cases q2
    rw [hR]
    exact q.rN St.rf (by omega) (by omega)
  obtain ⟨v, v1, v2⟩ := ebd_inv hw
  cases v2
  have vb := nmP_b v1
  have s2 := rA_get (n := n) (q := v.2) h2
  have s3 := rA_3 (n := n) (q := v.2) h3
  have hTC1 : TC N (h0.set 2 (rA n v.2)) T F k g := hTC.st h26 (St.set (Or.inl rfl))
  have hTC1' := hTC1
  obtain ⟨ma, gv, mv, u1, u2, u3, u4, u5, u6, u7⟩ := hTC1'
  have sl : (h0.set 2 (rA n v.2)).length = h0.length := by simp
  refine jr_istore_n d_RD_material_8 rfl (by decide) ?_
  refine jr_aload_n d_RD_material_9 rfl rfl ?_
  refine jr_iload_n d_RD_material_10 rfl rfl ?_
  refine jr_callV (As := [.int v.1]) d_RD_material_11 i_RD_69 rfl u3 (Nat.le_of_ble_eq_true rfl) (by decide) (c_TB_of (hTC1.rep h26) (by omega) v.1) (fun vv h' q => ?_) (fun x h' q => ?_)
  rotate_left
  · obtain ⟨-, q⟩ := q
    rcases hfd : fd F v.1 k with _ | j
    · rw [hfd] at q; cases q
    · rw [hfd] at q
      obtain ⟨_, _, q1, -⟩ := q
      cases q1
  obtain ⟨rfl, q⟩ := q
  rcases hfd : fd F v.1 k with _ | j
  rotate_left
  · rw [hfd] at q
    obtain ⟨x, dv, q1, -⟩ := q
    cases q1
    have hR : matR t n k (F, sk t n p) = .error (v.2 - 1) := by
      unfold matR mrP1
      rw [v1, ebd_ok, if_pos (by rw [hfd]; rfl)]
      rfl
    rw [hR]
    refine jr_ifnull d_RD_material_14 ?_
    refine jr_new d_RD_material_17 n_RD_22 ⟨by omega, Or.inl (by decide)⟩ ?_
    have s2' := (St.app (X := fun _ => False) (l := [(13, [.null, .null, .null, .null, .null, .int 0, .int 0])])) _ _ s2 (fun q => q)
    refine jr_dup d_RD_material_20 rfl ?_
    refine jr_aload_n d_RD_material_21 rfl rfl ?_
    refine jr_get d_RD_material_22 f_RD_15 s2' rfl ?_
    refine jr_iconst (v := 1) d_RD_material_25 (by decide) ?_
    refine jr_isub d_RD_material_26 ?_
    have ew : nI v.2 - 1 = nI (v.2 - 1) := by
      obtain ⟨r', hr'⟩ : ∃ r', v.2 = r' + 1 := ⟨v.2 - 1, by omega⟩
      rw [hr', nI_pred]; rfl
    rw [ew]
    refine jr_callI' (As := [.int (nI (v.2 - 1))]) d_RD_material_27 i_RD_24 rfl (Nat.le_of_ble_eq_true rfl) (by decide : 5 < 9) (jc_wrong (by decide) ga_n (by omega)) ?_
    rw [app_set]
    refine jr_athrow d_RD_material_30 (jy_E.out (fun _ hq => by cases hq) ?_)
    exact (rE.here (c := 1) St.rf (by omega) (by omega)).rN (St.set (Or.inl rfl)) (by simp) (by simp)
  rw [hfd] at q
  cases q
  refine jr_ifnullN d_RD_material_14 (tgt := 31) (by decide) ?_
  refine jr_new d_RD_material_31 n_RD_75 ⟨by omega, Or.inl (by decide)⟩ ?_
  refine jr_dup d_RD_material_34 rfl ?_
  refine jr_iload_n d_RD_material_35 rfl rfl ?_
  refine jr_callI' (As := [.int v.1]) d_RD_material_36 i_RD_77 rfl (Nat.le_of_ble_eq_true rfl) (by decide : 2 < 9) (c_MA_init (by omega) (by simp; omega) ga_n v.1) ?_
  refine jr_astore_n d_RD_material_39 rfl (by decide) ?_
  have R1 : mrP1 t n k (F, sk t n p) = .ok (upd (upd F (43 * k) v.1) (43 * k + 9) 0, sk t n v.2) := by
    unfold mrP1
    rw [v1, ebd_ok, if_neg (by rw [hfd]; decide)]
  have hR : matR t n k (F, sk t n p) = ebd (mrP2 t n k (upd (upd F (43 * k) v.1) (43 * k + 9) 0, sk t n v.2)) (mrP3 t n k) := by
    unfold matR
    rw [R1, ebd_ok]
  rw [hR]
  have e0 : ((h0.set 2 (rA n v.2) ++ [(3, [Value.int 0, .null, .int 0, .int 0, .int 0, .null])]) ++ [(57, List.replicate 3 Value.null)]).set (h0.set 2 (rA n v.2)).length (3, [.int v.1, .ref (h0.set 2 (rA n v.2) ++ [(3, [Value.int 0, .null, .int 0, .int 0, .int 0, .null])]).length, .int 0, .int 0, .int 0, .null]) = h0.set 2 (rA n v.2) ++ [(3, [Value.int v.1, .ref (h0.length + 1), .int 0, .int 0, .int 0, .null]), (57, List.replicate 3 Value.null)] := by
    simp
  have hB : MB h0 (h0.set 2 (rA n v.2) ++ [(3, [Value.int v.1, .ref (h0.length + 1), .int 0, .int 0, .int 0, .null]), (57, List.replicate 3 Value.null)]) n v.2 k (upd (upd F (43 * k) v.1) (43 * k + 9) 0) 0 0 0 .null 2 := by
    refine ⟨(St.set (Or.inl rfl)).tr St.app, by rw [List.getElem?_append_left (by simpa using hl2)]; exact s2, ?_, ⟨by omega, List.replicate 3 .null, ?_, rfl, fun i hi => by omega⟩, by simp, by simp⟩
    · rw [List.getElem?_append_right (by simp), upd_n (by omega), upd_s]
      simp
      rfl
    · rw [List.getElem?_append_right (by simp)]
      simp
  rw [sl] at e0
  rw [sl, e0]
  have hI : NI (upd (upd F (43 * k) v.1) (43 * k + 9) 0) k 0 := ⟨upd_s, fun i hi => by omega⟩
  have hch : ∀ x, ¬ (43 * k ≤ x ∧ x < 43 * k + 43) → (upd (upd F (43 * k) v.1) (43 * k + 9) 0) x = F x := fun x hx => by rw [upd_n (by omega), upd_n (by omega)]
  generalize upd (upd F (43 * k) v.1) (43 * k + 9) 0 = F1 at hB hI hch ⊢
  refine rd_mat_w1 hT hby vb.2 h3 h26' hK (by omega) hB hI (by omega) (fun z p' h' hz hp' hs hB hI => ?_) (fun e he o h' q => ?_)
  rotate_left
  · have : ebd (mrP2 t n k (F1, sk t n v.2)) (mrP3 t n k) = .error e := by
      unfold mrP2
      show ebd (ebd (wdP t n F1 (43 * k) (sk t n v.2)) _) _ = _
      rw [he]; rfl
    rw [this]
    exact q.base hN (by omega)
  have hch1 : ∀ x, ¬ (43 * k ≤ x ∧ x < 43 * k + 43) → z.1 x = F x := fun x hx => by
    rw [(wdP_NI (c := 0) hz (by omega) ‹NI F1 k 0›).2 x (by omega)]
    exact hch x hx
  have hR2 : ebd (mrP2 t n k (F1, sk t n v.2)) (mrP3 t n k) = ebd (nsP t n (43 * k) 2 z) (mrP3 t n k) := by
    unfold mrP2
    show ebd (ebd (wdP t n F1 (43 * k) (sk t n v.2)) _) _ = _
    rw [hz, ebd_ok]
  rw [hR2]
  refine rd_mat_ns hT hby h3 h26' hK 2 (by omega) (by omega) (by omega) hp' hB hI (fun z2 p2 h2' c2 hz2 hp2 hs2 hc2 hc3 hB2 hI2 => ?_) (fun e he o h' q => ?_)
  · rw [hs] at hz2
    have hz2 : nsP t n (43 * k) 2 z = .ok z2 := hz2
    rw [hz2, ebd_ok]
    obtain ⟨c', _, _, _, d4⟩ := nsP_NI 2 (c := 1) hz2 (by omega) hI
    have := rd_mat3 (G := G) (F := z2.1) (l2 := some (.int v.1)) hT h3 h26 hN hK hTC hF hk hB2 hI2 ⟨hc2, hc3⟩ (fun x hx => by rw [d4 x (by omega)]; exact hch1 x hx) hp2
    rw [hs2] at this
    exact this
  · rw [hs] at he
    have he : nsP t n (43 * k) 2 z = .error e := he
    rw [he, ebd_er]
    exact q.base hN (by omega)
end MV
