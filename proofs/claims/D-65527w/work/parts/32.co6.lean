/-! the class: building, sign, wind -/
theorem jr_callI' {G : jy_G} {d d' : Nat} {M M' : jy_M} {pc : Nat} {L : List (Option Value)} {st : List Value} {h h2 : jy_P} {P : Outcome → jy_P → Prop} {idx n A : Nat} {As : List Value} (hd : decode (jy_c M) pc = .ok (.invokespecial idx, 3)) (hI : jy_II (jy_y M).cls idx M' n) (hn : As.length = n) (hst : (st.map fun v => v.category).sum ≤ 8) (hdd : d' < d) (hC : jy_C G d' M' (.ref A :: As) h (fun o h' => o = .returned none ∧ h' = h2)) (kk : jy_J G d M (pc + 3) L st h2 P) : jy_J G d M pc L (As.reverse ++ .ref A :: st) h P :=
  jr_callI hd hI hn hst hdd hC (fun v h' q => by
    obtain ⟨q1, q2⟩ := q
    cases q1
    subst q2
    exact kk) (fun x h' q => by cases q.1)
theorem d_BU_init_0 : decode (jy_c m_BU_init) 0 = .ok (.aload_n 0, 1) := by decide +kernel
theorem d_BU_init_1 : decode (jy_c m_BU_init) 1 = .ok (.invokespecial 1, 3) := by decide +kernel
theorem d_BU_init_4 : decode (jy_c m_BU_init) 4 = .ok (.aload_n 0, 1) := by decide +kernel
theorem d_BU_init_5 : decode (jy_c m_BU_init) 5 = .ok (.iload_n 1, 1) := by decide +kernel
theorem d_BU_init_6 : decode (jy_c m_BU_init) 6 = .ok (.putfield 7, 3) := by decide +kernel
theorem d_BU_init_9 : decode (jy_c m_BU_init) 9 = .ok (.aload_n 0, 1) := by decide +kernel
theorem d_BU_init_10 : decode (jy_c m_BU_init) 10 = .ok (.iload_n 2, 1) := by decide +kernel
theorem d_BU_init_11 : decode (jy_c m_BU_init) 11 = .ok (.putfield 13, 3) := by decide +kernel
theorem d_BU_init_14 : decode (jy_c m_BU_init) 14 = .ok (.return_, 1) := by decide +kernel
theorem c_BU_init {G : jy_G} {h : jy_P} {X : Nat} (hX : 0 < X) (ho : h[X]? = some (6, [.int 0, .int 0, .int 0])) (x y : Int32) : jy_C G 2 m_BU_init [.ref X, .int x, .int y] h (fun o h' => o = .returned none ∧ h' = h.set X (6, [.int x, .int y, .int 0])) := by
  refine jy_C.of [some (.ref X), some (.int x), some (.int y)] rfl (Nat.le_of_ble_eq_true rfl) ?_
  refine jr_aload_n d_BU_init_0 rfl rfl ?_
  refine jr_objInit d_BU_init_1 o_BU_1 o_inst o_code (by decide) (Nat.le_of_ble_eq_true rfl) ?_
  refine jr_aload_n d_BU_init_4 rfl rfl ?_
  refine jr_iload_n d_BU_init_5 rfl rfl ?_
  refine jr_putF d_BU_init_6 f_BU_7 rfl rfl jy_fv_int hX ho rfl ?_
  refine jr_aload_n d_BU_init_9 rfl rfl ?_
  refine jr_iload_n d_BU_init_10 rfl rfl ?_
  refine jr_putF d_BU_init_11 f_BU_13 rfl rfl jy_fv_int hX (gs_eq ho) rfl ?_
  refine jr_return d_BU_init_14 rfl ?_
  exact ⟨rfl, by rw [List.set_set]; rfl⟩
section CB
variable {G : jy_G} {h h0 : jy_P} {f : Nat → Int32} {a : Nat → Nat → Int32} {T m : Nat} {g : Bool} {np nb : Nat} {fl : Nat → Bool} {bx : Nat → Nat} {t s : Nat}
theorem d_HT_building_0 : decode (jy_c m_HT_building) 0 = .ok (.iload_n 1, 1) := by decide +kernel
theorem d_HT_building_1 : decode (jy_c m_HT_building) 1 = .ok (.iload_n 2, 1) := by decide +kernel
theorem d_HT_building_2 : decode (jy_c m_HT_building) 2 = .ok (.invokestatic 204, 3) := by decide +kernel
theorem d_HT_building_5 : decode (jy_c m_HT_building) 5 = .ok (.invokestatic 76, 3) := by decide +kernel
theorem d_HT_building_8 : decode (jy_c m_HT_building) 8 = .ok (.aload_n 0, 1) := by decide +kernel
theorem d_HT_building_9 : decode (jy_c m_HT_building) 9 = .ok (.getfield 208, 3) := by decide +kernel
theorem d_HT_building_12 : decode (jy_c m_HT_building) 12 = .ok (.bipush 40, 2) := by decide +kernel
theorem d_HT_building_14 : decode (jy_c m_HT_building) 14 = .ok (.if_icmp .ge 7, 3) := by decide +kernel
theorem d_HT_building_17 : decode (jy_c m_HT_building) 17 = .ok (.iconst 1, 1) := by decide +kernel
theorem d_HT_building_18 : decode (jy_c m_HT_building) 18 = .ok (.goto 4, 3) := by decide +kernel
theorem d_HT_building_21 : decode (jy_c m_HT_building) 21 = .ok (.iconst 0, 1) := by decide +kernel
theorem d_HT_building_22 : decode (jy_c m_HT_building) 22 = .ok (.invokestatic 83, 3) := by decide +kernel
theorem d_HT_building_25 : decode (jy_c m_HT_building) 25 = .ok (.aload_n 0, 1) := by decide +kernel
theorem d_HT_building_26 : decode (jy_c m_HT_building) 26 = .ok (.getfield 43, 3) := by decide +kernel
theorem d_HT_building_29 : decode (jy_c m_HT_building) 29 = .ok (.aload_n 0, 1) := by decide +kernel
theorem d_HT_building_30 : decode (jy_c m_HT_building) 30 = .ok (.getfield 208, 3) := by decide +kernel
theorem d_HT_building_33 : decode (jy_c m_HT_building) 33 = .ok (.new 41, 3) := by decide +kernel
theorem d_HT_building_36 : decode (jy_c m_HT_building) 36 = .ok (.dup, 1) := by decide +kernel
theorem d_HT_building_37 : decode (jy_c m_HT_building) 37 = .ok (.iload_n 1, 1) := by decide +kernel
theorem d_HT_building_38 : decode (jy_c m_HT_building) 38 = .ok (.iload_n 2, 1) := by decide +kernel
theorem d_HT_building_39 : decode (jy_c m_HT_building) 39 = .ok (.invokespecial 211, 3) := by decide +kernel
theorem d_HT_building_42 : decode (jy_c m_HT_building) 42 = .ok (.aastore, 1) := by decide +kernel
theorem d_HT_building_43 : decode (jy_c m_HT_building) 43 = .ok (.aload_n 0, 1) := by decide +kernel
theorem d_HT_building_44 : decode (jy_c m_HT_building) 44 = .ok (.dup, 1) := by decide +kernel
theorem d_HT_building_45 : decode (jy_c m_HT_building) 45 = .ok (.getfield 208, 3) := by decide +kernel
theorem d_HT_building_48 : decode (jy_c m_HT_building) 48 = .ok (.dup_x1, 1) := by decide +kernel
theorem d_HT_building_49 : decode (jy_c m_HT_building) 49 = .ok (.iconst 1, 1) := by decide +kernel
theorem d_HT_building_50 : decode (jy_c m_HT_building) 50 = .ok (.iadd, 1) := by decide +kernel
theorem d_HT_building_51 : decode (jy_c m_HT_building) 51 = .ok (.putfield 208, 3) := by decide +kernel
theorem d_HT_building_54 : decode (jy_c m_HT_building) 54 = .ok (.ireturn, 1) := by decide +kernel
def bxN (bx : Nat → Nat) (b X : Nat) : Nat → Nat := fun k => if k = b then X else bx k
def flN (fl : Nat → Bool) (b : Nat) : Nat → Bool := fun k => decide (k < b) && fl k
theorem len_lt {h : jy_P} {i : Nat} {c : Nat × List Value} (w : h[i]? = some c) : i < h.length := (List.getElem?_eq_some_iff.mp w).1
theorem c_HT_building (hC : Comp h0 f a T m g np nb fl bx t s) (hb : f 19 = nI nb) (h40 : nb ≤ 40) (h26 : 26 ≤ h0.length) (hK : h0.length + 1 < jy_K) (x y : Int32) : jy_C G 13 m_HT_building [.ref 1, .int x, .int y] h0 (opP h0 (ex3 (iPt x y) 9 (decide (nb < 40)) 10 true 0) (some (.int (nI nb))) (fun h' => Comp h' (upd f 19 (nI (nb + 1))) (bdA a nb x y) T m g np (nb + 1) (flN fl nb) (bxN bx nb h0.length) t s ∧ Fx h0 h')) := by
  refine jy_C.of [some (.ref 1), some (.int x), some (.int y)] rfl (Nat.le_of_ble_eq_true rfl) ?_
  have h1 := hC.1
  have hK' := hK
  have hK : h0.length < jy_K := by omega
  refine jr_iload_n d_HT_building_0 rfl rfl ?_
  refine jr_iload_n d_HT_building_1 rfl rfl ?_
  refine jr_callSp2 d_HT_building_2 i_HT_204 (Nat.le_of_ble_eq_true rfl) (by decide) (c_HT_isPoint _ _) ?_
  refine jr_guard d_HT_building_5 i_HT_76 (g_within hK) (Nat.le_of_ble_eq_true rfl) (by decide) (fun _ hq => by cases hq) (fun hc => ?_) (fun hc => opP.ex (by rw [bI_eq0.mp hc]; rfl) (by decide))
  have g1 := bI_ne0.mp hc
  refine jr_aload_n d_HT_building_8 rfl rfl ?_
  refine jr_get d_HT_building_9 f_HT_208 h1 rfl ?_
  refine jr_bipush (v := 40) d_HT_building_12 (by decide) ?_
  rw [hb]
  refine jy_cut2 22 (fun z => z = bI (decide (nb < 40))) (fun K => ?_) (fun z hz => ?_)
  · refine jr_icmp_ge (tgt := 21) d_HT_building_14 (by decide) (fun hc => ?_) (fun hc => ?_)
    · refine jr_iconst (v := 0) d_HT_building_21 (by decide) ?_
      exact K _ (by rw [(not_lt8 (c := 40) (by omega) (by decide)).1 hc]; rfl)
    · refine jr_iconst (v := 1) d_HT_building_17 (by decide) ?_
      refine jr_goto (tgt := 22) d_HT_building_18 (by decide) ?_
      exact K _ (by rw [(not_lt8 (c := 40) (by omega) (by decide)).2 hc]; rfl)
  subst hz
  refine jr_guard d_HT_building_22 i_HT_83 (g_room hK) (Nat.le_of_ble_eq_true rfl) (by decide) (fun _ hq => by cases hq) (fun hc => ?_) (fun hc => opP.ex (by rw [g1, bI_eq0.mp hc]; rfl) (by decide))
  have g2 := bI_ne0.mp hc
  have g2' : nb < 40 := of_decide_eq_true g2
  rw [show ex3 (iPt x y) 9 (decide (nb < 40)) 10 true 0 = 0 by rw [g1, g2]; rfl]
  obtain ⟨c1, ⟨at_, c2⟩, ⟨tb, c3, c3'⟩, c4, c5, ⟨wb, c6, c6'⟩, ⟨rw_, c7⟩, c8, ⟨⟨bv, v1, v2, v3⟩, inj⟩, c10⟩ := hC
  refine jr_aload_n d_HT_building_25 rfl rfl ?_
  refine jr_get d_HT_building_26 f_HT_43 h1 rfl ?_
  refine jr_aload_n d_HT_building_29 rfl rfl ?_
  refine jr_get d_HT_building_30 f_HT_208 h1 rfl ?_
  rw [hb]
  refine jr_new d_HT_building_33 n_HT_41 ⟨hK, Or.inl (by decide)⟩ ?_
  refine jr_dup d_HT_building_36 rfl ?_
  refine jr_iload_n d_HT_building_37 rfl rfl ?_
  refine jr_iload_n d_HT_building_38 rfl rfl ?_
  refine jr_callI' (As := [.int x, .int y]) d_HT_building_39 i_HT_211 rfl (Nat.le_of_ble_eq_true rfl) (by decide) (c_BU_init (by omega) ga_n x y) ?_
  rw [app_set]
  have s0 : St (fun i => i = 1 ∨ i = 9) h0 (h0 ++ [(6, [.int x, .int y, .int 0])]) := St.app
  obtain ⟨i1, i2⟩ := nI_ok (i := nI nb) (j := nb) rfl (by omega)
  have a9 : (h0 ++ [(6, [Value.int x, .int y, .int 0])])[9]? = some (56, bv) := by rw [List.getElem?_append_left (len_lt v1)]; exact v1
  refine jr_aast d_HT_building_42 (by decide) a9 ga_n rfl i1 (by rw [i2, v2]; exact g2') rfl ?_
  rw [i2]
  have h1 : ((h0 ++ [(6, [Value.int x, .int y, .int 0])]).set 9 (56, bv.set nb (.ref h0.length)))[1]? = some (0, cf T f) := by
    rw [List.getElem?_set_ne (by decide), List.getElem?_append_left (len_lt c1)]; exact c1
  refine jr_aload_n d_HT_building_43 rfl rfl ?_
  refine jr_dup d_HT_building_44 rfl ?_
  refine jr_get d_HT_building_45 f_HT_208 h1 rfl ?_
  rw [hb]
  refine jr_dup_x1 d_HT_building_48 rfl rfl ?_
  refine jr_iconst (v := 1) d_HT_building_49 (by decide) ?_
  refine jr_iadd d_HT_building_50 ?_
  rw [nI_1]
  refine hp_put d_HT_building_51 f_HT_208 (i := 19) rfl h1 (fun h hE51 h1 => ?_)
  refine jr_ireturn d_HT_building_54 rfl rfl ?_
  have s1 : St (fun i => i = 1 ∨ i = 9) h0 h := by
    rw [hE51]
    exact (s0.tr (St.set (Or.inr rfl))).tr (St.set (Or.inl rfl))
  have hl : h.length = h0.length + 1 := by rw [hE51]; simp
  have kt : Kt h0 h := s1.kt (fun i e => by omega)
  have n9 : h[9]? = some (56, bv.set nb (.ref h0.length)) := by
    rw [hE51, List.getElem?_set_ne (by decide)]
    exact gs_eq a9
  have nX : h[h0.length]? = some (6, [.int x, .int y, .int 0]) := by
    rw [hE51, List.getElem?_set_ne (by omega), List.getElem?_set_ne (by omega)]
    exact ga_n
  have hbl : ∀ k, k < nb → bx k < h0.length := fun k hk => len_lt (v3 k hk).2.2
  refine opP.ok rfl ⟨⟨h1, ⟨at_, s1 _ _ c2 (by omega)⟩, ⟨tb, s1 _ _ c3 (by omega), c3'⟩, c4, c5.kt c4 kt, ⟨wb, s1 _ _ c6 (by omega), c6'⟩, ⟨rw_, s1 _ _ c7 (by omega)⟩, c8.kt kt (fun c w => s1 _ _ w (by omega)), ⟨⟨_, n9, by simp [v2], fun k hk => ?_⟩, fun i j hi hj e => ?_⟩, s1 _ _ c10 (by omega)⟩, s1.fx (fun i e => by omega) (by omega) (by omega)⟩
  · show _ = some (Value.ref (bxN bx nb h0.length k)) ∧ 26 ≤ bxN bx nb h0.length k ∧ h[bxN bx nb h0.length k]? = some (6, [.int (upd (a 18) nb x k), .int (upd (a 19) nb y k), .int (bI (flN fl nb k))])
    by_cases e : k = nb
    · subst e
      have e1 : bxN bx k h0.length k = h0.length := by simp [bxN]
      have e2 : flN fl k k = false := by simp [flN]
      rw [e1, e2, upd_s, upd_s]
      exact ⟨List.getElem?_set_self (by rw [v2]; omega), h26, nX⟩
    · have e1 : bxN bx nb h0.length k = bx k := by simp [bxN, e]
      have e2 : flN fl nb k = fl k := by
        have : k < nb := by omega
        simp [flN, this]
      obtain ⟨x1, x2, x3⟩ := v3 k (by omega)
      rw [e1, e2, upd_n e, upd_n e]
      exact ⟨by rw [List.getElem?_set_ne (by omega)]; exact x1, x2, s1 _ _ x3 (by omega)⟩
  · have bi : ∀ k, k < nb + 1 → k ≠ nb → bxN bx nb h0.length k = bx k ∧ bx k < h0.length := fun k hk e => ⟨by simp [bxN, e], hbl k (by omega)⟩
    have bn : bxN bx nb h0.length nb = h0.length := by simp [bxN]
    by_cases ei : i = nb
    · by_cases ej : j = nb
      · omega
      · subst ei
        rw [bn, (bi j hj ej).1] at e
        have := (bi j hj ej).2
        omega
    · by_cases ej : j = nb
      · subst ej
        rw [bn, (bi i hi ei).1] at e
        have := (bi i hi ei).2
        omega
      · rw [(bi i hi ei).1, (bi j hj ej).1] at e
        exact inj i j (by omega) (by omega) e
theorem d_HT_sign_0 : decode (jy_c m_HT_sign) 0 = .ok (.iload_n 3, 1) := by decide +kernel
theorem d_HT_sign_1 : decode (jy_c m_HT_sign) 1 = .ok (.iconst 1, 1) := by decide +kernel
theorem d_HT_sign_2 : decode (jy_c m_HT_sign) 2 = .ok (.bipush 8, 2) := by decide +kernel
theorem d_HT_sign_4 : decode (jy_c m_HT_sign) 4 = .ok (.invokestatic 72, 3) := by decide +kernel
theorem d_HT_sign_7 : decode (jy_c m_HT_sign) 7 = .ok (.invokestatic 76, 3) := by decide +kernel
theorem d_HT_sign_10 : decode (jy_c m_HT_sign) 10 = .ok (.aload_n 0, 1) := by decide +kernel
theorem d_HT_sign_11 : decode (jy_c m_HT_sign) 11 = .ok (.getfield 10, 3) := by decide +kernel
theorem d_HT_sign_14 : decode (jy_c m_HT_sign) 14 = .ok (.getfield 80, 3) := by decide +kernel
theorem d_HT_sign_17 : decode (jy_c m_HT_sign) 17 = .ok (.iload_n 3, 1) := by decide +kernel
theorem d_HT_sign_18 : decode (jy_c m_HT_sign) 18 = .ok (.iadd, 1) := by decide +kernel
theorem d_HT_sign_19 : decode (jy_c m_HT_sign) 19 = .ok (.sipush 400, 3) := by decide +kernel
theorem d_HT_sign_22 : decode (jy_c m_HT_sign) 22 = .ok (.if_icmp .gt 7, 3) := by decide +kernel
theorem d_HT_sign_25 : decode (jy_c m_HT_sign) 25 = .ok (.iconst 1, 1) := by decide +kernel
theorem d_HT_sign_26 : decode (jy_c m_HT_sign) 26 = .ok (.goto 4, 3) := by decide +kernel
theorem d_HT_sign_29 : decode (jy_c m_HT_sign) 29 = .ok (.iconst 0, 1) := by decide +kernel
theorem d_HT_sign_30 : decode (jy_c m_HT_sign) 30 = .ok (.invokestatic 83, 3) := by decide +kernel
theorem d_HT_sign_33 : decode (jy_c m_HT_sign) 33 = .ok (.iload_n 3, 1) := by decide +kernel
theorem d_HT_sign_34 : decode (jy_c m_HT_sign) 34 = .ok (.iconst 1, 1) := by decide +kernel
theorem d_HT_sign_35 : decode (jy_c m_HT_sign) 35 = .ok (.isub, 1) := by decide +kernel
theorem d_HT_sign_36 : decode (jy_c m_HT_sign) 36 = .ok (.istore 4, 2) := by decide +kernel
theorem d_HT_sign_38 : decode (jy_c m_HT_sign) 38 = .ok (.iload 4, 2) := by decide +kernel
theorem d_HT_sign_40 : decode (jy_c m_HT_sign) 40 = .ok (.ifCond .lt 40, 3) := by decide +kernel
theorem d_HT_sign_43 : decode (jy_c m_HT_sign) 43 = .ok (.aload_n 0, 1) := by decide +kernel
theorem d_HT_sign_44 : decode (jy_c m_HT_sign) 44 = .ok (.getfield 10, 3) := by decide +kernel
theorem d_HT_sign_47 : decode (jy_c m_HT_sign) 47 = .ok (.getfield 86, 3) := by decide +kernel
theorem d_HT_sign_50 : decode (jy_c m_HT_sign) 50 = .ok (.aload_n 0, 1) := by decide +kernel
theorem d_HT_sign_51 : decode (jy_c m_HT_sign) 51 = .ok (.getfield 10, 3) := by decide +kernel
theorem d_HT_sign_54 : decode (jy_c m_HT_sign) 54 = .ok (.dup, 1) := by decide +kernel
theorem d_HT_sign_55 : decode (jy_c m_HT_sign) 55 = .ok (.getfield 80, 3) := by decide +kernel
theorem d_HT_sign_58 : decode (jy_c m_HT_sign) 58 = .ok (.dup_x1, 1) := by decide +kernel
theorem d_HT_sign_59 : decode (jy_c m_HT_sign) 59 = .ok (.iconst 1, 1) := by decide +kernel
theorem d_HT_sign_60 : decode (jy_c m_HT_sign) 60 = .ok (.iadd, 1) := by decide +kernel
theorem d_HT_sign_61 : decode (jy_c m_HT_sign) 61 = .ok (.putfield 80, 3) := by decide +kernel
theorem d_HT_sign_64 : decode (jy_c m_HT_sign) 64 = .ok (.lload_n 1, 1) := by decide +kernel
theorem d_HT_sign_65 : decode (jy_c m_HT_sign) 65 = .ok (.bipush 8, 2) := by decide +kernel
theorem d_HT_sign_67 : decode (jy_c m_HT_sign) 67 = .ok (.iload 4, 2) := by decide +kernel
theorem d_HT_sign_69 : decode (jy_c m_HT_sign) 69 = .ok (.imul, 1) := by decide +kernel
theorem d_HT_sign_70 : decode (jy_c m_HT_sign) 70 = .ok (.lshr, 1) := by decide +kernel
theorem d_HT_sign_71 : decode (jy_c m_HT_sign) 71 = .ok (.l2i, 1) := by decide +kernel
theorem d_HT_sign_72 : decode (jy_c m_HT_sign) 72 = .ok (.i2b, 1) := by decide +kernel
theorem d_HT_sign_73 : decode (jy_c m_HT_sign) 73 = .ok (.bastore, 1) := by decide +kernel
theorem d_HT_sign_74 : decode (jy_c m_HT_sign) 74 = .ok (.iinc 4 (-1), 3) := by decide +kernel
theorem d_HT_sign_77 : decode (jy_c m_HT_sign) 77 = .ok (.goto (-39), 3) := by decide +kernel
theorem d_HT_sign_80 : decode (jy_c m_HT_sign) 80 = .ok (.aload_n 0, 1) := by decide +kernel
theorem d_HT_sign_81 : decode (jy_c m_HT_sign) 81 = .ok (.getfield 10, 3) := by decide +kernel
theorem d_HT_sign_84 : decode (jy_c m_HT_sign) 84 = .ok (.getfield 80, 3) := by decide +kernel
theorem d_HT_sign_87 : decode (jy_c m_HT_sign) 87 = .ok (.ireturn, 1) := by decide +kernel
theorem sx_bt {x : Int64} {k : Nat} : ((x >>> ((8 * nI k).toInt64 &&& 63)).toInt32.toInt8.toInt32).toInt8.toInt32 = sx (bt x k) := by
  unfold sx bt
  generalize (x >>> ((8 * nI k).toInt64 &&& 63)).toInt32 = v
  have e1 : v.toInt8.toInt32.toInt8 = v.toInt8 := Int8.toInt8_toInt32 v.toInt8
  have e2 : (v &&& 255).toInt8 = v.toInt8 := by
    rw [Int32.toInt8_and]
    show v.toInt8 &&& (255 : Int32).toInt8 = v.toInt8
    rw [show (255 : Int32).toInt8 = -1 by decide, Int8.and_neg_one]
  rw [e1, e2]
theorem ht_sign {x : Int64} {n : Nat} {tb : Ft} (hT : t + n ≤ 400) : ∀ j, j ≤ n → ∀ h (tb' : Ft) at_, St (fun i => i = 2 ∨ i = 3) h0 h → h.length = h0.length → h[1]? = some (0, cf T f) → h[2]? = some (1, [.ref 3, .int (nI (t + j)), .int at_]) → h[3]? = some (51, ints 400 tb') → (∀ i, i < t → tb' i = sx (a 12 i)) → (∀ i, i < j → tb' (t + i) = sx (bt x (n - 1 - i))) → (∀ j, ∃ w : Int32, tb' j = sx w) →
    jy_J G 13 m_HT_sign 38 [some (.ref 1), some (.long x), none, some (.int (nI n)), some (.int (nI (n - j) - 1))] [] h (fun o h' => o = .returned (some (.int (nI (t + n)))) ∧ St (fun i => i = 2 ∨ i = 3) h0 h' ∧ h'.length = h0.length ∧ (∃ at_, h'[2]? = some (1, [.ref 3, .int (nI (t + n)), .int at_])) ∧ ∃ tb' : Ft, h'[3]? = some (51, ints 400 tb') ∧ (∀ i, i < t → tb' i = sx (a 12 i)) ∧ (∀ i, i < n → tb' (t + i) = sx (bt x (n - 1 - i))) ∧ ∀ j, ∃ w : Int32, tb' j = sx w) := by
  refine jl_up n _ (fun h tb' at_ hs hl h1 h2 h3 q1 q2 q3 => ?_) (fun j hj ih h tb' at_ hs hl h1 h2 h3 q1 q2 q3 => ?_)
  · refine jr_iload d_HT_sign_38 rfl ?_
    refine jr_if_lt (tgt := 80) d_HT_sign_40 (by decide) (fun hc => ?_) (fun hc => absurd (show nI (n - n) - 1 < 0 by rw [Nat.sub_self]; decide) hc)
    refine jr_aload_n d_HT_sign_80 rfl rfl ?_
    refine jr_get d_HT_sign_81 f_HT_10 h1 rfl ?_
    refine jr_get d_HT_sign_84 f_HT_80 h2 rfl ?_
    refine jr_ireturn d_HT_sign_87 rfl rfl ?_
    exact ⟨rfl, hs, hl, ⟨at_, h2⟩, tb', h3, q1, q2, q3⟩
  · have e : nI (n - j) - 1 = nI (n - 1 - j) := by rw [show n - j = (n - 1 - j) + 1 by omega, nI_pred]
    refine jr_iload d_HT_sign_38 rfl ?_
    rw [e]
    refine jr_if_lt (tgt := 80) d_HT_sign_40 (by decide) (fun hc => absurd hc (nI_pos (by omega))) (fun hc => ?_)
    refine jr_aload_n d_HT_sign_43 rfl rfl ?_
    refine jr_get d_HT_sign_44 f_HT_10 h1 rfl ?_
    refine jr_get d_HT_sign_47 f_HT_86 h2 rfl ?_
    refine jr_aload_n d_HT_sign_50 rfl rfl ?_
    refine jr_get d_HT_sign_51 f_HT_10 h1 rfl ?_
    refine jr_dup d_HT_sign_54 rfl ?_
    refine jr_get d_HT_sign_55 f_HT_80 h2 rfl ?_
    refine jr_dup_x1 d_HT_sign_58 rfl rfl ?_
    refine jr_iconst (v := 1) d_HT_sign_59 (by decide) ?_
    refine jr_iadd d_HT_sign_60 ?_
    rw [nI_1]
    refine jr_put d_HT_sign_61 f_HT_80 jy_fv_int (by decide) h2 rfl ?_
    have h3' : (h.set 2 (1, [.ref 3, .int (nI (t + j + 1)), .int at_]))[3]? = some (51, ints 400 tb') := by rw [List.getElem?_set_ne (by decide)]; exact h3
    refine jr_lload_n d_HT_sign_64 rfl rfl ?_
    refine jr_bipush (v := 8) d_HT_sign_65 (by decide) ?_
    refine jr_iload d_HT_sign_67 rfl ?_
    refine jr_imul d_HT_sign_69 ?_
    refine jr_lshr d_HT_sign_70 ?_
    refine jr_l2i d_HT_sign_71 ?_
    refine jr_i2b d_HT_sign_72 ?_
    refine cr_bast d_HT_sign_73 (by decide) h3' rfl (by omega) (by decide) ?_
    refine jr_iincm1 d_HT_sign_74 rfl (by decide) ?_
    refine jr_goto (tgt := 38) d_HT_sign_77 (by decide) ?_
    refine (?_ : jy_J G 13 m_HT_sign 38 [some (.ref 1), some (.long x), none, some (.int (nI n)), some (.int (nI (n - 1 - j) - 1))] [] _ _)
    rw [show n - 1 - j = n - (j + 1) by omega, show n - (j + 1) = n - 1 - j by omega, sx_bt]
    have h2' : ((h.set 2 (1, [.ref 3, .int (nI (t + j + 1)), .int at_])).set 3 (51, ints 400 (upd tb' (t + j) (sx (bt x (n - 1 - j))))))[2]? = some (1, [.ref 3, .int (nI (t + (j + 1))), .int at_]) := by
      rw [List.getElem?_set_ne (by decide)]
      exact gs_eq h2
    have := ih ((h.set 2 (1, [.ref 3, .int (nI (t + j + 1)), .int at_])).set 3 (51, ints 400 (upd tb' (t + j) (sx (bt x (n - 1 - j)))))) (upd tb' (t + j) (sx (bt x (n - 1 - j)))) at_ ((hs.tr (St.set (Or.inl rfl))).tr (St.set (Or.inr rfl))) (by simp [hl]) (by rw [List.getElem?_set_ne (by decide), List.getElem?_set_ne (by decide)]; exact h1) h2' (gs_eq h3') (fun i hi => by rw [upd_n (by omega)]; exact q1 i hi) (fun i hi => by
        by_cases ei : i = j
        · subst ei
          exact upd_s
        · rw [upd_n (by omega)]
          exact q2 i (by omega)) (fun i => by
        by_cases ei : i = t + j
        · subst ei
          exact ⟨_, upd_s⟩
        · rw [upd_n ei]
          exact q3 i)
    rw [show n - (j + 1) = n - 1 - j by omega] at this
    exact this
theorem sgA_12 {a : Nat → Nat → Int32} {x : Int64} {t n : Nat} : ∀ j, (∀ i, i < t → sgA a x t n j 12 i = a 12 i) ∧ (∀ i, i < j → sgA a x t n j 12 (t + i) = bt x (n - 1 - i)) ∧ ∀ B, B ≠ 12 → sgA a x t n j B = a B := by
  intro j
  induction j with
  | zero => exact ⟨fun _ _ => rfl, fun _ h => by omega, fun _ _ => rfl⟩
  | succ j ih =>
    obtain ⟨i1, i2, i3⟩ := ih
    refine ⟨fun i hi => ?_, fun i hi => ?_, fun B hB => ?_⟩
    · show upd2 (sgA a x t n j) 12 (t + j) (bt x (n - 1 - j)) 12 i = _
      rw [upd2_s, upd_n (by omega)]
      exact i1 i hi
    · show upd2 (sgA a x t n j) 12 (t + j) (bt x (n - 1 - j)) 12 (t + i) = _
      rw [upd2_s]
      by_cases e : i = j
      · subst e; exact upd_s
      · rw [upd_n (by omega)]
        exact i2 i (by omega)
    · show upd2 (sgA a x t n j) 12 (t + j) (bt x (n - 1 - j)) B = _
      rw [upd2_n hB]
      exact i3 B hB
theorem c_HT_sign (hC : Comp h f a T m g np nb fl bx t s) (ht : f 1 = nI t) (h400 : t ≤ 400) (hK : h.length < jy_K) (x : Int64) (n : Int32) : jy_C G 13 m_HT_sign [.ref 1, .long x, .int n] h (opP h (ex3 (inB n 1 8) 9 (decide (f 1 + n ≤ 400)) 10 true 0) (some (.int (nI (t + n.toNatClampNeg)))) (fun h' => Comp h' (upd f 1 (nI (t + n.toNatClampNeg))) (sgA a x t n.toNatClampNeg n.toNatClampNeg) T m g np nb fl bx (t + n.toNatClampNeg) s ∧ Fx h h')) := by
  refine jy_C.of [some (.ref 1), some (.long x), none, some (.int n), none] rfl (Nat.le_of_ble_eq_true rfl) ?_
  obtain ⟨c1, ⟨at_, c2⟩, ⟨tb, c3, c3'⟩, c4, c5, ⟨wb, c6, c6'⟩, ⟨rw_, c7⟩, c8, c9, c10⟩ := hC
  have h1 := c1
  have h2 := c2
  refine jr_iload_n d_HT_sign_0 rfl rfl ?_
  refine jr_iconst (v := 1) d_HT_sign_1 (by decide) ?_
  refine jr_bipush (v := 8) d_HT_sign_2 (by decide) ?_
  refine jr_callSp3 d_HT_sign_4 i_HT_72 (Nat.le_of_ble_eq_true rfl) (by decide) (c_HT_isIn _ _ _) ?_
  refine jr_guard d_HT_sign_7 i_HT_76 (g_within hK) (Nat.le_of_ble_eq_true rfl) (by decide) (fun _ hq => by cases hq) (fun hc => ?_) (fun hc => opP.ex (by rw [bI_eq0.mp hc]; rfl) (by decide))
  have g1 := bI_ne0.mp hc
  refine jr_aload_n d_HT_sign_10 rfl rfl ?_
  refine jr_get d_HT_sign_11 f_HT_10 h1 rfl ?_
  refine jr_get d_HT_sign_14 f_HT_80 h2 rfl ?_
  refine jr_iload_n d_HT_sign_17 rfl rfl ?_
  refine jr_iadd d_HT_sign_18 ?_
  refine jr_sipush (v := 400) d_HT_sign_19 (by decide) ?_
  refine jy_cut2 30 (fun z => z = bI (decide (f 1 + n ≤ 400))) (fun K => ?_) (fun z hz => ?_)
  · refine jr_icmp_gt (tgt := 29) d_HT_sign_22 (by decide) (fun hc => ?_) (fun hc => ?_)
    · refine jr_iconst (v := 0) d_HT_sign_29 (by decide) ?_
      exact K _ (by rw [decide_eq_false (Int32.not_le.mpr hc)]; rfl)
    · refine jr_iconst (v := 1) d_HT_sign_25 (by decide) ?_
      refine jr_goto (tgt := 30) d_HT_sign_26 (by decide) ?_
      exact K _ (by rw [decide_eq_true (Int32.not_lt.mp hc)]; rfl)
  subst hz
  refine jr_guard d_HT_sign_30 i_HT_83 (g_room hK) (Nat.le_of_ble_eq_true rfl) (by decide) (fun _ hq => by cases hq) (fun hc => ?_) (fun hc => opP.ex (by rw [g1, bI_eq0.mp hc]; rfl) (by decide))
  have g2 := bI_ne0.mp hc
  rw [show ex3 (inB n 1 8) 9 (decide (f 1 + n ≤ 400)) 10 true 0 = 0 by rw [g1, g2]; rfl]
  obtain ⟨N, hN1, hN8, rfl⟩ := inB_18 g1
  have hT : t + N ≤ 400 := by
    have := of_decide_eq_true g2
    rw [ht, nI_add] at this
    exact (nI_leI (b := 400) (by omega) (by decide)).mp this
  rw [nI_clamp (by omega)]
  refine jr_iload_n d_HT_sign_33 rfl rfl ?_
  refine jr_iconst (v := 1) d_HT_sign_34 (by decide) ?_
  refine jr_isub d_HT_sign_35 ?_
  refine jr_istore d_HT_sign_36 (by decide) ?_
  refine (ht_sign (h0 := h) (a := a) (T := T) (f := f) (tb := tb) hT 0 (Nat.zero_le _) h tb at_ St.rf rfl h1 (by rw [h2, ht]; rfl) c3 c3'.1 (fun i hi => by omega) c3'.2).mono (fun o h' w => ?_)
  obtain ⟨w1, w2, w3, ⟨at2, w4⟩, tb', w5, w6, w7, w8⟩ := w
  have kt : Kt h h' := w2.kt (fun i e => by omega)
  obtain ⟨s1, s2, s3⟩ := sgA_12 (a := a) (x := x) (t := t) (n := N) N
  refine Or.inl ⟨rfl, w1, ⟨w2 _ _ c1 (by omega), ⟨at2, w4⟩, ⟨tb', w5, fun j hj => ?_, w8⟩, c4, ?_, ⟨wb, w2 _ _ c6 (by omega), ?_⟩, ⟨rw_, w2 _ _ c7 (by omega)⟩, ?_, ?_, ?_⟩, w2.fx (fun i e => by omega) (by omega) (by omega)⟩
  · by_cases e : j < t
    · rw [s1 j e]; exact w6 j e
    · have : sgA a x t N N 12 (t + (j - t)) = bt x (N - 1 - (j - t)) := s2 (j - t) (by omega)
      have h7 := w7 (j - t) (by omega)
      rw [show t + (j - t) = j by omega] at this h7
      rw [this, h7]
  · rw [s3 13 (by decide)]
    exact c5.kt c4 kt
  · rw [s3 23 (by decide)]
    exact c6'
  · have := c8.kt kt (fun c w => w2 _ _ w (by omega))
    unfold PA iP at this ⊢
    rw [s3 13 (by decide), s3 15 (by decide), s3 16 (by decide), s3 17 (by decide)]
    exact this
  · have := c9.st (h' := h') (fun i c w n => w2 i c w (by omega))
    unfold BA at this ⊢
    rw [s3 18 (by decide), s3 19 (by decide)]
    exact this
  · rw [s3 22 (by decide)]
    exact w2 _ _ c10 (by omega)
end CB
