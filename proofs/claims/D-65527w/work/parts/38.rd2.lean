/-! the class' reader: numbers, rising signs, words -/
section RN
variable {G : jy_G} {h h0 : jy_P} {t tb : Ft} {n p : Nat} {lo hi : Int32}
theorem rA_get {c : Nat × List Value} (h2 : h[2]? = some c) {q : Nat} : (h.set 2 (rA n q))[2]? = some (1, [.ref 3, .int (nI n), .int (nI q)]) := gs_eq h2
theorem rA_3 {q : Nat} {c : Nat × List Value} (h3 : h[3]? = some c) : (h.set 2 (rA n q))[3]? = some c := by rw [List.getElem?_set_ne (by decide)]; exact h3
theorem d_RD_number_0 : decode (jy_c m_RD_number) 0 = .ok (.aload_n 0, 1) := by decide +kernel
theorem d_RD_number_1 : decode (jy_c m_RD_number) 1 = .ok (.invokevirtual 27, 3) := by decide +kernel
theorem d_RD_number_4 : decode (jy_c m_RD_number) 4 = .ok (.pop, 1) := by decide +kernel
theorem d_RD_number_5 : decode (jy_c m_RD_number) 5 = .ok (.aload_n 0, 1) := by decide +kernel
theorem d_RD_number_6 : decode (jy_c m_RD_number) 6 = .ok (.aload_n 0, 1) := by decide +kernel
theorem d_RD_number_7 : decode (jy_c m_RD_number) 7 = .ok (.invokevirtual 35, 3) := by decide +kernel
theorem d_RD_number_10 : decode (jy_c m_RD_number) 10 = .ok (.invokevirtual 31, 3) := by decide +kernel
theorem d_RD_number_13 : decode (jy_c m_RD_number) 13 = .ok (.aload_n 0, 1) := by decide +kernel
theorem d_RD_number_14 : decode (jy_c m_RD_number) 14 = .ok (.getfield 9, 3) := by decide +kernel
theorem d_RD_number_17 : decode (jy_c m_RD_number) 17 = .ok (.aload_n 0, 1) := by decide +kernel
theorem d_RD_number_18 : decode (jy_c m_RD_number) 18 = .ok (.dup, 1) := by decide +kernel
theorem d_RD_number_19 : decode (jy_c m_RD_number) 19 = .ok (.getfield 15, 3) := by decide +kernel
theorem d_RD_number_22 : decode (jy_c m_RD_number) 22 = .ok (.dup_x1, 1) := by decide +kernel
theorem d_RD_number_23 : decode (jy_c m_RD_number) 23 = .ok (.iconst 1, 1) := by decide +kernel
theorem d_RD_number_24 : decode (jy_c m_RD_number) 24 = .ok (.iadd, 1) := by decide +kernel
theorem d_RD_number_25 : decode (jy_c m_RD_number) 25 = .ok (.putfield 15, 3) := by decide +kernel
theorem d_RD_number_28 : decode (jy_c m_RD_number) 28 = .ok (.baload, 1) := by decide +kernel
theorem d_RD_number_29 : decode (jy_c m_RD_number) 29 = .ok (.bipush 48, 2) := by decide +kernel
theorem d_RD_number_31 : decode (jy_c m_RD_number) 31 = .ok (.isub, 1) := by decide +kernel
theorem d_RD_number_32 : decode (jy_c m_RD_number) 32 = .ok (.istore_n 3, 1) := by decide +kernel
theorem d_RD_number_33 : decode (jy_c m_RD_number) 33 = .ok (.iload_n 3, 1) := by decide +kernel
theorem d_RD_number_34 : decode (jy_c m_RD_number) 34 = .ok (.ifCond .ne 21, 3) := by decide +kernel
theorem d_RD_number_37 : decode (jy_c m_RD_number) 37 = .ok (.iload_n 1, 1) := by decide +kernel
theorem d_RD_number_38 : decode (jy_c m_RD_number) 38 = .ok (.ifCond .le 17, 3) := by decide +kernel
theorem d_RD_number_41 : decode (jy_c m_RD_number) 41 = .ok (.new 22, 3) := by decide +kernel
theorem d_RD_number_44 : decode (jy_c m_RD_number) 44 = .ok (.dup, 1) := by decide +kernel
theorem d_RD_number_45 : decode (jy_c m_RD_number) 45 = .ok (.aload_n 0, 1) := by decide +kernel
theorem d_RD_number_46 : decode (jy_c m_RD_number) 46 = .ok (.getfield 15, 3) := by decide +kernel
theorem d_RD_number_49 : decode (jy_c m_RD_number) 49 = .ok (.iconst 1, 1) := by decide +kernel
theorem d_RD_number_50 : decode (jy_c m_RD_number) 50 = .ok (.isub, 1) := by decide +kernel
theorem d_RD_number_51 : decode (jy_c m_RD_number) 51 = .ok (.invokespecial 24, 3) := by decide +kernel
theorem d_RD_number_54 : decode (jy_c m_RD_number) 54 = .ok (.athrow, 1) := by decide +kernel
theorem d_RD_number_55 : decode (jy_c m_RD_number) 55 = .ok (.iconst 0, 1) := by decide +kernel
theorem d_RD_number_56 : decode (jy_c m_RD_number) 56 = .ok (.istore 4, 2) := by decide +kernel
theorem d_RD_number_58 : decode (jy_c m_RD_number) 58 = .ok (.iload 4, 2) := by decide +kernel
theorem d_RD_number_60 : decode (jy_c m_RD_number) 60 = .ok (.iconst 3, 1) := by decide +kernel
theorem d_RD_number_61 : decode (jy_c m_RD_number) 61 = .ok (.if_icmp .ge 45, 3) := by decide +kernel
theorem d_RD_number_64 : decode (jy_c m_RD_number) 64 = .ok (.iload_n 3, 1) := by decide +kernel
theorem d_RD_number_65 : decode (jy_c m_RD_number) 65 = .ok (.ifCond .le 41, 3) := by decide +kernel
theorem d_RD_number_68 : decode (jy_c m_RD_number) 68 = .ok (.aload_n 0, 1) := by decide +kernel
theorem d_RD_number_69 : decode (jy_c m_RD_number) 69 = .ok (.invokevirtual 35, 3) := by decide +kernel
theorem d_RD_number_72 : decode (jy_c m_RD_number) 72 = .ok (.ifCond .eq 34, 3) := by decide +kernel
theorem d_RD_number_75 : decode (jy_c m_RD_number) 75 = .ok (.bipush 10, 2) := by decide +kernel
theorem d_RD_number_77 : decode (jy_c m_RD_number) 77 = .ok (.iload_n 3, 1) := by decide +kernel
theorem d_RD_number_78 : decode (jy_c m_RD_number) 78 = .ok (.imul, 1) := by decide +kernel
theorem d_RD_number_79 : decode (jy_c m_RD_number) 79 = .ok (.aload_n 0, 1) := by decide +kernel
theorem d_RD_number_80 : decode (jy_c m_RD_number) 80 = .ok (.getfield 9, 3) := by decide +kernel
theorem d_RD_number_83 : decode (jy_c m_RD_number) 83 = .ok (.aload_n 0, 1) := by decide +kernel
theorem d_RD_number_84 : decode (jy_c m_RD_number) 84 = .ok (.dup, 1) := by decide +kernel
theorem d_RD_number_85 : decode (jy_c m_RD_number) 85 = .ok (.getfield 15, 3) := by decide +kernel
theorem d_RD_number_88 : decode (jy_c m_RD_number) 88 = .ok (.dup_x1, 1) := by decide +kernel
theorem d_RD_number_89 : decode (jy_c m_RD_number) 89 = .ok (.iconst 1, 1) := by decide +kernel
theorem d_RD_number_90 : decode (jy_c m_RD_number) 90 = .ok (.iadd, 1) := by decide +kernel
theorem d_RD_number_91 : decode (jy_c m_RD_number) 91 = .ok (.putfield 15, 3) := by decide +kernel
theorem d_RD_number_94 : decode (jy_c m_RD_number) 94 = .ok (.baload, 1) := by decide +kernel
theorem d_RD_number_95 : decode (jy_c m_RD_number) 95 = .ok (.iadd, 1) := by decide +kernel
theorem d_RD_number_96 : decode (jy_c m_RD_number) 96 = .ok (.bipush 48, 2) := by decide +kernel
theorem d_RD_number_98 : decode (jy_c m_RD_number) 98 = .ok (.isub, 1) := by decide +kernel
theorem d_RD_number_99 : decode (jy_c m_RD_number) 99 = .ok (.istore_n 3, 1) := by decide +kernel
theorem d_RD_number_100 : decode (jy_c m_RD_number) 100 = .ok (.iinc 4 1, 3) := by decide +kernel
theorem d_RD_number_103 : decode (jy_c m_RD_number) 103 = .ok (.goto (-45), 3) := by decide +kernel
theorem d_RD_number_106 : decode (jy_c m_RD_number) 106 = .ok (.iload_n 3, 1) := by decide +kernel
theorem d_RD_number_107 : decode (jy_c m_RD_number) 107 = .ok (.iload_n 1, 1) := by decide +kernel
theorem d_RD_number_108 : decode (jy_c m_RD_number) 108 = .ok (.if_icmp .lt 8, 3) := by decide +kernel
theorem d_RD_number_111 : decode (jy_c m_RD_number) 111 = .ok (.iload_n 3, 1) := by decide +kernel
theorem d_RD_number_112 : decode (jy_c m_RD_number) 112 = .ok (.iload_n 2, 1) := by decide +kernel
theorem d_RD_number_113 : decode (jy_c m_RD_number) 113 = .ok (.if_icmp .le 17, 3) := by decide +kernel
theorem d_RD_number_116 : decode (jy_c m_RD_number) 116 = .ok (.new 22, 3) := by decide +kernel
theorem d_RD_number_119 : decode (jy_c m_RD_number) 119 = .ok (.dup, 1) := by decide +kernel
theorem d_RD_number_120 : decode (jy_c m_RD_number) 120 = .ok (.aload_n 0, 1) := by decide +kernel
theorem d_RD_number_121 : decode (jy_c m_RD_number) 121 = .ok (.getfield 15, 3) := by decide +kernel
theorem d_RD_number_124 : decode (jy_c m_RD_number) 124 = .ok (.iconst 1, 1) := by decide +kernel
theorem d_RD_number_125 : decode (jy_c m_RD_number) 125 = .ok (.isub, 1) := by decide +kernel
theorem d_RD_number_126 : decode (jy_c m_RD_number) 126 = .ok (.invokespecial 24, 3) := by decide +kernel
theorem d_RD_number_129 : decode (jy_c m_RD_number) 129 = .ok (.athrow, 1) := by decide +kernel
theorem d_RD_number_130 : decode (jy_c m_RD_number) 130 = .ok (.aload_n 0, 1) := by decide +kernel
theorem d_RD_number_131 : decode (jy_c m_RD_number) 131 = .ok (.aload_n 0, 1) := by decide +kernel
theorem d_RD_number_132 : decode (jy_c m_RD_number) 132 = .ok (.invokevirtual 35, 3) := by decide +kernel
theorem d_RD_number_135 : decode (jy_c m_RD_number) 135 = .ok (.ifCond .ne 7, 3) := by decide +kernel
theorem d_RD_number_138 : decode (jy_c m_RD_number) 138 = .ok (.iconst 1, 1) := by decide +kernel
theorem d_RD_number_139 : decode (jy_c m_RD_number) 139 = .ok (.goto 4, 3) := by decide +kernel
theorem d_RD_number_142 : decode (jy_c m_RD_number) 142 = .ok (.iconst 0, 1) := by decide +kernel
theorem d_RD_number_143 : decode (jy_c m_RD_number) 143 = .ok (.invokevirtual 31, 3) := by decide +kernel
theorem d_RD_number_146 : decode (jy_c m_RD_number) 146 = .ok (.iload_n 3, 1) := by decide +kernel
theorem d_RD_number_147 : decode (jy_c m_RD_number) 147 = .ok (.ireturn, 1) := by decide +kernel
/-- from the loop's end on -/
theorem rd_number2 {q r : Nat} {v : Int32} {l4 : Option Value} (hT : TH t tb n) (h2 : h0[2]? = some (rA n p)) (h3 : h0[3]? = some (51, ints 400 tb)) (hK : h0.length < jy_K) (hq : dg (hr t n q) = true) (hr0 : 1 ≤ r) (hrn : r ≤ n) (hw : nmF t n 3 (q + 1) (hr t n q - 48) = (v, r)) :
    jy_J G 7 m_RD_number 106 [some (.ref 2), some (.int lo), some (.int hi), some (.int v), l4] [] (h0.set 2 (rA n r)) (rQ h0 1 (ebd (nmP t n lo hi q) (fun w => .ok (some (.int w.1), h0.set 2 (rA n w.2))))) := by
  have hN : nmP t n lo hi q = if inB v lo hi = true then (if dg (hr t n r) = true then .error r else .ok (v, r)) else .error (r - 1) := by
    unfold nmP
    rw [if_pos hq, hw]
  have s2 := rA_get (n := n) (q := r) h2
  have s3 := rA_3 (n := n) (q := r) h3
  have sl : (h0.set 2 (rA n r)).length < jy_K := by simpa using hK
  have hl := len_lt h2
  have bad : inB v lo hi = false → jy_J G 7 m_RD_number 116 [some (.ref 2), some (.int lo), some (.int hi), some (.int v), l4] [] (h0.set 2 (rA n r)) (rQ h0 1 (ebd (nmP t n lo hi q) (fun w => .ok (some (.int w.1), h0.set 2 (rA n w.2))))) := by
    intro hb
    rw [hN, if_neg (by rw [hb]; decide), ebd_er]
    refine jr_new d_RD_number_116 n_RD_22 ⟨sl, Or.inl (by decide)⟩ ?_
    have s2' := (St.app (X := fun _ => False) (l := [(13, [.null, .null, .null, .null, .null, .int 0, .int 0])])) _ _ s2 (fun q => q)
    refine jr_dup d_RD_number_119 rfl ?_
    refine jr_aload_n d_RD_number_120 rfl rfl ?_
    refine jr_get d_RD_number_121 f_RD_15 s2' rfl ?_
    refine jr_iconst (v := 1) d_RD_number_124 (by decide) ?_
    refine jr_isub d_RD_number_125 ?_
    have ew : nI r - 1 = nI (r - 1) := by
      obtain ⟨r', rfl⟩ : ∃ r', r = r' + 1 := ⟨r - 1, by omega⟩
      rw [nI_pred]; rfl
    rw [ew]
    refine jr_callI' (As := [.int (nI (r - 1))]) d_RD_number_126 i_RD_24 rfl (Nat.le_of_ble_eq_true rfl) (by decide : 5 < 7) (jc_wrong (by decide) ga_n (by simp; omega)) ?_
    rw [app_set]
    refine jr_athrow d_RD_number_129 (jy_E.out (fun _ hq => by cases hq) ?_)
    exact rE.here (St.set rfl) (by simp) (by simp)
  refine jr_iload_n d_RD_number_106 rfl rfl ?_
  refine jr_iload_n d_RD_number_107 rfl rfl ?_
  refine jr_icmp_lt (tgt := 116) d_RD_number_108 (by decide) (fun hc => bad (by simp [inB, Int32.not_le.mpr hc])) (fun hc => ?_)
  refine jr_iload_n d_RD_number_111 rfl rfl ?_
  refine jr_iload_n d_RD_number_112 rfl rfl ?_
  refine jr_icmp_le (tgt := 130) d_RD_number_113 (by decide) (fun hc2 => ?_) (fun hc2 => bad (by simp [inB, hc2]))
  have hin : inB v lo hi = true := inB_iff.mpr ⟨Int32.not_lt.mp hc, hc2⟩
  rw [hN, if_pos hin]
  refine jr_aload_n d_RD_number_130 rfl rfl ?_
  refine jr_aload_n d_RD_number_131 rfl rfl ?_
  refine jr_callVp0 d_RD_number_132 i_RD_35 s2 (Nat.le_of_ble_eq_true rfl) (by decide) (c_digit hT hrn s2 s3) ?_
  refine jy_cut1 143 (fun z => z = bI (!dg (hr t n r))) (fun K => ?_) (fun z hz => ?_)
  · refine jr_if_ne (tgt := 142) d_RD_number_135 (by decide) (fun hc => ?_) (fun hc => ?_)
    · refine jr_iconst (v := 0) d_RD_number_142 (by decide) ?_
      exact K _ (by rw [bI_ne0.mp hc]; rfl)
    · refine jr_iconst (v := 1) d_RD_number_138 (by decide) ?_
      refine jr_goto (tgt := 143) d_RD_number_139 (by decide) ?_
      exact K _ (by rw [bI_eq0.mp hc]; rfl)
  subst hz
  refine jr_needR d_RD_number_143 i_RD_31 s2 (c_need s2 sl _) (Nat.le_of_ble_eq_true rfl) (by decide) (fun _ hq => by cases hq) (fun hc => ?_) (fun hc => ?_)
  · have e : dg (hr t n r) = false := by
      have := bI_ne0.mp hc
      cases hd : dg (hr t n r) with
      | false => rfl
      | true => rw [hd] at this; cases this
    rw [if_neg (by rw [e]; decide), ebd_ok]
    refine jr_iload_n d_RD_number_146 rfl rfl ?_
    refine jr_ireturn d_RD_number_147 rfl rfl ?_
    exact ⟨rfl, rfl⟩
  · have e : dg (hr t n r) = true := by
      have := bI_eq0.mp hc
      cases hd : dg (hr t n r) with
      | false => rw [hd] at this; cases this
      | true => rfl
    rw [if_pos e, ebd_er]
    exact rE.here (St.set rfl) (by simp) (by simp)
theorem rd_number1 {q : Nat} (hT : TH t tb n) (h2 : h0[2]? = some (rA n p)) (h3 : h0[3]? = some (51, ints 400 tb)) (hK : h0.length < jy_K) (hq : dg (hr t n q) = true) : ∀ (k : Nat) {r : Nat} {v : Int32}, k ≤ 3 → 1 ≤ r → r ≤ n → nmF t n k r v = nmF t n 3 (q + 1) (hr t n q - 48) →
    jy_J G 7 m_RD_number 58 [some (.ref 2), some (.int lo), some (.int hi), some (.int v), some (.int (nI (3 - k)))] [] (h0.set 2 (rA n r)) (rQ h0 1 (ebd (nmP t n lo hi q) (fun w => .ok (some (.int w.1), h0.set 2 (rA n w.2))))) := by
  intro k
  induction k with
  | zero =>
    intro r v hk hr0 hrn hw
    refine jr_iload d_RD_number_58 rfl ?_
    refine jr_iconst (v := 3) d_RD_number_60 (by decide) ?_
    exact jr_icmp_ge (tgt := 106) d_RD_number_61 (by decide) (fun _ => rd_number2 hT h2 h3 hK hq hr0 hrn hw.symm) (fun q => absurd (by decide) q)
  | succ k ih =>
    intro r v hk hr0 hrn hw
    have hn := hT.1
    have s2 := rA_get (n := n) (q := r) h2
    have s3 := rA_3 (n := n) (q := r) h3
    have out : ¬ (dg (hr t n r) = true ∧ 0 < v) → jy_J G 7 m_RD_number 106 [some (.ref 2), some (.int lo), some (.int hi), some (.int v), some (.int (nI (3 - (k + 1))))] [] (h0.set 2 (rA n r)) (rQ h0 1 (ebd (nmP t n lo hi q) (fun w => .ok (some (.int w.1), h0.set 2 (rA n w.2))))) := by
      intro hno
      have e : nmF t n (k + 1) r v = (v, r) := by unfold nmF; rw [if_neg hno]
      exact rd_number2 hT h2 h3 hK hq hr0 hrn (hw.symm.trans e)
    refine jr_iload d_RD_number_58 rfl ?_
    refine jr_iconst (v := 3) d_RD_number_60 (by decide) ?_
    refine jr_icmp_ge (tgt := 106) d_RD_number_61 (by decide) (fun q => absurd ((nI_leI (a := 3) (by decide) (by omega)).mp q) (by omega)) (fun _ => ?_)
    refine jr_iload_n d_RD_number_64 rfl rfl ?_
    refine jr_if_le (tgt := 106) d_RD_number_65 (by decide) (fun hc => out (fun q => absurd q.2 (Int32.not_lt.mpr hc))) (fun hc => ?_)
    have hv0 : 0 < v := Int32.not_le.mp hc
    refine jr_aload_n d_RD_number_68 rfl rfl ?_
    refine jr_callVp0 d_RD_number_69 i_RD_35 s2 (Nat.le_of_ble_eq_true rfl) (by decide) (c_digit hT hrn s2 s3) ?_
    refine jr_if_eq (tgt := 106) d_RD_number_72 (by decide) (fun hc => out (fun q => absurd (q.1.symm.trans (bI_eq0.mp hc)) (by decide))) (fun hc => ?_)
    have hd : dg (hr t n r) = true := bI_ne0.mp hc
    have hin := dg_in hd
    have e : nmF t n (k + 1) r v = nmF t n k (r + 1) (10 * v + hr t n r - 48) := by
      conv => lhs; unfold nmF
      rw [if_pos ⟨hd, hv0⟩]
    have h2 := s2
    refine jr_bipush (v := 10) d_RD_number_75 (by decide) ?_
    refine jr_iload_n d_RD_number_77 rfl rfl ?_
    refine jr_imul d_RD_number_78 ?_
    refine jr_aload_n d_RD_number_79 rfl rfl ?_
    refine jr_get d_RD_number_80 f_RD_9 h2 rfl ?_
    refine jr_aload_n d_RD_number_83 rfl rfl ?_
    refine jr_dup d_RD_number_84 rfl ?_
    refine jr_get d_RD_number_85 f_RD_15 h2 rfl ?_
    refine jr_dup_x1 d_RD_number_88 rfl rfl ?_
    refine jr_iconst (v := 1) d_RD_number_89 (by decide) ?_
    refine jr_iadd d_RD_number_90 ?_
    rw [nI_1]
    refine rp_put d_RD_number_91 f_RD_15 h2 ?_
    have s3' : ((h0.set 2 (rA n r)).set 2 (1, [.ref 3, .int (nI n), .int (nI (r + 1))]))[3]? = some (51, ints 400 tb) := by rw [List.getElem?_set_ne (by decide)]; exact s3
    refine cr_bald d_RD_number_94 s3' rfl (by omega) (by decide) ?_
    rw [tb_dgv hT hd]
    refine jr_iadd d_RD_number_95 ?_
    refine jr_bipush (v := 48) d_RD_number_96 (by decide) ?_
    refine jr_isub d_RD_number_98 ?_
    refine jr_istore_n d_RD_number_99 rfl (by decide) ?_
    refine jr_iinc1 d_RD_number_100 rfl (by decide) ?_
    refine jr_goto (tgt := 58) d_RD_number_103 (by decide) ?_
    rw [nI_1, show 3 - (k + 1) + 1 = 3 - k by omega, List.set_set]
    exact ih (by omega) (by omega) hin (e.symm.trans hw)
theorem c_number (hT : TH t tb n) (hp : p ≤ n) (h2 : h0[2]? = some (1, [.ref 3, .int (nI n), .int (nI p)])) (h3 : h0[3]? = some (51, ints 400 tb)) (hK : h0.length < jy_K) : jy_C G 7 m_RD_number [.ref 2, .int lo, .int hi] h0 (rQ h0 1 (ebd (nmP t n lo hi (sk t n p)) (fun w => .ok (some (.int w.1), h0.set 2 (rA n w.2))))) := by
  refine jy_C.of [some (.ref 2), some (.int lo), some (.int hi), none, none] rfl (Nat.le_of_ble_eq_true rfl) ?_
  have hn := hT.1
  have hsk := skb (t := t) hp
  have s2 := rA_get (n := n) (q := sk t n p) h2
  have s3 := rA_3 (n := n) (q := sk t n p) h3
  have sl : (h0.set 2 (rA n (sk t n p))).length < jy_K := by simpa using hK
  have hl := len_lt h2
  refine jr_aload_n d_RD_number_0 rfl rfl ?_
  refine jr_callX (As := []) d_RD_number_1 i_RD_27 rfl h2 (Nat.le_of_ble_eq_true rfl) (by decide) (c_see hT hp h2 h3) ?_
  refine jr_pop d_RD_number_4 rfl ?_
  refine jr_aload_n d_RD_number_5 rfl rfl ?_
  refine jr_aload_n d_RD_number_6 rfl rfl ?_
  refine jr_callVp0 d_RD_number_7 i_RD_35 s2 (Nat.le_of_ble_eq_true rfl) (by decide) (c_digit hT hsk.2 s2 s3) ?_
  refine jr_needR d_RD_number_10 i_RD_31 s2 (c_need s2 sl _) (Nat.le_of_ble_eq_true rfl) (by decide) (fun _ hq => by cases hq) (fun hc => ?_) (fun hc => ?_)
  · have hd : dg (hr t n (sk t n p)) = true := bI_ne0.mp hc
    have hin := dg_in hd
    have h20 := h2
    have h2 := s2
    refine jr_aload_n d_RD_number_13 rfl rfl ?_
    refine jr_get d_RD_number_14 f_RD_9 h2 rfl ?_
    refine jr_aload_n d_RD_number_17 rfl rfl ?_
    refine jr_dup d_RD_number_18 rfl ?_
    refine jr_get d_RD_number_19 f_RD_15 h2 rfl ?_
    refine jr_dup_x1 d_RD_number_22 rfl rfl ?_
    refine jr_iconst (v := 1) d_RD_number_23 (by decide) ?_
    refine jr_iadd d_RD_number_24 ?_
    rw [nI_1]
    refine rp_put d_RD_number_25 f_RD_15 h2 ?_
    have s3' : ((h0.set 2 (rA n (sk t n p))).set 2 (1, [.ref 3, .int (nI n), .int (nI (sk t n p + 1))]))[3]? = some (51, ints 400 tb) := by rw [List.getElem?_set_ne (by decide)]; exact s3
    refine cr_bald d_RD_number_28 s3' rfl (by omega) (by decide) ?_
    rw [tb_dgv hT hd, List.set_set]
    refine jr_bipush (v := 48) d_RD_number_29 (by decide) ?_
    refine jr_isub d_RD_number_31 ?_
    refine jr_istore_n d_RD_number_32 rfl (by decide) ?_
    refine jr_iload_n d_RD_number_33 rfl rfl ?_
    have go := rd_number1 (G := G) (lo := lo) (hi := hi) hT h20 h3 hK hd 3 (r := sk t n p + 1) (v := hr t n (sk t n p) - 48) (by omega) (by omega) hin rfl
    refine jr_if_ne (tgt := 55) d_RD_number_34 (by decide) (fun hc => ?_) (fun hc => ?_)
    · refine jr_iconst (v := 0) d_RD_number_55 (by decide) ?_
      refine jr_istore d_RD_number_56 (by decide) ?_
      exact go
    · have hv : hr t n (sk t n p) - 48 = 0 := hc
      refine jr_iload_n d_RD_number_37 rfl rfl ?_
      refine jr_if_le (tgt := 55) d_RD_number_38 (by decide) (fun _ => ?_) (fun hc2 => ?_)
      · refine jr_iconst (v := 0) d_RD_number_55 (by decide) ?_
        refine jr_istore d_RD_number_56 (by decide) ?_
        exact go
      · have hlo : 0 < lo := Int32.not_le.mp hc2
        have eF : nmF t n 3 (sk t n p + 1) (hr t n (sk t n p) - 48) = (0, sk t n p + 1) := by
          rw [hv]
          unfold nmF
          rw [if_neg (fun q => absurd q.2 Int32.lt_irrefl)]
        have eN : nmP t n lo hi (sk t n p) = .error (sk t n p) := by
          unfold nmP
          rw [if_pos hd, eF, if_neg (by
            intro q
            exact absurd (inB_iff.mp q).1 (Int32.not_le.mpr hlo))]
          rfl
        rw [eN, ebd_er]
        have s2'' : (h0.set 2 (1, [.ref 3, .int (nI n), .int (nI (sk t n p + 1))]))[2]? = some (1, [.ref 3, .int (nI n), .int (nI (sk t n p + 1))]) := gs_eq h20
        refine jr_new d_RD_number_41 n_RD_22 ⟨by simpa using hK, Or.inl (by decide)⟩ ?_
        have s2' := (St.app (X := fun _ => False) (l := [(13, [.null, .null, .null, .null, .null, .int 0, .int 0])])) _ _ s2'' (fun q => q)
        refine jr_dup d_RD_number_44 rfl ?_
        refine jr_aload_n d_RD_number_45 rfl rfl ?_
        refine jr_get d_RD_number_46 f_RD_15 s2' rfl ?_
        refine jr_iconst (v := 1) d_RD_number_49 (by decide) ?_
        refine jr_isub d_RD_number_50 ?_
        rw [nI_pred]
        refine jr_callI' (As := [.int (nI (sk t n p))]) d_RD_number_51 i_RD_24 rfl (Nat.le_of_ble_eq_true rfl) (by decide : 5 < 7) (jc_wrong (by decide) ga_n (by simp; omega)) ?_
        rw [app_set]
        refine jr_athrow d_RD_number_54 (jy_E.out (fun _ hq => by cases hq) ?_)
        exact rE.here (St.set rfl) (by simp) (by simp)
  · have hd : dg (hr t n (sk t n p)) = false := bI_eq0.mp hc
    have eN : nmP t n lo hi (sk t n p) = .error (sk t n p) := by
      unfold nmP
      rw [if_neg (by rw [hd]; decide)]
    rw [eN, ebd_er]
    exact rE.here (St.set rfl) (by simp) (by simp)
theorem d_RD_rising_0 : decode (jy_c m_RD_rising) 0 = .ok (.iconst 0, 1) := by decide +kernel
theorem d_RD_rising_1 : decode (jy_c m_RD_rising) 1 = .ok (.istore 4, 2) := by decide +kernel
theorem d_RD_rising_3 : decode (jy_c m_RD_rising) 3 = .ok (.iload_n 1, 1) := by decide +kernel
theorem d_RD_rising_4 : decode (jy_c m_RD_rising) 4 = .ok (.iconst 1, 1) := by decide +kernel
theorem d_RD_rising_5 : decode (jy_c m_RD_rising) 5 = .ok (.isub, 1) := by decide +kernel
theorem d_RD_rising_6 : decode (jy_c m_RD_rising) 6 = .ok (.istore 5, 2) := by decide +kernel
theorem d_RD_rising_8 : decode (jy_c m_RD_rising) 8 = .ok (.iconst 0, 1) := by decide +kernel
theorem d_RD_rising_9 : decode (jy_c m_RD_rising) 9 = .ok (.istore 6, 2) := by decide +kernel
theorem d_RD_rising_11 : decode (jy_c m_RD_rising) 11 = .ok (.aload_n 0, 1) := by decide +kernel
theorem d_RD_rising_12 : decode (jy_c m_RD_rising) 12 = .ok (.invokevirtual 27, 3) := by decide +kernel
theorem d_RD_rising_15 : decode (jy_c m_RD_rising) 15 = .ok (.istore 7, 2) := by decide +kernel
theorem d_RD_rising_17 : decode (jy_c m_RD_rising) 17 = .ok (.aload_n 0, 1) := by decide +kernel
theorem d_RD_rising_18 : decode (jy_c m_RD_rising) 18 = .ok (.iload 7, 2) := by decide +kernel
theorem d_RD_rising_20 : decode (jy_c m_RD_rising) 20 = .ok (.iload_n 1, 1) := by decide +kernel
theorem d_RD_rising_21 : decode (jy_c m_RD_rising) 21 = .ok (.if_icmp .lt 13, 3) := by decide +kernel
theorem d_RD_rising_24 : decode (jy_c m_RD_rising) 24 = .ok (.iload 7, 2) := by decide +kernel
theorem d_RD_rising_26 : decode (jy_c m_RD_rising) 26 = .ok (.iload_n 2, 1) := by decide +kernel
theorem d_RD_rising_27 : decode (jy_c m_RD_rising) 27 = .ok (.if_icmp .gt 7, 3) := by decide +kernel
theorem d_RD_rising_30 : decode (jy_c m_RD_rising) 30 = .ok (.iconst 1, 1) := by decide +kernel
theorem d_RD_rising_31 : decode (jy_c m_RD_rising) 31 = .ok (.goto 4, 3) := by decide +kernel
theorem d_RD_rising_34 : decode (jy_c m_RD_rising) 34 = .ok (.iconst 0, 1) := by decide +kernel
theorem d_RD_rising_35 : decode (jy_c m_RD_rising) 35 = .ok (.invokevirtual 31, 3) := by decide +kernel
theorem d_RD_rising_38 : decode (jy_c m_RD_rising) 38 = .ok (.iload 6, 2) := by decide +kernel
theorem d_RD_rising_40 : decode (jy_c m_RD_rising) 40 = .ok (.iload_n 3, 1) := by decide +kernel
theorem d_RD_rising_41 : decode (jy_c m_RD_rising) 41 = .ok (.if_icmp .ge 53, 3) := by decide +kernel
theorem d_RD_rising_44 : decode (jy_c m_RD_rising) 44 = .ok (.iload 7, 2) := by decide +kernel
theorem d_RD_rising_46 : decode (jy_c m_RD_rising) 46 = .ok (.iload 5, 2) := by decide +kernel
theorem d_RD_rising_48 : decode (jy_c m_RD_rising) 48 = .ok (.if_icmp .le 46, 3) := by decide +kernel
theorem d_RD_rising_51 : decode (jy_c m_RD_rising) 51 = .ok (.iload 7, 2) := by decide +kernel
theorem d_RD_rising_53 : decode (jy_c m_RD_rising) 53 = .ok (.iload_n 2, 1) := by decide +kernel
theorem d_RD_rising_54 : decode (jy_c m_RD_rising) 54 = .ok (.if_icmp .gt 40, 3) := by decide +kernel
theorem d_RD_rising_57 : decode (jy_c m_RD_rising) 57 = .ok (.iload 4, 2) := by decide +kernel
theorem d_RD_rising_59 : decode (jy_c m_RD_rising) 59 = .ok (.iconst 1, 1) := by decide +kernel
theorem d_RD_rising_60 : decode (jy_c m_RD_rising) 60 = .ok (.iload 7, 2) := by decide +kernel
theorem d_RD_rising_62 : decode (jy_c m_RD_rising) 62 = .ok (.iload_n 1, 1) := by decide +kernel
theorem d_RD_rising_63 : decode (jy_c m_RD_rising) 63 = .ok (.isub, 1) := by decide +kernel
theorem d_RD_rising_64 : decode (jy_c m_RD_rising) 64 = .ok (.ishl, 1) := by decide +kernel
theorem d_RD_rising_65 : decode (jy_c m_RD_rising) 65 = .ok (.ior, 1) := by decide +kernel
theorem d_RD_rising_66 : decode (jy_c m_RD_rising) 66 = .ok (.istore 4, 2) := by decide +kernel
theorem d_RD_rising_68 : decode (jy_c m_RD_rising) 68 = .ok (.iload 7, 2) := by decide +kernel
theorem d_RD_rising_70 : decode (jy_c m_RD_rising) 70 = .ok (.istore 5, 2) := by decide +kernel
theorem d_RD_rising_72 : decode (jy_c m_RD_rising) 72 = .ok (.iinc 6 1, 3) := by decide +kernel
theorem d_RD_rising_75 : decode (jy_c m_RD_rising) 75 = .ok (.aload_n 0, 1) := by decide +kernel
theorem d_RD_rising_76 : decode (jy_c m_RD_rising) 76 = .ok (.dup, 1) := by decide +kernel
theorem d_RD_rising_77 : decode (jy_c m_RD_rising) 77 = .ok (.getfield 15, 3) := by decide +kernel
theorem d_RD_rising_80 : decode (jy_c m_RD_rising) 80 = .ok (.iconst 1, 1) := by decide +kernel
theorem d_RD_rising_81 : decode (jy_c m_RD_rising) 81 = .ok (.iadd, 1) := by decide +kernel
theorem d_RD_rising_82 : decode (jy_c m_RD_rising) 82 = .ok (.putfield 15, 3) := by decide +kernel
theorem d_RD_rising_85 : decode (jy_c m_RD_rising) 85 = .ok (.aload_n 0, 1) := by decide +kernel
theorem d_RD_rising_86 : decode (jy_c m_RD_rising) 86 = .ok (.invokevirtual 27, 3) := by decide +kernel
theorem d_RD_rising_89 : decode (jy_c m_RD_rising) 89 = .ok (.istore 7, 2) := by decide +kernel
theorem d_RD_rising_91 : decode (jy_c m_RD_rising) 91 = .ok (.goto (-53), 3) := by decide +kernel
theorem d_RD_rising_94 : decode (jy_c m_RD_rising) 94 = .ok (.aload_n 0, 1) := by decide +kernel
theorem d_RD_rising_95 : decode (jy_c m_RD_rising) 95 = .ok (.iload 7, 2) := by decide +kernel
theorem d_RD_rising_97 : decode (jy_c m_RD_rising) 97 = .ok (.iload_n 1, 1) := by decide +kernel
theorem d_RD_rising_98 : decode (jy_c m_RD_rising) 98 = .ok (.if_icmp .lt 9, 3) := by decide +kernel
theorem d_RD_rising_101 : decode (jy_c m_RD_rising) 101 = .ok (.iload 7, 2) := by decide +kernel
theorem d_RD_rising_103 : decode (jy_c m_RD_rising) 103 = .ok (.iload_n 2, 1) := by decide +kernel
theorem d_RD_rising_104 : decode (jy_c m_RD_rising) 104 = .ok (.if_icmp .le 7, 3) := by decide +kernel
theorem d_RD_rising_107 : decode (jy_c m_RD_rising) 107 = .ok (.iconst 1, 1) := by decide +kernel
theorem d_RD_rising_108 : decode (jy_c m_RD_rising) 108 = .ok (.goto 4, 3) := by decide +kernel
theorem d_RD_rising_111 : decode (jy_c m_RD_rising) 111 = .ok (.iconst 0, 1) := by decide +kernel
theorem d_RD_rising_112 : decode (jy_c m_RD_rising) 112 = .ok (.invokevirtual 31, 3) := by decide +kernel
theorem d_RD_rising_115 : decode (jy_c m_RD_rising) 115 = .ok (.iload 4, 2) := by decide +kernel
theorem d_RD_rising_117 : decode (jy_c m_RD_rising) 117 = .ok (.ireturn, 1) := by decide +kernel
theorem rd_rising {q0 most : Nat} (hT : TH t tb n) (h2 : h0[2]? = some (rA n p)) (h3 : h0[3]? = some (51, ints 400 tb)) (hK : h0.length < jy_K) (h31 : most < 2 ^ 31) (hl0 : -1 < lo) (hq : inB (hr t n q0) lo hi = true) : ∀ (k : Nat) {q j : Nat} {bits last : Int32}, j + k = most → q ≤ n → -1 ≤ last → sk t n q = q → rsF t n lo hi k q bits last = rsF t n lo hi most q0 0 (lo - 1) →
    jy_J G 7 m_RD_rising 38 [some (.ref 2), some (.int lo), some (.int hi), some (.int (nI most)), some (.int bits), some (.int last), some (.int (nI j)), some (.int (hr t n q))] [] (h0.set 2 (rA n q)) (rQ h0 1 (ebd (rsP t n lo hi most q0) (fun w => .ok (some (.int w.1), h0.set 2 (rA n w.2))))) := by
  have out : ∀ {q j : Nat} {bits last : Int32}, q ≤ n → rsF t n lo hi most q0 0 (lo - 1) = (bits, q) → jy_J G 7 m_RD_rising 94 [some (.ref 2), some (.int lo), some (.int hi), some (.int (nI most)), some (.int bits), some (.int last), some (.int (nI j)), some (.int (hr t n q))] [] (h0.set 2 (rA n q)) (rQ h0 1 (ebd (rsP t n lo hi most q0) (fun w => .ok (some (.int w.1), h0.set 2 (rA n w.2))))) := by
    intro q j bits last hqn hw
    have s2 := rA_get (n := n) (q := q) h2
    have sl : (h0.set 2 (rA n q)).length < jy_K := by simpa using hK
    have hN : rsP t n lo hi most q0 = if inB (hr t n q) lo hi = true then .error q else .ok (bits, q) := by
      unfold rsP
      rw [if_pos hq, hw]
    rw [hN]
    refine jr_aload_n d_RD_rising_94 rfl rfl ?_
    refine jr_iload d_RD_rising_95 rfl ?_
    refine jr_iload_n d_RD_rising_97 rfl rfl ?_
    refine jy_cut2 112 (fun z => z = bI (!inB (hr t n q) lo hi)) (fun K => ?_) (fun z hz => ?_)
    · refine jr_icmp_lt (tgt := 107) d_RD_rising_98 (by decide) (fun hc => ?_) (fun hc => ?_)
      · refine jr_iconst (v := 1) d_RD_rising_107 (by decide) ?_
        refine jr_goto (tgt := 112) d_RD_rising_108 (by decide) ?_
        exact K _ (by rw [show inB (hr t n q) lo hi = false by simp [inB, Int32.not_le.mpr hc]]; rfl)
      · refine jr_iload d_RD_rising_101 rfl ?_
        refine jr_iload_n d_RD_rising_103 rfl rfl ?_
        refine jr_icmp_le (tgt := 111) d_RD_rising_104 (by decide) (fun hc2 => ?_) (fun hc2 => ?_)
        · refine jr_iconst (v := 0) d_RD_rising_111 (by decide) ?_
          exact K _ (by rw [inB_iff.mpr ⟨Int32.not_lt.mp hc, hc2⟩]; rfl)
        · refine jr_iconst (v := 1) d_RD_rising_107 (by decide) ?_
          refine jr_goto (tgt := 112) d_RD_rising_108 (by decide) ?_
          exact K _ (by rw [show inB (hr t n q) lo hi = false by simp [inB, hc2]]; rfl)
    subst hz
    refine jr_needR d_RD_rising_112 i_RD_31 s2 (c_need s2 sl _) (Nat.le_of_ble_eq_true rfl) (by decide) (fun _ hq => by cases hq) (fun hc => ?_) (fun hc => ?_)
    · have e : inB (hr t n q) lo hi = false := by
        have := bI_ne0.mp hc
        cases hd : inB (hr t n q) lo hi with
        | false => rfl
        | true => rw [hd] at this; cases this
      rw [if_neg (by rw [e]; decide), ebd_ok]
      refine jr_iload d_RD_rising_115 rfl ?_
      refine jr_ireturn d_RD_rising_117 rfl rfl ?_
      exact ⟨rfl, rfl⟩
    · have e : inB (hr t n q) lo hi = true := by
        have := bI_eq0.mp hc
        cases hd : inB (hr t n q) lo hi with
        | false => rw [hd] at this; cases this
        | true => rfl
      rw [if_pos e, ebd_er]
      exact rE.here (St.set rfl) (by simp) (by simp)
  intro k
  induction k with
  | zero =>
    intro q j bits last hj hqn hla hsk hw
    have : j = most := by omega
    subst this
    refine jr_iload d_RD_rising_38 rfl ?_
    refine jr_iload_n d_RD_rising_40 rfl rfl ?_
    exact jr_icmp_ge (tgt := 94) d_RD_rising_41 (by decide) (fun _ => out hqn hw.symm) (jl_eq h31)
  | succ k ih =>
    intro q j bits last hj hqn hla hsk hw
    have no : ¬ (last < hr t n q ∧ hr t n q ≤ hi) → jy_J G 7 m_RD_rising 94 [some (.ref 2), some (.int lo), some (.int hi), some (.int (nI most)), some (.int bits), some (.int last), some (.int (nI j)), some (.int (hr t n q))] [] (h0.set 2 (rA n q)) (rQ h0 1 (ebd (rsP t n lo hi most q0) (fun w => .ok (some (.int w.1), h0.set 2 (rA n w.2))))) := by
      intro hno
      have e : rsF t n lo hi (k + 1) q bits last = (bits, q) := by unfold rsF; rw [if_neg hno]
      exact out hqn (hw.symm.trans e)
    refine jr_iload d_RD_rising_38 rfl ?_
    refine jr_iload_n d_RD_rising_40 rfl rfl ?_
    refine jr_icmp_ge (tgt := 94) d_RD_rising_41 (by decide) (jl_lt h31 (by omega)) (fun _ => ?_)
    refine jr_iload d_RD_rising_44 rfl ?_
    refine jr_iload d_RD_rising_46 rfl ?_
    refine jr_icmp_le (tgt := 94) d_RD_rising_48 (by decide) (fun hc => no (fun q => absurd q.1 (Int32.not_lt.mpr hc))) (fun hc => ?_)
    refine jr_iload d_RD_rising_51 rfl ?_
    refine jr_iload_n d_RD_rising_53 rfl rfl ?_
    refine jr_icmp_gt (tgt := 94) d_RD_rising_54 (by decide) (fun hc2 => no (fun q => absurd q.2 (Int32.not_le.mpr hc2))) (fun hc2 => ?_)
    have hc : last < hr t n q := Int32.not_le.mp hc
    have hc2 : hr t n q ≤ hi := Int32.not_lt.mp hc2
    have hin : q < n := hr_in (fun e => by rw [e] at hc; exact absurd (Int32.lt_of_lt_of_le hc hla) Int32.lt_irrefl)
    have e : rsF t n lo hi (k + 1) q bits last = rsF t n lo hi k (sk t n (q + 1)) (bits ||| (1 <<< ((hr t n q - lo) &&& 31))) (hr t n q) := by
      conv => lhs; unfold rsF
      rw [if_pos ⟨hc, hc2⟩]
    have s2 := rA_get (n := n) (q := q) h2
    have h2' := s2
    refine jr_iload d_RD_rising_57 rfl ?_
    refine jr_iconst (v := 1) d_RD_rising_59 (by decide) ?_
    refine jr_iload d_RD_rising_60 rfl ?_
    refine jr_iload_n d_RD_rising_62 rfl rfl ?_
    refine jr_isub d_RD_rising_63 ?_
    refine jr_ishl d_RD_rising_64 ?_
    refine jr_ior d_RD_rising_65 ?_
    refine jr_istore d_RD_rising_66 (by decide) ?_
    refine jr_iload d_RD_rising_68 rfl ?_
    refine jr_istore d_RD_rising_70 (by decide) ?_
    refine jr_iinc1 d_RD_rising_72 rfl (by decide) ?_
    refine jr_aload_n d_RD_rising_75 rfl rfl ?_
    refine jr_dup d_RD_rising_76 rfl ?_
    refine jr_get d_RD_rising_77 f_RD_15 s2 rfl ?_
    refine jr_iconst (v := 1) d_RD_rising_80 (by decide) ?_
    refine jr_iadd d_RD_rising_81 ?_
    rw [nI_1, nI_1]
    refine rp_put d_RD_rising_82 f_RD_15 s2 ?_
    rw [List.set_set]
    have u2 : (h0.set 2 (1, [.ref 3, .int (nI n), .int (nI (q + 1))]))[2]? = some (1, [.ref 3, .int (nI n), .int (nI (q + 1))]) := gs_eq h2
    have u3 : (h0.set 2 (1, [.ref 3, .int (nI n), .int (nI (q + 1))]))[3]? = some (51, ints 400 tb) := by rw [List.getElem?_set_ne (by decide)]; exact h3
    refine jr_aload_n d_RD_rising_85 rfl rfl ?_
    refine jr_callX (As := []) d_RD_rising_86 i_RD_27 rfl u2 (Nat.le_of_ble_eq_true rfl) (by decide) (c_see hT hin u2 u3) ?_
    rw [List.set_set]
    refine jr_istore d_RD_rising_89 (by decide) ?_
    refine jr_goto (tgt := 38) d_RD_rising_91 (by decide) ?_
    exact ih (q := sk t n (q + 1)) (by omega) (skb hin).2 (Int32.le_of_lt (Int32.lt_of_le_of_lt hla hc)) sk_sk (e.symm.trans hw)
theorem c_rising {most : Nat} (hT : TH t tb n) (hp : p ≤ n) (h2 : h0[2]? = some (1, [.ref 3, .int (nI n), .int (nI p)])) (h3 : h0[3]? = some (51, ints 400 tb)) (hK : h0.length < jy_K) (h31 : most < 2 ^ 31) (hl0 : -1 < lo) (hl1 : -1 ≤ lo - 1) : jy_C G 7 m_RD_rising [.ref 2, .int lo, .int hi, .int (nI most)] h0 (rQ h0 1 (ebd (rsP t n lo hi most (sk t n p)) (fun w => .ok (some (.int w.1), h0.set 2 (rA n w.2))))) := by
  refine jy_C.of [some (.ref 2), some (.int lo), some (.int hi), some (.int (nI most)), none, none, none, none] rfl (Nat.le_of_ble_eq_true rfl) ?_
  have hsk := skb (t := t) hp
  have s2 := rA_get (n := n) (q := sk t n p) h2
  have sl : (h0.set 2 (rA n (sk t n p))).length < jy_K := by simpa using hK
  refine jr_iconst (v := 0) d_RD_rising_0 (by decide) ?_
  refine jr_istore d_RD_rising_1 (by decide) ?_
  refine jr_iload_n d_RD_rising_3 rfl rfl ?_
  refine jr_iconst (v := 1) d_RD_rising_4 (by decide) ?_
  refine jr_isub d_RD_rising_5 ?_
  refine jr_istore d_RD_rising_6 (by decide) ?_
  refine jr_iconst (v := 0) d_RD_rising_8 (by decide) ?_
  refine jr_istore d_RD_rising_9 (by decide) ?_
  refine jr_aload_n d_RD_rising_11 rfl rfl ?_
  refine jr_callX (As := []) d_RD_rising_12 i_RD_27 rfl h2 (Nat.le_of_ble_eq_true rfl) (by decide) (c_see hT hp h2 h3) ?_
  refine jr_istore d_RD_rising_15 (by decide) ?_
  refine jr_aload_n d_RD_rising_17 rfl rfl ?_
  refine jr_iload d_RD_rising_18 rfl ?_
  refine jr_iload_n d_RD_rising_20 rfl rfl ?_
  refine jy_cut2 35 (fun z => z = bI (inB (hr t n (sk t n p)) lo hi)) (fun K => ?_) (fun z hz => ?_)
  · refine jr_icmp_lt (tgt := 34) d_RD_rising_21 (by decide) (fun hc => ?_) (fun hc => ?_)
    · refine jr_iconst (v := 0) d_RD_rising_34 (by decide) ?_
      exact K _ (by rw [show inB (hr t n (sk t n p)) lo hi = false by simp [inB, Int32.not_le.mpr hc]]; rfl)
    · refine jr_iload d_RD_rising_24 rfl ?_
      refine jr_iload_n d_RD_rising_26 rfl rfl ?_
      refine jr_icmp_gt (tgt := 34) d_RD_rising_27 (by decide) (fun hc2 => ?_) (fun hc2 => ?_)
      · refine jr_iconst (v := 0) d_RD_rising_34 (by decide) ?_
        exact K _ (by rw [show inB (hr t n (sk t n p)) lo hi = false by simp [inB, Int32.not_le.mpr hc2]]; rfl)
      · refine jr_iconst (v := 1) d_RD_rising_30 (by decide) ?_
        refine jr_goto (tgt := 35) d_RD_rising_31 (by decide) ?_
        exact K _ (by rw [inB_iff.mpr ⟨Int32.not_lt.mp hc, Int32.not_lt.mp hc2⟩]; rfl)
  subst hz
  refine jr_needR d_RD_rising_35 i_RD_31 s2 (c_need s2 sl _) (Nat.le_of_ble_eq_true rfl) (by decide) (fun _ hq => by cases hq) (fun hc => ?_) (fun hc => ?_)
  · exact rd_rising hT h2 h3 hK h31 hl0 (bI_ne0.mp hc) most (j := 0) (by omega) hsk.2 hl1 sk_sk rfl
  · have e := bI_eq0.mp hc
    have eN : rsP t n lo hi most (sk t n p) = .error (sk t n p) := by
      unfold rsP
      rw [if_neg (by rw [e]; decide)]
    rw [eN, ebd_er]
    exact rE.here (St.set rfl) (by simp) (by simp)
end RN
