/-! the class' reader: words -/
section RW
variable {G : jy_G} {h h0 : jy_P} {t tb : Ft} {n p : Nat}
theorem fits_sx (w : Int32) : fits .byte (.int (sx w)) = true ∧ ∀ q, Value.int (sx w) ≠ .ref q := by
  refine ⟨?_, fun q e => by cases e⟩
  have h1 := Int8.le_toInt w.toInt8
  have h2 := Int8.toInt_lt w.toInt8
  show (decide (-128 ≤ sx w) && decide (sx w ≤ 127)) = true
  rw [Bool.and_eq_true]
  refine ⟨decide_eq_true ?_, decide_eq_true ?_⟩
  · rw [Int32.le_iff_toInt_le, sx, Int8.toInt_toInt32, show (-128 : Int32).toInt = -128 by decide]
    omega
  · rw [Int32.le_iff_toInt_le, sx, Int8.toInt_toInt32, show (127 : Int32).toInt = 127 by decide]
    omega
theorem ints_cut {f : Ft} {N s j : Nat} (hN : s + j ≤ N) : ((ints N f).drop s).take j = ints j (fun i => f (s + i)) := by
  apply List.ext_getElem?
  intro i
  by_cases hi : i < j
  · rw [List.getElem?_take_of_lt hi, List.getElem?_drop, ints_get (by omega), ints_get hi]
  · rw [List.getElem?_eq_none (by simp [ints_len]; omega), List.getElem?_eq_none (by rw [ints_len]; omega)]
theorem d_RD_word_0 : decode (jy_c m_RD_word) 0 = .ok (.aload_n 0, 1) := by decide +kernel
theorem d_RD_word_1 : decode (jy_c m_RD_word) 1 = .ok (.bipush 34, 2) := by decide +kernel
theorem d_RD_word_3 : decode (jy_c m_RD_word) 3 = .ok (.invokevirtual 39, 3) := by decide +kernel
theorem d_RD_word_6 : decode (jy_c m_RD_word) 6 = .ok (.aload_n 0, 1) := by decide +kernel
theorem d_RD_word_7 : decode (jy_c m_RD_word) 7 = .ok (.getfield 15, 3) := by decide +kernel
theorem d_RD_word_10 : decode (jy_c m_RD_word) 10 = .ok (.istore_n 1, 1) := by decide +kernel
theorem d_RD_word_11 : decode (jy_c m_RD_word) 11 = .ok (.aload_n 0, 1) := by decide +kernel
theorem d_RD_word_12 : decode (jy_c m_RD_word) 12 = .ok (.getfield 15, 3) := by decide +kernel
theorem d_RD_word_15 : decode (jy_c m_RD_word) 15 = .ok (.aload_n 0, 1) := by decide +kernel
theorem d_RD_word_16 : decode (jy_c m_RD_word) 16 = .ok (.getfield 19, 3) := by decide +kernel
theorem d_RD_word_19 : decode (jy_c m_RD_word) 19 = .ok (.if_icmp .ge 55, 3) := by decide +kernel
theorem d_RD_word_22 : decode (jy_c m_RD_word) 22 = .ok (.aload_n 0, 1) := by decide +kernel
theorem d_RD_word_23 : decode (jy_c m_RD_word) 23 = .ok (.getfield 15, 3) := by decide +kernel
theorem d_RD_word_26 : decode (jy_c m_RD_word) 26 = .ok (.iload_n 1, 1) := by decide +kernel
theorem d_RD_word_27 : decode (jy_c m_RD_word) 27 = .ok (.isub, 1) := by decide +kernel
theorem d_RD_word_28 : decode (jy_c m_RD_word) 28 = .ok (.bipush 10, 2) := by decide +kernel
theorem d_RD_word_30 : decode (jy_c m_RD_word) 30 = .ok (.if_icmp .ge 44, 3) := by decide +kernel
theorem d_RD_word_33 : decode (jy_c m_RD_word) 33 = .ok (.aload_n 0, 1) := by decide +kernel
theorem d_RD_word_34 : decode (jy_c m_RD_word) 34 = .ok (.getfield 9, 3) := by decide +kernel
theorem d_RD_word_37 : decode (jy_c m_RD_word) 37 = .ok (.aload_n 0, 1) := by decide +kernel
theorem d_RD_word_38 : decode (jy_c m_RD_word) 38 = .ok (.getfield 15, 3) := by decide +kernel
theorem d_RD_word_41 : decode (jy_c m_RD_word) 41 = .ok (.baload, 1) := by decide +kernel
theorem d_RD_word_42 : decode (jy_c m_RD_word) 42 = .ok (.bipush 97, 2) := by decide +kernel
theorem d_RD_word_44 : decode (jy_c m_RD_word) 44 = .ok (.if_icmp .lt 30, 3) := by decide +kernel
theorem d_RD_word_47 : decode (jy_c m_RD_word) 47 = .ok (.aload_n 0, 1) := by decide +kernel
theorem d_RD_word_48 : decode (jy_c m_RD_word) 48 = .ok (.getfield 9, 3) := by decide +kernel
theorem d_RD_word_51 : decode (jy_c m_RD_word) 51 = .ok (.aload_n 0, 1) := by decide +kernel
theorem d_RD_word_52 : decode (jy_c m_RD_word) 52 = .ok (.getfield 15, 3) := by decide +kernel
theorem d_RD_word_55 : decode (jy_c m_RD_word) 55 = .ok (.baload, 1) := by decide +kernel
theorem d_RD_word_56 : decode (jy_c m_RD_word) 56 = .ok (.bipush 122, 2) := by decide +kernel
theorem d_RD_word_58 : decode (jy_c m_RD_word) 58 = .ok (.if_icmp .gt 16, 3) := by decide +kernel
theorem d_RD_word_61 : decode (jy_c m_RD_word) 61 = .ok (.aload_n 0, 1) := by decide +kernel
theorem d_RD_word_62 : decode (jy_c m_RD_word) 62 = .ok (.dup, 1) := by decide +kernel
theorem d_RD_word_63 : decode (jy_c m_RD_word) 63 = .ok (.getfield 15, 3) := by decide +kernel
theorem d_RD_word_66 : decode (jy_c m_RD_word) 66 = .ok (.iconst 1, 1) := by decide +kernel
theorem d_RD_word_67 : decode (jy_c m_RD_word) 67 = .ok (.iadd, 1) := by decide +kernel
theorem d_RD_word_68 : decode (jy_c m_RD_word) 68 = .ok (.putfield 15, 3) := by decide +kernel
theorem d_RD_word_71 : decode (jy_c m_RD_word) 71 = .ok (.goto (-60), 3) := by decide +kernel
theorem d_RD_word_74 : decode (jy_c m_RD_word) 74 = .ok (.aload_n 0, 1) := by decide +kernel
theorem d_RD_word_75 : decode (jy_c m_RD_word) 75 = .ok (.aload_n 0, 1) := by decide +kernel
theorem d_RD_word_76 : decode (jy_c m_RD_word) 76 = .ok (.getfield 15, 3) := by decide +kernel
theorem d_RD_word_79 : decode (jy_c m_RD_word) 79 = .ok (.iload_n 1, 1) := by decide +kernel
theorem d_RD_word_80 : decode (jy_c m_RD_word) 80 = .ok (.if_icmp .le 32, 3) := by decide +kernel
theorem d_RD_word_83 : decode (jy_c m_RD_word) 83 = .ok (.aload_n 0, 1) := by decide +kernel
theorem d_RD_word_84 : decode (jy_c m_RD_word) 84 = .ok (.getfield 15, 3) := by decide +kernel
theorem d_RD_word_87 : decode (jy_c m_RD_word) 87 = .ok (.aload_n 0, 1) := by decide +kernel
theorem d_RD_word_88 : decode (jy_c m_RD_word) 88 = .ok (.getfield 19, 3) := by decide +kernel
theorem d_RD_word_91 : decode (jy_c m_RD_word) 91 = .ok (.if_icmp .ge 21, 3) := by decide +kernel
theorem d_RD_word_94 : decode (jy_c m_RD_word) 94 = .ok (.aload_n 0, 1) := by decide +kernel
theorem d_RD_word_95 : decode (jy_c m_RD_word) 95 = .ok (.getfield 9, 3) := by decide +kernel
theorem d_RD_word_98 : decode (jy_c m_RD_word) 98 = .ok (.aload_n 0, 1) := by decide +kernel
theorem d_RD_word_99 : decode (jy_c m_RD_word) 99 = .ok (.getfield 15, 3) := by decide +kernel
theorem d_RD_word_102 : decode (jy_c m_RD_word) 102 = .ok (.baload, 1) := by decide +kernel
theorem d_RD_word_103 : decode (jy_c m_RD_word) 103 = .ok (.bipush 34, 2) := by decide +kernel
theorem d_RD_word_105 : decode (jy_c m_RD_word) 105 = .ok (.if_icmp .ne 7, 3) := by decide +kernel
theorem d_RD_word_108 : decode (jy_c m_RD_word) 108 = .ok (.iconst 1, 1) := by decide +kernel
theorem d_RD_word_109 : decode (jy_c m_RD_word) 109 = .ok (.goto 4, 3) := by decide +kernel
theorem d_RD_word_112 : decode (jy_c m_RD_word) 112 = .ok (.iconst 0, 1) := by decide +kernel
theorem d_RD_word_113 : decode (jy_c m_RD_word) 113 = .ok (.invokevirtual 31, 3) := by decide +kernel
theorem d_RD_word_116 : decode (jy_c m_RD_word) 116 = .ok (.aload_n 0, 1) := by decide +kernel
theorem d_RD_word_117 : decode (jy_c m_RD_word) 117 = .ok (.getfield 15, 3) := by decide +kernel
theorem d_RD_word_120 : decode (jy_c m_RD_word) 120 = .ok (.iload_n 1, 1) := by decide +kernel
theorem d_RD_word_121 : decode (jy_c m_RD_word) 121 = .ok (.isub, 1) := by decide +kernel
theorem d_RD_word_122 : decode (jy_c m_RD_word) 122 = .ok (.newarray .byte, 2) := by decide +kernel
theorem d_RD_word_124 : decode (jy_c m_RD_word) 124 = .ok (.astore_n 2, 1) := by decide +kernel
theorem d_RD_word_125 : decode (jy_c m_RD_word) 125 = .ok (.aload_n 0, 1) := by decide +kernel
theorem d_RD_word_126 : decode (jy_c m_RD_word) 126 = .ok (.getfield 9, 3) := by decide +kernel
theorem d_RD_word_129 : decode (jy_c m_RD_word) 129 = .ok (.iload_n 1, 1) := by decide +kernel
theorem d_RD_word_130 : decode (jy_c m_RD_word) 130 = .ok (.aload_n 2, 1) := by decide +kernel
theorem d_RD_word_131 : decode (jy_c m_RD_word) 131 = .ok (.iconst 0, 1) := by decide +kernel
theorem d_RD_word_132 : decode (jy_c m_RD_word) 132 = .ok (.aload_n 2, 1) := by decide +kernel
theorem d_RD_word_133 : decode (jy_c m_RD_word) 133 = .ok (.arraylength, 1) := by decide +kernel
theorem d_RD_word_134 : decode (jy_c m_RD_word) 134 = .ok (.invokestatic 42, 3) := by decide +kernel
theorem d_RD_word_137 : decode (jy_c m_RD_word) 137 = .ok (.aload_n 0, 1) := by decide +kernel
theorem d_RD_word_138 : decode (jy_c m_RD_word) 138 = .ok (.dup, 1) := by decide +kernel
theorem d_RD_word_139 : decode (jy_c m_RD_word) 139 = .ok (.getfield 15, 3) := by decide +kernel
theorem d_RD_word_142 : decode (jy_c m_RD_word) 142 = .ok (.iconst 1, 1) := by decide +kernel
theorem d_RD_word_143 : decode (jy_c m_RD_word) 143 = .ok (.iadd, 1) := by decide +kernel
theorem d_RD_word_144 : decode (jy_c m_RD_word) 144 = .ok (.putfield 15, 3) := by decide +kernel
theorem d_RD_word_147 : decode (jy_c m_RD_word) 147 = .ok (.aload_n 2, 1) := by decide +kernel
theorem d_RD_word_148 : decode (jy_c m_RD_word) 148 = .ok (.areturn, 1) := by decide +kernel
def wordR (t : Ft) (n q : Nat) (h0 : jy_P) : Except Nat (Option Value × jy_P) :=
  if hr t n q = 34 then
    (if 0 < ltN t n 10 (q + 1) ∧ hr t n (q + 1 + ltN t n 10 (q + 1)) = 34 then .ok (some (.ref h0.length), (h0 ++ [(51, ints (ltN t n 10 (q + 1)) (fun i => hr t n (q + 1 + i)))]).set 2 (rA n (q + 1 + ltN t n 10 (q + 1) + 1))) else .error (q + 1 + ltN t n 10 (q + 1)))
  else .error q
theorem ltN_let {t : Ft} {n : Nat} : ∀ k p i, i < ltN t n k p → inB (hr t n (p + i)) 97 122 = true := by
  intro k
  induction k with
  | zero => intro p i h; cases h
  | succ k ih =>
    intro p i h
    unfold ltN at h
    split at h
    · rename_i hc
      cases i with
      | zero => exact hc
      | succ i =>
        have := ih (p + 1) i (by omega)
        rw [show p + (i + 1) = p + 1 + i by omega]
        exact this
    · cases h
theorem rd_word2 {q j : Nat} (hT : TH t tb n) (hby : ∀ j, ∃ w : Int32, tb j = sx w) (h2 : h0[2]? = some (rA n p)) (h3 : h0[3]? = some (51, ints 400 tb)) (hK : h0.length + 1 < jy_K) (hq : hr t n q = 34) (hj : ltN t n 10 (q + 1) = j) (hj10 : j ≤ 10) (hqn : q + 1 + j ≤ n) {l2 : Option Value} : jy_J G 8 m_RD_word 74 [some (.ref 2), some (.int (nI (q + 1))), l2] [] (h0.set 2 (rA n (q + 1 + j))) (rQ h0 2 (wordR t n q h0)) := by
  have hn := hT.1
  have hl := len_lt h2
  have s2 := rA_get (n := n) (q := q + 1 + j) h2
  have s3 := rA_3 (n := n) (q := q + 1 + j) h3
  have sl : (h0.set 2 (rA n (q + 1 + j))).length < jy_K := by simp; omega
  have h2' := s2
  have hN : wordR t n q h0 = if 0 < j ∧ hr t n (q + 1 + j) = 34 then .ok (some (.ref h0.length), (h0 ++ [(51, ints j (fun i => hr t n (q + 1 + i)))]).set 2 (rA n (q + 1 + j + 1))) else .error (q + 1 + j) := by
    unfold wordR
    rw [if_pos hq, hj]
  rw [hN]
  refine jr_aload_n d_RD_word_74 rfl rfl ?_
  refine jr_aload_n d_RD_word_75 rfl rfl ?_
  refine jr_get d_RD_word_76 f_RD_15 s2 rfl ?_
  refine jr_iload_n d_RD_word_79 rfl rfl ?_
  refine jy_cut2 113 (fun z => z = bI (decide (0 < j ∧ hr t n (q + 1 + j) = 34))) (fun K => ?_) (fun z hz => ?_)
  · refine jr_icmp_le (tgt := 112) d_RD_word_80 (by decide) (fun hc => ?_) (fun hc => ?_)
    · have : ¬ 0 < j := fun w => absurd hc (nI_ge (a := q + 1) (b := q + 1 + j) (by omega) (by omega))
      refine jr_iconst (v := 0) d_RD_word_112 (by decide) ?_
      exact K _ (by rw [decide_eq_false (fun w => this w.1)]; rfl)
    · have hj0 : 0 < j := by
        rcases Nat.eq_zero_or_pos j with w | w
        · subst w; exact absurd (Int32.le_refl _) hc
        · exact w
      refine jr_aload_n d_RD_word_83 rfl rfl ?_
      refine jr_get d_RD_word_84 f_RD_15 s2 rfl ?_
      refine jr_aload_n d_RD_word_87 rfl rfl ?_
      refine jr_get d_RD_word_88 f_RD_19 s2 rfl ?_
      refine jr_icmp_ge (tgt := 112) d_RD_word_91 (by decide) (fun hc2 => ?_) (fun hc2 => ?_)
      · have : ¬ q + 1 + j < n := fun w => nI_ge w (by omega) hc2
        refine jr_iconst (v := 0) d_RD_word_112 (by decide) ?_
        exact K _ (by rw [decide_eq_false (fun w => this (hr_in (by rw [w.2]; decide)))]; rfl)
      · have hpn : q + 1 + j < n := by
          rcases Nat.lt_or_ge (q + 1 + j) n with w | w
          · exact w
          · exact absurd (nI_le w (by omega)) hc2
        refine jr_aload_n d_RD_word_94 rfl rfl ?_
        refine jr_get d_RD_word_95 f_RD_9 s2 rfl ?_
        refine jr_aload_n d_RD_word_98 rfl rfl ?_
        refine jr_get d_RD_word_99 f_RD_15 s2 rfl ?_
        refine cr_bald d_RD_word_102 s3 rfl (by omega) (by decide) ?_
        refine jr_bipush (v := 34) d_RD_word_103 (by decide) ?_
        refine jr_icmp_ne (tgt := 112) d_RD_word_105 (by decide) (fun hc3 => ?_) (fun hc3 => ?_)
        · refine jr_iconst (v := 0) d_RD_word_112 (by decide) ?_
          exact K _ (by rw [decide_eq_false (fun w => hc3 ((tb_34 hT hpn).mpr w.2))]; rfl)
        · refine jr_iconst (v := 1) d_RD_word_108 (by decide) ?_
          refine jr_goto (tgt := 113) d_RD_word_109 (by decide) ?_
          exact K _ (by rw [decide_eq_true ⟨hj0, (tb_34 hT hpn).mp hc3⟩]; rfl)
  subst hz
  refine jr_needR d_RD_word_113 i_RD_31 s2 (c_need s2 sl _) (Nat.le_of_ble_eq_true rfl) (by decide) (fun _ hq => by cases hq) (fun hc => ?_) (fun hc => ?_)
  · have e := of_decide_eq_true (bI_ne0.mp hc)
    rw [if_pos e]
    have hin : q + 1 + j < n := hr_in (by rw [e.2]; decide)
    refine jr_aload_n d_RD_word_116 rfl rfl ?_
    refine jr_get d_RD_word_117 f_RD_15 s2 rfl ?_
    refine jr_iload_n d_RD_word_120 rfl rfl ?_
    refine jr_isub d_RD_word_121 ?_
    rw [pk_sub (by omega), show q + 1 + j - (q + 1) = j by omega]
    refine jr_newa d_RD_word_122 (t := 51) (ty := .byte) (v := .int 0) (N := j) rfl (by decide) rfl rfl (fun q e => by cases e) a_cbyte (nI_pos (by omega)) (nI_clamp (by omega)) ⟨sl, Or.inl (by omega)⟩ (by omega) ?_
    have el : (h0.set 2 (rA n (q + 1 + j))).length = h0.length := by simp
    rw [el]
    have eh : h0.set 2 (rA n (q + 1 + j)) ++ [(51, List.replicate j (Value.int 0))] = (h0 ++ [(51, List.replicate j (Value.int 0))]).set 2 (rA n (q + 1 + j)) := by
      rw [List.set_append_left _ _ hl]
    rw [eh]
    generalize hA : h0 ++ [(51, List.replicate j (Value.int 0))] = A
    have A2 : A[2]? = some (rA n p) := by rw [← hA, List.getElem?_append_left hl]; exact h2
    have A3 : A[3]? = some (51, ints 400 tb) := by rw [← hA, List.getElem?_append_left (len_lt h3)]; exact h3
    have AL : A[h0.length]? = some (51, List.replicate j (Value.int 0)) := by rw [← hA]; exact ga_n
    have u2 := rA_get (n := n) (q := q + 1 + j) A2
    have u3 := rA_3 (n := n) (q := q + 1 + j) A3
    have uL : (A.set 2 (rA n (q + 1 + j)))[h0.length]? = some (51, List.replicate j (Value.int 0)) := by rw [List.getElem?_set_ne (by omega)]; exact AL
    refine jr_astore_n d_RD_word_124 rfl (by decide) ?_
    refine jr_aload_n d_RD_word_125 rfl rfl ?_
    refine jr_get d_RD_word_126 f_RD_9 u2 rfl ?_
    refine jr_iload_n d_RD_word_129 rfl rfl ?_
    refine jr_aload_n d_RD_word_130 rfl rfl ?_
    refine jr_iconst (v := 0) d_RD_word_131 (by decide) ?_
    refine jr_aload_n d_RD_word_132 rfl rfl ?_
    refine jr_alen (n := nI j) d_RD_word_133 rfl uL (by rw [List.length_replicate]; rfl) ?_
    have hcp : ((ints 400 tb).drop (nI (q + 1)).toNatClampNeg).take (nI j).toNatClampNeg = ints j (fun i => hr t n (q + 1 + i)) := by
      rw [nI_clamp (by omega), nI_clamp (by omega), ints_cut (by omega)]
      exact ints_congr (fun i hi => tb_ltv hT (ltN_let 10 (q + 1) i (by omega)))
    refine jr_copyb d_RD_word_134 o_RD_42 o_copy_nat o_copy_stat o_copy_ini u3 uL (by omega) (nI_pos (by omega)) (nI_pos (by omega)) (by rw [nI_clamp (by omega), nI_clamp (by omega), ints_len]; omega) (by rw [nI_clamp (by omega), List.length_replicate]) (fun v hv => ?_) (by decide) (Nat.le_of_ble_eq_true rfl) rfl ?_
    · unfold ints at hv
      rw [List.mem_map] at hv
      obtain ⟨i, -, rfl⟩ := hv
      obtain ⟨w, hw⟩ := hby i
      rw [hw]
      exact fits_sx w
    rw [hcp]
    have v2 : ((A.set 2 (rA n (q + 1 + j))).set h0.length (51, ints j (fun i => hr t n (q + 1 + i))))[2]? = some (1, [.ref 3, .int (nI n), .int (nI (q + 1 + j))]) := by rw [List.getElem?_set_ne (by omega)]; exact u2
    refine jr_aload_n d_RD_word_137 rfl rfl ?_
    refine jr_dup d_RD_word_138 rfl ?_
    refine jr_get d_RD_word_139 f_RD_15 v2 rfl ?_
    refine jr_iconst (v := 1) d_RD_word_142 (by decide) ?_
    refine jr_iadd d_RD_word_143 ?_
    rw [nI_1]
    refine rp_put d_RD_word_144 f_RD_15 v2 ?_
    refine jr_aload_n d_RD_word_147 rfl rfl ?_
    refine jr_areturn d_RD_word_148 rfl (Or.inr ⟨_, rfl⟩) (Or.inr ⟨_, rfl⟩) ?_
    refine ⟨rfl, ?_⟩
    show _ = (h0 ++ [(51, ints j (fun i => hr t n (q + 1 + i)))]).set 2 (rA n (q + 1 + j + 1))
    rw [List.set_comm _ _ (by omega : (2 : Nat) ≠ h0.length), List.set_set, ← hA, app_set]
    rfl
  · have e := of_decide_eq_false (bI_eq0.mp hc)
    rw [if_neg e]
    exact rE.here (St.set rfl) (by simp) (by simp)
theorem rd_word1 {q : Nat} (hT : TH t tb n) (hby : ∀ j, ∃ w : Int32, tb j = sx w) (h2 : h0[2]? = some (rA n p)) (h3 : h0[3]? = some (51, ints 400 tb)) (hK : h0.length + 1 < jy_K) (hq : hr t n q = 34) {l2 : Option Value} : ∀ (r : Nat) {j : Nat}, j + r = 10 → q + 1 + j ≤ n → ltN t n 10 (q + 1) = j + ltN t n r (q + 1 + j) →
    jy_J G 8 m_RD_word 11 [some (.ref 2), some (.int (nI (q + 1))), l2] [] (h0.set 2 (rA n (q + 1 + j))) (rQ h0 2 (wordR t n q h0)) := by
  have hn := hT.1
  intro r
  induction r with
  | zero =>
    intro j hj hqn hl
    have s2 := rA_get (n := n) (q := q + 1 + j) h2
    have out := rd_word2 (G := G) (l2 := l2) hT hby h2 h3 hK hq (j := j) hl (by omega) hqn
    refine jr_aload_n d_RD_word_11 rfl rfl ?_
    refine jr_get d_RD_word_12 f_RD_15 s2 rfl ?_
    refine jr_aload_n d_RD_word_15 rfl rfl ?_
    refine jr_get d_RD_word_16 f_RD_19 s2 rfl ?_
    refine jr_icmp_ge (tgt := 74) d_RD_word_19 (by decide) (fun _ => out) (fun _ => ?_)
    refine jr_aload_n d_RD_word_22 rfl rfl ?_
    refine jr_get d_RD_word_23 f_RD_15 s2 rfl ?_
    refine jr_iload_n d_RD_word_26 rfl rfl ?_
    refine jr_isub d_RD_word_27 ?_
    refine jr_bipush (v := 10) d_RD_word_28 (by decide) ?_
    rw [pk_sub (by omega), show q + 1 + j - (q + 1) = 10 by omega]
    exact jr_icmp_ge (tgt := 74) d_RD_word_30 (by decide) (fun _ => out) (fun w => absurd (by decide) w)
  | succ r ih =>
    intro j hj hqn hl
    have s2 := rA_get (n := n) (q := q + 1 + j) h2
    have s3 := rA_3 (n := n) (q := q + 1 + j) h3
    have out : ¬ inB (hr t n (q + 1 + j)) 97 122 = true → jy_J G 8 m_RD_word 74 [some (.ref 2), some (.int (nI (q + 1))), l2] [] (h0.set 2 (rA n (q + 1 + j))) (rQ h0 2 (wordR t n q h0)) := by
      intro hno
      rw [ltN_k (k := r + 1) (p := q + 1 + j) hno] at hl
      exact rd_word2 hT hby h2 h3 hK hq hl (by omega) hqn
    refine jr_aload_n d_RD_word_11 rfl rfl ?_
    refine jr_get d_RD_word_12 f_RD_15 s2 rfl ?_
    refine jr_aload_n d_RD_word_15 rfl rfl ?_
    refine jr_get d_RD_word_16 f_RD_19 s2 rfl ?_
    refine jr_icmp_ge (tgt := 74) d_RD_word_19 (by decide) (fun hc => out (fun w => absurd hc (nI_ge (inB_in (by decide) w) (by omega)))) (fun hc => ?_)
    have hpn : q + 1 + j < n := by
      rcases Nat.lt_or_ge (q + 1 + j) n with w | w
      · exact w
      · exact absurd (nI_le w (by omega)) hc
    have e := tb_lt hT hpn
    refine jr_aload_n d_RD_word_22 rfl rfl ?_
    refine jr_get d_RD_word_23 f_RD_15 s2 rfl ?_
    refine jr_iload_n d_RD_word_26 rfl rfl ?_
    refine jr_isub d_RD_word_27 ?_
    refine jr_bipush (v := 10) d_RD_word_28 (by decide) ?_
    rw [pk_sub (by omega), show q + 1 + j - (q + 1) = j by omega]
    refine jr_icmp_ge (tgt := 74) d_RD_word_30 (by decide) (fun w => absurd ((nI_leI (a := 10) (by decide) (by omega)).mp w) (by omega)) (fun _ => ?_)
    refine jr_aload_n d_RD_word_33 rfl rfl ?_
    refine jr_get d_RD_word_34 f_RD_9 s2 rfl ?_
    refine jr_aload_n d_RD_word_37 rfl rfl ?_
    refine jr_get d_RD_word_38 f_RD_15 s2 rfl ?_
    refine cr_bald d_RD_word_41 s3 rfl (by omega) (by decide) ?_
    refine jr_bipush (v := 97) d_RD_word_42 (by decide) ?_
    refine jr_icmp_lt (tgt := 74) d_RD_word_44 (by decide) (fun hc2 => out (by rw [← e, decide_eq_false (Int32.not_le.mpr hc2), Bool.false_and]; decide)) (fun hc2 => ?_)
    refine jr_aload_n d_RD_word_47 rfl rfl ?_
    refine jr_get d_RD_word_48 f_RD_9 s2 rfl ?_
    refine jr_aload_n d_RD_word_51 rfl rfl ?_
    refine jr_get d_RD_word_52 f_RD_15 s2 rfl ?_
    refine cr_bald d_RD_word_55 s3 rfl (by omega) (by decide) ?_
    refine jr_bipush (v := 122) d_RD_word_56 (by decide) ?_
    refine jr_icmp_gt (tgt := 74) d_RD_word_58 (by decide) (fun hc3 => out (by rw [← e, decide_eq_false (Int32.not_le.mpr hc3), Bool.and_false]; decide)) (fun hc3 => ?_)
    have hin : inB (hr t n (q + 1 + j)) 97 122 = true := by rw [← e, decide_eq_true (Int32.not_lt.mp hc2), decide_eq_true (Int32.not_lt.mp hc3)]; rfl
    refine jr_aload_n d_RD_word_61 rfl rfl ?_
    refine jr_dup d_RD_word_62 rfl ?_
    refine jr_get d_RD_word_63 f_RD_15 s2 rfl ?_
    refine jr_iconst (v := 1) d_RD_word_66 (by decide) ?_
    refine jr_iadd d_RD_word_67 ?_
    rw [nI_1]
    refine rp_put d_RD_word_68 f_RD_15 s2 ?_
    refine jr_goto (tgt := 11) d_RD_word_71 (by decide) ?_
    rw [List.set_set]
    refine ih (j := j + 1) (by omega) hpn ?_
    rw [hl]
    conv => lhs; unfold ltN
    rw [if_pos hin]
    show j + (ltN t n r (q + 1 + j + 1) + 1) = j + 1 + ltN t n r (q + 1 + j + 1)
    omega
theorem c_word (hT : TH t tb n) (hby : ∀ j, ∃ w : Int32, tb j = sx w) (hp : p ≤ n) (h2 : h0[2]? = some (1, [.ref 3, .int (nI n), .int (nI p)])) (h3 : h0[3]? = some (51, ints 400 tb)) (hK : h0.length + 1 < jy_K) : jy_C G 8 m_RD_word [.ref 2] h0 (rQ h0 2 (wordR t n (sk t n p) h0)) := by
  refine jy_C.of [some (.ref 2), none, none] rfl (Nat.le_of_ble_eq_true rfl) ?_
  have hsk := skb (t := t) hp
  refine jr_aload_n d_RD_word_0 rfl rfl ?_
  refine jr_bipush (v := 34) d_RD_word_1 (by decide) ?_
  refine jr_callR (As := [.int 34]) d_RD_word_3 i_RD_39 rfl h2 (Nat.le_of_ble_eq_true rfl) (by decide) (c_sign hT hp h2 h3 (by omega) 34) (fun _ hq => by cases hq) (fun w hw => ?_) (fun e he o h' q => ?_)
  · by_cases c : hr t n (sk t n p) = 34
    · rw [if_pos c] at hw
      cases hw
      have hin : sk t n p < n := hr_in (by rw [c]; decide)
      have s2 := rA_get (n := n) (q := sk t n p + 1) h2
      refine jr_aload_n d_RD_word_6 rfl rfl ?_
      refine jr_get d_RD_word_7 f_RD_15 s2 rfl ?_
      refine jr_istore_n d_RD_word_10 rfl (by decide) ?_
      exact rd_word1 hT hby h2 h3 hK c 10 (j := 0) (by omega) hin (Nat.zero_add _).symm
    · rw [if_neg c] at hw
      cases hw
  · by_cases c : hr t n (sk t n p) = 34
    · rw [if_pos c] at he
      cases he
    · rw [if_neg c] at he
      cases he
      unfold wordR
      rw [if_neg c]
      exact q.tr St.rf (by omega) (by omega)
end RW
