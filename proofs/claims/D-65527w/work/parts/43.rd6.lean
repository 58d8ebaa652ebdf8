/-! the class' reader: a material's row, walked -/
theorem shl1 (b : Int32) : b <<< ((1 : Int32) &&& 31) = 2 * b := by
  rw [show ((1 : Int32) &&& 31) = 1 by decide]
  apply Int32.toBitVec_inj.mp
  rw [Int32.toBitVec_shiftLeft, Int32.toBitVec_mul]
  apply BitVec.eq_of_toNat_eq
  have : (Int32.toBitVec 1).smod 32 = 1#32 := by decide
  rw [this]
  simp [Nat.shiftLeft_eq]
  omega
theorem d_RD_material_0 : decode (jy_c m_RD_material) 0 = .ok (.aload_n 0, 1) := by decide +kernel
theorem d_RD_material_1 : decode (jy_c m_RD_material) 1 = .ok (.iconst 1, 1) := by decide +kernel
theorem d_RD_material_2 : decode (jy_c m_RD_material) 2 = .ok (.sipush 9999, 3) := by decide +kernel
theorem d_RD_material_5 : decode (jy_c m_RD_material) 5 = .ok (.invokevirtual 51, 3) := by decide +kernel
theorem d_RD_material_8 : decode (jy_c m_RD_material) 8 = .ok (.istore_n 2, 1) := by decide +kernel
theorem d_RD_material_9 : decode (jy_c m_RD_material) 9 = .ok (.aload_n 1, 1) := by decide +kernel
theorem d_RD_material_10 : decode (jy_c m_RD_material) 10 = .ok (.iload_n 2, 1) := by decide +kernel
theorem d_RD_material_11 : decode (jy_c m_RD_material) 11 = .ok (.invokevirtual 69, 3) := by decide +kernel
theorem d_RD_material_14 : decode (jy_c m_RD_material) 14 = .ok (.ifnull 17, 3) := by decide +kernel
theorem d_RD_material_17 : decode (jy_c m_RD_material) 17 = .ok (.new 22, 3) := by decide +kernel
theorem d_RD_material_20 : decode (jy_c m_RD_material) 20 = .ok (.dup, 1) := by decide +kernel
theorem d_RD_material_21 : decode (jy_c m_RD_material) 21 = .ok (.aload_n 0, 1) := by decide +kernel
theorem d_RD_material_22 : decode (jy_c m_RD_material) 22 = .ok (.getfield 15, 3) := by decide +kernel
theorem d_RD_material_25 : decode (jy_c m_RD_material) 25 = .ok (.iconst 1, 1) := by decide +kernel
theorem d_RD_material_26 : decode (jy_c m_RD_material) 26 = .ok (.isub, 1) := by decide +kernel
theorem d_RD_material_27 : decode (jy_c m_RD_material) 27 = .ok (.invokespecial 24, 3) := by decide +kernel
theorem d_RD_material_30 : decode (jy_c m_RD_material) 30 = .ok (.athrow, 1) := by decide +kernel
theorem d_RD_material_31 : decode (jy_c m_RD_material) 31 = .ok (.new 75, 3) := by decide +kernel
theorem d_RD_material_34 : decode (jy_c m_RD_material) 34 = .ok (.dup, 1) := by decide +kernel
theorem d_RD_material_35 : decode (jy_c m_RD_material) 35 = .ok (.iload_n 2, 1) := by decide +kernel
theorem d_RD_material_36 : decode (jy_c m_RD_material) 36 = .ok (.invokespecial 77, 3) := by decide +kernel
theorem d_RD_material_39 : decode (jy_c m_RD_material) 39 = .ok (.astore_n 3, 1) := by decide +kernel
theorem d_RD_material_40 : decode (jy_c m_RD_material) 40 = .ok (.aload_n 3, 1) := by decide +kernel
theorem d_RD_material_41 : decode (jy_c m_RD_material) 41 = .ok (.getfield 78, 3) := by decide +kernel
theorem d_RD_material_44 : decode (jy_c m_RD_material) 44 = .ok (.aload_n 3, 1) := by decide +kernel
theorem d_RD_material_45 : decode (jy_c m_RD_material) 45 = .ok (.dup, 1) := by decide +kernel
theorem d_RD_material_46 : decode (jy_c m_RD_material) 46 = .ok (.getfield 82, 3) := by decide +kernel
theorem d_RD_material_49 : decode (jy_c m_RD_material) 49 = .ok (.dup_x1, 1) := by decide +kernel
theorem d_RD_material_50 : decode (jy_c m_RD_material) 50 = .ok (.iconst 1, 1) := by decide +kernel
theorem d_RD_material_51 : decode (jy_c m_RD_material) 51 = .ok (.iadd, 1) := by decide +kernel
theorem d_RD_material_52 : decode (jy_c m_RD_material) 52 = .ok (.putfield 82, 3) := by decide +kernel
theorem d_RD_material_55 : decode (jy_c m_RD_material) 55 = .ok (.aload_n 0, 1) := by decide +kernel
theorem d_RD_material_56 : decode (jy_c m_RD_material) 56 = .ok (.invokevirtual 85, 3) := by decide +kernel
theorem d_RD_material_59 : decode (jy_c m_RD_material) 59 = .ok (.aastore, 1) := by decide +kernel
theorem d_RD_material_60 : decode (jy_c m_RD_material) 60 = .ok (.aload_n 3, 1) := by decide +kernel
theorem d_RD_material_61 : decode (jy_c m_RD_material) 61 = .ok (.getfield 82, 3) := by decide +kernel
theorem d_RD_material_64 : decode (jy_c m_RD_material) 64 = .ok (.iconst 3, 1) := by decide +kernel
theorem d_RD_material_65 : decode (jy_c m_RD_material) 65 = .ok (.if_icmp .ge 35, 3) := by decide +kernel
theorem d_RD_material_68 : decode (jy_c m_RD_material) 68 = .ok (.aload_n 0, 1) := by decide +kernel
theorem d_RD_material_69 : decode (jy_c m_RD_material) 69 = .ok (.invokevirtual 27, 3) := by decide +kernel
theorem d_RD_material_72 : decode (jy_c m_RD_material) 72 = .ok (.bipush 34, 2) := by decide +kernel
theorem d_RD_material_74 : decode (jy_c m_RD_material) 74 = .ok (.if_icmp .ne 26, 3) := by decide +kernel
theorem d_RD_material_77 : decode (jy_c m_RD_material) 77 = .ok (.aload_n 3, 1) := by decide +kernel
theorem d_RD_material_78 : decode (jy_c m_RD_material) 78 = .ok (.getfield 78, 3) := by decide +kernel
theorem d_RD_material_81 : decode (jy_c m_RD_material) 81 = .ok (.aload_n 3, 1) := by decide +kernel
theorem d_RD_material_82 : decode (jy_c m_RD_material) 82 = .ok (.dup, 1) := by decide +kernel
theorem d_RD_material_83 : decode (jy_c m_RD_material) 83 = .ok (.getfield 82, 3) := by decide +kernel
theorem d_RD_material_86 : decode (jy_c m_RD_material) 86 = .ok (.dup_x1, 1) := by decide +kernel
theorem d_RD_material_87 : decode (jy_c m_RD_material) 87 = .ok (.iconst 1, 1) := by decide +kernel
theorem d_RD_material_88 : decode (jy_c m_RD_material) 88 = .ok (.iadd, 1) := by decide +kernel
theorem d_RD_material_89 : decode (jy_c m_RD_material) 89 = .ok (.putfield 82, 3) := by decide +kernel
theorem d_RD_material_92 : decode (jy_c m_RD_material) 92 = .ok (.aload_n 0, 1) := by decide +kernel
theorem d_RD_material_93 : decode (jy_c m_RD_material) 93 = .ok (.invokevirtual 85, 3) := by decide +kernel
theorem d_RD_material_96 : decode (jy_c m_RD_material) 96 = .ok (.aastore, 1) := by decide +kernel
theorem d_RD_material_97 : decode (jy_c m_RD_material) 97 = .ok (.goto (-37), 3) := by decide +kernel
theorem d_RD_material_100 : decode (jy_c m_RD_material) 100 = .ok (.aload_n 0, 1) := by decide +kernel
theorem d_RD_material_101 : decode (jy_c m_RD_material) 101 = .ok (.bipush 99, 2) := by decide +kernel
theorem d_RD_material_103 : decode (jy_c m_RD_material) 103 = .ok (.invokevirtual 39, 3) := by decide +kernel
theorem d_RD_material_106 : decode (jy_c m_RD_material) 106 = .ok (.aload_n 3, 1) := by decide +kernel
theorem d_RD_material_107 : decode (jy_c m_RD_material) 107 = .ok (.aload_n 0, 1) := by decide +kernel
theorem d_RD_material_108 : decode (jy_c m_RD_material) 108 = .ok (.iconst 1, 1) := by decide +kernel
theorem d_RD_material_109 : decode (jy_c m_RD_material) 109 = .ok (.bipush 9, 2) := by decide +kernel
theorem d_RD_material_111 : decode (jy_c m_RD_material) 111 = .ok (.invokevirtual 51, 3) := by decide +kernel
theorem d_RD_material_114 : decode (jy_c m_RD_material) 114 = .ok (.putfield 89, 3) := by decide +kernel
theorem d_RD_material_117 : decode (jy_c m_RD_material) 117 = .ok (.aload_n 3, 1) := by decide +kernel
theorem d_RD_material_118 : decode (jy_c m_RD_material) 118 = .ok (.aload_n 0, 1) := by decide +kernel
theorem d_RD_material_119 : decode (jy_c m_RD_material) 119 = .ok (.invokevirtual 92, 3) := by decide +kernel
theorem d_RD_material_122 : decode (jy_c m_RD_material) 122 = .ok (.putfield 96, 3) := by decide +kernel
theorem d_RD_material_125 : decode (jy_c m_RD_material) 125 = .ok (.aload_n 0, 1) := by decide +kernel
theorem d_RD_material_126 : decode (jy_c m_RD_material) 126 = .ok (.aload_n 3, 1) := by decide +kernel
theorem d_RD_material_127 : decode (jy_c m_RD_material) 127 = .ok (.getfield 96, 3) := by decide +kernel
theorem d_RD_material_130 : decode (jy_c m_RD_material) 130 = .ok (.invokevirtual 99, 3) := by decide +kernel
theorem d_RD_material_133 : decode (jy_c m_RD_material) 133 = .ok (.aload_n 0, 1) := by decide +kernel
theorem d_RD_material_134 : decode (jy_c m_RD_material) 134 = .ok (.bipush 120, 2) := by decide +kernel
theorem d_RD_material_136 : decode (jy_c m_RD_material) 136 = .ok (.invokevirtual 102, 3) := by decide +kernel
theorem d_RD_material_139 : decode (jy_c m_RD_material) 139 = .ok (.ifCond .eq 18, 3) := by decide +kernel
theorem d_RD_material_142 : decode (jy_c m_RD_material) 142 = .ok (.aload_n 3, 1) := by decide +kernel
theorem d_RD_material_143 : decode (jy_c m_RD_material) 143 = .ok (.iconst 2, 1) := by decide +kernel
theorem d_RD_material_144 : decode (jy_c m_RD_material) 144 = .ok (.aload_n 0, 1) := by decide +kernel
theorem d_RD_material_145 : decode (jy_c m_RD_material) 145 = .ok (.bipush 49, 2) := by decide +kernel
theorem d_RD_material_147 : decode (jy_c m_RD_material) 147 = .ok (.bipush 57, 2) := by decide +kernel
theorem d_RD_material_149 : decode (jy_c m_RD_material) 149 = .ok (.iconst 3, 1) := by decide +kernel
theorem d_RD_material_150 : decode (jy_c m_RD_material) 150 = .ok (.invokevirtual 58, 3) := by decide +kernel
theorem d_RD_material_153 : decode (jy_c m_RD_material) 153 = .ok (.imul, 1) := by decide +kernel
theorem d_RD_material_154 : decode (jy_c m_RD_material) 154 = .ok (.putfield 106, 3) := by decide +kernel
theorem d_RD_material_157 : decode (jy_c m_RD_material) 157 = .ok (.aload_n 1, 1) := by decide +kernel
theorem d_RD_material_158 : decode (jy_c m_RD_material) 158 = .ok (.getfield 109, 3) := by decide +kernel
theorem d_RD_material_161 : decode (jy_c m_RD_material) 161 = .ok (.aload_n 1, 1) := by decide +kernel
theorem d_RD_material_162 : decode (jy_c m_RD_material) 162 = .ok (.dup, 1) := by decide +kernel
theorem d_RD_material_163 : decode (jy_c m_RD_material) 163 = .ok (.getfield 113, 3) := by decide +kernel
theorem d_RD_material_166 : decode (jy_c m_RD_material) 166 = .ok (.dup_x1, 1) := by decide +kernel
theorem d_RD_material_167 : decode (jy_c m_RD_material) 167 = .ok (.iconst 1, 1) := by decide +kernel
theorem d_RD_material_168 : decode (jy_c m_RD_material) 168 = .ok (.iadd, 1) := by decide +kernel
theorem d_RD_material_169 : decode (jy_c m_RD_material) 169 = .ok (.putfield 113, 3) := by decide +kernel
theorem d_RD_material_172 : decode (jy_c m_RD_material) 172 = .ok (.aload_n 3, 1) := by decide +kernel
theorem d_RD_material_173 : decode (jy_c m_RD_material) 173 = .ok (.aastore, 1) := by decide +kernel
theorem d_RD_material_174 : decode (jy_c m_RD_material) 174 = .ok (.return_, 1) := by decide +kernel
section MT
variable {G : jy_G} {h0 : jy_P} {t tb : Ft} {n k T N : Nat} {g : Bool}
theorem rd_mat_w1 {h : jy_P} {p c u : Nat} {F : Ft} {l2 : Option Value} {P : Outcome → jy_P → Prop} (hT : TH t tb n) (hby : ∀ j, ∃ w : Int32, tb j = sx w) (hp : p ≤ n) (h3 : h0[3]? = some (51, ints 400 tb)) (h26 : 26 ≤ h0.length) (hK : h0.length + 20 < jy_K) (hu : u ≤ 6) (hB : MB h0 h n p k F c 0 0 .null u) (hI : NI F k c) (hc : c ≤ 2)
    (K : ∀ z p' h', wdP t n F (43 * k) (sk t n p) = .ok z → p' ≤ n → sk t n p' = z.2 → MB h0 h' n p' k z.1 (c + 1) 0 0 .null (u + 1) → NI z.1 k (c + 1) → jy_J G 9 m_RD_material 60 [some (.ref 2), some (.ref T), l2, some (.ref h0.length)] [] h' P)
    (E : ∀ e, wdP t n F (43 * k) (sk t n p) = .error e → ∀ o h', rN h0.length h0 (u + 3) e o h' → P o h') : jy_J G 9 m_RD_material 40 [some (.ref 2), some (.ref T), l2, some (.ref h0.length)] [] h P := by
  have hB0 := hB
  obtain ⟨q1, q2, q3, ⟨r1, nv, r2, r3, r4⟩, q5, q6⟩ := hB0
  refine jr_aload_n d_RD_material_40 rfl rfl ?_
  refine jr_get d_RD_material_41 f_RD_78 q3 rfl ?_
  refine jr_aload_n d_RD_material_44 rfl rfl ?_
  refine jr_dup d_RD_material_45 rfl ?_
  refine jr_get d_RD_material_46 f_RD_82 q3 rfl ?_
  refine jr_dup_x1 d_RD_material_49 rfl rfl ?_
  refine jr_iconst (v := 1) d_RD_material_50 (by decide) ?_
  refine jr_iadd d_RD_material_51 ?_
  rw [nI_1]
  refine jr_put d_RD_material_52 f_RD_82 jy_fv_int (by omega) q3 rfl ?_
  rw [show ([Value.int (F (43 * k)), .ref (h0.length + 1), .int (nI c), .int 0, .int 0, .null].set 2 (.int (nI (c + 1)))) = [.int (F (43 * k)), .ref (h0.length + 1), .int (nI (c + 1)), .int 0, .int 0, .null] from rfl]
  have g2 : (h.set h0.length (3, [.int (F (43 * k)), .ref (h0.length + 1), .int (nI (c + 1)), .int 0, .int 0, .null]))[2]? = some (1, [.ref 3, .int (nI n), .int (nI p)]) := by rw [List.getElem?_set_ne (by omega)]; exact q2
  have g3 : (h.set h0.length (3, [.int (F (43 * k)), .ref (h0.length + 1), .int (nI (c + 1)), .int 0, .int 0, .null]))[3]? = some (51, ints 400 tb) := by rw [List.getElem?_set_ne (by omega)]; exact q1 _ _ h3 (by omega)
  refine jr_aload_n d_RD_material_55 rfl rfl ?_
  refine jr_callR (As := []) d_RD_material_56 i_RD_85 rfl g2 (Nat.le_of_ble_eq_true rfl) (by decide) (c_word hT hby hp g2 g3 (by simp; omega)) (fun _ hq => by cases hq) (fun w hw => ?_) (fun e he o h' q => ?_)
  rotate_left
  · refine E e ?_ o h' (q.rN (q1.tr (St.set (Or.inr (Nat.le_refl _)))) (by simp; omega) (by simp; omega))
    unfold wordR at he
    unfold wdP
    by_cases c1 : hr t n (sk t n p) = 34
    · rw [if_pos c1] at he ⊢
      by_cases c2 : 0 < ltN t n 10 (sk t n p + 1) ∧ hr t n (sk t n p + 1 + ltN t n 10 (sk t n p + 1)) = 34
      · rw [if_pos c2] at he; cases he
      · rw [if_neg c2] at he ⊢; cases he; rfl
    · rw [if_neg c1] at he ⊢; cases he; rfl
  unfold wordR at hw
  by_cases c1 : hr t n (sk t n p) = 34
  rotate_left
  · rw [if_neg c1] at hw; cases hw
  rw [if_pos c1] at hw
  by_cases c2 : 0 < ltN t n 10 (sk t n p + 1) ∧ hr t n (sk t n p + 1 + ltN t n 10 (sk t n p + 1)) = 34
  rotate_left
  · rw [if_neg c2] at hw; cases hw
  rw [if_pos c2] at hw
  cases hw
  have in1 : sk t n p < n := hr_in (by rw [c1]; decide)
  have jb := ltN_b (t := t) (n := n) 10 (sk t n p + 1) in1
  have in2 : sk t n p + 1 + ltN t n 10 (sk t n p + 1) < n := hr_in (by rw [c2.2]; decide)
  have hz : wdP t n F (43 * k) (sk t n p) = .ok (wdF t n F (43 * k) (sk t n p + 1) (ltN t n 10 (sk t n p + 1)), sk t n (sk t n p + 1 + ltN t n 10 (sk t n p + 1) + 1)) := by
    unfold wdP
    rw [if_pos c1, if_pos c2]
  generalize ltN t n 10 (sk t n p + 1) = j at c2 jb in2 hz ⊢
  have hlen : (h.set h0.length (3, [.int (F (43 * k)), .ref (h0.length + 1), .int (nI (c + 1)), .int 0, .int 0, .null])).length = h.length := by simp
  have fN : (((h.set h0.length (3, [.int (F (43 * k)), .ref (h0.length + 1), .int (nI (c + 1)), .int 0, .int 0, .null])) ++ [(51, ints j (fun i => hr t n (sk t n p + 1 + i)))]).set 2 (rA n (sk t n p + 1 + j + 1)))[h0.length + 1]? = some (57, nv) := by
    rw [List.getElem?_set_ne (by omega), List.getElem?_append_left (by simpa using len_lt r2), List.getElem?_set_ne (by omega)]
    exact r2
  have fY : (((h.set h0.length (3, [.int (F (43 * k)), .ref (h0.length + 1), .int (nI (c + 1)), .int 0, .int 0, .null])) ++ [(51, ints j (fun i => hr t n (sk t n p + 1 + i)))]).set 2 (rA n (sk t n p + 1 + j + 1)))[h.length]? = some (51, ints j (fun i => hr t n (sk t n p + 1 + i))) := by
    rw [List.getElem?_set_ne (by omega), List.getElem?_append_right (by simp)]
    simp
  rw [hlen]
  obtain ⟨i1, i2⟩ := nI_ok (i := nI c) (j := c) rfl (by omega)
  refine jr_aast d_RD_material_59 (by omega) fN fY rfl i1 (by rw [i2, r3]; omega) rfl ?_
  rw [i2]
  refine K _ _ _ hz in2 rfl (MB.word h26 hB hI hc r2 ⟨c2.1, jb.2⟩ rfl) ?_
  exact (wdP_NI hz hc hI).1
theorem rd_mat_w2 {h : jy_P} {p c u : Nat} {F : Ft} {l2 : Option Value} {P : Outcome → jy_P → Prop} (hT : TH t tb n) (hby : ∀ j, ∃ w : Int32, tb j = sx w) (hp : p ≤ n) (h3 : h0[3]? = some (51, ints 400 tb)) (h26 : 26 ≤ h0.length) (hK : h0.length + 20 < jy_K) (hu : u ≤ 6) (hB : MB h0 h n p k F c 0 0 .null u) (hI : NI F k c) (hc : c ≤ 2)
    (K : ∀ z p' h', wdP t n F (43 * k) (sk t n p) = .ok z → p' ≤ n → sk t n p' = z.2 → MB h0 h' n p' k z.1 (c + 1) 0 0 .null (u + 1) → NI z.1 k (c + 1) → jy_J G 9 m_RD_material 97 [some (.ref 2), some (.ref T), l2, some (.ref h0.length)] [] h' P)
    (E : ∀ e, wdP t n F (43 * k) (sk t n p) = .error e → ∀ o h', rN h0.length h0 (u + 3) e o h' → P o h') : jy_J G 9 m_RD_material 77 [some (.ref 2), some (.ref T), l2, some (.ref h0.length)] [] h P := by
  have hB0 := hB
  obtain ⟨q1, q2, q3, ⟨r1, nv, r2, r3, r4⟩, q5, q6⟩ := hB0
  refine jr_aload_n d_RD_material_77 rfl rfl ?_
  refine jr_get d_RD_material_78 f_RD_78 q3 rfl ?_
  refine jr_aload_n d_RD_material_81 rfl rfl ?_
  refine jr_dup d_RD_material_82 rfl ?_
  refine jr_get d_RD_material_83 f_RD_82 q3 rfl ?_
  refine jr_dup_x1 d_RD_material_86 rfl rfl ?_
  refine jr_iconst (v := 1) d_RD_material_87 (by decide) ?_
  refine jr_iadd d_RD_material_88 ?_
  rw [nI_1]
  refine jr_put d_RD_material_89 f_RD_82 jy_fv_int (by omega) q3 rfl ?_
  rw [show ([Value.int (F (43 * k)), .ref (h0.length + 1), .int (nI c), .int 0, .int 0, .null].set 2 (.int (nI (c + 1)))) = [.int (F (43 * k)), .ref (h0.length + 1), .int (nI (c + 1)), .int 0, .int 0, .null] from rfl]
  have g2 : (h.set h0.length (3, [.int (F (43 * k)), .ref (h0.length + 1), .int (nI (c + 1)), .int 0, .int 0, .null]))[2]? = some (1, [.ref 3, .int (nI n), .int (nI p)]) := by rw [List.getElem?_set_ne (by omega)]; exact q2
  have g3 : (h.set h0.length (3, [.int (F (43 * k)), .ref (h0.length + 1), .int (nI (c + 1)), .int 0, .int 0, .null]))[3]? = some (51, ints 400 tb) := by rw [List.getElem?_set_ne (by omega)]; exact q1 _ _ h3 (by omega)
  refine jr_aload_n d_RD_material_92 rfl rfl ?_
  refine jr_callR (As := []) d_RD_material_93 i_RD_85 rfl g2 (Nat.le_of_ble_eq_true rfl) (by decide) (c_word hT hby hp g2 g3 (by simp; omega)) (fun _ hq => by cases hq) (fun w hw => ?_) (fun e he o h' q => ?_)
  rotate_left
  · refine E e ?_ o h' (q.rN (q1.tr (St.set (Or.inr (Nat.le_refl _)))) (by simp; omega) (by simp; omega))
    unfold wordR at he
    unfold wdP
    by_cases c1 : hr t n (sk t n p) = 34
    · rw [if_pos c1] at he ⊢
      by_cases c2 : 0 < ltN t n 10 (sk t n p + 1) ∧ hr t n (sk t n p + 1 + ltN t n 10 (sk t n p + 1)) = 34
      · rw [if_pos c2] at he; cases he
      · rw [if_neg c2] at he ⊢; cases he; rfl
    · rw [if_neg c1] at he ⊢; cases he; rfl
  unfold wordR at hw
  by_cases c1 : hr t n (sk t n p) = 34
  rotate_left
  · rw [if_neg c1] at hw; cases hw
  rw [if_pos c1] at hw
  by_cases c2 : 0 < ltN t n 10 (sk t n p + 1) ∧ hr t n (sk t n p + 1 + ltN t n 10 (sk t n p + 1)) = 34
  rotate_left
  · rw [if_neg c2] at hw; cases hw
  rw [if_pos c2] at hw
  cases hw
  have in1 : sk t n p < n := hr_in (by rw [c1]; decide)
  have jb := ltN_b (t := t) (n := n) 10 (sk t n p + 1) in1
  have in2 : sk t n p + 1 + ltN t n 10 (sk t n p + 1) < n := hr_in (by rw [c2.2]; decide)
  have hz : wdP t n F (43 * k) (sk t n p) = .ok (wdF t n F (43 * k) (sk t n p + 1) (ltN t n 10 (sk t n p + 1)), sk t n (sk t n p + 1 + ltN t n 10 (sk t n p + 1) + 1)) := by
    unfold wdP
    rw [if_pos c1, if_pos c2]
  generalize ltN t n 10 (sk t n p + 1) = j at c2 jb in2 hz ⊢
  have hlen : (h.set h0.length (3, [.int (F (43 * k)), .ref (h0.length + 1), .int (nI (c + 1)), .int 0, .int 0, .null])).length = h.length := by simp
  have fN : (((h.set h0.length (3, [.int (F (43 * k)), .ref (h0.length + 1), .int (nI (c + 1)), .int 0, .int 0, .null])) ++ [(51, ints j (fun i => hr t n (sk t n p + 1 + i)))]).set 2 (rA n (sk t n p + 1 + j + 1)))[h0.length + 1]? = some (57, nv) := by
    rw [List.getElem?_set_ne (by omega), List.getElem?_append_left (by simpa using len_lt r2), List.getElem?_set_ne (by omega)]
    exact r2
  have fY : (((h.set h0.length (3, [.int (F (43 * k)), .ref (h0.length + 1), .int (nI (c + 1)), .int 0, .int 0, .null])) ++ [(51, ints j (fun i => hr t n (sk t n p + 1 + i)))]).set 2 (rA n (sk t n p + 1 + j + 1)))[h.length]? = some (51, ints j (fun i => hr t n (sk t n p + 1 + i))) := by
    rw [List.getElem?_set_ne (by omega), List.getElem?_append_right (by simp)]
    simp
  rw [hlen]
  obtain ⟨i1, i2⟩ := nI_ok (i := nI c) (j := c) rfl (by omega)
  refine jr_aast d_RD_material_96 (by omega) fN fY rfl i1 (by rw [i2, r3]; omega) rfl ?_
  rw [i2]
  refine K _ _ _ hz in2 rfl (MB.word h26 hB hI hc r2 ⟨c2.1, jb.2⟩ rfl) ?_
  exact (wdP_NI hz hc hI).1
/-- further names -/
theorem rd_mat_ns {P : Outcome → jy_P → Prop} {l2 : Option Value} (hT : TH t tb n) (hby : ∀ j, ∃ w : Int32, tb j = sx w) (h3 : h0[3]? = some (51, ints 400 tb)) (h26 : 26 ≤ h0.length) (hK : h0.length + 20 < jy_K) : ∀ (i : Nat) {h : jy_P} {p c u : Nat} {F : Ft}, c + i = 3 → 1 ≤ c → u + i ≤ 5 → p ≤ n → MB h0 h n p k F c 0 0 .null u → NI F k c →
    (∀ z p' h' c', nsP t n (43 * k) i (F, sk t n p) = .ok z → p' ≤ n → sk t n p' = z.2 → 1 ≤ c' → c' ≤ 3 → MB h0 h' n p' k z.1 c' 0 0 .null 5 → NI z.1 k c' → jy_J G 9 m_RD_material 100 [some (.ref 2), some (.ref T), l2, some (.ref h0.length)] [] h' P) →
    (∀ e, nsP t n (43 * k) i (F, sk t n p) = .error e → ∀ o h', rN h0.length h0 9 e o h' → P o h') → jy_J G 9 m_RD_material 60 [some (.ref 2), some (.ref T), l2, some (.ref h0.length)] [] h P := by
  intro i
  induction i with
  | zero =>
    intro h p c u F hc hc1 hu hp hB hI K E
    have q3 := hB.2.2.1
    have : c = 3 := by omega
    subst this
    refine jr_aload_n d_RD_material_60 rfl rfl ?_
    refine jr_get d_RD_material_61 f_RD_82 q3 rfl ?_
    refine jr_iconst (v := 3) d_RD_material_64 (by decide) ?_
    exact jr_icmp_ge (tgt := 100) d_RD_material_65 (by decide) (fun _ => K (F, sk t n p) p h 3 rfl hp rfl (by omega) (by omega) ⟨hB.1, hB.2.1, hB.2.2.1, hB.2.2.2.1, hB.2.2.2.2.1, by have := hB.2.2.2.2.2; omega⟩ hI) (fun q => absurd (by decide) q)
  | succ i ih =>
    intro h p c u F hc hc1 hu hp hB hI K E
    obtain ⟨q1, q2, q3, q4, q5, q6⟩ := hB
    have hB : MB h0 h n p k F c 0 0 .null u := ⟨q1, q2, q3, q4, q5, q6⟩
    have hsk := skb (t := t) hp
    refine jr_aload_n d_RD_material_60 rfl rfl ?_
    refine jr_get d_RD_material_61 f_RD_82 q3 rfl ?_
    refine jr_iconst (v := 3) d_RD_material_64 (by decide) ?_
    refine jr_icmp_ge (tgt := 100) d_RD_material_65 (by decide) (fun q => absurd ((nI_leI (a := 3) (by decide) (by omega)).mp q) (by omega)) (fun _ => ?_)
    refine jr_aload_n d_RD_material_68 rfl rfl ?_
    refine jr_callX (As := []) d_RD_material_69 i_RD_27 rfl q2 (Nat.le_of_ble_eq_true rfl) (by decide) (c_see hT hp q2 (q1 _ _ h3 (by omega))) ?_
    have hB2 := hB.at_ (p' := sk t n p) h26
    refine jr_bipush (v := 34) d_RD_material_72 (by decide) ?_
    refine jr_icmp_ne (tgt := 100) d_RD_material_74 (by decide) (fun hc2 => ?_) (fun hc2 => ?_)
    · refine K (F, sk t n p) (sk t n p) _ c ?_ hsk.2 sk_sk hc1 (by omega) ⟨hB2.1, hB2.2.1, hB2.2.2.1, hB2.2.2.2.1, hB2.2.2.2.2.1, by have := hB2.2.2.2.2.2; omega⟩ hI
      unfold nsP
      rw [if_neg hc2]
    · refine rd_mat_w2 hT hby hsk.2 h3 h26 hK (by omega) hB2 hI (by omega) (fun z p' h' hz hp' hs hB3 hI3 => ?_) (fun e he o h' q => ?_)
      · rw [sk_sk] at hz
        refine jr_goto (tgt := 60) d_RD_material_97 (by decide) ?_
        refine ih (u := u + 1) (c := c + 1) (by omega) (by omega) (by omega) hp' hB3 hI3 (fun z2 p2 h2 c2 hz2 => ?_) (fun e he => ?_)
        · refine K z2 p2 h2 c2 ?_
          rw [hs] at hz2
          unfold nsP
          rw [if_pos hc2]
          show ebd (wdP t n F (43 * k) (sk t n p)) _ = _
          rw [hz, ebd_ok]
          exact hz2
        · refine E e ?_
          rw [hs] at he
          unfold nsP
          rw [if_pos hc2]
          show ebd (wdP t n F (43 * k) (sk t n p)) _ = _
          rw [hz, ebd_ok]
          exact he
      · rw [sk_sk] at he
        refine E e ?_ o h' (q.tr St.rf (by omega) (by omega))
        unfold nsP
        rw [if_pos hc2]
        show ebd (wdP t n F (43 * k) (sk t n p)) _ = _
        rw [he]; rfl
end MT
