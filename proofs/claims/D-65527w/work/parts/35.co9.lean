/-! the class: words -/
def R7 (h0 h : jy_P) : Prop := St (fun i => i = 7) h0 h ∧ h.length = h0.length ∧ ∃ rw_ : Ft, h[7]? = some (50, ints 11 rw_)
theorem R7.tr {h0 h1 h2 : jy_P} (p : R7 h0 h1) (q : R7 h1 h2) : R7 h0 h2 := ⟨p.1.tr q.1, q.2.1.trans p.2.1, q.2.2⟩
theorem mnm_nI {x y : Nat} (hx : x < 2 ^ 31) (hy : y < 2 ^ 31) : (if nI y < nI x then nI y else nI x) = nI (min x y) := by
  by_cases h : y < x
  · rw [if_pos (nI_lt h hx), Nat.min_eq_right (by omega)]
  · rw [if_neg (nI_nlt (by omega) hy), Nat.min_eq_left (by omega)]
theorem d_HT_distB_0 : decode (jy_c m_HT_distB) 0 = .ok (.iconst 0, 1) := by decide +kernel
theorem d_HT_distB_1 : decode (jy_c m_HT_distB) 1 = .ok (.istore_n 2, 1) := by decide +kernel
theorem d_HT_distB_2 : decode (jy_c m_HT_distB) 2 = .ok (.iload_n 2, 1) := by decide +kernel
theorem d_HT_distB_3 : decode (jy_c m_HT_distB) 3 = .ok (.aload_n 1, 1) := by decide +kernel
theorem d_HT_distB_4 : decode (jy_c m_HT_distB) 4 = .ok (.arraylength, 1) := by decide +kernel
theorem d_HT_distB_5 : decode (jy_c m_HT_distB) 5 = .ok (.if_icmp .gt 16, 3) := by decide +kernel
theorem d_HT_distB_8 : decode (jy_c m_HT_distB) 8 = .ok (.aload_n 0, 1) := by decide +kernel
theorem d_HT_distB_9 : decode (jy_c m_HT_distB) 9 = .ok (.getfield 31, 3) := by decide +kernel
theorem d_HT_distB_12 : decode (jy_c m_HT_distB) 12 = .ok (.iload_n 2, 1) := by decide +kernel
theorem d_HT_distB_13 : decode (jy_c m_HT_distB) 13 = .ok (.iload_n 2, 1) := by decide +kernel
theorem d_HT_distB_14 : decode (jy_c m_HT_distB) 14 = .ok (.iastore, 1) := by decide +kernel
theorem d_HT_distB_15 : decode (jy_c m_HT_distB) 15 = .ok (.iinc 2 1, 3) := by decide +kernel
theorem d_HT_distB_18 : decode (jy_c m_HT_distB) 18 = .ok (.goto (-16), 3) := by decide +kernel
theorem d_HT_distB_21 : decode (jy_c m_HT_distB) 21 = .ok (.iconst 1, 1) := by decide +kernel
theorem d_HT_distB_22 : decode (jy_c m_HT_distB) 22 = .ok (.istore_n 2, 1) := by decide +kernel
theorem d_HT_distB_23 : decode (jy_c m_HT_distB) 23 = .ok (.iload_n 2, 1) := by decide +kernel
theorem d_HT_distB_24 : decode (jy_c m_HT_distB) 24 = .ok (.aload_n 0, 1) := by decide +kernel
theorem d_HT_distB_25 : decode (jy_c m_HT_distB) 25 = .ok (.getfield 99, 3) := by decide +kernel
theorem d_HT_distB_28 : decode (jy_c m_HT_distB) 28 = .ok (.if_icmp .gt 106, 3) := by decide +kernel
theorem d_HT_distB_31 : decode (jy_c m_HT_distB) 31 = .ok (.aload_n 0, 1) := by decide +kernel
theorem d_HT_distB_32 : decode (jy_c m_HT_distB) 32 = .ok (.getfield 31, 3) := by decide +kernel
theorem d_HT_distB_35 : decode (jy_c m_HT_distB) 35 = .ok (.iconst 0, 1) := by decide +kernel
theorem d_HT_distB_36 : decode (jy_c m_HT_distB) 36 = .ok (.iaload, 1) := by decide +kernel
theorem d_HT_distB_37 : decode (jy_c m_HT_distB) 37 = .ok (.istore_n 3, 1) := by decide +kernel
theorem d_HT_distB_38 : decode (jy_c m_HT_distB) 38 = .ok (.aload_n 0, 1) := by decide +kernel
theorem d_HT_distB_39 : decode (jy_c m_HT_distB) 39 = .ok (.getfield 31, 3) := by decide +kernel
theorem d_HT_distB_42 : decode (jy_c m_HT_distB) 42 = .ok (.iconst 0, 1) := by decide +kernel
theorem d_HT_distB_43 : decode (jy_c m_HT_distB) 43 = .ok (.iload_n 2, 1) := by decide +kernel
theorem d_HT_distB_44 : decode (jy_c m_HT_distB) 44 = .ok (.iastore, 1) := by decide +kernel
theorem d_HT_distB_45 : decode (jy_c m_HT_distB) 45 = .ok (.iconst 1, 1) := by decide +kernel
theorem d_HT_distB_46 : decode (jy_c m_HT_distB) 46 = .ok (.istore 4, 2) := by decide +kernel
theorem d_HT_distB_48 : decode (jy_c m_HT_distB) 48 = .ok (.iload 4, 2) := by decide +kernel
theorem d_HT_distB_50 : decode (jy_c m_HT_distB) 50 = .ok (.aload_n 1, 1) := by decide +kernel
theorem d_HT_distB_51 : decode (jy_c m_HT_distB) 51 = .ok (.arraylength, 1) := by decide +kernel
theorem d_HT_distB_52 : decode (jy_c m_HT_distB) 52 = .ok (.if_icmp .gt 76, 3) := by decide +kernel
theorem d_HT_distB_55 : decode (jy_c m_HT_distB) 55 = .ok (.iload_n 3, 1) := by decide +kernel
theorem d_HT_distB_56 : decode (jy_c m_HT_distB) 56 = .ok (.aload_n 0, 1) := by decide +kernel
theorem d_HT_distB_57 : decode (jy_c m_HT_distB) 57 = .ok (.getfield 27, 3) := by decide +kernel
theorem d_HT_distB_60 : decode (jy_c m_HT_distB) 60 = .ok (.iload_n 2, 1) := by decide +kernel
theorem d_HT_distB_61 : decode (jy_c m_HT_distB) 61 = .ok (.iconst 1, 1) := by decide +kernel
theorem d_HT_distB_62 : decode (jy_c m_HT_distB) 62 = .ok (.isub, 1) := by decide +kernel
theorem d_HT_distB_63 : decode (jy_c m_HT_distB) 63 = .ok (.baload, 1) := by decide +kernel
theorem d_HT_distB_64 : decode (jy_c m_HT_distB) 64 = .ok (.aload_n 1, 1) := by decide +kernel
theorem d_HT_distB_65 : decode (jy_c m_HT_distB) 65 = .ok (.iload 4, 2) := by decide +kernel
theorem d_HT_distB_67 : decode (jy_c m_HT_distB) 67 = .ok (.iconst 1, 1) := by decide +kernel
theorem d_HT_distB_68 : decode (jy_c m_HT_distB) 68 = .ok (.isub, 1) := by decide +kernel
theorem d_HT_distB_69 : decode (jy_c m_HT_distB) 69 = .ok (.baload, 1) := by decide +kernel
theorem d_HT_distB_70 : decode (jy_c m_HT_distB) 70 = .ok (.if_icmp .ne 7, 3) := by decide +kernel
theorem d_HT_distB_73 : decode (jy_c m_HT_distB) 73 = .ok (.iconst 0, 1) := by decide +kernel
theorem d_HT_distB_74 : decode (jy_c m_HT_distB) 74 = .ok (.goto 4, 3) := by decide +kernel
theorem d_HT_distB_77 : decode (jy_c m_HT_distB) 77 = .ok (.iconst 1, 1) := by decide +kernel
theorem d_HT_distB_78 : decode (jy_c m_HT_distB) 78 = .ok (.iadd, 1) := by decide +kernel
theorem d_HT_distB_79 : decode (jy_c m_HT_distB) 79 = .ok (.istore 5, 2) := by decide +kernel
theorem d_HT_distB_81 : decode (jy_c m_HT_distB) 81 = .ok (.aload_n 0, 1) := by decide +kernel
theorem d_HT_distB_82 : decode (jy_c m_HT_distB) 82 = .ok (.getfield 31, 3) := by decide +kernel
theorem d_HT_distB_85 : decode (jy_c m_HT_distB) 85 = .ok (.iload 4, 2) := by decide +kernel
theorem d_HT_distB_87 : decode (jy_c m_HT_distB) 87 = .ok (.iaload, 1) := by decide +kernel
theorem d_HT_distB_88 : decode (jy_c m_HT_distB) 88 = .ok (.istore_n 3, 1) := by decide +kernel
theorem d_HT_distB_89 : decode (jy_c m_HT_distB) 89 = .ok (.aload_n 0, 1) := by decide +kernel
theorem d_HT_distB_90 : decode (jy_c m_HT_distB) 90 = .ok (.getfield 31, 3) := by decide +kernel
theorem d_HT_distB_93 : decode (jy_c m_HT_distB) 93 = .ok (.iload 4, 2) := by decide +kernel
theorem d_HT_distB_95 : decode (jy_c m_HT_distB) 95 = .ok (.iload 5, 2) := by decide +kernel
theorem d_HT_distB_97 : decode (jy_c m_HT_distB) 97 = .ok (.aload_n 0, 1) := by decide +kernel
theorem d_HT_distB_98 : decode (jy_c m_HT_distB) 98 = .ok (.getfield 31, 3) := by decide +kernel
theorem d_HT_distB_101 : decode (jy_c m_HT_distB) 101 = .ok (.iload 4, 2) := by decide +kernel
theorem d_HT_distB_103 : decode (jy_c m_HT_distB) 103 = .ok (.iaload, 1) := by decide +kernel
theorem d_HT_distB_104 : decode (jy_c m_HT_distB) 104 = .ok (.aload_n 0, 1) := by decide +kernel
theorem d_HT_distB_105 : decode (jy_c m_HT_distB) 105 = .ok (.getfield 31, 3) := by decide +kernel
theorem d_HT_distB_108 : decode (jy_c m_HT_distB) 108 = .ok (.iload 4, 2) := by decide +kernel
theorem d_HT_distB_110 : decode (jy_c m_HT_distB) 110 = .ok (.iconst 1, 1) := by decide +kernel
theorem d_HT_distB_111 : decode (jy_c m_HT_distB) 111 = .ok (.isub, 1) := by decide +kernel
theorem d_HT_distB_112 : decode (jy_c m_HT_distB) 112 = .ok (.iaload, 1) := by decide +kernel
theorem d_HT_distB_113 : decode (jy_c m_HT_distB) 113 = .ok (.invokestatic 142, 3) := by decide +kernel
theorem d_HT_distB_116 : decode (jy_c m_HT_distB) 116 = .ok (.iconst 1, 1) := by decide +kernel
theorem d_HT_distB_117 : decode (jy_c m_HT_distB) 117 = .ok (.iadd, 1) := by decide +kernel
theorem d_HT_distB_118 : decode (jy_c m_HT_distB) 118 = .ok (.invokestatic 142, 3) := by decide +kernel
theorem d_HT_distB_121 : decode (jy_c m_HT_distB) 121 = .ok (.iastore, 1) := by decide +kernel
theorem d_HT_distB_122 : decode (jy_c m_HT_distB) 122 = .ok (.iinc 4 1, 3) := by decide +kernel
theorem d_HT_distB_125 : decode (jy_c m_HT_distB) 125 = .ok (.goto (-77), 3) := by decide +kernel
theorem d_HT_distB_128 : decode (jy_c m_HT_distB) 128 = .ok (.iinc 2 1, 3) := by decide +kernel
theorem d_HT_distB_131 : decode (jy_c m_HT_distB) 131 = .ok (.goto (-108), 3) := by decide +kernel
theorem d_HT_distB_134 : decode (jy_c m_HT_distB) 134 = .ok (.aload_n 0, 1) := by decide +kernel
theorem d_HT_distB_135 : decode (jy_c m_HT_distB) 135 = .ok (.getfield 31, 3) := by decide +kernel
theorem d_HT_distB_138 : decode (jy_c m_HT_distB) 138 = .ok (.aload_n 1, 1) := by decide +kernel
theorem d_HT_distB_139 : decode (jy_c m_HT_distB) 139 = .ok (.arraylength, 1) := by decide +kernel
theorem d_HT_distB_140 : decode (jy_c m_HT_distB) 140 = .ok (.iaload, 1) := by decide +kernel
theorem d_HT_distB_141 : decode (jy_c m_HT_distB) 141 = .ok (.ireturn, 1) := by decide +kernel
section DB
variable {G : jy_G} {h0 : jy_P} {T : Nat} {f : Nat → Int32} {u v : Ft} {y n s : Nat}
theorem ht_distC {i : Nat} {P : Outcome → jy_P → Prop} (h1 : h0[1]? = some (0, cf T f)) (h6 : h0[6]? = some (51, ints 8 u)) (hy : h0[y]? = some (51, ints n v)) (hy7 : y ≠ 7) (hn : n ≤ 10) (hs : s ≤ 8) (hi : i < s)
    (K : ∀ h (rw_ : Ft) l3 l5, St (fun i => i = 7) h0 h → h.length = h0.length → h[7]? = some (50, ints 11 rw_) → (∀ p, p ≤ n → rw_ p = nI (lev u v (i + 1) p)) → jy_J G 2 m_HT_distB 128 [some (.ref 1), some (.ref y), some (.int (nI (i + 1))), l3, some (.int (nI (n + 1))), l5] [] h P) :
    ∀ j, j ≤ n → ∀ h (rw_ : Ft) l5, St (fun i => i = 7) h0 h → h.length = h0.length → h[7]? = some (50, ints 11 rw_) → (∀ p, p ≤ j → rw_ p = nI (lev u v (i + 1) p)) → (∀ p, j < p → p ≤ n → rw_ p = nI (lev u v i p)) → jy_J G 2 m_HT_distB 48 [some (.ref 1), some (.ref y), some (.int (nI (i + 1))), some (.int (nI (lev u v i j))), some (.int (nI (j + 1))), l5] [] h P := by
  refine jl_up n _ (fun h rw_ l5 hS hl h7 q1 q2 => ?_) (fun j hj ih h rw_ l5 hS hl h7 q1 q2 => ?_)
  · have hy := hS _ _ hy hy7
    refine jr_iload d_HT_distB_48 rfl ?_
    refine jr_aload_n d_HT_distB_50 rfl rfl ?_
    refine jr_alen d_HT_distB_51 rfl hy (by rw [ints_len]) ?_
    exact jr_icmp_gt (tgt := 128) d_HT_distB_52 (by decide) (fun _ => K h rw_ _ _ hS hl h7 q1) (fun q => absurd (nI_lt (Nat.lt_succ_self n) (by omega)) q)
  · have hy := hS _ _ hy hy7
    have h1 := hS _ _ h1 (by decide)
    have h6 := hS _ _ h6 (by decide)
    have b1 := lev_le (u := u) (v := v) i j
    have b2 := lev_le (u := u) (v := v) i (j + 1)
    have b3 := lev_le (u := u) (v := v) (i + 1) j
    refine jr_iload d_HT_distB_48 rfl ?_
    refine jr_aload_n d_HT_distB_50 rfl rfl ?_
    refine jr_alen d_HT_distB_51 rfl hy (by rw [ints_len]) ?_
    refine jr_icmp_gt (tgt := 128) d_HT_distB_52 (by decide) (fun q => absurd q (nI_nlt (by omega) (by omega))) (fun _ => ?_)
    refine jr_iload_n d_HT_distB_55 rfl rfl ?_
    refine jr_aload_n d_HT_distB_56 rfl rfl ?_
    refine jr_get d_HT_distB_57 f_HT_27 h1 rfl ?_
    refine jr_iload_n d_HT_distB_60 rfl rfl ?_
    refine jr_iconst (v := 1) d_HT_distB_61 (by decide) ?_
    refine jr_isub d_HT_distB_62 ?_
    refine cr_bald d_HT_distB_63 h6 (nI_pred i) (by omega) (by decide) ?_
    refine jr_aload_n d_HT_distB_64 rfl rfl ?_
    refine jr_iload d_HT_distB_65 rfl ?_
    refine jr_iconst (v := 1) d_HT_distB_67 (by decide) ?_
    refine jr_isub d_HT_distB_68 ?_
    refine cr_bald d_HT_distB_69 hy (nI_pred j) hj (by omega) ?_
    refine jy_cut2 78 (fun z => z = nI (if u i = v j then 0 else 1)) (fun C => ?_) (fun z hz => ?_)
    · refine jr_icmp_ne (tgt := 77) d_HT_distB_70 (by decide) (fun hc => ?_) (fun hc => ?_)
      · refine jr_iconst (v := 1) d_HT_distB_77 (by decide) ?_
        exact C _ (by rw [if_neg hc]; rfl)
      · refine jr_iconst (v := 0) d_HT_distB_73 (by decide) ?_
        refine jr_goto (tgt := 78) d_HT_distB_74 (by decide) ?_
        exact C _ (by rw [if_pos hc]; rfl)
    subst hz
    have b4 : (if u i = v j then 0 else 1) ≤ 1 := by split <;> omega
    refine jr_iadd d_HT_distB_78 ?_
    refine jr_istore d_HT_distB_79 (by decide) ?_
    refine jr_aload_n d_HT_distB_81 rfl rfl ?_
    refine jr_get d_HT_distB_82 f_HT_31 h1 rfl ?_
    refine jr_iload d_HT_distB_85 rfl ?_
    refine cr_iald d_HT_distB_87 h7 rfl (by omega) (by decide) ?_
    refine jr_istore_n d_HT_distB_88 rfl (by decide) ?_
    refine jr_aload_n d_HT_distB_89 rfl rfl ?_
    refine jr_get d_HT_distB_90 f_HT_31 h1 rfl ?_
    refine jr_iload d_HT_distB_93 rfl ?_
    refine jr_iload d_HT_distB_95 rfl ?_
    refine jr_aload_n d_HT_distB_97 rfl rfl ?_
    refine jr_get d_HT_distB_98 f_HT_31 h1 rfl ?_
    refine jr_iload d_HT_distB_101 rfl ?_
    refine cr_iald d_HT_distB_103 h7 rfl (by omega) (by decide) ?_
    refine jr_aload_n d_HT_distB_104 rfl rfl ?_
    refine jr_get d_HT_distB_105 f_HT_31 h1 rfl ?_
    refine jr_iload d_HT_distB_108 rfl ?_
    refine jr_iconst (v := 1) d_HT_distB_110 (by decide) ?_
    refine jr_isub d_HT_distB_111 ?_
    refine cr_iald d_HT_distB_112 h7 (nI_pred j) (by omega) (by decide) ?_
    rw [q2 (j + 1) (by omega) (by omega), q1 j (Nat.le_refl _), nI_add]
    refine jr_min d_HT_distB_113 o_HT_142 (by decide) (Nat.le_of_ble_eq_true rfl) ?_
    rw [mnm_nI (by omega) (by omega)]
    refine jr_iconst (v := 1) d_HT_distB_116 (by decide) ?_
    refine jr_iadd d_HT_distB_117 ?_
    rw [nI_1]
    refine jr_min d_HT_distB_118 o_HT_142 (by decide) (Nat.le_of_ble_eq_true rfl) ?_
    rw [mnm_nI (by omega) (by omega)]
    refine cr_iast d_HT_distB_121 (by decide) h7 rfl (by omega) (by decide) ?_
    refine jr_iinc1 d_HT_distB_122 rfl (by decide) ?_
    refine jr_goto (tgt := 48) d_HT_distB_125 (by decide) ?_
    rw [nI_1]
    refine ih _ (upd rw_ (j + 1) _) _ (hS.tr (St.set rfl)) (by simp [hl]) (gs_eq h7) (fun p hp => ?_) (fun p hp hp2 => ?_)
    · by_cases e : p = j + 1
      · subst e
        rw [upd_s, lev]
      · rw [upd_n e]
        exact q1 p (by omega)
    · rw [upd_n (by omega)]
      exact q2 p (by omega) hp2
theorem ht_distB (h1 : h0[1]? = some (0, cf T f)) (h6 : h0[6]? = some (51, ints 8 u)) (hy : h0[y]? = some (51, ints n v)) (hy7 : y ≠ 7) (hn : n ≤ 10) (hs : s ≤ 8) (hf : f 27 = nI s) :
    ∀ i, i ≤ s → ∀ h (rw_ : Ft) l3 l4 l5, St (fun i => i = 7) h0 h → h.length = h0.length → h[7]? = some (50, ints 11 rw_) → (∀ p, p ≤ n → rw_ p = nI (lev u v i p)) → jy_J G 2 m_HT_distB 23 [some (.ref 1), some (.ref y), some (.int (nI (i + 1))), l3, l4, l5] [] h (fun o h' => o = .returned (some (.int (nI (lev u v s n)))) ∧ R7 h0 h') := by
  refine jl_up s _ (fun h rw_ l3 l4 l5 hS hl h7 q => ?_) (fun i hi ih h rw_ l3 l4 l5 hS hl h7 q => ?_)
  · have hy := hS _ _ hy hy7
    have h1 := hS _ _ h1 (by decide)
    refine jr_iload_n d_HT_distB_23 rfl rfl ?_
    refine jr_aload_n d_HT_distB_24 rfl rfl ?_
    refine jr_get d_HT_distB_25 f_HT_99 h1 rfl ?_
    rw [hf]
    refine jr_icmp_gt (tgt := 134) d_HT_distB_28 (by decide) (fun _ => ?_) (fun q => absurd (nI_lt (Nat.lt_succ_self s) (by omega)) q)
    refine jr_aload_n d_HT_distB_134 rfl rfl ?_
    refine jr_get d_HT_distB_135 f_HT_31 h1 rfl ?_
    refine jr_aload_n d_HT_distB_138 rfl rfl ?_
    refine jr_alen d_HT_distB_139 rfl hy (by rw [ints_len]) ?_
    refine cr_iald d_HT_distB_140 h7 rfl (by omega) (by decide) ?_
    rw [q n (Nat.le_refl _)]
    refine jr_ireturn d_HT_distB_141 rfl rfl ?_
    exact ⟨rfl, hS, hl, rw_, h7⟩
  · have h1' := hS _ _ h1 (by decide)
    have h7' : (h.set 7 (50, ints 11 (upd rw_ 0 (nI (i + 1)))))[7]? = some (50, ints 11 (upd rw_ 0 (nI (i + 1)))) := gs_eq h7
    have h1 := h1'
    refine jr_iload_n d_HT_distB_23 rfl rfl ?_
    refine jr_aload_n d_HT_distB_24 rfl rfl ?_
    refine jr_get d_HT_distB_25 f_HT_99 h1 rfl ?_
    rw [hf]
    refine jr_icmp_gt (tgt := 134) d_HT_distB_28 (by decide) (fun q => absurd q (nI_nlt (by omega) (by omega))) (fun _ => ?_)
    refine jr_aload_n d_HT_distB_31 rfl rfl ?_
    refine jr_get d_HT_distB_32 f_HT_31 h1 rfl ?_
    refine jr_iconst (v := 0) d_HT_distB_35 (by decide) ?_
    refine cr_iald d_HT_distB_36 h7 (show (0 : Int32) = nI 0 from rfl) (by decide) (by decide) ?_
    rw [q 0 (by omega)]
    refine jr_istore_n d_HT_distB_37 rfl (by decide) ?_
    refine jr_aload_n d_HT_distB_38 rfl rfl ?_
    refine jr_get d_HT_distB_39 f_HT_31 h1 rfl ?_
    refine jr_iconst (v := 0) d_HT_distB_42 (by decide) ?_
    refine jr_iload_n d_HT_distB_43 rfl rfl ?_
    refine cr_iast d_HT_distB_44 (by decide) h7 (show (0 : Int32) = nI 0 from rfl) (by decide) (by decide) ?_
    refine jr_iconst (v := 1) d_HT_distB_45 (by decide) ?_
    refine jr_istore d_HT_distB_46 (by decide) ?_
    refine ht_distC (i := i) (P := _) (by assumption) h6 hy hy7 hn hs hi (fun h rw_ l3 l5 hS hl h7 q => ?_) 0 (Nat.zero_le _) _ (upd rw_ 0 (nI (i + 1))) _ (hS.tr (St.set rfl)) (by simp [hl]) h7' (fun p hp => ?_) (fun p hp hp2 => ?_)
    · refine jr_iinc1 d_HT_distB_128 rfl (by decide) ?_
      refine jr_goto (tgt := 23) d_HT_distB_131 (by decide) ?_
      rw [nI_1]
      exact ih h rw_ _ _ _ hS hl h7 q
    · have : p = 0 := by omega
      subst this
      rw [upd_s, lev]
    · rw [upd_n (by omega)]
      exact q p hp2
theorem c_HT_distB (h1 : h0[1]? = some (0, cf T f)) (h6 : h0[6]? = some (51, ints 8 u)) (h7 : ∃ rw_ : Ft, h0[7]? = some (50, ints 11 rw_)) (hy : h0[y]? = some (51, ints n v)) (hy7 : y ≠ 7) (hn : n ≤ 10) (hs : s ≤ 8) (hf : f 27 = nI s) : jy_C G 2 m_HT_distB [.ref 1, .ref y] h0 (fun o h' => o = .returned (some (.int (nI (lev u v s n)))) ∧ R7 h0 h') := by
  refine jy_C.of [some (.ref 1), some (.ref y), none, none, none, none] rfl (Nat.le_of_ble_eq_true rfl) ?_
  refine jr_iconst (v := 0) d_HT_distB_0 (by decide) ?_
  refine jr_istore_n d_HT_distB_1 rfl (by decide) ?_
  have key : ∀ j, j ≤ n + 1 → ∀ h (rw_ : Ft), St (fun i => i = 7) h0 h → h.length = h0.length → h[7]? = some (50, ints 11 rw_) → (∀ p, p < j → rw_ p = nI p) → jy_J G 2 m_HT_distB 2 [some (.ref 1), some (.ref y), some (.int (nI j)), none, none, none] [] h (fun o h' => o = .returned (some (.int (nI (lev u v s n)))) ∧ R7 h0 h') := by
    refine jl_up (n + 1) _ (fun h rw_ hS hl h7 q => ?_) (fun j hj ih h rw_ hS hl h7 q => ?_)
    · have hy' := hS _ _ hy hy7
      refine jr_iload_n d_HT_distB_2 rfl rfl ?_
      refine jr_aload_n d_HT_distB_3 rfl rfl ?_
      refine jr_alen d_HT_distB_4 rfl hy' (by rw [ints_len]) ?_
      refine jr_icmp_gt (tgt := 21) d_HT_distB_5 (by decide) (fun _ => ?_) (fun q => absurd (nI_lt (Nat.lt_succ_self n) (by omega)) q)
      refine jr_iconst (v := 1) d_HT_distB_21 (by decide) ?_
      refine jr_istore_n d_HT_distB_22 rfl (by decide) ?_
      exact ht_distB h1 h6 hy hy7 hn hs hf 0 (Nat.zero_le _) h rw_ _ _ _ hS hl h7 (fun p hp => by rw [q p (by omega), lev])
    · have hy' := hS _ _ hy hy7
      have h1 := hS _ _ h1 (by decide)
      refine jr_iload_n d_HT_distB_2 rfl rfl ?_
      refine jr_aload_n d_HT_distB_3 rfl rfl ?_
      refine jr_alen d_HT_distB_4 rfl hy' (by rw [ints_len]) ?_
      refine jr_icmp_gt (tgt := 21) d_HT_distB_5 (by decide) (fun q => absurd q (nI_nlt (by omega) (by omega))) (fun _ => ?_)
      refine jr_aload_n d_HT_distB_8 rfl rfl ?_
      refine jr_get d_HT_distB_9 f_HT_31 h1 rfl ?_
      refine jr_iload_n d_HT_distB_12 rfl rfl ?_
      refine jr_iload_n d_HT_distB_13 rfl rfl ?_
      refine cr_iast d_HT_distB_14 (by decide) h7 rfl (by omega) (by decide) ?_
      refine jr_iinc1 d_HT_distB_15 rfl (by decide) ?_
      refine jr_goto (tgt := 2) d_HT_distB_18 (by decide) ?_
      rw [nI_1]
      refine ih _ (upd rw_ j (nI j)) (hS.tr (St.set rfl)) (by simp [hl]) (gs_eq h7) (fun p hp => ?_)
      by_cases e : p = j
      · subst e; exact upd_s
      · rw [upd_n e]
        exact q p (by omega)
  obtain ⟨rw_, h7⟩ := h7
  exact key 0 (Nat.zero_le _) h0 rw_ St.rf rfl h7 (fun p hp => by omega)
end DB
section DM
variable {G : jy_G} {h0 : jy_P} {T : Nat} {f : Nat → Int32} {a : Nat → Nat → Int32} {wb : Ft} {s : Nat}
theorem d_HT_distM_0 : decode (jy_c m_HT_distM) 0 = .ok (.aload_n 0, 1) := by decide +kernel
theorem d_HT_distM_1 : decode (jy_c m_HT_distM) 1 = .ok (.aload_n 1, 1) := by decide +kernel
theorem d_HT_distM_2 : decode (jy_c m_HT_distM) 2 = .ok (.getfield 148, 3) := by decide +kernel
theorem d_HT_distM_5 : decode (jy_c m_HT_distM) 5 = .ok (.iconst 0, 1) := by decide +kernel
theorem d_HT_distM_6 : decode (jy_c m_HT_distM) 6 = .ok (.aaload, 1) := by decide +kernel
theorem d_HT_distM_7 : decode (jy_c m_HT_distM) 7 = .ok (.invokevirtual 152, 3) := by decide +kernel
theorem d_HT_distM_10 : decode (jy_c m_HT_distM) 10 = .ok (.istore_n 2, 1) := by decide +kernel
theorem d_HT_distM_11 : decode (jy_c m_HT_distM) 11 = .ok (.iconst 1, 1) := by decide +kernel
theorem d_HT_distM_12 : decode (jy_c m_HT_distM) 12 = .ok (.istore_n 3, 1) := by decide +kernel
theorem d_HT_distM_13 : decode (jy_c m_HT_distM) 13 = .ok (.iload_n 3, 1) := by decide +kernel
theorem d_HT_distM_14 : decode (jy_c m_HT_distM) 14 = .ok (.aload_n 1, 1) := by decide +kernel
theorem d_HT_distM_15 : decode (jy_c m_HT_distM) 15 = .ok (.getfield 138, 3) := by decide +kernel
theorem d_HT_distM_18 : decode (jy_c m_HT_distM) 18 = .ok (.if_icmp .ge 24, 3) := by decide +kernel
theorem d_HT_distM_21 : decode (jy_c m_HT_distM) 21 = .ok (.iload_n 2, 1) := by decide +kernel
theorem d_HT_distM_22 : decode (jy_c m_HT_distM) 22 = .ok (.aload_n 0, 1) := by decide +kernel
theorem d_HT_distM_23 : decode (jy_c m_HT_distM) 23 = .ok (.aload_n 1, 1) := by decide +kernel
theorem d_HT_distM_24 : decode (jy_c m_HT_distM) 24 = .ok (.getfield 148, 3) := by decide +kernel
theorem d_HT_distM_27 : decode (jy_c m_HT_distM) 27 = .ok (.iload_n 3, 1) := by decide +kernel
theorem d_HT_distM_28 : decode (jy_c m_HT_distM) 28 = .ok (.aaload, 1) := by decide +kernel
theorem d_HT_distM_29 : decode (jy_c m_HT_distM) 29 = .ok (.invokevirtual 152, 3) := by decide +kernel
theorem d_HT_distM_32 : decode (jy_c m_HT_distM) 32 = .ok (.invokestatic 142, 3) := by decide +kernel
theorem d_HT_distM_35 : decode (jy_c m_HT_distM) 35 = .ok (.istore_n 2, 1) := by decide +kernel
theorem d_HT_distM_36 : decode (jy_c m_HT_distM) 36 = .ok (.iinc 3 1, 3) := by decide +kernel
theorem d_HT_distM_39 : decode (jy_c m_HT_distM) 39 = .ok (.goto (-26), 3) := by decide +kernel
theorem d_HT_distM_42 : decode (jy_c m_HT_distM) 42 = .ok (.iload_n 2, 1) := by decide +kernel
theorem d_HT_distM_43 : decode (jy_c m_HT_distM) 43 = .ok (.ireturn, 1) := by decide +kernel
theorem jr_callV7 {d d' : Nat} {M M' : jy_M} {pc : Nat} {L : List (Option Value)} {st : List Value} {h : jy_P} {P : Outcome → jy_P → Prop} {idx ci : Nat} {fs : List Value} {v1 : Value} {x : Int32} (hd : decode (jy_c M) pc = .ok (.invokevirtual idx, 3)) (hI : jy_IV (jy_y M).cls idx M' ci 1) (ho : h[1]? = some (ci, fs)) (hst : (st.map fun v => v.category).sum ≤ 8) (hdd : d' < d) (hC : jy_C G d' M' [.ref 1, v1] h (fun o h' => o = .returned (some (.int x)) ∧ R7 h h')) (kk : ∀ h', R7 h h' → jy_J G d M (pc + 3) L (.int x :: st) h' P) : jy_J G d M pc L (v1 :: .ref 1 :: st) h P :=
  jr_callV (As := [v1]) hd hI rfl ho hst hdd hC (fun v h' q => by
    obtain ⟨q1, q2⟩ := q
    cases q1
    exact kk h' q2) (fun x h' q => by cases q.1)
theorem c_HT_distM {x k dv : Nat} (h1 : h0[1]? = some (0, cf T f)) (h6 : h0[6]? = some (51, ints 8 wb)) (hw : ∀ j, j < s → wb j = a 23 j) (h7 : ∃ rw_ : Ft, h0[7]? = some (50, ints 11 rw_)) (hM : MRep h0 x (a 13) k dv) (hR : rOk (a 13) k) (hs : s ≤ 8) (hf : f 27 = nI s) : jy_C G 3 m_HT_distM [.ref 1, .ref x] h0 (fun o h' => o = .returned (some (.int (nI (nrs a s k (my (a 13) k))))) ∧ R7 h0 h') := by
  refine jy_C.of [some (.ref 1), some (.ref x), none, none] rfl (Nat.le_of_ble_eq_true rfl) ?_
  obtain ⟨hx26, na, hx, hna26, nv, hna, nv3, hnv⟩ := hM
  obtain ⟨r1, r2, r3, r4, r5, r6, r7⟩ := hR
  have lv : ∀ i, lvN a s k i = lev wb (fun j => a 13 (43 * k + 10 + 11 * i + 1 + j)) s (ln (a 13) k i) := fun i => lev_congr _ _ (fun p hp => (hw p hp).symm) (fun _ _ => rfl)
  obtain ⟨y0, y1, y2, y3⟩ := hnv 0 (by omega)
  obtain ⟨n1, n2, n3⟩ := r7 0 (by omega)
  refine jr_aload_n d_HT_distM_0 rfl rfl ?_
  refine jr_aload_n d_HT_distM_1 rfl rfl ?_
  refine jr_get d_HT_distM_2 f_HT_148 hx rfl ?_
  refine jr_iconst (v := 0) d_HT_distM_5 (by decide) ?_
  refine cr_aald d_HT_distM_6 rfl rfl hna (show (0 : Int32) = nI 0 from rfl) y1 (by decide) ?_
  refine jr_callV7 d_HT_distM_7 i_HT_152 h1 (Nat.le_of_ble_eq_true rfl) (by decide) (c_HT_distB h1 h6 h7 y3 (by omega) n3 hs hf) (fun h hq => ?_)
  rw [← lv 0]
  have b0 : lvN a s k 0 ≤ 18 := by
    have := lev_le (u := a 23) (v := fun j => a 13 (43 * k + 10 + 11 * 0 + 1 + j)) s (ln (a 13) k 0)
    show lev _ _ _ _ ≤ 18
    omega
  have e0 : lvN a s k 0 = nrs a s k 1 := by
    show _ = min 99 (lvN a s k 0)
    omega
  rw [e0]
  refine jr_istore_n d_HT_distM_10 rfl (by decide) ?_
  refine jr_iconst (v := 1) d_HT_distM_11 (by decide) ?_
  refine jr_istore_n d_HT_distM_12 rfl (by decide) ?_
  have key : ∀ i, i ≤ my (a 13) k - 1 → ∀ h, R7 h0 h → jy_J G 3 m_HT_distM 13 [some (.ref 1), some (.ref x), some (.int (nI (nrs a s k (i + 1)))), some (.int (nI (i + 1)))] [] h (fun o h' => o = .returned (some (.int (nI (nrs a s k (my (a 13) k))))) ∧ R7 h0 h') := by
    refine jl_up (my (a 13) k - 1) _ (fun h hq => ?_) (fun i hi ih h hq => ?_)
    · have hx := hq.1 _ _ hx (by omega)
      rw [show my (a 13) k - 1 + 1 = my (a 13) k by omega]
      refine jr_iload_n d_HT_distM_13 rfl rfl ?_
      refine jr_aload_n d_HT_distM_14 rfl rfl ?_
      refine jr_get d_HT_distM_15 f_HT_138 hx rfl ?_
      rw [r4]
      refine jr_icmp_ge (tgt := 42) d_HT_distM_18 (by decide) (fun _ => ?_) (jl_eq (by omega))
      refine jr_iload_n d_HT_distM_42 rfl rfl ?_
      refine jr_ireturn d_HT_distM_43 rfl rfl ?_
      exact ⟨rfl, hq⟩
    · obtain ⟨yi, y1, y2, y3⟩ := hnv (i + 1) (by omega)
      obtain ⟨n1, n2, n3⟩ := r7 (i + 1) (by omega)
      have hx := hq.1 _ _ hx (by omega)
      have hna := hq.1 _ _ hna (by omega)
      have y3 := hq.1 _ _ y3 (by omega)
      have h1 := hq.1 _ _ h1 (by decide)
      have h6 := hq.1 _ _ h6 (by decide)
      refine jr_iload_n d_HT_distM_13 rfl rfl ?_
      refine jr_aload_n d_HT_distM_14 rfl rfl ?_
      refine jr_get d_HT_distM_15 f_HT_138 hx rfl ?_
      rw [r4]
      refine jr_icmp_ge (tgt := 42) d_HT_distM_18 (by decide) (jl_lt (by omega) (by omega)) (fun _ => ?_)
      refine jr_iload_n d_HT_distM_21 rfl rfl ?_
      refine jr_aload_n d_HT_distM_22 rfl rfl ?_
      refine jr_aload_n d_HT_distM_23 rfl rfl ?_
      refine jr_get d_HT_distM_24 f_HT_148 hx rfl ?_
      refine jr_iload_n d_HT_distM_27 rfl rfl ?_
      refine cr_aald d_HT_distM_28 rfl rfl hna rfl y1 (by omega) ?_
      refine jr_callV7 d_HT_distM_29 i_HT_152 h1 (Nat.le_of_ble_eq_true rfl) (by decide) (c_HT_distB h1 h6 hq.2.2 y3 (by omega) n3 hs hf) (fun h hq2 => ?_)
      rw [← lv (i + 1)]
      have b1 : lvN a s k (i + 1) ≤ 18 := by
        have := lev_le (u := a 23) (v := fun j => a 13 (43 * k + 10 + 11 * (i + 1) + 1 + j)) s (ln (a 13) k (i + 1))
        show lev _ _ _ _ ≤ 18
        omega
      have b2 := nrs_le (a := a) (s := s) (k := k) (i + 1)
      refine jr_min d_HT_distM_32 o_HT_142 (by decide) (Nat.le_of_ble_eq_true rfl) ?_
      rw [mnm_nI (by omega) (by omega)]
      refine jr_istore_n d_HT_distM_35 rfl (by decide) ?_
      refine jr_iinc1 d_HT_distM_36 rfl (by decide) ?_
      refine jr_goto (tgt := 13) d_HT_distM_39 (by decide) ?_
      rw [nI_1]
      exact ih h (hq.tr hq2)
  exact key 0 (Nat.zero_le _) h hq
end DM
