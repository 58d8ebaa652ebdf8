/-! the reference: mixture, strict, plume, buildings -/
theorem not_lt8 {p c : Nat} (hp : p < 2 ^ 31) (hc : c < 2 ^ 31) : (nI c ≤ nI p → decide (p < c) = false) ∧ (¬ nI c ≤ nI p → decide (p < c) = true) := by
  constructor
  · intro h
    have := (nI_leI hc hp).mp h
    exact decide_eq_false (by omega)
  · intro h
    apply decide_eq_true
    rcases Nat.lt_or_ge p c with q | q
    · exact q
    · exact absurd ((nI_leI hc hp).mpr q) h
theorem pos_b {p : Nat} (hp : p < 2 ^ 31) : (nI p ≤ 0 → decide (0 < p) = false) ∧ (¬ nI p ≤ 0 → decide (0 < p) = true) := by
  constructor
  · intro h
    have := (nI_leI hp (b := 0) (by decide)).mp h
    exact decide_eq_false (by omega)
  · intro h
    apply decide_eq_true
    rcases Nat.lt_or_ge 0 p with q | q
    · exact q
    · exact absurd ((nI_leI hp (b := 0) (by decide)).mpr q) h
def grs (a : Nat → Nat → Int32) : Nat → Int32
  | 0 => 0
  | p + 1 => grs a p ||| cl a p 3
def prs (a : Nat → Nat → Int32) : Nat → Nat
  | 0 => 0
  | p + 1 => prs a p + cnt (fun q => ctr a p q) p
def mxV (a : Nat → Nat → Int32) (n : Nat) (w : Int32) : Int32 := if w = 0 then sS a n else if w = 1 then grs a n else if w < 4 then dD a (decide (w = 2)) n else if w = 4 then nI n else nI (prs a n)
def mxG (n : Nat) (w : Int32) : Bool := inB w 0 5 && decide (0 < n) && true
def mxt (f : Nat → Int32) (a : Nat → Nat → Int32) (n : Nat) (w : Int32) : Rs := if mxG n w = true then (mxV a n w, upd f 0 0, a) else (0, upd f 0 (gT (inB w 0 5) (decide (0 < n)) true), a)
theorem mxG_t {n : Nat} {w : Int32} (h : (inB w 0 5 && decide (0 < n) && true) = true) : gT (inB w 0 5) (decide (0 < n)) true = 0 := by
  rw [Bool.and_true, Bool.and_eq_true] at h
  rw [h.1, h.2]; rfl
theorem d_MO_mixture_0 : decode (jy_c m_MO_mixture) 0 = .ok (.aload_n 0, 1) := by decide +kernel
theorem d_MO_mixture_1 : decode (jy_c m_MO_mixture) 1 = .ok (.iload_n 1, 1) := by decide +kernel
theorem d_MO_mixture_2 : decode (jy_c m_MO_mixture) 2 = .ok (.iconst 0, 1) := by decide +kernel
theorem d_MO_mixture_3 : decode (jy_c m_MO_mixture) 3 = .ok (.iconst 5, 1) := by decide +kernel
theorem d_MO_mixture_4 : decode (jy_c m_MO_mixture) 4 = .ok (.invokestatic 67, 3) := by decide +kernel
theorem d_MO_mixture_7 : decode (jy_c m_MO_mixture) 7 = .ok (.aload_n 0, 1) := by decide +kernel
theorem d_MO_mixture_8 : decode (jy_c m_MO_mixture) 8 = .ok (.getfield 157, 3) := by decide +kernel
theorem d_MO_mixture_11 : decode (jy_c m_MO_mixture) 11 = .ok (.ifCond .le 7, 3) := by decide +kernel
theorem d_MO_mixture_14 : decode (jy_c m_MO_mixture) 14 = .ok (.iconst 1, 1) := by decide +kernel
theorem d_MO_mixture_15 : decode (jy_c m_MO_mixture) 15 = .ok (.goto 4, 3) := by decide +kernel
theorem d_MO_mixture_18 : decode (jy_c m_MO_mixture) 18 = .ok (.iconst 0, 1) := by decide +kernel
theorem d_MO_mixture_19 : decode (jy_c m_MO_mixture) 19 = .ok (.iconst 1, 1) := by decide +kernel
theorem d_MO_mixture_20 : decode (jy_c m_MO_mixture) 20 = .ok (.invokevirtual 74, 3) := by decide +kernel
theorem d_MO_mixture_23 : decode (jy_c m_MO_mixture) 23 = .ok (.ifCond .ne 5, 3) := by decide +kernel
theorem d_MO_mixture_26 : decode (jy_c m_MO_mixture) 26 = .ok (.iconst 0, 1) := by decide +kernel
theorem d_MO_mixture_27 : decode (jy_c m_MO_mixture) 27 = .ok (.ireturn, 1) := by decide +kernel
theorem d_MO_mixture_28 : decode (jy_c m_MO_mixture) 28 = .ok (.iconst 0, 1) := by decide +kernel
theorem d_MO_mixture_29 : decode (jy_c m_MO_mixture) 29 = .ok (.istore_n 2, 1) := by decide +kernel
theorem d_MO_mixture_30 : decode (jy_c m_MO_mixture) 30 = .ok (.iconst 0, 1) := by decide +kernel
theorem d_MO_mixture_31 : decode (jy_c m_MO_mixture) 31 = .ok (.istore_n 3, 1) := by decide +kernel
theorem d_MO_mixture_32 : decode (jy_c m_MO_mixture) 32 = .ok (.iconst 0, 1) := by decide +kernel
theorem d_MO_mixture_33 : decode (jy_c m_MO_mixture) 33 = .ok (.istore 4, 2) := by decide +kernel
theorem d_MO_mixture_35 : decode (jy_c m_MO_mixture) 35 = .ok (.iload 4, 2) := by decide +kernel
theorem d_MO_mixture_37 : decode (jy_c m_MO_mixture) 37 = .ok (.aload_n 0, 1) := by decide +kernel
theorem d_MO_mixture_38 : decode (jy_c m_MO_mixture) 38 = .ok (.getfield 157, 3) := by decide +kernel
theorem d_MO_mixture_41 : decode (jy_c m_MO_mixture) 41 = .ok (.if_icmp .ge 59, 3) := by decide +kernel
theorem d_MO_mixture_44 : decode (jy_c m_MO_mixture) 44 = .ok (.iload_n 2, 1) := by decide +kernel
theorem d_MO_mixture_45 : decode (jy_c m_MO_mixture) 45 = .ok (.aload_n 0, 1) := by decide +kernel
theorem d_MO_mixture_46 : decode (jy_c m_MO_mixture) 46 = .ok (.getfield 17, 3) := by decide +kernel
theorem d_MO_mixture_49 : decode (jy_c m_MO_mixture) 49 = .ok (.aload_n 0, 1) := by decide +kernel
theorem d_MO_mixture_50 : decode (jy_c m_MO_mixture) 50 = .ok (.getfield 29, 3) := by decide +kernel
theorem d_MO_mixture_53 : decode (jy_c m_MO_mixture) 53 = .ok (.iload 4, 2) := by decide +kernel
theorem d_MO_mixture_55 : decode (jy_c m_MO_mixture) 55 = .ok (.iaload, 1) := by decide +kernel
theorem d_MO_mixture_56 : decode (jy_c m_MO_mixture) 56 = .ok (.bipush 43, 2) := by decide +kernel
theorem d_MO_mixture_58 : decode (jy_c m_MO_mixture) 58 = .ok (.imul, 1) := by decide +kernel
theorem d_MO_mixture_59 : decode (jy_c m_MO_mixture) 59 = .ok (.iconst 3, 1) := by decide +kernel
theorem d_MO_mixture_60 : decode (jy_c m_MO_mixture) 60 = .ok (.iadd, 1) := by decide +kernel
theorem d_MO_mixture_61 : decode (jy_c m_MO_mixture) 61 = .ok (.iaload, 1) := by decide +kernel
theorem d_MO_mixture_62 : decode (jy_c m_MO_mixture) 62 = .ok (.ior, 1) := by decide +kernel
theorem d_MO_mixture_63 : decode (jy_c m_MO_mixture) 63 = .ok (.istore_n 2, 1) := by decide +kernel
theorem d_MO_mixture_64 : decode (jy_c m_MO_mixture) 64 = .ok (.iconst 0, 1) := by decide +kernel
theorem d_MO_mixture_65 : decode (jy_c m_MO_mixture) 65 = .ok (.istore 5, 2) := by decide +kernel
theorem d_MO_mixture_67 : decode (jy_c m_MO_mixture) 67 = .ok (.iload 5, 2) := by decide +kernel
theorem d_MO_mixture_69 : decode (jy_c m_MO_mixture) 69 = .ok (.iload 4, 2) := by decide +kernel
theorem d_MO_mixture_71 : decode (jy_c m_MO_mixture) 71 = .ok (.if_icmp .ge 23, 3) := by decide +kernel
theorem d_MO_mixture_74 : decode (jy_c m_MO_mixture) 74 = .ok (.aload_n 0, 1) := by decide +kernel
theorem d_MO_mixture_75 : decode (jy_c m_MO_mixture) 75 = .ok (.iload 4, 2) := by decide +kernel
theorem d_MO_mixture_77 : decode (jy_c m_MO_mixture) 77 = .ok (.iload 5, 2) := by decide +kernel
theorem d_MO_mixture_79 : decode (jy_c m_MO_mixture) 79 = .ok (.invokevirtual 160, 3) := by decide +kernel
theorem d_MO_mixture_82 : decode (jy_c m_MO_mixture) 82 = .ok (.ifCond .eq 6, 3) := by decide +kernel
theorem d_MO_mixture_85 : decode (jy_c m_MO_mixture) 85 = .ok (.iinc 3 1, 3) := by decide +kernel
theorem d_MO_mixture_88 : decode (jy_c m_MO_mixture) 88 = .ok (.iinc 5 1, 3) := by decide +kernel
theorem d_MO_mixture_91 : decode (jy_c m_MO_mixture) 91 = .ok (.goto (-24), 3) := by decide +kernel
theorem d_MO_mixture_94 : decode (jy_c m_MO_mixture) 94 = .ok (.iinc 4 1, 3) := by decide +kernel
theorem d_MO_mixture_97 : decode (jy_c m_MO_mixture) 97 = .ok (.goto (-62), 3) := by decide +kernel
theorem d_MO_mixture_100 : decode (jy_c m_MO_mixture) 100 = .ok (.iload_n 1, 1) := by decide +kernel
theorem d_MO_mixture_101 : decode (jy_c m_MO_mixture) 101 = .ok (.ifCond .ne 10, 3) := by decide +kernel
theorem d_MO_mixture_104 : decode (jy_c m_MO_mixture) 104 = .ok (.aload_n 0, 1) := by decide +kernel
theorem d_MO_mixture_105 : decode (jy_c m_MO_mixture) 105 = .ok (.invokevirtual 164, 3) := by decide +kernel
theorem d_MO_mixture_108 : decode (jy_c m_MO_mixture) 108 = .ok (.goto 47, 3) := by decide +kernel
theorem d_MO_mixture_111 : decode (jy_c m_MO_mixture) 111 = .ok (.iload_n 1, 1) := by decide +kernel
theorem d_MO_mixture_112 : decode (jy_c m_MO_mixture) 112 = .ok (.iconst 1, 1) := by decide +kernel
theorem d_MO_mixture_113 : decode (jy_c m_MO_mixture) 113 = .ok (.if_icmp .ne 7, 3) := by decide +kernel
theorem d_MO_mixture_116 : decode (jy_c m_MO_mixture) 116 = .ok (.iload_n 2, 1) := by decide +kernel
theorem d_MO_mixture_117 : decode (jy_c m_MO_mixture) 117 = .ok (.goto 38, 3) := by decide +kernel
theorem d_MO_mixture_120 : decode (jy_c m_MO_mixture) 120 = .ok (.iload_n 1, 1) := by decide +kernel
theorem d_MO_mixture_121 : decode (jy_c m_MO_mixture) 121 = .ok (.iconst 4, 1) := by decide +kernel
theorem d_MO_mixture_122 : decode (jy_c m_MO_mixture) 122 = .ok (.if_icmp .ge 20, 3) := by decide +kernel
theorem d_MO_mixture_125 : decode (jy_c m_MO_mixture) 125 = .ok (.aload_n 0, 1) := by decide +kernel
theorem d_MO_mixture_126 : decode (jy_c m_MO_mixture) 126 = .ok (.iload_n 1, 1) := by decide +kernel
theorem d_MO_mixture_127 : decode (jy_c m_MO_mixture) 127 = .ok (.iconst 2, 1) := by decide +kernel
theorem d_MO_mixture_128 : decode (jy_c m_MO_mixture) 128 = .ok (.if_icmp .ne 7, 3) := by decide +kernel
theorem d_MO_mixture_131 : decode (jy_c m_MO_mixture) 131 = .ok (.iconst 1, 1) := by decide +kernel
theorem d_MO_mixture_132 : decode (jy_c m_MO_mixture) 132 = .ok (.goto 4, 3) := by decide +kernel
theorem d_MO_mixture_135 : decode (jy_c m_MO_mixture) 135 = .ok (.iconst 0, 1) := by decide +kernel
theorem d_MO_mixture_136 : decode (jy_c m_MO_mixture) 136 = .ok (.invokevirtual 167, 3) := by decide +kernel
theorem d_MO_mixture_139 : decode (jy_c m_MO_mixture) 139 = .ok (.goto 16, 3) := by decide +kernel
theorem d_MO_mixture_142 : decode (jy_c m_MO_mixture) 142 = .ok (.iload_n 1, 1) := by decide +kernel
theorem d_MO_mixture_143 : decode (jy_c m_MO_mixture) 143 = .ok (.iconst 4, 1) := by decide +kernel
theorem d_MO_mixture_144 : decode (jy_c m_MO_mixture) 144 = .ok (.if_icmp .ne 10, 3) := by decide +kernel
theorem d_MO_mixture_147 : decode (jy_c m_MO_mixture) 147 = .ok (.aload_n 0, 1) := by decide +kernel
theorem d_MO_mixture_148 : decode (jy_c m_MO_mixture) 148 = .ok (.getfield 157, 3) := by decide +kernel
theorem d_MO_mixture_151 : decode (jy_c m_MO_mixture) 151 = .ok (.goto 4, 3) := by decide +kernel
theorem d_MO_mixture_154 : decode (jy_c m_MO_mixture) 154 = .ok (.iload_n 3, 1) := by decide +kernel
theorem d_MO_mixture_155 : decode (jy_c m_MO_mixture) 155 = .ok (.ireturn, 1) := by decide +kernel
theorem mo_mixture2 {G : jy_G} {h0 h : jy_P} {f : Nat → Int32} {a : Nat → Nat → Int32} {n p : Nat} {w g : Int32} {P : Outcome → jy_P → Prop} {c : Nat} (hM : MS h0 h f a) (hn : f 12 = nI n) (h8 : n ≤ 8) (hI : ixOk a n) (hp : p < n) (K : jy_J G 2 m_MO_mixture 94 [some (.ref 11), some (.int w), some (.int g), some (.int (nI (c + cnt (fun q => ctr a p q) p))), some (.int (nI p)), some (.int (nI p))] [] h P) : ∀ q, q ≤ p → jy_J G 2 m_MO_mixture 67 [some (.ref 11), some (.int w), some (.int g), some (.int (nI (c + cnt (fun q => ctr a p q) q))), some (.int (nI p)), some (.int (nI q))] [] h P := by
  refine jl_up p _ ?_ (fun q hq ih => ?_)
  · refine jr_iload d_MO_mixture_67 rfl ?_
    refine jr_iload d_MO_mixture_69 rfl ?_
    exact jr_icmp_ge (tgt := 94) d_MO_mixture_71 (by decide) (fun hc => K) (jl_eq (by omega))
  · refine jr_iload d_MO_mixture_67 rfl ?_
    refine jr_iload d_MO_mixture_69 rfl ?_
    refine jr_icmp_ge (tgt := 94) d_MO_mixture_71 (by decide) (jl_lt (by omega) hq) (fun hc => ?_)
    refine jr_aload_n d_MO_mixture_74 rfl rfl ?_
    refine jr_iload d_MO_mixture_75 rfl ?_
    refine jr_iload d_MO_mixture_77 rfl ?_
    refine mr_callP2 d_MO_mixture_79 i_MO_160 hM (Nat.le_of_ble_eq_true rfl) (by decide) (c_MO_contradict hM.1 h8 hI hp (by omega)) ?_
    refine jr_if_eq (tgt := 88) d_MO_mixture_82 (by decide) (fun hc => ?_) (fun hc => ?_)
    · refine jr_iinc1 d_MO_mixture_88 rfl (by decide) ?_
      refine jr_goto (tgt := 67) d_MO_mixture_91 (by decide) ?_
      rw [nI_1]
      have : cnt (fun q => ctr a p q) (q + 1) = cnt (fun q => ctr a p q) q := by simp [cnt, bI_eq0.mp hc]
      rw [this] at ih
      exact ih
    · refine jr_iinc1 d_MO_mixture_85 rfl (by decide) ?_
      refine jr_iinc1 d_MO_mixture_88 rfl (by decide) ?_
      refine jr_goto (tgt := 67) d_MO_mixture_91 (by decide) ?_
      rw [nI_1, nI_1]
      have : c + cnt (fun q => ctr a p q) (q + 1) = c + cnt (fun q => ctr a p q) q + 1 := by simp [cnt, bI_ne0.mp hc, Nat.add_assoc]
      rw [this] at ih
      exact ih
theorem mo_mixture1 {G : jy_G} {h0 h : jy_P} {f : Nat → Int32} {a : Nat → Nat → Int32} {n : Nat} {w : Int32} {P : Outcome → jy_P → Prop} (hM : MS h0 h f a) (hn : f 12 = nI n) (h8 : n ≤ 8) (hI : ixOk a n) (K : ∀ l5, jy_J G 2 m_MO_mixture 100 [some (.ref 11), some (.int w), some (.int (grs a n)), some (.int (nI (prs a n))), some (.int (nI n)), l5] [] h P) : ∀ p, p ≤ n → ∀ l5, jy_J G 2 m_MO_mixture 35 [some (.ref 11), some (.int w), some (.int (grs a p)), some (.int (nI (prs a p))), some (.int (nI p)), l5] [] h P := by
  refine jl_up n _ (fun l5 => ?_) (fun p hp ih l5 => ?_)
  · refine jr_iload d_MO_mixture_35 rfl ?_
    refine jr_aload_n d_MO_mixture_37 rfl rfl ?_
    refine mr_get d_MO_mixture_38 f_MO_157 hM rfl ?_
    rw [hn]
    exact jr_icmp_ge (tgt := 100) d_MO_mixture_41 (by decide) (fun hc => K l5) (jl_eq (by omega))
  · obtain ⟨i1, i2⟩ := hI p hp
    refine jr_iload d_MO_mixture_35 rfl ?_
    refine jr_aload_n d_MO_mixture_37 rfl rfl ?_
    refine mr_get d_MO_mixture_38 f_MO_157 hM rfl ?_
    rw [hn]
    refine jr_icmp_ge (tgt := 100) d_MO_mixture_41 (by decide) (jl_lt (by omega) hp) (fun hc => ?_)
    refine jr_iload_n d_MO_mixture_44 rfl rfl ?_
    refine jr_aload_n d_MO_mixture_45 rfl rfl ?_
    refine mr_get d_MO_mixture_46 f_MO_17 hM rfl ?_
    refine jr_aload_n d_MO_mixture_49 rfl rfl ?_
    refine mr_get d_MO_mixture_50 f_MO_29 hM rfl ?_
    refine jr_iload d_MO_mixture_53 rfl ?_
    refine mr_ald d_MO_mixture_55 hM (by decide) rfl (by show p < 8; omega) ?_
    refine jr_bipush (v := 43) d_MO_mixture_56 (by decide) ?_
    refine jr_imul d_MO_mixture_58 ?_
    refine jr_iconst (v := 3) d_MO_mixture_59 (by decide) ?_
    refine jr_iadd d_MO_mixture_60 ?_
    refine mr_ald d_MO_mixture_61 hM (by decide) (ix43 (iP a p) 3 i1 rfl) (by show 43 * iP a p + 3 < 559; omega) ?_
    refine jr_ior d_MO_mixture_62 ?_
    refine jr_istore_n d_MO_mixture_63 rfl (by decide) ?_
    refine jr_iconst (v := 0) d_MO_mixture_64 (by decide) ?_
    refine jr_istore d_MO_mixture_65 (by decide) ?_
    refine mo_mixture2 (c := prs a p) (p := p) hM hn h8 hI hp ?_ 0 (Nat.zero_le _)
    refine jr_iinc1 d_MO_mixture_94 rfl (by decide) ?_
    refine jr_goto (tgt := 35) d_MO_mixture_97 (by decide) ?_
    rw [nI_1]
    exact ih _
theorem c_MO_mixture {G : jy_G} {h0 : jy_P} {f : Nat → Int32} {a : Nat → Nat → Int32} {n : Nat} (hM : Mo h0 f a) (hn : f 12 = nI n) (h8 : n ≤ 8) (hI : ixOk a n) (w : Int32) : jy_C G 2 m_MO_mixture [.ref 11, .int w] h0 (mR h0 (mxt f a n w)) := by
  refine jy_C.of [some (.ref 11), some (.int w), none, none, none, none] rfl (Nat.le_of_ble_eq_true rfl) ?_
  have hM := MS.rf hM
  generalize hg : mR h0 (mxt f a n w) = P
  refine jr_aload_n d_MO_mixture_0 rfl rfl ?_
  refine jr_iload_n d_MO_mixture_1 rfl rfl ?_
  refine jr_iconst (v := 0) d_MO_mixture_2 (by decide) ?_
  refine jr_iconst (v := 5) d_MO_mixture_3 (by decide) ?_
  refine jr_callSp3 d_MO_mixture_4 i_MO_67 (Nat.le_of_ble_eq_true rfl) (by decide) (c_MO_within _ _ _) ?_
  refine jr_aload_n d_MO_mixture_7 rfl rfl ?_
  refine mr_get d_MO_mixture_8 f_MO_157 hM rfl ?_
  rw [hn]
  refine jy_cut1 19 (fun z => z = bI (decide (0 < n))) (fun K => ?_) (fun z hz => ?_)
  · refine jr_if_le (tgt := 18) d_MO_mixture_11 (by decide) (fun hc => ?_) (fun hc => ?_)
    · refine jr_iconst (v := 0) d_MO_mixture_18 (by decide) ?_
      exact K _ (by rw [(pos_b (by omega)).1 hc]; rfl)
    · refine jr_iconst (v := 1) d_MO_mixture_14 (by decide) ?_
      refine jr_goto (tgt := 19) d_MO_mixture_15 (by decide) ?_
      exact K _ (by rw [(pos_b (by omega)).2 hc]; rfl)
  subst hz
  refine jr_iconst (v := 1) d_MO_mixture_19 (by decide) ?_
  refine mr_call3 d_MO_mixture_20 i_MO_74 hM (Nat.le_of_ble_eq_true rfl) (by decide) (c_MO_goes hM.1 _ _ true) (fun h hM => ?_)
  refine jr_if_ne (tgt := 28) d_MO_mixture_23 (by decide) (fun hc => ?_) (fun hc => ?_)
  · have hG := bI_ne0.mp hc
    rw [mxG_t hG] at hM
    have hP : P = mP h0 (some (.int (mxV a n w))) (upd f 0 0) a := by
      rw [← hg, mxt, if_pos (show mxG n w = true from hG)]; rfl
    rw [hP]
    refine jr_iconst (v := 0) d_MO_mixture_28 (by decide) ?_
    refine jr_istore_n d_MO_mixture_29 rfl (by decide) ?_
    refine jr_iconst (v := 0) d_MO_mixture_30 (by decide) ?_
    refine jr_istore_n d_MO_mixture_31 rfl (by decide) ?_
    refine jr_iconst (v := 0) d_MO_mixture_32 (by decide) ?_
    refine jr_istore d_MO_mixture_33 (by decide) ?_
    refine mo_mixture1 hM hn h8 hI (fun l5 => ?_) 0 (Nat.zero_le _) _
    refine jr_iload_n d_MO_mixture_100 rfl rfl ?_
    refine jr_if_ne (tgt := 111) d_MO_mixture_101 (by decide) (fun hc => ?_) (fun hc => ?_)
    · refine jr_iload_n d_MO_mixture_111 rfl rfl ?_
      refine jr_iconst (v := 1) d_MO_mixture_112 (by decide) ?_
      refine jr_icmp_ne (tgt := 120) d_MO_mixture_113 (by decide) (fun hc2 => ?_) (fun hc2 => ?_)
      · refine jr_iload_n d_MO_mixture_120 rfl rfl ?_
        refine jr_iconst (v := 4) d_MO_mixture_121 (by decide) ?_
        refine jr_icmp_ge (tgt := 142) d_MO_mixture_122 (by decide) (fun hc3 => ?_) (fun hc3 => ?_)
        · refine jr_iload_n d_MO_mixture_142 rfl rfl ?_
          refine jr_iconst (v := 4) d_MO_mixture_143 (by decide) ?_
          refine jr_icmp_ne (tgt := 154) d_MO_mixture_144 (by decide) (fun hc4 => ?_) (fun hc4 => ?_)
          · refine jr_iload_n d_MO_mixture_154 rfl rfl ?_
            refine jr_ireturn d_MO_mixture_155 rfl rfl ?_
            exact ⟨by rw [mxV, if_neg hc, if_neg hc2, if_neg (Int32.not_lt.mpr hc3), if_neg hc4], hM⟩
          · refine jr_aload_n d_MO_mixture_147 rfl rfl ?_
            refine mr_get d_MO_mixture_148 f_MO_157 hM rfl ?_
            refine jr_goto (tgt := 155) d_MO_mixture_151 (by decide) ?_
            refine jr_ireturn d_MO_mixture_155 rfl rfl ?_
            exact ⟨by rw [mxV, if_neg hc, if_neg hc2, if_neg (Int32.not_lt.mpr hc3), if_pos hc4, show upd f 0 0 12 = f 12 from rfl, hn], hM⟩
        · refine jr_aload_n d_MO_mixture_125 rfl rfl ?_
          refine jr_iload_n d_MO_mixture_126 rfl rfl ?_
          refine jr_iconst (v := 2) d_MO_mixture_127 (by decide) ?_
          refine jy_cut2 136 (fun z => z = bI (decide (w = 2))) (fun K => ?_) (fun z hz => ?_)
          · refine jr_icmp_ne (tgt := 135) d_MO_mixture_128 (by decide) (fun hc => ?_) (fun hc => ?_)
            · refine jr_iconst (v := 0) d_MO_mixture_135 (by decide) ?_
              exact K _ (by rw [decide_eq_false hc]; rfl)
            · refine jr_iconst (v := 1) d_MO_mixture_131 (by decide) ?_
              refine jr_goto (tgt := 136) d_MO_mixture_132 (by decide) ?_
              exact K _ (by rw [decide_eq_true hc]; rfl)
          subst hz
          refine mr_callP1 d_MO_mixture_136 i_MO_167 hM (Nat.le_of_ble_eq_true rfl) (by decide) (c_MO_distance hM.1 hn h8 hI _) ?_
          refine jr_goto (tgt := 155) d_MO_mixture_139 (by decide) ?_
          refine jr_ireturn d_MO_mixture_155 rfl rfl ?_
          exact ⟨by rw [mxV, if_neg hc, if_neg hc2, if_pos (Int32.not_le.mp hc3)], hM⟩
      · refine jr_iload_n d_MO_mixture_116 rfl rfl ?_
        refine jr_goto (tgt := 155) d_MO_mixture_117 (by decide) ?_
        refine jr_ireturn d_MO_mixture_155 rfl rfl ?_
        exact ⟨by rw [mxV, if_neg hc, if_pos hc2], hM⟩
    · refine jr_aload_n d_MO_mixture_104 rfl rfl ?_
      refine mr_callP0 d_MO_mixture_105 i_MO_164 hM (Nat.le_of_ble_eq_true rfl) (by decide) (c_MO_strictness hM.1 hn h8 hI) ?_
      refine jr_goto (tgt := 155) d_MO_mixture_108 (by decide) ?_
      refine jr_ireturn d_MO_mixture_155 rfl rfl ?_
      exact ⟨by rw [mxV, if_pos hc], hM⟩
  · have hG := bI_eq0.mp hc
    have hP : P = mP h0 (some (.int 0)) (upd f 0 (gT (inB w 0 5) (decide (0 < n)) true)) a := by
      rw [← hg, mxt, if_neg (by rw [show mxG n w = false from hG]; decide)]; rfl
    rw [hP]
    refine jr_iconst (v := 0) d_MO_mixture_26 (by decide) ?_
    refine jr_ireturn d_MO_mixture_27 rfl rfl ?_
    exact ⟨rfl, hM⟩
/-- the i-th of the strictest -/
def stF (a : Nat → Nat → Int32) (top : Int32) : Nat → Nat → Int32 → Int32
  | 0, _, _ => -1
  | k + 1, p, left => if cl a p 2 = top then (if left = 0 then a 15 p else stF a top k (p + 1) (left - 1)) else stF a top k (p + 1) left
theorem stF_s {a : Nat → Nat → Int32} {top left : Int32} {n p : Nat} (hp : p < n) : stF a top (n - p) p left = if cl a p 2 = top then (if left = 0 then a 15 p else stF a top (n - (p + 1)) (p + 1) (left - 1)) else stF a top (n - (p + 1)) (p + 1) left := by
  rw [show n - p = (n - (p + 1)) + 1 by omega]; rfl
theorem stF_e {a : Nat → Nat → Int32} {top left : Int32} {n : Nat} : stF a top (n - n) n left = -1 := by rw [Nat.sub_self]; rfl
def sg (f : Nat → Int32) (a : Nat → Nat → Int32) (n : Nat) (i : Int32) : Rs := if decide (0 ≤ i) = true then (stF a (sS a n) (n - 0) 0 i, upd f 0 0, a) else (0, upd f 0 1, a)
theorem d_MO_strict_0 : decode (jy_c m_MO_strict) 0 = .ok (.aload_n 0, 1) := by decide +kernel
theorem d_MO_strict_1 : decode (jy_c m_MO_strict) 1 = .ok (.iload_n 1, 1) := by decide +kernel
theorem d_MO_strict_2 : decode (jy_c m_MO_strict) 2 = .ok (.ifCond .lt 7, 3) := by decide +kernel
theorem d_MO_strict_5 : decode (jy_c m_MO_strict) 5 = .ok (.iconst 1, 1) := by decide +kernel
theorem d_MO_strict_6 : decode (jy_c m_MO_strict) 6 = .ok (.goto 4, 3) := by decide +kernel
theorem d_MO_strict_9 : decode (jy_c m_MO_strict) 9 = .ok (.iconst 0, 1) := by decide +kernel
theorem d_MO_strict_10 : decode (jy_c m_MO_strict) 10 = .ok (.iconst 1, 1) := by decide +kernel
theorem d_MO_strict_11 : decode (jy_c m_MO_strict) 11 = .ok (.iconst 1, 1) := by decide +kernel
theorem d_MO_strict_12 : decode (jy_c m_MO_strict) 12 = .ok (.invokevirtual 74, 3) := by decide +kernel
theorem d_MO_strict_15 : decode (jy_c m_MO_strict) 15 = .ok (.ifCond .ne 5, 3) := by decide +kernel
theorem d_MO_strict_18 : decode (jy_c m_MO_strict) 18 = .ok (.iconst 0, 1) := by decide +kernel
theorem d_MO_strict_19 : decode (jy_c m_MO_strict) 19 = .ok (.ireturn, 1) := by decide +kernel
theorem d_MO_strict_20 : decode (jy_c m_MO_strict) 20 = .ok (.iload_n 1, 1) := by decide +kernel
theorem d_MO_strict_21 : decode (jy_c m_MO_strict) 21 = .ok (.istore_n 2, 1) := by decide +kernel
theorem d_MO_strict_22 : decode (jy_c m_MO_strict) 22 = .ok (.iconst 0, 1) := by decide +kernel
theorem d_MO_strict_23 : decode (jy_c m_MO_strict) 23 = .ok (.istore_n 3, 1) := by decide +kernel
theorem d_MO_strict_24 : decode (jy_c m_MO_strict) 24 = .ok (.iload_n 3, 1) := by decide +kernel
theorem d_MO_strict_25 : decode (jy_c m_MO_strict) 25 = .ok (.aload_n 0, 1) := by decide +kernel
theorem d_MO_strict_26 : decode (jy_c m_MO_strict) 26 = .ok (.getfield 157, 3) := by decide +kernel
theorem d_MO_strict_29 : decode (jy_c m_MO_strict) 29 = .ok (.if_icmp .ge 49, 3) := by decide +kernel
theorem d_MO_strict_32 : decode (jy_c m_MO_strict) 32 = .ok (.aload_n 0, 1) := by decide +kernel
theorem d_MO_strict_33 : decode (jy_c m_MO_strict) 33 = .ok (.getfield 17, 3) := by decide +kernel
theorem d_MO_strict_36 : decode (jy_c m_MO_strict) 36 = .ok (.aload_n 0, 1) := by decide +kernel
theorem d_MO_strict_37 : decode (jy_c m_MO_strict) 37 = .ok (.getfield 29, 3) := by decide +kernel
theorem d_MO_strict_40 : decode (jy_c m_MO_strict) 40 = .ok (.iload_n 3, 1) := by decide +kernel
theorem d_MO_strict_41 : decode (jy_c m_MO_strict) 41 = .ok (.iaload, 1) := by decide +kernel
theorem d_MO_strict_42 : decode (jy_c m_MO_strict) 42 = .ok (.bipush 43, 2) := by decide +kernel
theorem d_MO_strict_44 : decode (jy_c m_MO_strict) 44 = .ok (.imul, 1) := by decide +kernel
theorem d_MO_strict_45 : decode (jy_c m_MO_strict) 45 = .ok (.iconst 2, 1) := by decide +kernel
theorem d_MO_strict_46 : decode (jy_c m_MO_strict) 46 = .ok (.iadd, 1) := by decide +kernel
theorem d_MO_strict_47 : decode (jy_c m_MO_strict) 47 = .ok (.iaload, 1) := by decide +kernel
theorem d_MO_strict_48 : decode (jy_c m_MO_strict) 48 = .ok (.aload_n 0, 1) := by decide +kernel
theorem d_MO_strict_49 : decode (jy_c m_MO_strict) 49 = .ok (.invokevirtual 164, 3) := by decide +kernel
theorem d_MO_strict_52 : decode (jy_c m_MO_strict) 52 = .ok (.if_icmp .eq 6, 3) := by decide +kernel
theorem d_MO_strict_55 : decode (jy_c m_MO_strict) 55 = .ok (.goto 17, 3) := by decide +kernel
theorem d_MO_strict_58 : decode (jy_c m_MO_strict) 58 = .ok (.iload_n 2, 1) := by decide +kernel
theorem d_MO_strict_59 : decode (jy_c m_MO_strict) 59 = .ok (.ifCond .ne 10, 3) := by decide +kernel
theorem d_MO_strict_62 : decode (jy_c m_MO_strict) 62 = .ok (.aload_n 0, 1) := by decide +kernel
theorem d_MO_strict_63 : decode (jy_c m_MO_strict) 63 = .ok (.getfield 23, 3) := by decide +kernel
theorem d_MO_strict_66 : decode (jy_c m_MO_strict) 66 = .ok (.iload_n 3, 1) := by decide +kernel
theorem d_MO_strict_67 : decode (jy_c m_MO_strict) 67 = .ok (.iaload, 1) := by decide +kernel
theorem d_MO_strict_68 : decode (jy_c m_MO_strict) 68 = .ok (.ireturn, 1) := by decide +kernel
theorem d_MO_strict_69 : decode (jy_c m_MO_strict) 69 = .ok (.iinc 2 (-1), 3) := by decide +kernel
theorem d_MO_strict_72 : decode (jy_c m_MO_strict) 72 = .ok (.iinc 3 1, 3) := by decide +kernel
theorem d_MO_strict_75 : decode (jy_c m_MO_strict) 75 = .ok (.goto (-51), 3) := by decide +kernel
theorem d_MO_strict_78 : decode (jy_c m_MO_strict) 78 = .ok (.iconst (-1), 1) := by decide +kernel
theorem d_MO_strict_79 : decode (jy_c m_MO_strict) 79 = .ok (.ireturn, 1) := by decide +kernel
theorem mo_strict {G : jy_G} {h0 h : jy_P} {f : Nat → Int32} {a : Nat → Nat → Int32} {n : Nat} {i : Int32} (hM : MS h0 h f a) (hn : f 12 = nI n) (h8 : n ≤ 8) (hI : ixOk a n) : ∀ p, p ≤ n → ∀ left, jy_J G 2 m_MO_strict 24 [some (.ref 11), some (.int i), some (.int left), some (.int (nI p))] [] h (mP h0 (some (.int (stF a (sS a n) (n - p) p left))) f a) := by
  refine jl_up n _ (fun left => ?_) (fun p hp ih left => ?_)
  · refine jr_iload_n d_MO_strict_24 rfl rfl ?_
    refine jr_aload_n d_MO_strict_25 rfl rfl ?_
    refine mr_get d_MO_strict_26 f_MO_157 hM rfl ?_
    rw [hn]
    refine jr_icmp_ge (tgt := 78) d_MO_strict_29 (by decide) (fun hc => ?_) (jl_eq (by omega))
    refine jr_iconst (v := -1) d_MO_strict_78 (by decide) ?_
    refine jr_ireturn d_MO_strict_79 rfl rfl ?_
    exact ⟨by rw [stF_e], hM⟩
  · obtain ⟨i1, i2⟩ := hI p hp
    refine jr_iload_n d_MO_strict_24 rfl rfl ?_
    refine jr_aload_n d_MO_strict_25 rfl rfl ?_
    refine mr_get d_MO_strict_26 f_MO_157 hM rfl ?_
    rw [hn]
    refine jr_icmp_ge (tgt := 78) d_MO_strict_29 (by decide) (jl_lt (by omega) hp) (fun hc => ?_)
    refine jr_aload_n d_MO_strict_32 rfl rfl ?_
    refine mr_get d_MO_strict_33 f_MO_17 hM rfl ?_
    refine jr_aload_n d_MO_strict_36 rfl rfl ?_
    refine mr_get d_MO_strict_37 f_MO_29 hM rfl ?_
    refine jr_iload_n d_MO_strict_40 rfl rfl ?_
    refine mr_ald d_MO_strict_41 hM (by decide) rfl (by show p < 8; omega) ?_
    refine jr_bipush (v := 43) d_MO_strict_42 (by decide) ?_
    refine jr_imul d_MO_strict_44 ?_
    refine jr_iconst (v := 2) d_MO_strict_45 (by decide) ?_
    refine jr_iadd d_MO_strict_46 ?_
    refine mr_ald d_MO_strict_47 hM (by decide) (ix43 (iP a p) 2 i1 rfl) (by show 43 * iP a p + 2 < 559; omega) ?_
    refine jr_aload_n d_MO_strict_48 rfl rfl ?_
    refine mr_callP0 d_MO_strict_49 i_MO_164 hM (Nat.le_of_ble_eq_true rfl) (by decide) (c_MO_strictness hM.1 hn h8 hI) ?_
    refine jr_icmp_eq (tgt := 58) d_MO_strict_52 (by decide) (fun hc2 => ?_) (fun hc2 => ?_)
    · have hc2 : cl a p 2 = sS a n := hc2
      refine jr_iload_n d_MO_strict_58 rfl rfl ?_
      refine jr_if_ne (tgt := 69) d_MO_strict_59 (by decide) (fun hc3 => ?_) (fun hc3 => ?_)
      · refine jr_iincm1 d_MO_strict_69 rfl (by decide) ?_
        refine jr_iinc1 d_MO_strict_72 rfl (by decide) ?_
        refine jr_goto (tgt := 24) d_MO_strict_75 (by decide) ?_
        rw [nI_1, stF_s hp, if_pos hc2, if_neg hc3]
        exact ih _
      · refine jr_aload_n d_MO_strict_62 rfl rfl ?_
        refine mr_get d_MO_strict_63 f_MO_23 hM rfl ?_
        refine jr_iload_n d_MO_strict_66 rfl rfl ?_
        refine mr_ald d_MO_strict_67 hM (by decide) rfl (by show p < 8; omega) ?_
        refine jr_ireturn d_MO_strict_68 rfl rfl ?_
        exact ⟨by rw [stF_s hp, if_pos hc2, if_pos hc3], hM⟩
    · have hc2 : ¬ cl a p 2 = sS a n := hc2
      refine jr_goto (tgt := 72) d_MO_strict_55 (by decide) ?_
      refine jr_iinc1 d_MO_strict_72 rfl (by decide) ?_
      refine jr_goto (tgt := 24) d_MO_strict_75 (by decide) ?_
      rw [nI_1, stF_s hp, if_neg hc2]
      exact ih _
theorem c_MO_strict {G : jy_G} {h0 : jy_P} {f : Nat → Int32} {a : Nat → Nat → Int32} {n : Nat} (hM : Mo h0 f a) (hn : f 12 = nI n) (h8 : n ≤ 8) (hI : ixOk a n) (i : Int32) : jy_C G 2 m_MO_strict [.ref 11, .int i] h0 (mR h0 (sg f a n i)) := by
  refine jy_C.of [some (.ref 11), some (.int i), none, none] rfl (Nat.le_of_ble_eq_true rfl) ?_
  have hM := MS.rf hM
  refine jr_aload_n d_MO_strict_0 rfl rfl ?_
  refine jr_iload_n d_MO_strict_1 rfl rfl ?_
  refine jr_if_lt (tgt := 9) d_MO_strict_2 (by decide) (fun hc => ?_) (fun hc => ?_)
  · refine jr_iconst (v := 0) d_MO_strict_9 (by decide) ?_
    refine jr_iconst (v := 1) d_MO_strict_10 (by decide) ?_
    refine jr_iconst (v := 1) d_MO_strict_11 (by decide) ?_
    refine mr_call3 d_MO_strict_12 i_MO_74 hM (Nat.le_of_ble_eq_true rfl) (by decide) (c_MO_goes hM.1 false true true) (fun h hM => ?_)
    refine jr_if_ne (tgt := 20) d_MO_strict_15 (by decide) (fun q => absurd rfl q) (fun _ => ?_)
    refine jr_iconst (v := 0) d_MO_strict_18 (by decide) ?_
    refine jr_ireturn d_MO_strict_19 rfl rfl ?_
    rw [sg, if_neg (by rw [decide_eq_false (Int32.not_le.mpr hc)]; decide)]
    exact ⟨rfl, hM⟩
  · refine jr_iconst (v := 1) d_MO_strict_5 (by decide) ?_
    refine jr_goto (tgt := 10) d_MO_strict_6 (by decide) ?_
    refine jr_iconst (v := 1) d_MO_strict_10 (by decide) ?_
    refine jr_iconst (v := 1) d_MO_strict_11 (by decide) ?_
    refine mr_call3 d_MO_strict_12 i_MO_74 hM (Nat.le_of_ble_eq_true rfl) (by decide) (c_MO_goes hM.1 true true true) (fun h hM => ?_)
    refine jr_if_ne (tgt := 20) d_MO_strict_15 (by decide) (fun _ => ?_) (fun q => absurd q (by decide))
    refine jr_iload_n d_MO_strict_20 rfl rfl ?_
    refine jr_istore_n d_MO_strict_21 rfl (by decide) ?_
    refine jr_iconst (v := 0) d_MO_strict_22 (by decide) ?_
    refine jr_istore_n d_MO_strict_23 rfl (by decide) ?_
    rw [sg, if_pos (by rw [decide_eq_true (Int32.not_lt.mp hc)])]
    exact mo_strict hM hn h8 hI 0 (Nat.zero_le _) i
theorem d_MO_isPoint_0 : decode (jy_c m_MO_isPoint) 0 = .ok (.iload_n 0, 1) := by decide +kernel
theorem d_MO_isPoint_1 : decode (jy_c m_MO_isPoint) 1 = .ok (.sipush (-10000), 3) := by decide +kernel
theorem d_MO_isPoint_4 : decode (jy_c m_MO_isPoint) 4 = .ok (.sipush 10000, 3) := by decide +kernel
theorem d_MO_isPoint_7 : decode (jy_c m_MO_isPoint) 7 = .ok (.invokestatic 67, 3) := by decide +kernel
theorem d_MO_isPoint_10 : decode (jy_c m_MO_isPoint) 10 = .ok (.ifCond .eq 20, 3) := by decide +kernel
theorem d_MO_isPoint_13 : decode (jy_c m_MO_isPoint) 13 = .ok (.iload_n 1, 1) := by decide +kernel
theorem d_MO_isPoint_14 : decode (jy_c m_MO_isPoint) 14 = .ok (.sipush (-10000), 3) := by decide +kernel
theorem d_MO_isPoint_17 : decode (jy_c m_MO_isPoint) 17 = .ok (.sipush 10000, 3) := by decide +kernel
theorem d_MO_isPoint_20 : decode (jy_c m_MO_isPoint) 20 = .ok (.invokestatic 67, 3) := by decide +kernel
theorem d_MO_isPoint_23 : decode (jy_c m_MO_isPoint) 23 = .ok (.ifCond .eq 7, 3) := by decide +kernel
theorem d_MO_isPoint_26 : decode (jy_c m_MO_isPoint) 26 = .ok (.iconst 1, 1) := by decide +kernel
theorem d_MO_isPoint_27 : decode (jy_c m_MO_isPoint) 27 = .ok (.goto 4, 3) := by decide +kernel
theorem d_MO_isPoint_30 : decode (jy_c m_MO_isPoint) 30 = .ok (.iconst 0, 1) := by decide +kernel
theorem d_MO_isPoint_31 : decode (jy_c m_MO_isPoint) 31 = .ok (.ireturn, 1) := by decide +kernel
def iPt (x y : Int32) : Bool := inB x (-10000) 10000 && inB y (-10000) 10000
theorem c_MO_isPoint {G : jy_G} {h : jy_P} (x y : Int32) : jy_C G 2 m_MO_isPoint [.int x, .int y] h (pP h (some (.int (bI (iPt x y))))) := by
  refine jy_C.of [some (.int x), some (.int y)] rfl (Nat.le_refl 2) ?_
  refine jr_iload_n d_MO_isPoint_0 rfl rfl ?_
  refine jr_sipush (v := -10000) d_MO_isPoint_1 (by decide) ?_
  refine jr_sipush (v := 10000) d_MO_isPoint_4 (by decide) ?_
  refine jr_callSp3 d_MO_isPoint_7 i_MO_67 (Nat.le_of_ble_eq_true rfl) (by decide) (c_MO_within _ _ _) ?_
  refine jr_if_eq (tgt := 30) d_MO_isPoint_10 (by decide) (fun hc => ?_) (fun hc => ?_)
  · refine jr_iconst (v := 0) d_MO_isPoint_30 (by decide) ?_
    refine jr_ireturn d_MO_isPoint_31 rfl rfl ?_
    exact ⟨by rw [iPt, bI_eq0.mp hc]; rfl, rfl⟩
  · refine jr_iload_n d_MO_isPoint_13 rfl rfl ?_
    refine jr_sipush (v := -10000) d_MO_isPoint_14 (by decide) ?_
    refine jr_sipush (v := 10000) d_MO_isPoint_17 (by decide) ?_
    refine jr_callSp3 d_MO_isPoint_20 i_MO_67 (Nat.le_of_ble_eq_true rfl) (by decide) (c_MO_within _ _ _) ?_
    refine jr_if_eq (tgt := 30) d_MO_isPoint_23 (by decide) (fun hc2 => ?_) (fun hc2 => ?_)
    · refine jr_iconst (v := 0) d_MO_isPoint_30 (by decide) ?_
      refine jr_ireturn d_MO_isPoint_31 rfl rfl ?_
      exact ⟨by rw [iPt, bI_eq0.mp hc2, Bool.and_false]; rfl, rfl⟩
    · refine jr_iconst (v := 1) d_MO_isPoint_26 (by decide) ?_
      refine jr_goto (tgt := 31) d_MO_isPoint_27 (by decide) ?_
      refine jr_ireturn d_MO_isPoint_31 rfl rfl ?_
      exact ⟨by rw [iPt, bI_ne0.mp hc, bI_ne0.mp hc2]; rfl, rfl⟩
/-- the plume: far the distance, wx wy the wind -/
def plA (far wx wy x y : Int32) : Bool :=
  decide (x.toInt64 * x.toInt64 + y.toInt64 * y.toInt64 ≤ far.toInt64 * far.toInt64) && decide (0 < x.toInt64 * wx.toInt64 + y.toInt64 * wy.toInt64) &&
  decide ((x.toInt64 * x.toInt64 + y.toInt64 * y.toInt64) * (wx.toInt64 * wx.toInt64 + wy.toInt64 * wy.toInt64) ≤ 2 * (x.toInt64 * wx.toInt64 + y.toInt64 * wy.toInt64) * (x.toInt64 * wx.toInt64 + y.toInt64 * wy.toInt64))
def plm (a : Nat → Nat → Int32) (n : Nat) (dy : Bool) (wx wy x y : Int32) : Bool := if n = 0 then false else if x = 0 ∧ y = 0 then true else plA (dD a dy n) wx wy x y
theorem d_MO_isIn_0 : decode (jy_c m_MO_isIn) 0 = .ok (.aload_n 0, 1) := by decide +kernel
theorem d_MO_isIn_1 : decode (jy_c m_MO_isIn) 1 = .ok (.getfield 157, 3) := by decide +kernel
theorem d_MO_isIn_4 : decode (jy_c m_MO_isIn) 4 = .ok (.ifCond .ne 5, 3) := by decide +kernel
theorem d_MO_isIn_7 : decode (jy_c m_MO_isIn) 7 = .ok (.iconst 0, 1) := by decide +kernel
theorem d_MO_isIn_8 : decode (jy_c m_MO_isIn) 8 = .ok (.ireturn, 1) := by decide +kernel
theorem d_MO_isIn_9 : decode (jy_c m_MO_isIn) 9 = .ok (.iload_n 1, 1) := by decide +kernel
theorem d_MO_isIn_10 : decode (jy_c m_MO_isIn) 10 = .ok (.ifCond .ne 9, 3) := by decide +kernel
theorem d_MO_isIn_13 : decode (jy_c m_MO_isIn) 13 = .ok (.iload_n 2, 1) := by decide +kernel
theorem d_MO_isIn_14 : decode (jy_c m_MO_isIn) 14 = .ok (.ifCond .ne 5, 3) := by decide +kernel
theorem d_MO_isIn_17 : decode (jy_c m_MO_isIn) 17 = .ok (.iconst 1, 1) := by decide +kernel
theorem d_MO_isIn_18 : decode (jy_c m_MO_isIn) 18 = .ok (.ireturn, 1) := by decide +kernel
theorem d_MO_isIn_19 : decode (jy_c m_MO_isIn) 19 = .ok (.aload_n 0, 1) := by decide +kernel
theorem d_MO_isIn_20 : decode (jy_c m_MO_isIn) 20 = .ok (.aload_n 0, 1) := by decide +kernel
theorem d_MO_isIn_21 : decode (jy_c m_MO_isIn) 21 = .ok (.getfield 35, 3) := by decide +kernel
theorem d_MO_isIn_24 : decode (jy_c m_MO_isIn) 24 = .ok (.invokevirtual 167, 3) := by decide +kernel
theorem d_MO_isIn_27 : decode (jy_c m_MO_isIn) 27 = .ok (.i2l, 1) := by decide +kernel
theorem d_MO_isIn_28 : decode (jy_c m_MO_isIn) 28 = .ok (.lstore_n 3, 1) := by decide +kernel
theorem d_MO_isIn_29 : decode (jy_c m_MO_isIn) 29 = .ok (.iload_n 1, 1) := by decide +kernel
theorem d_MO_isIn_30 : decode (jy_c m_MO_isIn) 30 = .ok (.i2l, 1) := by decide +kernel
theorem d_MO_isIn_31 : decode (jy_c m_MO_isIn) 31 = .ok (.iload_n 1, 1) := by decide +kernel
theorem d_MO_isIn_32 : decode (jy_c m_MO_isIn) 32 = .ok (.i2l, 1) := by decide +kernel
theorem d_MO_isIn_33 : decode (jy_c m_MO_isIn) 33 = .ok (.lmul, 1) := by decide +kernel
theorem d_MO_isIn_34 : decode (jy_c m_MO_isIn) 34 = .ok (.iload_n 2, 1) := by decide +kernel
theorem d_MO_isIn_35 : decode (jy_c m_MO_isIn) 35 = .ok (.i2l, 1) := by decide +kernel
theorem d_MO_isIn_36 : decode (jy_c m_MO_isIn) 36 = .ok (.iload_n 2, 1) := by decide +kernel
theorem d_MO_isIn_37 : decode (jy_c m_MO_isIn) 37 = .ok (.i2l, 1) := by decide +kernel
theorem d_MO_isIn_38 : decode (jy_c m_MO_isIn) 38 = .ok (.lmul, 1) := by decide +kernel
theorem d_MO_isIn_39 : decode (jy_c m_MO_isIn) 39 = .ok (.ladd, 1) := by decide +kernel
theorem d_MO_isIn_40 : decode (jy_c m_MO_isIn) 40 = .ok (.lstore 5, 2) := by decide +kernel
theorem d_MO_isIn_42 : decode (jy_c m_MO_isIn) 42 = .ok (.iload_n 1, 1) := by decide +kernel
theorem d_MO_isIn_43 : decode (jy_c m_MO_isIn) 43 = .ok (.i2l, 1) := by decide +kernel
theorem d_MO_isIn_44 : decode (jy_c m_MO_isIn) 44 = .ok (.aload_n 0, 1) := by decide +kernel
theorem d_MO_isIn_45 : decode (jy_c m_MO_isIn) 45 = .ok (.getfield 32, 3) := by decide +kernel
theorem d_MO_isIn_48 : decode (jy_c m_MO_isIn) 48 = .ok (.i2l, 1) := by decide +kernel
theorem d_MO_isIn_49 : decode (jy_c m_MO_isIn) 49 = .ok (.lmul, 1) := by decide +kernel
theorem d_MO_isIn_50 : decode (jy_c m_MO_isIn) 50 = .ok (.iload_n 2, 1) := by decide +kernel
theorem d_MO_isIn_51 : decode (jy_c m_MO_isIn) 51 = .ok (.i2l, 1) := by decide +kernel
theorem d_MO_isIn_52 : decode (jy_c m_MO_isIn) 52 = .ok (.aload_n 0, 1) := by decide +kernel
theorem d_MO_isIn_53 : decode (jy_c m_MO_isIn) 53 = .ok (.getfield 171, 3) := by decide +kernel
theorem d_MO_isIn_56 : decode (jy_c m_MO_isIn) 56 = .ok (.i2l, 1) := by decide +kernel
theorem d_MO_isIn_57 : decode (jy_c m_MO_isIn) 57 = .ok (.lmul, 1) := by decide +kernel
theorem d_MO_isIn_58 : decode (jy_c m_MO_isIn) 58 = .ok (.ladd, 1) := by decide +kernel
theorem d_MO_isIn_59 : decode (jy_c m_MO_isIn) 59 = .ok (.lstore 7, 2) := by decide +kernel
theorem d_MO_isIn_61 : decode (jy_c m_MO_isIn) 61 = .ok (.lload 5, 2) := by decide +kernel
theorem d_MO_isIn_63 : decode (jy_c m_MO_isIn) 63 = .ok (.lload_n 3, 1) := by decide +kernel
theorem d_MO_isIn_64 : decode (jy_c m_MO_isIn) 64 = .ok (.lload_n 3, 1) := by decide +kernel
theorem d_MO_isIn_65 : decode (jy_c m_MO_isIn) 65 = .ok (.lmul, 1) := by decide +kernel
theorem d_MO_isIn_66 : decode (jy_c m_MO_isIn) 66 = .ok (.lcmp, 1) := by decide +kernel
theorem d_MO_isIn_67 : decode (jy_c m_MO_isIn) 67 = .ok (.ifCond .gt 53, 3) := by decide +kernel
theorem d_MO_isIn_70 : decode (jy_c m_MO_isIn) 70 = .ok (.lload 7, 2) := by decide +kernel
theorem d_MO_isIn_72 : decode (jy_c m_MO_isIn) 72 = .ok (.lconst 0, 1) := by decide +kernel
theorem d_MO_isIn_73 : decode (jy_c m_MO_isIn) 73 = .ok (.lcmp, 1) := by decide +kernel
theorem d_MO_isIn_74 : decode (jy_c m_MO_isIn) 74 = .ok (.ifCond .le 46, 3) := by decide +kernel
theorem d_MO_isIn_77 : decode (jy_c m_MO_isIn) 77 = .ok (.ldc2_w 174, 3) := by decide +kernel
theorem d_MO_isIn_80 : decode (jy_c m_MO_isIn) 80 = .ok (.lload 7, 2) := by decide +kernel
theorem d_MO_isIn_82 : decode (jy_c m_MO_isIn) 82 = .ok (.lmul, 1) := by decide +kernel
theorem d_MO_isIn_83 : decode (jy_c m_MO_isIn) 83 = .ok (.lload 7, 2) := by decide +kernel
theorem d_MO_isIn_85 : decode (jy_c m_MO_isIn) 85 = .ok (.lmul, 1) := by decide +kernel
theorem d_MO_isIn_86 : decode (jy_c m_MO_isIn) 86 = .ok (.lload 5, 2) := by decide +kernel
theorem d_MO_isIn_88 : decode (jy_c m_MO_isIn) 88 = .ok (.aload_n 0, 1) := by decide +kernel
theorem d_MO_isIn_89 : decode (jy_c m_MO_isIn) 89 = .ok (.getfield 32, 3) := by decide +kernel
theorem d_MO_isIn_92 : decode (jy_c m_MO_isIn) 92 = .ok (.i2l, 1) := by decide +kernel
theorem d_MO_isIn_93 : decode (jy_c m_MO_isIn) 93 = .ok (.aload_n 0, 1) := by decide +kernel
theorem d_MO_isIn_94 : decode (jy_c m_MO_isIn) 94 = .ok (.getfield 32, 3) := by decide +kernel
theorem d_MO_isIn_97 : decode (jy_c m_MO_isIn) 97 = .ok (.i2l, 1) := by decide +kernel
theorem d_MO_isIn_98 : decode (jy_c m_MO_isIn) 98 = .ok (.lmul, 1) := by decide +kernel
theorem d_MO_isIn_99 : decode (jy_c m_MO_isIn) 99 = .ok (.aload_n 0, 1) := by decide +kernel
theorem d_MO_isIn_100 : decode (jy_c m_MO_isIn) 100 = .ok (.getfield 171, 3) := by decide +kernel
theorem d_MO_isIn_103 : decode (jy_c m_MO_isIn) 103 = .ok (.i2l, 1) := by decide +kernel
theorem d_MO_isIn_104 : decode (jy_c m_MO_isIn) 104 = .ok (.aload_n 0, 1) := by decide +kernel
theorem d_MO_isIn_105 : decode (jy_c m_MO_isIn) 105 = .ok (.getfield 171, 3) := by decide +kernel
theorem d_MO_isIn_108 : decode (jy_c m_MO_isIn) 108 = .ok (.i2l, 1) := by decide +kernel
theorem d_MO_isIn_109 : decode (jy_c m_MO_isIn) 109 = .ok (.lmul, 1) := by decide +kernel
theorem d_MO_isIn_110 : decode (jy_c m_MO_isIn) 110 = .ok (.ladd, 1) := by decide +kernel
theorem d_MO_isIn_111 : decode (jy_c m_MO_isIn) 111 = .ok (.lmul, 1) := by decide +kernel
theorem d_MO_isIn_112 : decode (jy_c m_MO_isIn) 112 = .ok (.lcmp, 1) := by decide +kernel
theorem d_MO_isIn_113 : decode (jy_c m_MO_isIn) 113 = .ok (.ifCond .lt 7, 3) := by decide +kernel
theorem d_MO_isIn_116 : decode (jy_c m_MO_isIn) 116 = .ok (.iconst 1, 1) := by decide +kernel
theorem d_MO_isIn_117 : decode (jy_c m_MO_isIn) 117 = .ok (.goto 4, 3) := by decide +kernel
theorem d_MO_isIn_120 : decode (jy_c m_MO_isIn) 120 = .ok (.iconst 0, 1) := by decide +kernel
theorem d_MO_isIn_121 : decode (jy_c m_MO_isIn) 121 = .ok (.ireturn, 1) := by decide +kernel
theorem c_MO_isIn {G : jy_G} {h : jy_P} {f : Nat → Int32} {a : Nat → Nat → Int32} {n : Nat} {dy : Bool} (hM : Mo h f a) (hn : f 12 = nI n) (h8 : n ≤ 8) (hI : ixOk a n) (hd : f 18 = bI dy) (x y : Int32) : jy_C G 2 m_MO_isIn [.ref 11, .int x, .int y] h (pP h (some (.int (bI (plm a n dy (f 16) (f 17) x y))))) := by
  refine jy_C.of [some (.ref 11), some (.int x), some (.int y), none, none, none, none, none, none] rfl (Nat.le_of_ble_eq_true rfl) ?_
  have hM := MS.rf hM
  refine jr_aload_n d_MO_isIn_0 rfl rfl ?_
  refine mr_get d_MO_isIn_1 f_MO_157 hM rfl ?_
  rw [hn]
  refine jr_if_ne (tgt := 9) d_MO_isIn_4 (by decide) (fun hc => ?_) (fun hc => ?_)
  · have hn0 : ¬ n = 0 := fun q => hc (by rw [q]; rfl)
    have key : ¬ (x = 0 ∧ y = 0) → jy_J G 2 m_MO_isIn 19 [some (.ref 11), some (.int x), some (.int y), none, none, none, none, none, none] [] h (pP h (some (.int (bI (plm a n dy (f 16) (f 17) x y))))) := by
      intro h00
      rw [plm, if_neg hn0, if_neg h00]
      refine jr_aload_n d_MO_isIn_19 rfl rfl ?_
      refine jr_aload_n d_MO_isIn_20 rfl rfl ?_
      refine mr_get d_MO_isIn_21 f_MO_35 hM rfl ?_
      rw [hd]
      refine mr_callP1 d_MO_isIn_24 i_MO_167 hM (Nat.le_of_ble_eq_true rfl) (by decide) (c_MO_distance hM.1 hn h8 hI dy) ?_
      refine jr_i2l d_MO_isIn_27 ?_
      refine jr_lstore_n d_MO_isIn_28 rfl (by decide) ?_
      refine jr_iload_n d_MO_isIn_29 rfl rfl ?_
      refine jr_i2l d_MO_isIn_30 ?_
      refine jr_iload_n d_MO_isIn_31 rfl rfl ?_
      refine jr_i2l d_MO_isIn_32 ?_
      refine jr_lmul d_MO_isIn_33 ?_
      refine jr_iload_n d_MO_isIn_34 rfl rfl ?_
      refine jr_i2l d_MO_isIn_35 ?_
      refine jr_iload_n d_MO_isIn_36 rfl rfl ?_
      refine jr_i2l d_MO_isIn_37 ?_
      refine jr_lmul d_MO_isIn_38 ?_
      refine jr_ladd d_MO_isIn_39 ?_
      refine jr_lstore d_MO_isIn_40 (by decide) ?_
      refine jr_iload_n d_MO_isIn_42 rfl rfl ?_
      refine jr_i2l d_MO_isIn_43 ?_
      refine jr_aload_n d_MO_isIn_44 rfl rfl ?_
      refine mr_get d_MO_isIn_45 f_MO_32 hM rfl ?_
      refine jr_i2l d_MO_isIn_48 ?_
      refine jr_lmul d_MO_isIn_49 ?_
      refine jr_iload_n d_MO_isIn_50 rfl rfl ?_
      refine jr_i2l d_MO_isIn_51 ?_
      refine jr_aload_n d_MO_isIn_52 rfl rfl ?_
      refine mr_get d_MO_isIn_53 f_MO_171 hM rfl ?_
      refine jr_i2l d_MO_isIn_56 ?_
      refine jr_lmul d_MO_isIn_57 ?_
      refine jr_ladd d_MO_isIn_58 ?_
      refine jr_lstore d_MO_isIn_59 (by decide) ?_
      refine jr_lload d_MO_isIn_61 rfl ?_
      refine jr_lload_n d_MO_isIn_63 rfl rfl ?_
      refine jr_lload_n d_MO_isIn_64 rfl rfl ?_
      refine jr_lmul d_MO_isIn_65 ?_
      refine jr_lcmp d_MO_isIn_66 ?_
      refine jr_if_gt (tgt := 120) d_MO_isIn_67 (by decide) (fun hc1 => ?_) (fun hc1 => ?_)
      · have e1 := (lg_cmp_gt _ _).mp hc1
        refine jr_iconst (v := 0) d_MO_isIn_120 (by decide) ?_
        refine jr_ireturn d_MO_isIn_121 rfl rfl ?_
        exact ⟨by rw [plA, decide_eq_false (Int64.not_le.mpr e1)]; rfl, rfl⟩
      · have e1 := Int64.not_lt.mp (fun q => hc1 ((lg_cmp_gt _ _).mpr q))
        refine jr_lload d_MO_isIn_70 rfl ?_
        refine jr_lconst (v := 0) d_MO_isIn_72 (by decide) ?_
        refine jr_lcmp d_MO_isIn_73 ?_
        refine jr_if_le (tgt := 120) d_MO_isIn_74 (by decide) (fun hc2 => ?_) (fun hc2 => ?_)
        · have e2 := (lg_cmp_le _ _).mp hc2
          refine jr_iconst (v := 0) d_MO_isIn_120 (by decide) ?_
          refine jr_ireturn d_MO_isIn_121 rfl rfl ?_
          exact ⟨by rw [plA, decide_eq_false (Int64.not_lt.mpr e2), Bool.and_false]; rfl, rfl⟩
        · have e2 := Int64.not_le.mp (fun q => hc2 ((lg_cmp_le _ _).mpr q))
          refine jr_ldc2 d_MO_isIn_77 w_MO_174 ?_
          refine jr_lload d_MO_isIn_80 rfl ?_
          refine jr_lmul d_MO_isIn_82 ?_
          refine jr_lload d_MO_isIn_83 rfl ?_
          refine jr_lmul d_MO_isIn_85 ?_
          refine jr_lload d_MO_isIn_86 rfl ?_
          refine jr_aload_n d_MO_isIn_88 rfl rfl ?_
          refine mr_get d_MO_isIn_89 f_MO_32 hM rfl ?_
          refine jr_i2l d_MO_isIn_92 ?_
          refine jr_aload_n d_MO_isIn_93 rfl rfl ?_
          refine mr_get d_MO_isIn_94 f_MO_32 hM rfl ?_
          refine jr_i2l d_MO_isIn_97 ?_
          refine jr_lmul d_MO_isIn_98 ?_
          refine jr_aload_n d_MO_isIn_99 rfl rfl ?_
          refine mr_get d_MO_isIn_100 f_MO_171 hM rfl ?_
          refine jr_i2l d_MO_isIn_103 ?_
          refine jr_aload_n d_MO_isIn_104 rfl rfl ?_
          refine mr_get d_MO_isIn_105 f_MO_171 hM rfl ?_
          refine jr_i2l d_MO_isIn_108 ?_
          refine jr_lmul d_MO_isIn_109 ?_
          refine jr_ladd d_MO_isIn_110 ?_
          refine jr_lmul d_MO_isIn_111 ?_
          refine jr_lcmp d_MO_isIn_112 ?_
          refine jr_if_lt (tgt := 120) d_MO_isIn_113 (by decide) (fun hc3 => ?_) (fun hc3 => ?_)
          · have e3 := (lg_cmp_lt _ _).mp hc3
            refine jr_iconst (v := 0) d_MO_isIn_120 (by decide) ?_
            refine jr_ireturn d_MO_isIn_121 rfl rfl ?_
            exact ⟨by rw [plA, decide_eq_false (Int64.not_le.mpr e3), Bool.and_false]; rfl, rfl⟩
          · have e3 := Int64.not_lt.mp (fun q => hc3 ((lg_cmp_lt _ _).mpr q))
            refine jr_iconst (v := 1) d_MO_isIn_116 (by decide) ?_
            refine jr_goto (tgt := 121) d_MO_isIn_117 (by decide) ?_
            refine jr_ireturn d_MO_isIn_121 rfl rfl ?_
            exact ⟨by rw [plA, decide_eq_true e1, decide_eq_true e2, decide_eq_true e3]; rfl, rfl⟩
    refine jr_iload_n d_MO_isIn_9 rfl rfl ?_
    refine jr_if_ne (tgt := 19) d_MO_isIn_10 (by decide) (fun hc2 => key (fun q => hc2 q.1)) (fun hc2 => ?_)
    refine jr_iload_n d_MO_isIn_13 rfl rfl ?_
    refine jr_if_ne (tgt := 19) d_MO_isIn_14 (by decide) (fun hc3 => key (fun q => hc3 q.2)) (fun hc3 => ?_)
    refine jr_iconst (v := 1) d_MO_isIn_17 (by decide) ?_
    refine jr_ireturn d_MO_isIn_18 rfl rfl ?_
    exact ⟨by rw [plm, if_neg hn0, if_pos ⟨hc2, hc3⟩]; rfl, rfl⟩
  · have hn0 : n = 0 := (nI_eq (by omega) (b := 0) (by decide)).mp hc
    refine jr_iconst (v := 0) d_MO_isIn_7 (by decide) ?_
    refine jr_ireturn d_MO_isIn_8 rfl rfl ?_
    exact ⟨by rw [plm, if_pos hn0]; rfl, rfl⟩
def bdA (a : Nat → Nat → Int32) (b : Nat) (x y : Int32) : Nat → Nat → Int32 := upd2 (upd2 a 18 b x) 19 b y
def bdG (b : Nat) (x y : Int32) : Bool := iPt x y && decide (b < 40) && true
def bd (f : Nat → Int32) (a : Nat → Nat → Int32) (b : Nat) (x y : Int32) : Rs := if bdG b x y = true then (nI b, upd (upd f 0 0) 19 (nI (b + 1)), bdA a b x y) else (0, upd f 0 (gT (iPt x y) (decide (b < 40)) true), a)
theorem d_MO_building_0 : decode (jy_c m_MO_building) 0 = .ok (.aload_n 0, 1) := by decide +kernel
theorem d_MO_building_1 : decode (jy_c m_MO_building) 1 = .ok (.iload_n 1, 1) := by decide +kernel
theorem d_MO_building_2 : decode (jy_c m_MO_building) 2 = .ok (.iload_n 2, 1) := by decide +kernel
theorem d_MO_building_3 : decode (jy_c m_MO_building) 3 = .ok (.invokestatic 176, 3) := by decide +kernel
theorem d_MO_building_6 : decode (jy_c m_MO_building) 6 = .ok (.aload_n 0, 1) := by decide +kernel
theorem d_MO_building_7 : decode (jy_c m_MO_building) 7 = .ok (.getfield 179, 3) := by decide +kernel
theorem d_MO_building_10 : decode (jy_c m_MO_building) 10 = .ok (.bipush 40, 2) := by decide +kernel
theorem d_MO_building_12 : decode (jy_c m_MO_building) 12 = .ok (.if_icmp .ge 7, 3) := by decide +kernel
theorem d_MO_building_15 : decode (jy_c m_MO_building) 15 = .ok (.iconst 1, 1) := by decide +kernel
theorem d_MO_building_16 : decode (jy_c m_MO_building) 16 = .ok (.goto 4, 3) := by decide +kernel
theorem d_MO_building_19 : decode (jy_c m_MO_building) 19 = .ok (.iconst 0, 1) := by decide +kernel
theorem d_MO_building_20 : decode (jy_c m_MO_building) 20 = .ok (.iconst 1, 1) := by decide +kernel
theorem d_MO_building_21 : decode (jy_c m_MO_building) 21 = .ok (.invokevirtual 74, 3) := by decide +kernel
theorem d_MO_building_24 : decode (jy_c m_MO_building) 24 = .ok (.ifCond .ne 5, 3) := by decide +kernel
theorem d_MO_building_27 : decode (jy_c m_MO_building) 27 = .ok (.iconst 0, 1) := by decide +kernel
theorem d_MO_building_28 : decode (jy_c m_MO_building) 28 = .ok (.ireturn, 1) := by decide +kernel
theorem d_MO_building_29 : decode (jy_c m_MO_building) 29 = .ok (.aload_n 0, 1) := by decide +kernel
theorem d_MO_building_30 : decode (jy_c m_MO_building) 30 = .ok (.getfield 39, 3) := by decide +kernel
theorem d_MO_building_33 : decode (jy_c m_MO_building) 33 = .ok (.aload_n 0, 1) := by decide +kernel
theorem d_MO_building_34 : decode (jy_c m_MO_building) 34 = .ok (.getfield 179, 3) := by decide +kernel
theorem d_MO_building_37 : decode (jy_c m_MO_building) 37 = .ok (.iload_n 1, 1) := by decide +kernel
theorem d_MO_building_38 : decode (jy_c m_MO_building) 38 = .ok (.iastore, 1) := by decide +kernel
theorem d_MO_building_39 : decode (jy_c m_MO_building) 39 = .ok (.aload_n 0, 1) := by decide +kernel
theorem d_MO_building_40 : decode (jy_c m_MO_building) 40 = .ok (.getfield 42, 3) := by decide +kernel
theorem d_MO_building_43 : decode (jy_c m_MO_building) 43 = .ok (.aload_n 0, 1) := by decide +kernel
theorem d_MO_building_44 : decode (jy_c m_MO_building) 44 = .ok (.getfield 179, 3) := by decide +kernel
theorem d_MO_building_47 : decode (jy_c m_MO_building) 47 = .ok (.iload_n 2, 1) := by decide +kernel
theorem d_MO_building_48 : decode (jy_c m_MO_building) 48 = .ok (.iastore, 1) := by decide +kernel
theorem d_MO_building_49 : decode (jy_c m_MO_building) 49 = .ok (.aload_n 0, 1) := by decide +kernel
theorem d_MO_building_50 : decode (jy_c m_MO_building) 50 = .ok (.dup, 1) := by decide +kernel
theorem d_MO_building_51 : decode (jy_c m_MO_building) 51 = .ok (.getfield 179, 3) := by decide +kernel
theorem d_MO_building_54 : decode (jy_c m_MO_building) 54 = .ok (.iconst 1, 1) := by decide +kernel
theorem d_MO_building_55 : decode (jy_c m_MO_building) 55 = .ok (.iadd, 1) := by decide +kernel
theorem d_MO_building_56 : decode (jy_c m_MO_building) 56 = .ok (.putfield 179, 3) := by decide +kernel
theorem d_MO_building_59 : decode (jy_c m_MO_building) 59 = .ok (.aload_n 0, 1) := by decide +kernel
theorem d_MO_building_60 : decode (jy_c m_MO_building) 60 = .ok (.getfield 179, 3) := by decide +kernel
theorem d_MO_building_63 : decode (jy_c m_MO_building) 63 = .ok (.iconst 1, 1) := by decide +kernel
theorem d_MO_building_64 : decode (jy_c m_MO_building) 64 = .ok (.isub, 1) := by decide +kernel
theorem d_MO_building_65 : decode (jy_c m_MO_building) 65 = .ok (.ireturn, 1) := by decide +kernel
theorem c_MO_building {G : jy_G} {h0 : jy_P} {f : Nat → Int32} {a : Nat → Nat → Int32} {b : Nat} (hM : Mo h0 f a) (hn : f 19 = nI b) (h40 : b ≤ 40) (x y : Int32) : jy_C G 3 m_MO_building [.ref 11, .int x, .int y] h0 (mR h0 (bd f a b x y)) := by
  refine jy_C.of [some (.ref 11), some (.int x), some (.int y)] rfl (Nat.le_refl 3) ?_
  have hM := MS.rf hM
  generalize hg : mR h0 (bd f a b x y) = P
  refine jr_aload_n d_MO_building_0 rfl rfl ?_
  refine jr_iload_n d_MO_building_1 rfl rfl ?_
  refine jr_iload_n d_MO_building_2 rfl rfl ?_
  refine jr_callSp2 d_MO_building_3 i_MO_176 (Nat.le_of_ble_eq_true rfl) (by decide) (c_MO_isPoint _ _) ?_
  refine jr_aload_n d_MO_building_6 rfl rfl ?_
  refine mr_get d_MO_building_7 f_MO_179 hM rfl ?_
  refine jr_bipush (v := 40) d_MO_building_10 (by decide) ?_
  rw [hn]
  refine jy_cut2 20 (fun z => z = bI (decide (b < 40))) (fun K => ?_) (fun z hz => ?_)
  · refine jr_icmp_ge (tgt := 19) d_MO_building_12 (by decide) (fun hc => ?_) (fun hc => ?_)
    · refine jr_iconst (v := 0) d_MO_building_19 (by decide) ?_
      exact K _ (by rw [(not_lt8 (c := 40) (by omega) (by decide)).1 hc]; rfl)
    · refine jr_iconst (v := 1) d_MO_building_15 (by decide) ?_
      refine jr_goto (tgt := 20) d_MO_building_16 (by decide) ?_
      exact K _ (by rw [(not_lt8 (c := 40) (by omega) (by decide)).2 hc]; rfl)
  subst hz
  refine jr_iconst (v := 1) d_MO_building_20 (by decide) ?_
  refine mr_call3 d_MO_building_21 i_MO_74 hM (Nat.le_of_ble_eq_true rfl) (by decide) (c_MO_goes hM.1 _ _ true) (fun h hM => ?_)
  refine jr_if_ne (tgt := 29) d_MO_building_24 (by decide) (fun hc => ?_) (fun hc => ?_)
  · have hG := bI_ne0.mp hc
    have g1 := hG
    rw [Bool.and_true, Bool.and_eq_true] at g1
    have g2 : b < 40 := of_decide_eq_true g1.2
    have e0 : gT (iPt x y) (decide (b < 40)) true = 0 := by rw [g1.1, g1.2]; rfl
    rw [e0] at hM
    have hP : P = mP h0 (some (.int (nI b))) (upd (upd f 0 0) 19 (nI (b + 1))) (bdA a b x y) := by
      rw [← hg, bd, if_pos (show bdG b x y = true from hG)]; rfl
    rw [hP]
    refine jr_aload_n d_MO_building_29 rfl rfl ?_
    refine mr_get d_MO_building_30 f_MO_39 hM rfl ?_
    refine jr_aload_n d_MO_building_33 rfl rfl ?_
    refine mr_get d_MO_building_34 f_MO_179 hM rfl ?_
    refine jr_iload_n d_MO_building_37 rfl rfl ?_
    refine mr_ast d_MO_building_38 hM (by decide) hn g2 (fun h hM => ?_)
    refine jr_aload_n d_MO_building_39 rfl rfl ?_
    refine mr_get d_MO_building_40 f_MO_42 hM rfl ?_
    refine jr_aload_n d_MO_building_43 rfl rfl ?_
    refine mr_get d_MO_building_44 f_MO_179 hM rfl ?_
    refine jr_iload_n d_MO_building_47 rfl rfl ?_
    refine mr_ast d_MO_building_48 hM (by decide) hn g2 (fun h hM => ?_)
    refine jr_aload_n d_MO_building_49 rfl rfl ?_
    refine jr_dup d_MO_building_50 rfl ?_
    refine mr_get d_MO_building_51 f_MO_179 hM rfl ?_
    refine jr_iconst (v := 1) d_MO_building_54 (by decide) ?_
    refine jr_iadd d_MO_building_55 ?_
    refine mr_put d_MO_building_56 f_MO_179 rfl hM (fun h hM => ?_)
    refine jr_aload_n d_MO_building_59 rfl rfl ?_
    refine mr_get d_MO_building_60 f_MO_179 hM rfl ?_
    refine jr_iconst (v := 1) d_MO_building_63 (by decide) ?_
    refine jr_isub d_MO_building_64 ?_
    refine jr_ireturn d_MO_building_65 rfl rfl ?_
    have e1 : upd f 0 0 19 + 1 = nI (b + 1) := by show f 19 + 1 = _; rw [hn, nI_1]
    rw [e1] at hM ⊢
    exact ⟨by rw [upd_s, nI_pred], hM⟩
  · have hG := bI_eq0.mp hc
    have hP : P = mP h0 (some (.int 0)) (upd f 0 (gT (iPt x y) (decide (b < 40)) true)) a := by
      rw [← hg, bd, if_neg (by rw [show bdG b x y = false from hG]; decide)]; rfl
    rw [hP]
    refine jr_iconst (v := 0) d_MO_building_27 (by decide) ?_
    refine jr_ireturn d_MO_building_28 rfl rfl ?_
    exact ⟨rfl, hM⟩
