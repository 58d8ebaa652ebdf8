/-! the class: wind, add -/
/-- all but buildings are kept -/
def Nb (h h' : jy_P) : Prop := (∀ (i : Nat) (c : Nat × List Value), h[i]? = some c → (i < 26 ∨ c.1 ≠ 6) → h'[i]? = some c) ∧ h'.length = h.length
theorem Nb.rf {h : jy_P} : Nb h h := ⟨fun _ _ q _ => q, rfl⟩
theorem Nb.tr {h h1 h2 : jy_P} (p : Nb h h1) (q : Nb h1 h2) : Nb h h2 := ⟨fun i c w n => q.1 i c (p.1 i c w n) n, q.2.trans p.2⟩
theorem Nb.set {h : jy_P} {i : Nat} {v : List Value} {c : Nat × List Value} (hi : 26 ≤ i) (w : h[i]? = some (6, v)) : Nb h (h.set i c) := by
  refine ⟨fun j d q n => ?_, by simp⟩
  by_cases e : i = j
  · subst e
    rw [w] at q
    cases q
    rcases n with n | n
    · omega
    · exact absurd rfl n
  · rw [List.getElem?_set_ne e]
    exact q
theorem Nb.kt {h h' : jy_P} (q : Nb h h') : Kt h h' := fun i c w _ n => q.1 i c w (Or.inr n)
theorem BA.put {h : jy_P} {a : Nat → Nat → Int32} {nb : Nat} {fl : Nat → Bool} {bx : Nat → Nat} {k : Nat} (b : Bool) (q : BA h a nb fl bx) (hk : k < nb) : BA (h.set (bx k) (6, [.int (a 18 k), .int (a 19 k), .int (bI b)])) a nb (fun j => if j = k then b else fl j) bx := by
  obtain ⟨⟨bv, v1, v2, v3⟩, inj⟩ := q
  obtain ⟨k1, k2, k3⟩ := v3 k hk
  refine ⟨⟨bv, by rw [List.getElem?_set_ne (by omega)]; exact v1, v2, fun j hj => ?_⟩, inj⟩
  obtain ⟨x1, x2, x3⟩ := v3 j hj
  refine ⟨x1, x2, ?_⟩
  by_cases e : j = k
  · subst e
    simp only [if_true]
    exact gs_eq x3
  · rw [List.getElem?_set_ne (fun q => e (inj j k hj hk q.symm))]
    simp only [if_neg e]
    exact x3
theorem BA.cg {h : jy_P} {a : Nat → Nat → Int32} {nb : Nat} {fl fl' : Nat → Bool} {bx : Nat → Nat} (q : BA h a nb fl bx) (e : ∀ k, k < nb → fl k = fl' k) : BA h a nb fl' bx := by
  obtain ⟨⟨bv, v1, v2, v3⟩, inj⟩ := q
  refine ⟨⟨bv, v1, v2, fun j hj => ?_⟩, inj⟩
  rw [← e j hj]
  exact v3 j hj
section CW
variable {G : jy_G} {h h0 : jy_P} {f : Nat → Int32} {a : Nat → Nat → Int32} {T m : Nat} {g : Bool} {np nb : Nat} {fl : Nat → Bool} {bx : Nat → Nat} {t s : Nat} {dy : Bool}
theorem d_HT_wind_0 : decode (jy_c m_HT_wind) 0 = .ok (.iload_n 1, 1) := by decide +kernel
theorem d_HT_wind_1 : decode (jy_c m_HT_wind) 1 = .ok (.bipush (-100), 2) := by decide +kernel
theorem d_HT_wind_3 : decode (jy_c m_HT_wind) 3 = .ok (.bipush 100, 2) := by decide +kernel
theorem d_HT_wind_5 : decode (jy_c m_HT_wind) 5 = .ok (.invokestatic 72, 3) := by decide +kernel
theorem d_HT_wind_8 : decode (jy_c m_HT_wind) 8 = .ok (.ifCond .eq 26, 3) := by decide +kernel
theorem d_HT_wind_11 : decode (jy_c m_HT_wind) 11 = .ok (.iload_n 2, 1) := by decide +kernel
theorem d_HT_wind_12 : decode (jy_c m_HT_wind) 12 = .ok (.bipush (-100), 2) := by decide +kernel
theorem d_HT_wind_14 : decode (jy_c m_HT_wind) 14 = .ok (.bipush 100, 2) := by decide +kernel
theorem d_HT_wind_16 : decode (jy_c m_HT_wind) 16 = .ok (.invokestatic 72, 3) := by decide +kernel
theorem d_HT_wind_19 : decode (jy_c m_HT_wind) 19 = .ok (.ifCond .eq 15, 3) := by decide +kernel
theorem d_HT_wind_22 : decode (jy_c m_HT_wind) 22 = .ok (.iload_n 1, 1) := by decide +kernel
theorem d_HT_wind_23 : decode (jy_c m_HT_wind) 23 = .ok (.ifCond .ne 7, 3) := by decide +kernel
theorem d_HT_wind_26 : decode (jy_c m_HT_wind) 26 = .ok (.iload_n 2, 1) := by decide +kernel
theorem d_HT_wind_27 : decode (jy_c m_HT_wind) 27 = .ok (.ifCond .eq 7, 3) := by decide +kernel
theorem d_HT_wind_30 : decode (jy_c m_HT_wind) 30 = .ok (.iconst 1, 1) := by decide +kernel
theorem d_HT_wind_31 : decode (jy_c m_HT_wind) 31 = .ok (.goto 4, 3) := by decide +kernel
theorem d_HT_wind_34 : decode (jy_c m_HT_wind) 34 = .ok (.iconst 0, 1) := by decide +kernel
theorem d_HT_wind_35 : decode (jy_c m_HT_wind) 35 = .ok (.invokestatic 76, 3) := by decide +kernel
theorem d_HT_wind_38 : decode (jy_c m_HT_wind) 38 = .ok (.iconst 0, 1) := by decide +kernel
theorem d_HT_wind_39 : decode (jy_c m_HT_wind) 39 = .ok (.istore 4, 2) := by decide +kernel
theorem d_HT_wind_41 : decode (jy_c m_HT_wind) 41 = .ok (.iload 4, 2) := by decide +kernel
theorem d_HT_wind_43 : decode (jy_c m_HT_wind) 43 = .ok (.aload_n 0, 1) := by decide +kernel
theorem d_HT_wind_44 : decode (jy_c m_HT_wind) 44 = .ok (.getfield 208, 3) := by decide +kernel
theorem d_HT_wind_47 : decode (jy_c m_HT_wind) 47 = .ok (.if_icmp .ge 51, 3) := by decide +kernel
theorem d_HT_wind_50 : decode (jy_c m_HT_wind) 50 = .ok (.aload_n 0, 1) := by decide +kernel
theorem d_HT_wind_51 : decode (jy_c m_HT_wind) 51 = .ok (.getfield 43, 3) := by decide +kernel
theorem d_HT_wind_54 : decode (jy_c m_HT_wind) 54 = .ok (.iload 4, 2) := by decide +kernel
theorem d_HT_wind_56 : decode (jy_c m_HT_wind) 56 = .ok (.aaload, 1) := by decide +kernel
theorem d_HT_wind_57 : decode (jy_c m_HT_wind) 57 = .ok (.aload_n 0, 1) := by decide +kernel
theorem d_HT_wind_58 : decode (jy_c m_HT_wind) 58 = .ok (.aload_n 0, 1) := by decide +kernel
theorem d_HT_wind_59 : decode (jy_c m_HT_wind) 59 = .ok (.getfield 43, 3) := by decide +kernel
theorem d_HT_wind_62 : decode (jy_c m_HT_wind) 62 = .ok (.iload 4, 2) := by decide +kernel
theorem d_HT_wind_64 : decode (jy_c m_HT_wind) 64 = .ok (.aaload, 1) := by decide +kernel
theorem d_HT_wind_65 : decode (jy_c m_HT_wind) 65 = .ok (.getfield 219, 3) := by decide +kernel
theorem d_HT_wind_68 : decode (jy_c m_HT_wind) 68 = .ok (.aload_n 0, 1) := by decide +kernel
theorem d_HT_wind_69 : decode (jy_c m_HT_wind) 69 = .ok (.getfield 43, 3) := by decide +kernel
theorem d_HT_wind_72 : decode (jy_c m_HT_wind) 72 = .ok (.iload 4, 2) := by decide +kernel
theorem d_HT_wind_74 : decode (jy_c m_HT_wind) 74 = .ok (.aaload, 1) := by decide +kernel
theorem d_HT_wind_75 : decode (jy_c m_HT_wind) 75 = .ok (.getfield 222, 3) := by decide +kernel
theorem d_HT_wind_78 : decode (jy_c m_HT_wind) 78 = .ok (.invokevirtual 225, 3) := by decide +kernel
theorem d_HT_wind_81 : decode (jy_c m_HT_wind) 81 = .ok (.ifCond .ne 7, 3) := by decide +kernel
theorem d_HT_wind_84 : decode (jy_c m_HT_wind) 84 = .ok (.iconst 1, 1) := by decide +kernel
theorem d_HT_wind_85 : decode (jy_c m_HT_wind) 85 = .ok (.goto 4, 3) := by decide +kernel
theorem d_HT_wind_88 : decode (jy_c m_HT_wind) 88 = .ok (.iconst 0, 1) := by decide +kernel
theorem d_HT_wind_89 : decode (jy_c m_HT_wind) 89 = .ok (.putfield 228, 3) := by decide +kernel
theorem d_HT_wind_92 : decode (jy_c m_HT_wind) 92 = .ok (.iinc 4 1, 3) := by decide +kernel
theorem d_HT_wind_95 : decode (jy_c m_HT_wind) 95 = .ok (.goto (-54), 3) := by decide +kernel
theorem d_HT_wind_98 : decode (jy_c m_HT_wind) 98 = .ok (.aload_n 0, 1) := by decide +kernel
theorem d_HT_wind_99 : decode (jy_c m_HT_wind) 99 = .ok (.iload_n 1, 1) := by decide +kernel
theorem d_HT_wind_100 : decode (jy_c m_HT_wind) 100 = .ok (.putfield 47, 3) := by decide +kernel
theorem d_HT_wind_103 : decode (jy_c m_HT_wind) 103 = .ok (.aload_n 0, 1) := by decide +kernel
theorem d_HT_wind_104 : decode (jy_c m_HT_wind) 104 = .ok (.iload_n 2, 1) := by decide +kernel
theorem d_HT_wind_105 : decode (jy_c m_HT_wind) 105 = .ok (.putfield 214, 3) := by decide +kernel
theorem d_HT_wind_108 : decode (jy_c m_HT_wind) 108 = .ok (.aload_n 0, 1) := by decide +kernel
theorem d_HT_wind_109 : decode (jy_c m_HT_wind) 109 = .ok (.iload_n 3, 1) := by decide +kernel
theorem d_HT_wind_110 : decode (jy_c m_HT_wind) 110 = .ok (.putfield 53, 3) := by decide +kernel
theorem d_HT_wind_113 : decode (jy_c m_HT_wind) 113 = .ok (.iconst 0, 1) := by decide +kernel
theorem d_HT_wind_114 : decode (jy_c m_HT_wind) 114 = .ok (.istore 4, 2) := by decide +kernel
theorem d_HT_wind_116 : decode (jy_c m_HT_wind) 116 = .ok (.iconst 0, 1) := by decide +kernel
theorem d_HT_wind_117 : decode (jy_c m_HT_wind) 117 = .ok (.istore 5, 2) := by decide +kernel
theorem d_HT_wind_119 : decode (jy_c m_HT_wind) 119 = .ok (.iload 5, 2) := by decide +kernel
theorem d_HT_wind_121 : decode (jy_c m_HT_wind) 121 = .ok (.aload_n 0, 1) := by decide +kernel
theorem d_HT_wind_122 : decode (jy_c m_HT_wind) 122 = .ok (.getfield 208, 3) := by decide +kernel
theorem d_HT_wind_125 : decode (jy_c m_HT_wind) 125 = .ok (.if_icmp .ge 53, 3) := by decide +kernel
theorem d_HT_wind_128 : decode (jy_c m_HT_wind) 128 = .ok (.aload_n 0, 1) := by decide +kernel
theorem d_HT_wind_129 : decode (jy_c m_HT_wind) 129 = .ok (.getfield 43, 3) := by decide +kernel
theorem d_HT_wind_132 : decode (jy_c m_HT_wind) 132 = .ok (.iload 5, 2) := by decide +kernel
theorem d_HT_wind_134 : decode (jy_c m_HT_wind) 134 = .ok (.aaload, 1) := by decide +kernel
theorem d_HT_wind_135 : decode (jy_c m_HT_wind) 135 = .ok (.astore 6, 2) := by decide +kernel
theorem d_HT_wind_137 : decode (jy_c m_HT_wind) 137 = .ok (.aload 6, 2) := by decide +kernel
theorem d_HT_wind_139 : decode (jy_c m_HT_wind) 139 = .ok (.dup, 1) := by decide +kernel
theorem d_HT_wind_140 : decode (jy_c m_HT_wind) 140 = .ok (.getfield 228, 3) := by decide +kernel
theorem d_HT_wind_143 : decode (jy_c m_HT_wind) 143 = .ok (.aload_n 0, 1) := by decide +kernel
theorem d_HT_wind_144 : decode (jy_c m_HT_wind) 144 = .ok (.aload 6, 2) := by decide +kernel
theorem d_HT_wind_146 : decode (jy_c m_HT_wind) 146 = .ok (.getfield 219, 3) := by decide +kernel
theorem d_HT_wind_149 : decode (jy_c m_HT_wind) 149 = .ok (.aload 6, 2) := by decide +kernel
theorem d_HT_wind_151 : decode (jy_c m_HT_wind) 151 = .ok (.getfield 222, 3) := by decide +kernel
theorem d_HT_wind_154 : decode (jy_c m_HT_wind) 154 = .ok (.invokevirtual 225, 3) := by decide +kernel
theorem d_HT_wind_157 : decode (jy_c m_HT_wind) 157 = .ok (.iand, 1) := by decide +kernel
theorem d_HT_wind_158 : decode (jy_c m_HT_wind) 158 = .ok (.putfield 228, 3) := by decide +kernel
theorem d_HT_wind_161 : decode (jy_c m_HT_wind) 161 = .ok (.aload 6, 2) := by decide +kernel
theorem d_HT_wind_163 : decode (jy_c m_HT_wind) 163 = .ok (.getfield 228, 3) := by decide +kernel
theorem d_HT_wind_166 : decode (jy_c m_HT_wind) 166 = .ok (.ifCond .eq 6, 3) := by decide +kernel
theorem d_HT_wind_169 : decode (jy_c m_HT_wind) 169 = .ok (.iinc 4 1, 3) := by decide +kernel
theorem d_HT_wind_172 : decode (jy_c m_HT_wind) 172 = .ok (.iinc 5 1, 3) := by decide +kernel
theorem d_HT_wind_175 : decode (jy_c m_HT_wind) 175 = .ok (.goto (-56), 3) := by decide +kernel
theorem d_HT_wind_178 : decode (jy_c m_HT_wind) 178 = .ok (.iload 4, 2) := by decide +kernel
theorem d_HT_wind_180 : decode (jy_c m_HT_wind) 180 = .ok (.ireturn, 1) := by decide +kernel
theorem ht_wind1 {x y z : Int32} {l5 l6 : Option Value} {P : Outcome → jy_P → Prop} (h1 : h0[1]? = some (0, cf T f)) (hp : PA h0 a np) (hn : f 12 = nI np) (h8 : np ≤ 8) (hd : f 18 = bI dy) (hb : f 19 = nI nb) (h40 : nb ≤ 40) (hpt : ∀ k, k < nb → iPt (a 18 k) (a 19 k) = true)
    (K : ∀ h, Nb h0 h → BA h a nb (fun k => !wd0 f a np dy k) bx → jy_J G 13 m_HT_wind 98 [some (.ref 1), some (.int x), some (.int y), some (.int z), some (.int (nI nb)), l5, l6] [] h P) :
    ∀ p, p ≤ nb → ∀ h fl, Nb h0 h → BA h a nb fl bx → (∀ k, k < p → fl k = !wd0 f a np dy k) → jy_J G 13 m_HT_wind 41 [some (.ref 1), some (.int x), some (.int y), some (.int z), some (.int (nI p)), l5, l6] [] h P := by
  refine jl_up nb _ (fun h fl hN hB hf => ?_) (fun p hp2 ih h fl hN hB hf => ?_)
  · have h1 := hN.1 _ _ h1 (Or.inl (by decide))
    refine jr_iload d_HT_wind_41 rfl ?_
    refine jr_aload_n d_HT_wind_43 rfl rfl ?_
    refine jr_get d_HT_wind_44 f_HT_208 h1 rfl ?_
    rw [hb]
    exact jr_icmp_ge (tgt := 98) d_HT_wind_47 (by decide) (fun _ => K h hN (hB.cg hf)) (jl_eq (by omega))
  · have h1 := hN.1 _ _ h1 (Or.inl (by decide))
    have hp := hp.kt hN.kt (fun c w => hN.1 _ _ w (Or.inl (by decide)))
    have hB0 := hB
    obtain ⟨⟨bv, v1, v2, v3⟩, inj⟩ := hB0
    obtain ⟨x1, x2, x3⟩ := v3 p hp2
    refine jr_iload d_HT_wind_41 rfl ?_
    refine jr_aload_n d_HT_wind_43 rfl rfl ?_
    refine jr_get d_HT_wind_44 f_HT_208 h1 rfl ?_
    rw [hb]
    refine jr_icmp_ge (tgt := 98) d_HT_wind_47 (by decide) (jl_lt (by omega) hp2) (fun _ => ?_)
    refine jr_aload_n d_HT_wind_50 rfl rfl ?_
    refine jr_get d_HT_wind_51 f_HT_43 h1 rfl ?_
    refine jr_iload d_HT_wind_54 rfl ?_
    refine cr_aald d_HT_wind_56 rfl rfl v1 rfl x1 (by omega) ?_
    refine jr_aload_n d_HT_wind_57 rfl rfl ?_
    refine jr_aload_n d_HT_wind_58 rfl rfl ?_
    refine jr_get d_HT_wind_59 f_HT_43 h1 rfl ?_
    refine jr_iload d_HT_wind_62 rfl ?_
    refine cr_aald d_HT_wind_64 rfl rfl v1 rfl x1 (by omega) ?_
    refine jr_get d_HT_wind_65 f_HT_219 x3 rfl ?_
    refine jr_aload_n d_HT_wind_68 rfl rfl ?_
    refine jr_get d_HT_wind_69 f_HT_43 h1 rfl ?_
    refine jr_iload d_HT_wind_72 rfl ?_
    refine cr_aald d_HT_wind_74 rfl rfl v1 rfl x1 (by omega) ?_
    refine jr_get d_HT_wind_75 f_HT_222 x3 rfl ?_
    refine jr_callVp2 d_HT_wind_78 i_HT_225 h1 (Nat.le_of_ble_eq_true rfl) (by decide) (c_HT_isInPlume h1 hp hn h8 hd (hpt p hp2)) ?_
    refine jy_cut1 89 (fun w => w = bI (!wd0 f a np dy p)) (fun C => ?_) (fun w hw => ?_)
    · refine jr_if_ne (tgt := 88) d_HT_wind_81 (by decide) (fun hc => ?_) (fun hc => ?_)
      · refine jr_iconst (v := 0) d_HT_wind_88 (by decide) ?_
        exact C _ (by rw [wd0, bI_ne0.mp hc]; rfl)
      · refine jr_iconst (v := 1) d_HT_wind_84 (by decide) ?_
        refine jr_goto (tgt := 89) d_HT_wind_85 (by decide) ?_
        exact C _ (by rw [wd0, bI_eq0.mp hc]; rfl)
    subst hw
    refine jr_put d_HT_wind_89 f_HT_228 (jy_fv_bool (bI_01 _)) (by omega) x3 rfl ?_
    refine jr_iinc1 d_HT_wind_92 rfl (by decide) ?_
    refine jr_goto (tgt := 41) d_HT_wind_95 (by decide) ?_
    rw [nI_1]
    refine ih _ _ (hN.tr (Nb.set x2 x3)) (hB.put (!wd0 f a np dy p) hp2) (fun k hk => ?_)
    by_cases e : k = p
    · subst e; simp only [if_true]
    · simp only [if_neg e]
      exact hf k (by omega)
theorem ht_wind2 {x y z : Int32} {g0 : Nat → Bool} (h1 : h0[1]? = some (0, cf T f)) (hp : PA h0 a np) (hn : f 12 = nI np) (h8 : np ≤ 8) (hd : f 18 = bI dy) (hb : f 19 = nI nb) (h40 : nb ≤ 40) (hpt : ∀ k, k < nb → iPt (a 18 k) (a 19 k) = true) :
    ∀ p, p ≤ nb → ∀ h fl l6, Nb h0 h → BA h a nb fl bx → (∀ k, k < nb → fl k = if k < p then (g0 k && plm a np dy (f 16) (f 17) (a 18 k) (a 19 k)) else g0 k) → jy_J G 13 m_HT_wind 119 [some (.ref 1), some (.int x), some (.int y), some (.int z), some (.int (nI (cnt (fun k => g0 k && plm a np dy (f 16) (f 17) (a 18 k) (a 19 k)) p))), some (.int (nI p)), l6] [] h (fun o h' => o = .returned (some (.int (nI (cnt (fun k => g0 k && plm a np dy (f 16) (f 17) (a 18 k) (a 19 k)) nb)))) ∧ Nb h0 h' ∧ BA h' a nb (fun k => g0 k && plm a np dy (f 16) (f 17) (a 18 k) (a 19 k)) bx) := by
  refine jl_up nb _ (fun h fl l6 hN hB hf => ?_) (fun p hp2 ih h fl l6 hN hB hf => ?_)
  · have h1 := hN.1 _ _ h1 (Or.inl (by decide))
    refine jr_iload d_HT_wind_119 rfl ?_
    refine jr_aload_n d_HT_wind_121 rfl rfl ?_
    refine jr_get d_HT_wind_122 f_HT_208 h1 rfl ?_
    rw [hb]
    refine jr_icmp_ge (tgt := 178) d_HT_wind_125 (by decide) (fun _ => ?_) (jl_eq (by omega))
    refine jr_iload d_HT_wind_178 rfl ?_
    refine jr_ireturn d_HT_wind_180 rfl rfl ?_
    exact ⟨rfl, hN, hB.cg (fun k hk => by rw [hf k hk, if_pos hk])⟩
  · have h1 := hN.1 _ _ h1 (Or.inl (by decide))
    have hp := hp.kt hN.kt (fun c w => hN.1 _ _ w (Or.inl (by decide)))
    have hB0 := hB
    obtain ⟨⟨bv, v1, v2, v3⟩, inj⟩ := hB0
    obtain ⟨x1, x2, x3⟩ := v3 p hp2
    have hfp : fl p = g0 p := by rw [hf p hp2, if_neg (by omega)]
    rw [hfp] at x3
    refine jr_iload d_HT_wind_119 rfl ?_
    refine jr_aload_n d_HT_wind_121 rfl rfl ?_
    refine jr_get d_HT_wind_122 f_HT_208 h1 rfl ?_
    rw [hb]
    refine jr_icmp_ge (tgt := 178) d_HT_wind_125 (by decide) (jl_lt (by omega) hp2) (fun _ => ?_)
    refine jr_aload_n d_HT_wind_128 rfl rfl ?_
    refine jr_get d_HT_wind_129 f_HT_43 h1 rfl ?_
    refine jr_iload d_HT_wind_132 rfl ?_
    refine cr_aald d_HT_wind_134 rfl rfl v1 rfl x1 (by omega) ?_
    refine jr_astore d_HT_wind_135 (by decide) ?_
    refine jr_aload d_HT_wind_137 rfl ?_
    refine jr_dup d_HT_wind_139 rfl ?_
    refine jr_get d_HT_wind_140 f_HT_228 x3 rfl ?_
    refine jr_aload_n d_HT_wind_143 rfl rfl ?_
    refine jr_aload d_HT_wind_144 rfl ?_
    refine jr_get d_HT_wind_146 f_HT_219 x3 rfl ?_
    refine jr_aload d_HT_wind_149 rfl ?_
    refine jr_get d_HT_wind_151 f_HT_222 x3 rfl ?_
    refine jr_callVp2 d_HT_wind_154 i_HT_225 h1 (Nat.le_of_ble_eq_true rfl) (by decide) (c_HT_isInPlume h1 hp hn h8 hd (hpt p hp2)) ?_
    refine jr_iand d_HT_wind_157 ?_
    have e0 : bI (g0 p) &&& bI (plm a np dy (f 16) (f 17) (a 18 p) (a 19 p)) = bI (g0 p && plm a np dy (f 16) (f 17) (a 18 p) (a 19 p)) := by
      cases g0 p <;> cases plm a np dy (f 16) (f 17) (a 18 p) (a 19 p) <;> decide
    rw [e0]
    refine jr_put d_HT_wind_158 f_HT_228 (jy_fv_bool (bI_01 _)) (by omega) x3 rfl ?_
    refine jr_aload d_HT_wind_161 rfl ?_
    refine jr_get d_HT_wind_163 f_HT_228 (gs_eq x3) rfl ?_
    have nxt : ∀ k, k < nb → (fun j => if j = p then (g0 p && plm a np dy (f 16) (f 17) (a 18 p) (a 19 p)) else fl j) k = if k < p + 1 then (g0 k && plm a np dy (f 16) (f 17) (a 18 k) (a 19 k)) else g0 k := by
      intro k hk
      by_cases e : k = p
      · subst e
        simp
      · simp only [if_neg e, hf k hk]
        by_cases e2 : k < p
        · rw [if_pos e2, if_pos (by omega)]
        · rw [if_neg e2, if_neg (by omega)]
    refine jr_if_eq (tgt := 172) d_HT_wind_166 (by decide) (fun hc => ?_) (fun hc => ?_)
    · have e1 : cnt (fun k => g0 k && plm a np dy (f 16) (f 17) (a 18 k) (a 19 k)) (p + 1) = cnt (fun k => g0 k && plm a np dy (f 16) (f 17) (a 18 k) (a 19 k)) p := by
        show _ + (if (g0 p && plm a np dy (f 16) (f 17) (a 18 p) (a 19 p)) = true then 1 else 0) = _
        rw [bI_eq0.mp hc]; rfl
      refine jr_iinc1 d_HT_wind_172 rfl (by decide) ?_
      refine jr_goto (tgt := 119) d_HT_wind_175 (by decide) ?_
      rw [nI_1]
      have := ih _ _ (some (.ref (bx p))) (hN.tr (Nb.set x2 x3)) (hB.put _ hp2) nxt
      rw [e1] at this
      exact this
    · have e1 : cnt (fun k => g0 k && plm a np dy (f 16) (f 17) (a 18 k) (a 19 k)) (p + 1) = cnt (fun k => g0 k && plm a np dy (f 16) (f 17) (a 18 k) (a 19 k)) p + 1 := by
        show _ + (if (g0 p && plm a np dy (f 16) (f 17) (a 18 p) (a 19 p)) = true then 1 else 0) = _
        rw [bI_ne0.mp hc]; rfl
      refine jr_iinc1 d_HT_wind_169 rfl (by decide) ?_
      refine jr_iinc1 d_HT_wind_172 rfl (by decide) ?_
      refine jr_goto (tgt := 119) d_HT_wind_175 (by decide) ?_
      rw [nI_1, nI_1]
      have := ih _ _ (some (.ref (bx p))) (hN.tr (Nb.set x2 x3)) (hB.put _ hp2) nxt
      rw [e1] at this
      exact this
theorem c_HT_wind (hC : Comp h0 f a T m g np nb fl bx t s) (hn : f 12 = nI np) (h8 : np ≤ 8) (hd : f 18 = bI dy) (hb : f 19 = nI nb) (h40 : nb ≤ 40) (hpt : ∀ k, k < nb → iPt (a 18 k) (a 19 k) = true) (hK : h0.length < jy_K) (x y : Int32) (dz : Bool) : jy_C G 13 m_HT_wind [.ref 1, .int x, .int y, .int (bI dz)] h0 (opP h0 (ex3 (wdB x y) 9 true 0 true 0) (some (.int (nI (cnt (wd1 f a np dy x y dz) nb)))) (fun h' => Comp h' (upd (upd (upd f 16 x) 17 y) 18 (bI dz)) a T m g np nb (wd1 f a np dy x y dz) bx t s ∧ Fx h0 h')) := by
  refine jy_C.of [some (.ref 1), some (.int x), some (.int y), some (.int (bI dz)), none, none, none] rfl (Nat.le_of_ble_eq_true rfl) ?_
  refine jr_iload_n d_HT_wind_0 rfl rfl ?_
  refine jr_bipush (v := -100) d_HT_wind_1 (by decide) ?_
  refine jr_bipush (v := 100) d_HT_wind_3 (by decide) ?_
  refine jr_callSp3 d_HT_wind_5 i_HT_72 (Nat.le_of_ble_eq_true rfl) (by decide) (c_HT_isIn _ _ _) ?_
  refine jy_cut1 35 (fun z => z = bI (wdB x y)) (fun K => ?_) (fun z hz => ?_)
  · refine jr_if_eq (tgt := 34) d_HT_wind_8 (by decide) (fun hc => ?_) (fun hc => ?_)
    · refine jr_iconst (v := 0) d_HT_wind_34 (by decide) ?_
      exact K _ (by rw [wdB, bI_eq0.mp hc]; rfl)
    · refine jr_iload_n d_HT_wind_11 rfl rfl ?_
      refine jr_bipush (v := -100) d_HT_wind_12 (by decide) ?_
      refine jr_bipush (v := 100) d_HT_wind_14 (by decide) ?_
      refine jr_callSp3 d_HT_wind_16 i_HT_72 (Nat.le_of_ble_eq_true rfl) (by decide) (c_HT_isIn _ _ _) ?_
      refine jr_if_eq (tgt := 34) d_HT_wind_19 (by decide) (fun hc2 => ?_) (fun hc2 => ?_)
      · refine jr_iconst (v := 0) d_HT_wind_34 (by decide) ?_
        exact K _ (by rw [wdB, bI_eq0.mp hc2, Bool.and_false]; rfl)
      · refine jr_iload_n d_HT_wind_22 rfl rfl ?_
        refine jr_if_ne (tgt := 30) d_HT_wind_23 (by decide) (fun hc3 => ?_) (fun hc3 => ?_)
        · refine jr_iconst (v := 1) d_HT_wind_30 (by decide) ?_
          refine jr_goto (tgt := 35) d_HT_wind_31 (by decide) ?_
          exact K _ (by rw [wdB, bI_ne0.mp hc, bI_ne0.mp hc2, decide_eq_true hc3]; rfl)
        · refine jr_iload_n d_HT_wind_26 rfl rfl ?_
          refine jr_if_eq (tgt := 34) d_HT_wind_27 (by decide) (fun hc4 => ?_) (fun hc4 => ?_)
          · refine jr_iconst (v := 0) d_HT_wind_34 (by decide) ?_
            exact K _ (by rw [wdB, bI_ne0.mp hc, bI_ne0.mp hc2, decide_eq_false (fun q => q hc3), decide_eq_false (fun q => q hc4)]; rfl)
          · refine jr_iconst (v := 1) d_HT_wind_30 (by decide) ?_
            refine jr_goto (tgt := 35) d_HT_wind_31 (by decide) ?_
            exact K _ (by rw [wdB, bI_ne0.mp hc, bI_ne0.mp hc2, decide_eq_true hc4, Bool.or_true]; rfl)
  subst hz
  refine jr_guard d_HT_wind_35 i_HT_76 (g_within hK) (Nat.le_of_ble_eq_true rfl) (by decide) (fun _ hq => by cases hq) (fun hc => ?_) (fun hc => opP.ex (by rw [bI_eq0.mp hc]; rfl) (by decide))
  have g1 := bI_ne0.mp hc
  rw [show ex3 (wdB x y) 9 true 0 true 0 = 0 by rw [g1]; rfl]
  obtain ⟨c1, ⟨at_, c2⟩, ⟨tb, c3, c3'⟩, c4, c5, ⟨wb, c6, c6'⟩, ⟨rw_, c7⟩, c8, c9, c10⟩ := hC
  refine jr_iconst (v := 0) d_HT_wind_38 (by decide) ?_
  refine jr_istore d_HT_wind_39 (by decide) ?_
  refine ht_wind1 (h0 := h0) (f := f) (a := a) (dy := dy) c1 c8 hn h8 hd hb h40 hpt (fun hA hN hB => ?_) 0 (Nat.zero_le _) h0 fl Nb.rf c9 (fun k hk => by omega)
  have h1 := hN.1 _ _ c1 (Or.inl (by decide))
  have kt0 := hN.kt
  refine jr_aload_n d_HT_wind_98 rfl rfl ?_
  refine jr_iload_n d_HT_wind_99 rfl rfl ?_
  refine hp_put d_HT_wind_100 f_HT_47 (i := 16) rfl h1 (fun h hE100 h1 => ?_)
  refine jr_aload_n d_HT_wind_103 rfl rfl ?_
  refine jr_iload_n d_HT_wind_104 rfl rfl ?_
  refine hp_put d_HT_wind_105 f_HT_214 (i := 17) rfl h1 (fun h hE105 h1 => ?_)
  refine jr_aload_n d_HT_wind_108 rfl rfl ?_
  refine jr_iload_n d_HT_wind_109 rfl rfl ?_
  refine hpz_put d_HT_wind_110 f_HT_53 (i := 18) rfl (bI_01 _) h1 (fun h hE110 h1 => ?_)
  refine jr_iconst (v := 0) d_HT_wind_113 (by decide) ?_
  refine jr_istore d_HT_wind_114 (by decide) ?_
  refine jr_iconst (v := 0) d_HT_wind_116 (by decide) ?_
  refine jr_istore d_HT_wind_117 (by decide) ?_
  have s1 : St (fun i => i = 1) hA h := by
    rw [hE110, hE105, hE100]
    exact ((St.set (X := fun i => i = 1) rfl).tr (St.set rfl)).tr (St.set rfl)
  have hlen : h.length = h0.length := by
    rw [hE110, hE105, hE100]
    simp [hN.2]
  have sA : ∀ (i : Nat) (c : Nat × List Value), h0[i]? = some c → (i < 26 ∨ c.1 ≠ 6) → i ≠ 1 → h[i]? = some c := fun i c w n e => s1 i c (hN.1 i c w n) e
  have kt1 : Kt h0 h := fun i c w n e => sA i c w (Or.inr e) (by omega)
  have hB1 : BA h a nb (fun k => !wd0 f a np dy k) bx := hB.st (fun i c w n => s1 i c w (by omega))
  have hp8 : ∀ c, h0[8]? = some c → h[8]? = some c := fun c w => sA 8 c w (Or.inl (by decide)) (by decide)
  refine (ht_wind2 (h0 := h) (f := upd (upd (upd f 16 x) 17 y) 18 (bI dz)) (a := a) (dy := dz) (g0 := fun k => !wd0 f a np dy k) h1 (c8.kt kt1 hp8) hn h8 rfl hb h40 hpt 0 (Nat.zero_le _) h _ _ Nb.rf hB1 (fun k hk => by rw [if_neg (by omega)])).mono (fun o h' w => ?_)
  obtain ⟨w1, w2, w3⟩ := w
  have sB : ∀ (i : Nat) (c : Nat × List Value), h0[i]? = some c → (i < 26 ∨ c.1 ≠ 6) → i ≠ 1 → h'[i]? = some c := fun i c q n e => w2.1 i c (sA i c q n e) n
  have kt2 : Kt h0 h' := fun i c q n e => sB i c q (Or.inr e) (by omega)
  refine Or.inl ⟨rfl, w1, ⟨w2.1 _ _ h1 (Or.inl (by decide)), ⟨at_, sB _ _ c2 (Or.inl (by decide)) (by decide)⟩, ⟨tb, sB _ _ c3 (Or.inl (by decide)) (by decide), c3'⟩, c4, c5.kt c4 kt2, ⟨wb, sB _ _ c6 (Or.inl (by decide)) (by decide), c6'⟩, ⟨rw_, sB _ _ c7 (Or.inl (by decide)) (by decide)⟩, c8.kt kt2 (fun c q => w2.1 _ _ (hp8 c q) (Or.inl (by decide))), w3, sB _ _ c10 (Or.inl (by decide)) (by decide)⟩, fun i c q n => sB i c q (Or.inl (by omega)) (by omega), by rw [w2.2, hlen]; omega, by rw [w2.2, hlen]; omega⟩
end CW
theorem d_PT_init_0 : decode (jy_c m_PT_init) 0 = .ok (.aload_n 0, 1) := by decide +kernel
theorem d_PT_init_1 : decode (jy_c m_PT_init) 1 = .ok (.invokespecial 3, 3) := by decide +kernel
theorem d_PT_init_4 : decode (jy_c m_PT_init) 4 = .ok (.aload_n 0, 1) := by decide +kernel
theorem d_PT_init_5 : decode (jy_c m_PT_init) 5 = .ok (.iload_n 1, 1) := by decide +kernel
theorem d_PT_init_6 : decode (jy_c m_PT_init) 6 = .ok (.putfield 9, 3) := by decide +kernel
theorem d_PT_init_9 : decode (jy_c m_PT_init) 9 = .ok (.aload_n 0, 1) := by decide +kernel
theorem d_PT_init_10 : decode (jy_c m_PT_init) 10 = .ok (.aload_n 2, 1) := by decide +kernel
theorem d_PT_init_11 : decode (jy_c m_PT_init) 11 = .ok (.putfield 15, 3) := by decide +kernel
theorem d_PT_init_14 : decode (jy_c m_PT_init) 14 = .ok (.aload_n 0, 1) := by decide +kernel
theorem d_PT_init_15 : decode (jy_c m_PT_init) 15 = .ok (.aload_n 3, 1) := by decide +kernel
theorem d_PT_init_16 : decode (jy_c m_PT_init) 16 = .ok (.putfield 19, 3) := by decide +kernel
theorem d_PT_init_19 : decode (jy_c m_PT_init) 19 = .ok (.aload_n 0, 1) := by decide +kernel
theorem d_PT_init_20 : decode (jy_c m_PT_init) 20 = .ok (.iload 4, 2) := by decide +kernel
theorem d_PT_init_22 : decode (jy_c m_PT_init) 22 = .ok (.sipush 200, 3) := by decide +kernel
theorem d_PT_init_25 : decode (jy_c m_PT_init) 25 = .ok (.if_icmp .le 7, 3) := by decide +kernel
theorem d_PT_init_28 : decode (jy_c m_PT_init) 28 = .ok (.iconst 1, 1) := by decide +kernel
theorem d_PT_init_29 : decode (jy_c m_PT_init) 29 = .ok (.goto 4, 3) := by decide +kernel
theorem d_PT_init_32 : decode (jy_c m_PT_init) 32 = .ok (.iconst 0, 1) := by decide +kernel
theorem d_PT_init_33 : decode (jy_c m_PT_init) 33 = .ok (.putfield 23, 3) := by decide +kernel
theorem d_PT_init_36 : decode (jy_c m_PT_init) 36 = .ok (.return_, 1) := by decide +kernel
theorem c_PT_init {G : jy_G} {h : jy_P} {X dv : Nat} {mv : Value} (hX : 0 < X) (ho : h[X]? = some (5, [.int 0, .null, .null, .int 0])) (hm : mv = .null ∨ ∃ y, mv = .ref y) (n l : Int32) : jy_C G 2 m_PT_init [.ref X, .int n, mv, .ref dv, .int l] h (fun o h' => o = .returned none ∧ h' = h.set X (5, [.int n, mv, .ref dv, .int (bI (decide (200 < l)))])) := by
  have key : ∀ mv, jy_fv (.object "HazardTables$Material") mv → mv.category = 1 → (∀ {G d P h}, jy_J G d m_PT_init 11 [some (.ref X), some (.int n), some mv, some (.ref dv), some (.int l)] [mv, .ref X] h P → jy_J G d m_PT_init 10 [some (.ref X), some (.int n), some mv, some (.ref dv), some (.int l)] [.ref X] h P) → jy_C G 2 m_PT_init [.ref X, .int n, mv, .ref dv, .int l] h (fun o h' => o = .returned none ∧ h' = h.set X (5, [.int n, mv, .ref dv, .int (bI (decide (200 < l)))])) := by
    intro mv hfv hcat hld
    refine jy_C.of [some (.ref X), some (.int n), some mv, some (.ref dv), some (.int l)] (by cases mv <;> first | rfl | cases hcat) (by cases mv <;> first | exact Nat.le_of_ble_eq_true rfl | cases hcat) ?_
    refine jr_aload_n d_PT_init_0 rfl rfl ?_
    refine jr_objInit d_PT_init_1 o_PT_3 o_inst o_code (by decide) (Nat.le_of_ble_eq_true rfl) ?_
    refine jr_aload_n d_PT_init_4 rfl rfl ?_
    refine jr_iload_n d_PT_init_5 rfl rfl ?_
    refine jr_putF d_PT_init_6 f_PT_9 rfl rfl jy_fv_int hX ho rfl ?_
    refine jr_aload_n d_PT_init_9 rfl rfl ?_
    refine hld ?_
    have o1 : (h.set X (5, [.int n, .null, .null, .int 0]))[X]? = some (5, [.int n, .null, .null, .int 0]) := gs_eq ho
    refine jr_putF d_PT_init_11 f_PT_15 rfl rfl hfv hX o1 rfl ?_
    refine jr_aload_n d_PT_init_14 rfl rfl ?_
    refine jr_aload_n d_PT_init_15 rfl rfl ?_
    have o2 : ((h.set X (5, [.int n, .null, .null, .int 0])).set X (5, [.int n, mv, .null, .int 0]))[X]? = some (5, [.int n, mv, .null, .int 0]) := gs_eq o1
    refine jr_putF d_PT_init_16 f_PT_19 rfl rfl jy_fv_ref hX o2 rfl ?_
    have o3 : (((h.set X (5, [.int n, .null, .null, .int 0])).set X (5, [.int n, mv, .null, .int 0])).set X (5, [.int n, mv, .ref dv, .int 0]))[X]? = some (5, [.int n, mv, .ref dv, .int 0]) := gs_eq o2
    refine jr_aload_n d_PT_init_19 rfl rfl ?_
    refine jr_iload d_PT_init_20 rfl ?_
    refine jr_sipush (v := 200) d_PT_init_22 (by decide) ?_
    refine jy_cut2 33 (fun z => z = bI (decide (200 < l))) (fun K => ?_) (fun z hz => ?_)
    · refine jr_icmp_le (tgt := 32) d_PT_init_25 (by decide) (fun hc => ?_) (fun hc => ?_)
      · refine jr_iconst (v := 0) d_PT_init_32 (by decide) ?_
        exact K _ (by rw [decide_eq_false (Int32.not_lt.mpr hc)]; rfl)
      · refine jr_iconst (v := 1) d_PT_init_28 (by decide) ?_
        refine jr_goto (tgt := 33) d_PT_init_29 (by decide) ?_
        exact K _ (by rw [decide_eq_true (Int32.not_le.mp hc)]; rfl)
    subst hz
    refine jr_putF d_PT_init_33 f_PT_23 rfl rfl (jy_fv_bool (bI_01 _)) hX o3 rfl ?_
    refine jr_return d_PT_init_36 rfl ?_
    exact ⟨rfl, by simp [List.set_set]⟩
  rcases hm with rfl | ⟨y, rfl⟩
  · exact key _ jy_fv_null rfl (fun k => jr_aload_nN d_PT_init_10 rfl rfl k)
  · exact key _ jy_fv_ref rfl (fun k => jr_aload_n d_PT_init_10 rfl rfl k)

section CA
variable {G : jy_G} {h0 : jy_P} {f : Nat → Int32} {a : Nat → Nat → Int32} {T m : Nat} {g : Bool} {np nb : Nat} {fl : Nat → Bool} {bx : Nat → Nat} {t s : Nat}
theorem adA_13 {p k : Nat} {n l : Int32} {B : Nat} (h1 : B ≠ 15) (h2 : B ≠ 16) (h3 : B ≠ 17) : adA a p n l k B = a B := by
  unfold adA
  rw [upd2_n h3, upd2_n h2, upd2_n h1]
theorem adA_iP {p k q : Nat} {n l : Int32} (hq : q ≠ p) : iP (adA a p n l k) q = iP a q := by
  show (upd (a 17) p (nI k) q).toNatClampNeg = _
  rw [upd_n hq]; rfl
theorem adA_iPp {p k : Nat} {n l : Int32} (hk : k ≤ 12) : iP (adA a p n l k) p = k := by
  show (upd (a 17) p (nI k) p).toNatClampNeg = _
  rw [upd_s, nI_clamp (by omega)]
theorem d_HT_add_0 : decode (jy_c m_HT_add) 0 = .ok (.aload_n 0, 1) := by decide +kernel
theorem d_HT_add_1 : decode (jy_c m_HT_add) 1 = .ok (.getfield 19, 3) := by decide +kernel
theorem d_HT_add_4 : decode (jy_c m_HT_add) 4 = .ok (.iload_n 1, 1) := by decide +kernel
theorem d_HT_add_5 : decode (jy_c m_HT_add) 5 = .ok (.invokevirtual 111, 3) := by decide +kernel
theorem d_HT_add_8 : decode (jy_c m_HT_add) 8 = .ok (.astore_n 3, 1) := by decide +kernel
theorem d_HT_add_9 : decode (jy_c m_HT_add) 9 = .ok (.aload_n 3, 1) := by decide +kernel
theorem d_HT_add_10 : decode (jy_c m_HT_add) 10 = .ok (.ifnonnull 13, 3) := by decide +kernel
theorem d_HT_add_13 : decode (jy_c m_HT_add) 13 = .ok (.aload_n 0, 1) := by decide +kernel
theorem d_HT_add_14 : decode (jy_c m_HT_add) 14 = .ok (.getfield 19, 3) := by decide +kernel
theorem d_HT_add_17 : decode (jy_c m_HT_add) 17 = .ok (.getfield 115, 3) := by decide +kernel
theorem d_HT_add_20 : decode (jy_c m_HT_add) 20 = .ok (.goto 7, 3) := by decide +kernel
theorem d_HT_add_23 : decode (jy_c m_HT_add) 23 = .ok (.aload_n 3, 1) := by decide +kernel
theorem d_HT_add_24 : decode (jy_c m_HT_add) 24 = .ok (.getfield 119, 3) := by decide +kernel
theorem d_HT_add_27 : decode (jy_c m_HT_add) 27 = .ok (.astore 4, 2) := by decide +kernel
theorem d_HT_add_29 : decode (jy_c m_HT_add) 29 = .ok (.aload 4, 2) := by decide +kernel
theorem d_HT_add_31 : decode (jy_c m_HT_add) 31 = .ok (.ifnull 7, 3) := by decide +kernel
theorem d_HT_add_34 : decode (jy_c m_HT_add) 34 = .ok (.iconst 1, 1) := by decide +kernel
theorem d_HT_add_35 : decode (jy_c m_HT_add) 35 = .ok (.goto 4, 3) := by decide +kernel
theorem d_HT_add_38 : decode (jy_c m_HT_add) 38 = .ok (.iconst 0, 1) := by decide +kernel
theorem d_HT_add_39 : decode (jy_c m_HT_add) 39 = .ok (.invokestatic 108, 3) := by decide +kernel
theorem d_HT_add_42 : decode (jy_c m_HT_add) 42 = .ok (.iload_n 1, 1) := by decide +kernel
theorem d_HT_add_43 : decode (jy_c m_HT_add) 43 = .ok (.iconst 1, 1) := by decide +kernel
theorem d_HT_add_44 : decode (jy_c m_HT_add) 44 = .ok (.sipush 9999, 3) := by decide +kernel
theorem d_HT_add_47 : decode (jy_c m_HT_add) 47 = .ok (.invokestatic 72, 3) := by decide +kernel
theorem d_HT_add_50 : decode (jy_c m_HT_add) 50 = .ok (.ifCond .eq 17, 3) := by decide +kernel
theorem d_HT_add_53 : decode (jy_c m_HT_add) 53 = .ok (.iload_n 2, 1) := by decide +kernel
theorem d_HT_add_54 : decode (jy_c m_HT_add) 54 = .ok (.iconst 1, 1) := by decide +kernel
theorem d_HT_add_55 : decode (jy_c m_HT_add) 55 = .ok (.ldc 172, 2) := by decide +kernel
theorem d_HT_add_57 : decode (jy_c m_HT_add) 57 = .ok (.invokestatic 72, 3) := by decide +kernel
theorem d_HT_add_60 : decode (jy_c m_HT_add) 60 = .ok (.ifCond .eq 7, 3) := by decide +kernel
theorem d_HT_add_63 : decode (jy_c m_HT_add) 63 = .ok (.iconst 1, 1) := by decide +kernel
theorem d_HT_add_64 : decode (jy_c m_HT_add) 64 = .ok (.goto 4, 3) := by decide +kernel
theorem d_HT_add_67 : decode (jy_c m_HT_add) 67 = .ok (.iconst 0, 1) := by decide +kernel
theorem d_HT_add_68 : decode (jy_c m_HT_add) 68 = .ok (.invokestatic 76, 3) := by decide +kernel
theorem d_HT_add_71 : decode (jy_c m_HT_add) 71 = .ok (.aload_n 0, 1) := by decide +kernel
theorem d_HT_add_72 : decode (jy_c m_HT_add) 72 = .ok (.getfield 173, 3) := by decide +kernel
theorem d_HT_add_75 : decode (jy_c m_HT_add) 75 = .ok (.bipush 8, 2) := by decide +kernel
theorem d_HT_add_77 : decode (jy_c m_HT_add) 77 = .ok (.if_icmp .ge 7, 3) := by decide +kernel
theorem d_HT_add_80 : decode (jy_c m_HT_add) 80 = .ok (.iconst 1, 1) := by decide +kernel
theorem d_HT_add_81 : decode (jy_c m_HT_add) 81 = .ok (.goto 4, 3) := by decide +kernel
theorem d_HT_add_84 : decode (jy_c m_HT_add) 84 = .ok (.iconst 0, 1) := by decide +kernel
theorem d_HT_add_85 : decode (jy_c m_HT_add) 85 = .ok (.invokestatic 83, 3) := by decide +kernel
theorem d_HT_add_88 : decode (jy_c m_HT_add) 88 = .ok (.new 35, 3) := by decide +kernel
theorem d_HT_add_91 : decode (jy_c m_HT_add) 91 = .ok (.dup, 1) := by decide +kernel
theorem d_HT_add_92 : decode (jy_c m_HT_add) 92 = .ok (.iload_n 1, 1) := by decide +kernel
theorem d_HT_add_93 : decode (jy_c m_HT_add) 93 = .ok (.aload_n 3, 1) := by decide +kernel
theorem d_HT_add_94 : decode (jy_c m_HT_add) 94 = .ok (.aload 4, 2) := by decide +kernel
theorem d_HT_add_96 : decode (jy_c m_HT_add) 96 = .ok (.iload_n 2, 1) := by decide +kernel
theorem d_HT_add_97 : decode (jy_c m_HT_add) 97 = .ok (.invokespecial 176, 3) := by decide +kernel
theorem d_HT_add_100 : decode (jy_c m_HT_add) 100 = .ok (.astore 5, 2) := by decide +kernel
theorem d_HT_add_102 : decode (jy_c m_HT_add) 102 = .ok (.iconst 0, 1) := by decide +kernel
theorem d_HT_add_103 : decode (jy_c m_HT_add) 103 = .ok (.istore 6, 2) := by decide +kernel
theorem d_HT_add_105 : decode (jy_c m_HT_add) 105 = .ok (.iconst 0, 1) := by decide +kernel
theorem d_HT_add_106 : decode (jy_c m_HT_add) 106 = .ok (.istore 7, 2) := by decide +kernel
theorem d_HT_add_108 : decode (jy_c m_HT_add) 108 = .ok (.iload 7, 2) := by decide +kernel
theorem d_HT_add_110 : decode (jy_c m_HT_add) 110 = .ok (.aload_n 0, 1) := by decide +kernel
theorem d_HT_add_111 : decode (jy_c m_HT_add) 111 = .ok (.getfield 173, 3) := by decide +kernel
theorem d_HT_add_114 : decode (jy_c m_HT_add) 114 = .ok (.if_icmp .ge 27, 3) := by decide +kernel
theorem d_HT_add_117 : decode (jy_c m_HT_add) 117 = .ok (.aload_n 0, 1) := by decide +kernel
theorem d_HT_add_118 : decode (jy_c m_HT_add) 118 = .ok (.getfield 37, 3) := by decide +kernel
theorem d_HT_add_121 : decode (jy_c m_HT_add) 121 = .ok (.iload 7, 2) := by decide +kernel
theorem d_HT_add_123 : decode (jy_c m_HT_add) 123 = .ok (.aaload, 1) := by decide +kernel
theorem d_HT_add_124 : decode (jy_c m_HT_add) 124 = .ok (.aload 5, 2) := by decide +kernel
theorem d_HT_add_126 : decode (jy_c m_HT_add) 126 = .ok (.invokevirtual 179, 3) := by decide +kernel
theorem d_HT_add_129 : decode (jy_c m_HT_add) 129 = .ok (.ifCond .eq 6, 3) := by decide +kernel
theorem d_HT_add_132 : decode (jy_c m_HT_add) 132 = .ok (.iinc 6 1, 3) := by decide +kernel
theorem d_HT_add_135 : decode (jy_c m_HT_add) 135 = .ok (.iinc 7 1, 3) := by decide +kernel
theorem d_HT_add_138 : decode (jy_c m_HT_add) 138 = .ok (.goto (-30), 3) := by decide +kernel
theorem d_HT_add_141 : decode (jy_c m_HT_add) 141 = .ok (.aload_n 0, 1) := by decide +kernel
theorem d_HT_add_142 : decode (jy_c m_HT_add) 142 = .ok (.getfield 37, 3) := by decide +kernel
theorem d_HT_add_145 : decode (jy_c m_HT_add) 145 = .ok (.aload_n 0, 1) := by decide +kernel
theorem d_HT_add_146 : decode (jy_c m_HT_add) 146 = .ok (.dup, 1) := by decide +kernel
theorem d_HT_add_147 : decode (jy_c m_HT_add) 147 = .ok (.getfield 173, 3) := by decide +kernel
theorem d_HT_add_150 : decode (jy_c m_HT_add) 150 = .ok (.dup_x1, 1) := by decide +kernel
theorem d_HT_add_151 : decode (jy_c m_HT_add) 151 = .ok (.iconst 1, 1) := by decide +kernel
theorem d_HT_add_152 : decode (jy_c m_HT_add) 152 = .ok (.iadd, 1) := by decide +kernel
theorem d_HT_add_153 : decode (jy_c m_HT_add) 153 = .ok (.putfield 173, 3) := by decide +kernel
theorem d_HT_add_156 : decode (jy_c m_HT_add) 156 = .ok (.aload 5, 2) := by decide +kernel
theorem d_HT_add_158 : decode (jy_c m_HT_add) 158 = .ok (.aastore, 1) := by decide +kernel
theorem d_HT_add_159 : decode (jy_c m_HT_add) 159 = .ok (.iload 6, 2) := by decide +kernel
theorem d_HT_add_161 : decode (jy_c m_HT_add) 161 = .ok (.ireturn, 1) := by decide +kernel
theorem ht_add {h : jy_P} {n : Int32} {v3 v4 : Option Value} {X k : Nat} {lg : Int32} (h1 : h[1]? = some (0, cf T f)) (hp : PA h a np) (hX : PRep h X n lg (a 13) k) (hn : f 12 = nI np) (h8 : np ≤ 8) {P : Outcome → jy_P → Prop} {l2 : Int32}
    (K : jy_J G 13 m_HT_add 141 [some (.ref 1), some (.int n), some (.int l2), v3, v4, some (.ref X), some (.int (nI (cnt (fun q => ctrR (a 13) (iP a q) k) np))), some (.int (nI np))] [] h P) :
    ∀ p, p ≤ np → jy_J G 13 m_HT_add 108 [some (.ref 1), some (.int n), some (.int l2), v3, v4, some (.ref X), some (.int (nI (cnt (fun q => ctrR (a 13) (iP a q) k) p))), some (.int (nI p))] [] h P := by
  obtain ⟨pv, v1, v2, v3'⟩ := hp
  refine jl_up np _ ?_ (fun p hp ih => ?_)
  · refine jr_iload d_HT_add_108 rfl ?_
    refine jr_aload_n d_HT_add_110 rfl rfl ?_
    refine jr_get d_HT_add_111 f_HT_173 h1 rfl ?_
    rw [hn]
    exact jr_icmp_ge (tgt := 141) d_HT_add_114 (by decide) (fun _ => K) (jl_eq (by omega))
  · obtain ⟨x, x1, xP⟩ := v3' p hp
    have xP' := xP
    obtain ⟨-, mv, dv, hx, -⟩ := xP'
    refine jr_iload d_HT_add_108 rfl ?_
    refine jr_aload_n d_HT_add_110 rfl rfl ?_
    refine jr_get d_HT_add_111 f_HT_173 h1 rfl ?_
    rw [hn]
    refine jr_icmp_ge (tgt := 141) d_HT_add_114 (by decide) (jl_lt (by omega) hp) (fun _ => ?_)
    refine jr_aload_n d_HT_add_117 rfl rfl ?_
    refine jr_get d_HT_add_118 f_HT_37 h1 rfl ?_
    refine jr_iload d_HT_add_121 rfl ?_
    refine cr_aald d_HT_add_123 rfl rfl v1 rfl x1 (by omega) ?_
    refine jr_aload d_HT_add_124 rfl ?_
    refine jr_callVp1 d_HT_add_126 i_HT_179 hx (Nat.le_of_ble_eq_true rfl) (by decide) (c_PT_contradicts xP hX) ?_
    refine jr_if_eq (tgt := 135) d_HT_add_129 (by decide) (fun hc => ?_) (fun hc => ?_)
    · have e : cnt (fun q => ctrR (a 13) (iP a q) k) (p + 1) = cnt (fun q => ctrR (a 13) (iP a q) k) p := by simp [cnt, bI_eq0.mp hc]
      rw [e] at ih
      refine jr_iinc1 d_HT_add_135 rfl (by decide) ?_
      refine jr_goto (tgt := 108) d_HT_add_138 (by decide) ?_
      rw [nI_1]
      exact ih
    · have e : cnt (fun q => ctrR (a 13) (iP a q) k) (p + 1) = cnt (fun q => ctrR (a 13) (iP a q) k) p + 1 := by simp [cnt, bI_ne0.mp hc]
      rw [e] at ih
      refine jr_iinc1 d_HT_add_132 rfl (by decide) ?_
      refine jr_iinc1 d_HT_add_135 rfl (by decide) ?_
      refine jr_goto (tgt := 108) d_HT_add_138 (by decide) ?_
      rw [nI_1, nI_1]
      exact ih
/-- from the first guard on -/
theorem ht_add2 (hC : Comp h0 f a T m g np nb fl bx t s) (hn : f 12 = nI np) (h8 : np ≤ 8) (h26 : 26 ≤ h0.length) (hK' : h0.length + 1 < jy_K) {n l : Int32} {mv : Value} {dv k : Nat} (hk : gk f a m n = some k) (hk12 : k ≤ 12) (hD : DRep h0 dv (a 13) k) (hV : VRep h0 mv (a 13) k) (hm : mv = .null ∨ ∃ y, mv = .ref y)
    (hld : ∀ {L6 L7 : Option Value} {st : List Value} {h P}, jy_J G 13 m_HT_add 94 [some (.ref 1), some (.int n), some (.int l), some mv, some (.ref dv), none, L6, L7] (mv :: st) h P → jy_J G 13 m_HT_add 93 [some (.ref 1), some (.int n), some (.int l), some mv, some (.ref dv), none, L6, L7] st h P) :
    jy_J G 13 m_HT_add 42 [some (.ref 1), some (.int n), some (.int l), some mv, some (.ref dv), none, none, none] [] h0 (opP h0 (ex3 (gk f a m n).isSome 12 (inB n 1 9999 && inB l 1 100000) 9 (decide (np < 8)) 10) (some (.int (nI (cnt (fun q => ctr (adA a np n l (kO (gk f a m n))) q np) np)))) (fun h' => Comp h' (upd f 12 (nI (np + 1))) (adA a np n l (kO (gk f a m n))) T m g (np + 1) nb fl bx t s ∧ Fx h0 h')) := by
  have h1 := hC.1
  have hK : h0.length < jy_K := by omega
  have g0 : (gk f a m n).isSome = true := by rw [hk]; rfl
  have ek : kO (gk f a m n) = k := by rw [hk]; rfl
  rw [g0, ek]
  refine jr_iload_n d_HT_add_42 rfl rfl ?_
  refine jr_iconst (v := 1) d_HT_add_43 (by decide) ?_
  refine jr_sipush (v := 9999) d_HT_add_44 (by decide) ?_
  refine jr_callSp3 d_HT_add_47 i_HT_72 (Nat.le_of_ble_eq_true rfl) (by decide) (c_HT_isIn _ _ _) ?_
  refine jy_cut1 68 (fun z => z = bI (inB n 1 9999 && inB l 1 100000)) (fun K => ?_) (fun z hz => ?_)
  · refine jr_if_eq (tgt := 67) d_HT_add_50 (by decide) (fun hc => ?_) (fun hc => ?_)
    · refine jr_iconst (v := 0) d_HT_add_67 (by decide) ?_
      exact K _ (by rw [bI_eq0.mp hc]; rfl)
    · refine jr_iload_n d_HT_add_53 rfl rfl ?_
      refine jr_iconst (v := 1) d_HT_add_54 (by decide) ?_
      refine jr_ldc d_HT_add_55 w_HT_172 ?_
      refine jr_callSp3 d_HT_add_57 i_HT_72 (Nat.le_of_ble_eq_true rfl) (by decide) (c_HT_isIn _ _ _) ?_
      refine jr_if_eq (tgt := 67) d_HT_add_60 (by decide) (fun hc2 => ?_) (fun hc2 => ?_)
      · refine jr_iconst (v := 0) d_HT_add_67 (by decide) ?_
        exact K _ (by rw [bI_eq0.mp hc2, Bool.and_false]; rfl)
      · refine jr_iconst (v := 1) d_HT_add_63 (by decide) ?_
        refine jr_goto (tgt := 68) d_HT_add_64 (by decide) ?_
        exact K _ (by rw [bI_ne0.mp hc, bI_ne0.mp hc2]; rfl)
  subst hz
  refine jr_guard d_HT_add_68 i_HT_76 (g_within hK) (Nat.le_of_ble_eq_true rfl) (by decide) (fun _ hq => by cases hq) (fun hc => ?_) (fun hc => opP.ex (by rw [bI_eq0.mp hc]; rfl) (by decide))
  have g1 := bI_ne0.mp hc
  refine jr_aload_n d_HT_add_71 rfl rfl ?_
  refine jr_get d_HT_add_72 f_HT_173 h1 rfl ?_
  refine jr_bipush (v := 8) d_HT_add_75 (by decide) ?_
  rw [hn]
  refine jy_cut2 85 (fun z => z = bI (decide (np < 8))) (fun K => ?_) (fun z hz => ?_)
  · refine jr_icmp_ge (tgt := 84) d_HT_add_77 (by decide) (fun hc => ?_) (fun hc => ?_)
    · refine jr_iconst (v := 0) d_HT_add_84 (by decide) ?_
      exact K _ (by rw [(not_lt8 (c := 8) (by omega) (by decide)).1 hc]; rfl)
    · refine jr_iconst (v := 1) d_HT_add_80 (by decide) ?_
      refine jr_goto (tgt := 85) d_HT_add_81 (by decide) ?_
      exact K _ (by rw [(not_lt8 (c := 8) (by omega) (by decide)).2 hc]; rfl)
  subst hz
  refine jr_guard d_HT_add_85 i_HT_83 (g_room hK) (Nat.le_of_ble_eq_true rfl) (by decide) (fun _ hq => by cases hq) (fun hc => ?_) (fun hc => opP.ex (by rw [g1, bI_eq0.mp hc]; rfl) (by decide))
  have g2 := bI_ne0.mp hc
  have g2' : np < 8 := of_decide_eq_true g2
  rw [show ex3 true 12 (inB n 1 9999 && inB l 1 100000) 9 (decide (np < 8)) 10 = 0 by rw [g1, g2]; rfl]
  refine jr_new d_HT_add_88 n_HT_35 ⟨hK, Or.inl (by decide)⟩ ?_
  refine jr_dup d_HT_add_91 rfl ?_
  refine jr_iload_n d_HT_add_92 rfl rfl ?_
  refine hld ?_
  refine jr_aload d_HT_add_94 rfl ?_
  refine jr_iload_n d_HT_add_96 rfl rfl ?_
  refine jr_callI' (As := [.int n, mv, .ref dv, .int l]) d_HT_add_97 i_HT_176 rfl (Nat.le_of_ble_eq_true rfl) (by decide) (c_PT_init (by omega) ga_n hm n l) ?_
  rw [app_set]
  have s0 : St (fun i => i = 1 ∨ i = 8) h0 (h0 ++ [(5, [.int n, mv, .ref dv, .int (bI (decide (200 < l)))])]) := St.app
  have kt0 : Kt h0 (h0 ++ [(5, [.int n, mv, .ref dv, .int (bI (decide (200 < l)))])]) := s0.kt (fun i e => by omega)
  obtain ⟨c1, ⟨at_, c2⟩, ⟨tb, c3, c3'⟩, c4, c5, ⟨wb, c6, c6'⟩, ⟨rw_, c7⟩, c8, c9, c10⟩ := hC
  have p1 : (h0 ++ [(5, [.int n, mv, .ref dv, .int (bI (decide (200 < l)))])])[1]? = some (0, cf T f) := by rw [List.getElem?_append_left (len_lt c1)]; exact c1
  have hPX : PRep (h0 ++ [(5, [.int n, mv, .ref dv, .int (bI (decide (200 < l)))])]) h0.length n (bI (decide (200 < l))) (a 13) k := ⟨h26, mv, dv, ga_n, hD.kq kt0.kq, hV.kq kt0.kq⟩
  have hPA := c8.kt kt0 (fun c w => by rw [List.getElem?_append_left (len_lt w)]; exact w)
  refine jr_astore d_HT_add_100 (by decide) ?_
  refine jr_iconst (v := 0) d_HT_add_102 (by decide) ?_
  refine jr_istore d_HT_add_103 (by decide) ?_
  refine jr_iconst (v := 0) d_HT_add_105 (by decide) ?_
  refine jr_istore d_HT_add_106 (by decide) ?_
  generalize hh : h0 ++ [(5, [.int n, mv, .ref dv, .int (bI (decide (200 < l)))])] = hN at s0 kt0 p1 hPX hPA ⊢
  have hNl : hN.length = h0.length + 1 := by rw [← hh]; simp
  have nX : hN[h0.length]? = some (5, [.int n, mv, .ref dv, .int (bI (decide (200 < l)))]) := by rw [← hh]; exact ga_n
  refine ht_add p1 hPA hPX hn h8 ?_ 0 (Nat.zero_le _)
  have h1 := p1
  refine jr_aload_n d_HT_add_141 rfl rfl ?_
  refine jr_get d_HT_add_142 f_HT_37 h1 rfl ?_
  refine jr_aload_n d_HT_add_145 rfl rfl ?_
  refine jr_dup d_HT_add_146 rfl ?_
  refine jr_get d_HT_add_147 f_HT_173 h1 rfl ?_
  rw [hn]
  refine jr_dup_x1 d_HT_add_150 rfl rfl ?_
  refine jr_iconst (v := 1) d_HT_add_151 (by decide) ?_
  refine jr_iadd d_HT_add_152 ?_
  rw [nI_1]
  refine hp_put d_HT_add_153 f_HT_173 (i := 12) rfl h1 (fun h hE153 h1 => ?_)
  refine jr_aload d_HT_add_156 rfl ?_
  have hPA0 := hPA
  obtain ⟨pv, v1, v2, v3⟩ := hPA0
  have a8 : h[8]? = some (55, pv) := by rw [hE153, List.getElem?_set_ne (by decide)]; exact v1
  have aX : h[h0.length]? = some (5, [.int n, mv, .ref dv, .int (bI (decide (200 < l)))]) := by rw [hE153, List.getElem?_set_ne (by omega)]; exact nX
  obtain ⟨i1, i2⟩ := nI_ok (i := nI np) (j := np) rfl (by omega)
  refine jr_aast d_HT_add_158 (by decide) a8 aX rfl i1 (by rw [i2, v2]; exact g2') rfl ?_
  rw [i2]
  refine jr_iload d_HT_add_159 rfl ?_
  refine jr_ireturn d_HT_add_161 rfl rfl ?_
  have s2 : St (fun i => i = 1 ∨ i = 8) hN (h.set 8 (55, pv.set np (.ref h0.length))) := by
    rw [hE153]
    exact (St.set (X := fun i => i = 1 ∨ i = 8) (Or.inl rfl)).tr (St.set (Or.inr rfl))
  have s1 : St (fun i => i = 1 ∨ i = 8) h0 (h.set 8 (55, pv.set np (.ref h0.length))) := s0.tr s2
  have kt1 : Kt h0 (h.set 8 (55, pv.set np (.ref h0.length))) := s1.kt (fun i e => by omega)
  have kt2 : Kt hN (h.set 8 (55, pv.set np (.ref h0.length))) := s2.kt (fun i e => by omega)
  have hl : (h.set 8 (55, pv.set np (.ref h0.length))).length = h0.length + 1 := by rw [hE153]; simp [hNl]
  have a1 : (h.set 8 (55, pv.set np (.ref h0.length)))[1]? = some (0, cf T (upd f 12 (nI (np + 1)))) := by rw [List.getElem?_set_ne (by decide)]; exact h1
  have ecnt : cnt (fun q => ctrR (a 13) (iP a q) k) np = cnt (fun q => ctr (adA a np n l k) q np) np := by
    refine cnt_congr (fun q hq => ?_)
    show ctrR (a 13) (iP a q) k = ctrR (adA a np n l k 13) (iP (adA a np n l k) q) (iP (adA a np n l k) np)
    rw [adA_13 (by decide) (by decide) (by decide), adA_iP (by omega), adA_iPp hk12]
  rw [ecnt]
  refine opP.ok rfl ⟨⟨a1, ⟨at_, s1 _ _ c2 (by omega)⟩, ⟨tb, s1 _ _ c3 (by omega), c3'⟩, c4, ?_, ⟨wb, s1 _ _ c6 (by omega), c6'⟩, ⟨rw_, s1 _ _ c7 (by omega)⟩, ⟨_, gs_eq a8, by simp [v2], fun q hq => ?_⟩, ?_, ?_⟩, s1.fx (fun i e => by omega) (by omega) (by omega)⟩
  · rw [adA_13 (by decide) (by decide) (by decide)]
    exact c5.kt c4 kt1
  · rw [adA_13 (B := 13) (by decide) (by decide) (by decide)]
    by_cases e : q = np
    · subst e
      refine ⟨h0.length, List.getElem?_set_self (by rw [v2]; omega), ?_⟩
      rw [adA_iPp hk12]
      have e15 : adA a q n l k 15 q = n := by show upd (a 15) q n q = n; exact upd_s
      have e16 : adA a q n l k 16 q = l := by show upd (a 16) q l q = l; exact upd_s
      rw [e15, e16]
      exact hPX.kq kt2.kq
    · obtain ⟨x, x1, xP⟩ := v3 q (by omega)
      refine ⟨x, by rw [List.getElem?_set_ne (by omega)]; exact x1, ?_⟩
      rw [adA_iP e]
      have e15 : adA a np n l k 15 q = a 15 q := by show upd (a 15) np n q = _; exact upd_n e
      have e16 : adA a np n l k 16 q = a 16 q := by show upd (a 16) np l q = _; exact upd_n e
      rw [e15, e16]
      exact xP.kq kt2.kq
  · have := c9.st (h' := h.set 8 (55, pv.set np (.ref h0.length))) (fun i c w n => s1 i c w (by omega))
    unfold BA at this ⊢
    rw [adA_13 (B := 18) (by decide) (by decide) (by decide), adA_13 (B := 19) (by decide) (by decide) (by decide)]
    exact this
  · rw [adA_13 (B := 22) (by decide) (by decide) (by decide)]
    exact s1 _ _ c10 (by omega)
theorem c_HT_add (hC : Comp h0 f a T m g np nb fl bx t s) (hg : f 5 = bI g) (h12 : m ≤ 12) (hz : g = true → a 13 517 = 0 ∧ a 13 524 = 0 ∧ a 13 525 = 0) (hn : f 12 = nI np) (h8 : np ≤ 8) (h26 : 26 ≤ h0.length) (hK' : h0.length + 1 < jy_K) (n l : Int32) : jy_C G 13 m_HT_add [.ref 1, .int n, .int l] h0 (opP h0 (ex3 (gk f a m n).isSome 12 (inB n 1 9999 && inB l 1 100000) 9 (decide (np < 8)) 10) (some (.int (nI (cnt (fun q => ctr (adA a np n l (kO (gk f a m n))) q np) np)))) (fun h' => Comp h' (upd f 12 (nI (np + 1))) (adA a np n l (kO (gk f a m n))) T m g (np + 1) nb fl bx t s ∧ Fx h0 h')) := by
  refine jy_C.of [some (.ref 1), some (.int n), some (.int l), none, none, none, none, none] rfl (Nat.le_of_ble_eq_true rfl) ?_
  have h1 := hC.1
  have hK : h0.length < jy_K := by omega
  have hT := hC.2.2.2.2.1
  have hT0 := hT
  obtain ⟨ma, gv, mv, t1, -, t3, t4, t5, tg⟩ := hT0
  refine jr_aload_n d_HT_add_0 rfl rfl ?_
  refine jr_get d_HT_add_1 f_HT_19 h1 rfl ?_
  refine jr_iload_n d_HT_add_4 rfl rfl ?_
  refine jr_callV (As := [.int n]) d_HT_add_5 i_HT_111 rfl t1 (Nat.le_of_ble_eq_true rfl) (by decide) (c_TB_of hT h12 n) (fun v h' q => ?_) (fun x h' q => ?_)
  · obtain ⟨rfl, q⟩ := q
    rcases hfd : fd (a 13) n m with _ | k
    · rw [hfd] at q
      cases q
      refine jr_astore_nN d_HT_add_8 rfl (by decide) ?_
      refine jr_aload_nN d_HT_add_9 rfl rfl ?_
      refine jr_ifnonnullN d_HT_add_10 ?_
      refine jr_aload_n d_HT_add_13 rfl rfl ?_
      refine jr_get d_HT_add_14 f_HT_19 h1 rfl ?_
      refine jr_get d_HT_add_17 f_HT_115 t1 rfl ?_
      refine jr_goto (tgt := 27) d_HT_add_20 (by decide) ?_
      rcases tg with ⟨rfl, x, rfl, tg⟩ | ⟨rfl, rfl⟩
      · obtain ⟨z1, z2, z3⟩ := hz rfl
        have hk : gk f a m n = some 12 := by unfold gk; rw [hfd, hg]; rfl
        refine jr_astore d_HT_add_27 (by decide) ?_
        refine jr_aload d_HT_add_29 rfl ?_
        refine jr_ifnull d_HT_add_31 ?_
        refine jr_iconst (v := 1) d_HT_add_34 (by decide) ?_
        refine jr_goto (tgt := 39) d_HT_add_35 (by decide) ?_
        refine jr_guard d_HT_add_39 i_HT_108 (g_known hK) (Nat.le_of_ble_eq_true rfl) (by decide) (fun _ hq => by cases hq) (fun _ => ?_) (fun q => absurd q (by decide))
        exact ht_add2 hC hn h8 h26 hK' hk (by omega) tg (Or.inr ⟨rfl, rfl, z1, z2⟩) (Or.inl rfl) (fun K => jr_aload_nN d_HT_add_93 rfl rfl K)
      · have hk : gk f a m n = none := by unfold gk; rw [hfd, hg]; rfl
        refine jr_astoreN d_HT_add_27 (by decide) ?_
        refine jr_aloadN d_HT_add_29 rfl ?_
        refine jr_ifnullN d_HT_add_31 (tgt := 38) (by decide) ?_
        refine jr_iconst (v := 0) d_HT_add_38 (by decide) ?_
        refine jr_guard d_HT_add_39 i_HT_108 (g_known hK) (Nat.le_of_ble_eq_true rfl) (by decide) (fun _ hq => by cases hq) (fun q => absurd rfl q) (fun _ => opP.ex (by rw [hk]; rfl) (by decide))
    · rw [hfd] at q
      obtain ⟨x, dv, q1, q2, q3⟩ := q
      cases q1
      have hkm := (fd_lt hfd).1
      have hk : gk f a m n = some k := by unfold gk; rw [hfd]
      have q2' := q2
      obtain ⟨-, na, y1, -⟩ := q2'
      refine jr_astore_n d_HT_add_8 rfl (by decide) ?_
      refine jr_aload_n d_HT_add_9 rfl rfl ?_
      refine jr_ifnonnull d_HT_add_10 (tgt := 23) (by decide) ?_
      refine jr_aload_n d_HT_add_23 rfl rfl ?_
      refine jr_get d_HT_add_24 f_HT_119 y1 rfl ?_
      refine jr_astore d_HT_add_27 (by decide) ?_
      refine jr_aload d_HT_add_29 rfl ?_
      refine jr_ifnull d_HT_add_31 ?_
      refine jr_iconst (v := 1) d_HT_add_34 (by decide) ?_
      refine jr_goto (tgt := 39) d_HT_add_35 (by decide) ?_
      refine jr_guard d_HT_add_39 i_HT_108 (g_known hK) (Nat.le_of_ble_eq_true rfl) (by decide) (fun _ hq => by cases hq) (fun _ => ?_) (fun q => absurd q (by decide))
      exact ht_add2 hC hn h8 h26 hK' hk (by omega) q3 (Or.inl ⟨by omega, x, dv, rfl, q2⟩) (Or.inr ⟨x, rfl⟩) (fun K => jr_aload_n d_HT_add_93 rfl rfl K)
  · obtain ⟨-, q⟩ := q
    rcases hfd : fd (a 13) n m with _ | k
    · rw [hfd] at q; cases q
    · rw [hfd] at q
      obtain ⟨_, _, q1, -⟩ := q
      cases q1
end CA
