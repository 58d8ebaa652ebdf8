/-! the class: near, say -/
theorem jy_C.deep {G : jy_G} {d d' : Nat} {M : jy_M} {as : List Value} {h : jy_P} {P : Outcome → jy_P → Prop} (hC : jy_C G d M as h P) (hd : d ≤ d') : jy_C G d' M as h P := by
  intro p e R s m args below meth c ⟨x1, x2, x3, x4, x5, x6, x7, x8, x9, x10, x11, x12⟩
  exact hC p e R s m args below meth c ⟨x1, x2, x3, x4, x5, x6, x7, x8, x9, by omega, by omega, x12⟩
section NE
variable {G : jy_G} {h h0 : jy_P} {f : Nat → Int32} {a : Nat → Nat → Int32} {T m : Nat} {g : Bool} {np nb : Nat} {fl : Nat → Bool} {bx : Nat → Nat} {t s : Nat}
theorem Comp.r7 {h' : jy_P} (q : Comp h f a T m g np nb fl bx t s) (hs : R7 h h') : Comp h' f a T m g np nb fl bx t s := by
  obtain ⟨c1, ⟨at_, c2⟩, ⟨tb, c3, c3'⟩, c4, c5, ⟨wb, c6, c6'⟩, -, c8, c9, c10⟩ := q
  obtain ⟨hs, -, h7⟩ := hs
  have kt : Kt h h' := hs.kt (fun i e => by omega)
  exact ⟨hs _ _ c1 (by decide), ⟨at_, hs _ _ c2 (by decide)⟩, ⟨tb, hs _ _ c3 (by decide), c3'⟩, c4, c5.kt c4 kt, ⟨wb, hs _ _ c6 (by decide), c6'⟩, h7, c8.kt kt (fun c w => hs _ _ w (by decide)), c9.st (fun i c w n => hs i c w (by omega)), hs _ _ c10 (by decide)⟩
theorem d_HT_near_0 : decode (jy_c m_HT_near) 0 = .ok (.iload_n 1, 1) := by decide +kernel
theorem d_HT_near_1 : decode (jy_c m_HT_near) 1 = .ok (.ifCond .lt 7, 3) := by decide +kernel
theorem d_HT_near_4 : decode (jy_c m_HT_near) 4 = .ok (.iconst 1, 1) := by decide +kernel
theorem d_HT_near_5 : decode (jy_c m_HT_near) 5 = .ok (.goto 4, 3) := by decide +kernel
theorem d_HT_near_8 : decode (jy_c m_HT_near) 8 = .ok (.iconst 0, 1) := by decide +kernel
theorem d_HT_near_9 : decode (jy_c m_HT_near) 9 = .ok (.invokestatic 76, 3) := by decide +kernel
theorem d_HT_near_12 : decode (jy_c m_HT_near) 12 = .ok (.aload_n 0, 1) := by decide +kernel
theorem d_HT_near_13 : decode (jy_c m_HT_near) 13 = .ok (.getfield 99, 3) := by decide +kernel
theorem d_HT_near_16 : decode (jy_c m_HT_near) 16 = .ok (.ifCond .ne 5, 3) := by decide +kernel
theorem d_HT_near_19 : decode (jy_c m_HT_near) 19 = .ok (.iconst (-1), 1) := by decide +kernel
theorem d_HT_near_20 : decode (jy_c m_HT_near) 20 = .ok (.ireturn, 1) := by decide +kernel
theorem d_HT_near_21 : decode (jy_c m_HT_near) 21 = .ok (.iconst 0, 1) := by decide +kernel
theorem d_HT_near_22 : decode (jy_c m_HT_near) 22 = .ok (.istore_n 2, 1) := by decide +kernel
theorem d_HT_near_23 : decode (jy_c m_HT_near) 23 = .ok (.iload_n 2, 1) := by decide +kernel
theorem d_HT_near_24 : decode (jy_c m_HT_near) 24 = .ok (.aload_n 0, 1) := by decide +kernel
theorem d_HT_near_25 : decode (jy_c m_HT_near) 25 = .ok (.getfield 19, 3) := by decide +kernel
theorem d_HT_near_28 : decode (jy_c m_HT_near) 28 = .ok (.getfield 105, 3) := by decide +kernel
theorem d_HT_near_31 : decode (jy_c m_HT_near) 31 = .ok (.if_icmp .ge 110, 3) := by decide +kernel
theorem d_HT_near_34 : decode (jy_c m_HT_near) 34 = .ok (.aload_n 0, 1) := by decide +kernel
theorem d_HT_near_35 : decode (jy_c m_HT_near) 35 = .ok (.getfield 19, 3) := by decide +kernel
theorem d_HT_near_38 : decode (jy_c m_HT_near) 38 = .ok (.getfield 162, 3) := by decide +kernel
theorem d_HT_near_41 : decode (jy_c m_HT_near) 41 = .ok (.iload_n 2, 1) := by decide +kernel
theorem d_HT_near_42 : decode (jy_c m_HT_near) 42 = .ok (.aaload, 1) := by decide +kernel
theorem d_HT_near_43 : decode (jy_c m_HT_near) 43 = .ok (.astore_n 3, 1) := by decide +kernel
theorem d_HT_near_44 : decode (jy_c m_HT_near) 44 = .ok (.aload_n 0, 1) := by decide +kernel
theorem d_HT_near_45 : decode (jy_c m_HT_near) 45 = .ok (.aload_n 3, 1) := by decide +kernel
theorem d_HT_near_46 : decode (jy_c m_HT_near) 46 = .ok (.invokevirtual 166, 3) := by decide +kernel
theorem d_HT_near_49 : decode (jy_c m_HT_near) 49 = .ok (.istore 4, 2) := by decide +kernel
theorem d_HT_near_51 : decode (jy_c m_HT_near) 51 = .ok (.iconst 0, 1) := by decide +kernel
theorem d_HT_near_52 : decode (jy_c m_HT_near) 52 = .ok (.istore 5, 2) := by decide +kernel
theorem d_HT_near_54 : decode (jy_c m_HT_near) 54 = .ok (.iconst 0, 1) := by decide +kernel
theorem d_HT_near_55 : decode (jy_c m_HT_near) 55 = .ok (.istore 6, 2) := by decide +kernel
theorem d_HT_near_57 : decode (jy_c m_HT_near) 57 = .ok (.iload 6, 2) := by decide +kernel
theorem d_HT_near_59 : decode (jy_c m_HT_near) 59 = .ok (.aload_n 0, 1) := by decide +kernel
theorem d_HT_near_60 : decode (jy_c m_HT_near) 60 = .ok (.getfield 19, 3) := by decide +kernel
theorem d_HT_near_63 : decode (jy_c m_HT_near) 63 = .ok (.getfield 105, 3) := by decide +kernel
theorem d_HT_near_66 : decode (jy_c m_HT_near) 66 = .ok (.if_icmp .ge 58, 3) := by decide +kernel
theorem d_HT_near_69 : decode (jy_c m_HT_near) 69 = .ok (.aload_n 0, 1) := by decide +kernel
theorem d_HT_near_70 : decode (jy_c m_HT_near) 70 = .ok (.getfield 19, 3) := by decide +kernel
theorem d_HT_near_73 : decode (jy_c m_HT_near) 73 = .ok (.getfield 162, 3) := by decide +kernel
theorem d_HT_near_76 : decode (jy_c m_HT_near) 76 = .ok (.iload 6, 2) := by decide +kernel
theorem d_HT_near_78 : decode (jy_c m_HT_near) 78 = .ok (.aaload, 1) := by decide +kernel
theorem d_HT_near_79 : decode (jy_c m_HT_near) 79 = .ok (.astore 7, 2) := by decide +kernel
theorem d_HT_near_81 : decode (jy_c m_HT_near) 81 = .ok (.aload_n 0, 1) := by decide +kernel
theorem d_HT_near_82 : decode (jy_c m_HT_near) 82 = .ok (.aload 7, 2) := by decide +kernel
theorem d_HT_near_84 : decode (jy_c m_HT_near) 84 = .ok (.invokevirtual 166, 3) := by decide +kernel
theorem d_HT_near_87 : decode (jy_c m_HT_near) 87 = .ok (.istore 8, 2) := by decide +kernel
theorem d_HT_near_89 : decode (jy_c m_HT_near) 89 = .ok (.iload 8, 2) := by decide +kernel
theorem d_HT_near_91 : decode (jy_c m_HT_near) 91 = .ok (.iload 4, 2) := by decide +kernel
theorem d_HT_near_93 : decode (jy_c m_HT_near) 93 = .ok (.if_icmp .lt 22, 3) := by decide +kernel
theorem d_HT_near_96 : decode (jy_c m_HT_near) 96 = .ok (.iload 8, 2) := by decide +kernel
theorem d_HT_near_98 : decode (jy_c m_HT_near) 98 = .ok (.iload 4, 2) := by decide +kernel
theorem d_HT_near_100 : decode (jy_c m_HT_near) 100 = .ok (.if_icmp .ne 18, 3) := by decide +kernel
theorem d_HT_near_103 : decode (jy_c m_HT_near) 103 = .ok (.aload 7, 2) := by decide +kernel
theorem d_HT_near_105 : decode (jy_c m_HT_near) 105 = .ok (.getfield 169, 3) := by decide +kernel
theorem d_HT_near_108 : decode (jy_c m_HT_near) 108 = .ok (.aload_n 3, 1) := by decide +kernel
theorem d_HT_near_109 : decode (jy_c m_HT_near) 109 = .ok (.getfield 169, 3) := by decide +kernel
theorem d_HT_near_112 : decode (jy_c m_HT_near) 112 = .ok (.if_icmp .ge 6, 3) := by decide +kernel
theorem d_HT_near_115 : decode (jy_c m_HT_near) 115 = .ok (.iinc 5 1, 3) := by decide +kernel
theorem d_HT_near_118 : decode (jy_c m_HT_near) 118 = .ok (.iinc 6 1, 3) := by decide +kernel
theorem d_HT_near_121 : decode (jy_c m_HT_near) 121 = .ok (.goto (-64), 3) := by decide +kernel
theorem d_HT_near_124 : decode (jy_c m_HT_near) 124 = .ok (.iload 5, 2) := by decide +kernel
theorem d_HT_near_126 : decode (jy_c m_HT_near) 126 = .ok (.iload_n 1, 1) := by decide +kernel
theorem d_HT_near_127 : decode (jy_c m_HT_near) 127 = .ok (.if_icmp .ne 8, 3) := by decide +kernel
theorem d_HT_near_130 : decode (jy_c m_HT_near) 130 = .ok (.aload_n 3, 1) := by decide +kernel
theorem d_HT_near_131 : decode (jy_c m_HT_near) 131 = .ok (.getfield 169, 3) := by decide +kernel
theorem d_HT_near_134 : decode (jy_c m_HT_near) 134 = .ok (.ireturn, 1) := by decide +kernel
theorem d_HT_near_135 : decode (jy_c m_HT_near) 135 = .ok (.iinc 2 1, 3) := by decide +kernel
theorem d_HT_near_138 : decode (jy_c m_HT_near) 138 = .ok (.goto (-115), 3) := by decide +kernel
theorem d_HT_near_141 : decode (jy_c m_HT_near) 141 = .ok (.iconst (-1), 1) := by decide +kernel
theorem d_HT_near_142 : decode (jy_c m_HT_near) 142 = .ok (.ireturn, 1) := by decide +kernel
theorem c_HT_near (hC : Comp h0 f a T m g np nb fl bx t s) (h12 : m ≤ 12) (hR : tOk (a 13) m) (hD : ∀ j k, j < m → k < m → nu (a 13) j = nu (a 13) k → j = k) (hs : s ≤ 8) (hf : f 27 = nI s) (hK : h0.length < jy_K) (i : Int32) : jy_C G 12 m_HT_near [.ref 1, .int i] h0 (opP h0 (ex3 (decide (0 ≤ i)) 9 true 0 true 0) (some (.int (if f 27 = 0 then -1 else nrV a (nrI a s m i.toNatClampNeg)))) (fun h' => Comp h' f a T m g np nb fl bx t s ∧ Fx h0 h')) := by
  refine jy_C.of [some (.ref 1), some (.int i), none, none, none, none, none, none, none] rfl (Nat.le_of_ble_eq_true rfl) ?_
  have h1 := hC.1
  refine jr_iload_n d_HT_near_0 rfl rfl ?_
  refine jy_cut1 9 (fun z => z = bI (decide (0 ≤ i))) (fun K => ?_) (fun z hz => ?_)
  · refine jr_if_lt (tgt := 8) d_HT_near_1 (by decide) (fun hc => ?_) (fun hc => ?_)
    · refine jr_iconst (v := 0) d_HT_near_8 (by decide) ?_
      exact K _ (by rw [decide_eq_false (Int32.not_le.mpr hc)]; rfl)
    · refine jr_iconst (v := 1) d_HT_near_4 (by decide) ?_
      refine jr_goto (tgt := 9) d_HT_near_5 (by decide) ?_
      exact K _ (by rw [decide_eq_true (Int32.not_lt.mp hc)]; rfl)
  subst hz
  refine jr_guard d_HT_near_9 i_HT_76 (g_within hK) (Nat.le_of_ble_eq_true rfl) (by decide) (fun _ hq => by cases hq) (fun hc => ?_) (fun hc => opP.ex (by rw [bI_eq0.mp hc]; rfl) (by decide))
  have g1 := bI_ne0.mp hc
  rw [show ex3 (decide (0 ≤ i)) 9 true 0 true 0 = 0 by rw [g1]; rfl]
  obtain ⟨n, hn31, rfl⟩ := nI_of (Int32.not_lt.mpr (of_decide_eq_true g1))
  rw [nI_clamp hn31]
  refine jr_aload_n d_HT_near_12 rfl rfl ?_
  refine jr_get d_HT_near_13 f_HT_99 h1 rfl ?_
  refine jr_if_ne (tgt := 21) d_HT_near_16 (by decide) (fun hc => ?_) (fun hc => ?_)
  · rw [if_neg hc]
    have fin : ∀ h, R7 h0 h → Comp h f a T m g np nb fl bx t s ∧ Fx h0 h := fun h q => ⟨hC.r7 q, q.1.fx (fun i e => by omega) (by rw [q.2.1]; omega) (by rw [q.2.1]; omega)⟩
    obtain ⟨c1, c2, c3, c4, ⟨ma, gv, mv, t1, t2, t3, t4, t5, t6⟩, ⟨wb, c6, c6'⟩, c7, -⟩ := hC
    obtain ⟨nr1, nr2⟩ := nrI_rk (a := a) (s := s) hR hD n
    have val : ∀ k, k < m → rk a s m k = n → nrV a (nrI a s m n) = a 13 (43 * k) := by
      intro k hk e
      rcases hq : nrI a s m n with _ | l
      · have := nr2 hq k hk
        omega
      · have := nr1 l hq
        have : l = k := rk_inj (s := s) hR hD (nrI_lt hq) hk (by omega)
        subst this
        rfl
    have none_ : (∀ k, k < m → rk a s m k ≠ n) → nrV a (nrI a s m n) = -1 := by
      intro hno
      rcases hq : nrI a s m n with _ | l
      · rfl
      · exact absurd (nr1 l hq) (hno l (nrI_lt hq))
    refine jr_iconst (v := 0) d_HT_near_21 (by decide) ?_
    refine jr_istore_n d_HT_near_22 rfl (by decide) ?_
    have key : ∀ k, k ≤ m → ∀ h l3 l4 l5 l6 l7 l8, R7 h0 h → (∀ k', k' < k → rk a s m k' ≠ n) → jy_J G 12 m_HT_near 23 [some (.ref 1), some (.int (nI n)), some (.int (nI k)), l3, l4, l5, l6, l7, l8] [] h (opP h0 0 (some (.int (nrV a (nrI a s m n)))) (fun h' => Comp h' f a T m g np nb fl bx t s ∧ Fx h0 h')) := by
      refine jl_up m _ (fun h l3 l4 l5 l6 l7 l8 hq hno => ?_) (fun k hk ih h l3 l4 l5 l6 l7 l8 hq hno => ?_)
      · have h1 := hq.1 _ _ c1 (by decide)
        have t1 := hq.1 _ _ t1 (by omega)
        refine jr_iload_n d_HT_near_23 rfl rfl ?_
        refine jr_aload_n d_HT_near_24 rfl rfl ?_
        refine jr_get d_HT_near_25 f_HT_19 h1 rfl ?_
        refine jr_get d_HT_near_28 f_HT_105 t1 rfl ?_
        refine jr_icmp_ge (tgt := 141) d_HT_near_31 (by decide) (fun _ => ?_) (jl_eq (by omega))
        refine jr_iconst (v := -1) d_HT_near_141 (by decide) ?_
        refine jr_ireturn d_HT_near_142 rfl rfl ?_
        rw [none_ hno]
        exact opP.ok rfl (fin h hq)
      · obtain ⟨x, dv, x1, x2, x3⟩ := t5 k hk
        have hRk := hR k hk
        have dk := nrs_le (a := a) (s := s) (k := k) (my (a 13) k)
        have kt := hq.1.kt (fun i e => by omega)
        have h1 := hq.1 _ _ c1 (by decide)
        have t1' := hq.1 _ _ t1 (by omega)
        have t3' := hq.1 _ _ t3 (by omega)
        have h6 := hq.1 _ _ c6 (by decide)
        have x2h := x2.kq kt.kq
        have x2' := x2
        obtain ⟨xx, na, y1, -⟩ := x2'
        refine jr_iload_n d_HT_near_23 rfl rfl ?_
        refine jr_aload_n d_HT_near_24 rfl rfl ?_
        refine jr_get d_HT_near_25 f_HT_19 h1 rfl ?_
        refine jr_get d_HT_near_28 f_HT_105 t1' rfl ?_
        refine jr_icmp_ge (tgt := 141) d_HT_near_31 (by decide) (jl_lt (by omega) hk) (fun _ => ?_)
        refine jr_aload_n d_HT_near_34 rfl rfl ?_
        refine jr_get d_HT_near_35 f_HT_19 h1 rfl ?_
        refine jr_get d_HT_near_38 f_HT_162 t1' rfl ?_
        refine jr_iload_n d_HT_near_41 rfl rfl ?_
        refine cr_aald d_HT_near_42 rfl rfl t3' rfl x1 (by omega) ?_
        refine jr_astore_n d_HT_near_43 rfl (by decide) ?_
        refine jr_aload_n d_HT_near_44 rfl rfl ?_
        refine jr_aload_n d_HT_near_45 rfl rfl ?_
        refine jr_callV7 d_HT_near_46 i_HT_166 h1 (Nat.le_of_ble_eq_true rfl) (by decide) (c_HT_distM h1 h6 c6' hq.2.2 x2h hRk hs hf) (fun h hq2 => ?_)
        have hq := hq.tr hq2
        refine jr_istore d_HT_near_49 (by decide) ?_
        refine jr_iconst (v := 0) d_HT_near_51 (by decide) ?_
        refine jr_istore d_HT_near_52 (by decide) ?_
        refine jr_iconst (v := 0) d_HT_near_54 (by decide) ?_
        refine jr_istore d_HT_near_55 (by decide) ?_
        have inner : ∀ j, j ≤ m → ∀ h l7 l8, R7 h0 h → jy_J G 12 m_HT_near 57 [some (.ref 1), some (.int (nI n)), some (.int (nI k)), some (.ref x), some (.int (nI (nrs a s k (my (a 13) k)))), some (.int (nI (cnt (fun j => decide (ky a s j < ky a s k)) j))), some (.int (nI j)), l7, l8] [] h (opP h0 0 (some (.int (nrV a (nrI a s m n)))) (fun h' => Comp h' f a T m g np nb fl bx t s ∧ Fx h0 h')) := by
          refine jl_up m _ (fun h l7 l8 hq => ?_) (fun j hj ihj h l7 l8 hq => ?_)
          · have h1 := hq.1 _ _ c1 (by decide)
            have t1' := hq.1 _ _ t1 (by omega)
            have y1 := hq.1 _ _ y1 (by omega)
            have hrk : rk a s m k ≤ m := cnt_le m
            refine jr_iload d_HT_near_57 rfl ?_
            refine jr_aload_n d_HT_near_59 rfl rfl ?_
            refine jr_get d_HT_near_60 f_HT_19 h1 rfl ?_
            refine jr_get d_HT_near_63 f_HT_105 t1' rfl ?_
            refine jr_icmp_ge (tgt := 124) d_HT_near_66 (by decide) (fun _ => ?_) (jl_eq (by omega))
            refine jr_iload d_HT_near_124 rfl ?_
            refine jr_iload_n d_HT_near_126 rfl rfl ?_
            refine jr_icmp_ne (tgt := 135) d_HT_near_127 (by decide) (fun hc => ?_) (fun hc => ?_)
            · have hne : rk a s m k ≠ n := fun e => hc (by rw [← e]; rfl)
              refine jr_iinc1 d_HT_near_135 rfl (by decide) ?_
              refine jr_goto (tgt := 23) d_HT_near_138 (by decide) ?_
              rw [nI_1]
              refine ih h _ _ _ _ _ _ hq (fun k' hk' => ?_)
              by_cases e : k' = k
              · subst e; exact hne
              · exact hno k' (by omega)
            · have he : rk a s m k = n := (nI_eq (a := rk a s m k) (by omega) hn31).mp hc
              refine jr_aload_n d_HT_near_130 rfl rfl ?_
              refine jr_get d_HT_near_131 f_HT_169 y1 rfl ?_
              refine jr_ireturn d_HT_near_134 rfl rfl ?_
              rw [val k hk he]
              exact opP.ok rfl (fin h hq)
          · obtain ⟨z, dz, z1, z2, z3⟩ := t5 j hj
            have hRj := hR j hj
            have dj := nrs_le (a := a) (s := s) (k := j) (my (a 13) j)
            have kt := hq.1.kt (fun i e => by omega)
            have h1 := hq.1 _ _ c1 (by decide)
            have t1' := hq.1 _ _ t1 (by omega)
            have t3' := hq.1 _ _ t3 (by omega)
            have h6 := hq.1 _ _ c6 (by decide)
            have z2h := z2.kq kt.kq
            obtain ⟨zz, nz, w1, -⟩ := z2
            refine jr_iload d_HT_near_57 rfl ?_
            refine jr_aload_n d_HT_near_59 rfl rfl ?_
            refine jr_get d_HT_near_60 f_HT_19 h1 rfl ?_
            refine jr_get d_HT_near_63 f_HT_105 t1' rfl ?_
            refine jr_icmp_ge (tgt := 124) d_HT_near_66 (by decide) (jl_lt (by omega) hj) (fun _ => ?_)
            refine jr_aload_n d_HT_near_69 rfl rfl ?_
            refine jr_get d_HT_near_70 f_HT_19 h1 rfl ?_
            refine jr_get d_HT_near_73 f_HT_162 t1' rfl ?_
            refine jr_iload d_HT_near_76 rfl ?_
            refine cr_aald d_HT_near_78 rfl rfl t3' rfl z1 (by omega) ?_
            refine jr_astore d_HT_near_79 (by decide) ?_
            refine jr_aload_n d_HT_near_81 rfl rfl ?_
            refine jr_aload d_HT_near_82 rfl ?_
            refine jr_callV7 d_HT_near_84 i_HT_166 h1 (Nat.le_of_ble_eq_true rfl) (by decide) (c_HT_distM h1 h6 c6' hq.2.2 z2h hRj hs hf) (fun h hq2 => ?_)
            have hq := hq.tr hq2
            have y1' := hq.1 _ _ y1 (by omega)
            have w1' := hq.1 _ _ w1 (by omega)
            have kj : ky a s j = nrs a s j (my (a 13) j) * 10000 + nu (a 13) j := rfl
            have kk : ky a s k = nrs a s k (my (a 13) k) * 10000 + nu (a 13) k := rfl
            have nj := hRj.2.2.1
            have nk := hRk.2.2.1
            have nj1 := hRj.2.1
            have nk1 := hRk.2.1
            have yes : ky a s j < ky a s k → jy_J G 12 m_HT_near 115 [some (.ref 1), some (.int (nI n)), some (.int (nI k)), some (.ref x), some (.int (nI (nrs a s k (my (a 13) k)))), some (.int (nI (cnt (fun j => decide (ky a s j < ky a s k)) j))), some (.int (nI j)), some (.ref z), some (.int (nI (nrs a s j (my (a 13) j))))] [] h (opP h0 0 (some (.int (nrV a (nrI a s m n)))) (fun h' => Comp h' f a T m g np nb fl bx t s ∧ Fx h0 h')) := by
              intro hlt
              have e : cnt (fun j => decide (ky a s j < ky a s k)) (j + 1) = cnt (fun j => decide (ky a s j < ky a s k)) j + 1 := by simp [cnt, hlt]
              have := ihj h (some (.ref z)) (some (.int (nI (nrs a s j (my (a 13) j))))) hq
              rw [e] at this
              refine jr_iinc1 d_HT_near_115 rfl (by decide) ?_
              refine jr_iinc1 d_HT_near_118 rfl (by decide) ?_
              refine jr_goto (tgt := 57) d_HT_near_121 (by decide) ?_
              rw [nI_1, nI_1]
              exact this
            have no : ¬ ky a s j < ky a s k → jy_J G 12 m_HT_near 118 [some (.ref 1), some (.int (nI n)), some (.int (nI k)), some (.ref x), some (.int (nI (nrs a s k (my (a 13) k)))), some (.int (nI (cnt (fun j => decide (ky a s j < ky a s k)) j))), some (.int (nI j)), some (.ref z), some (.int (nI (nrs a s j (my (a 13) j))))] [] h (opP h0 0 (some (.int (nrV a (nrI a s m n)))) (fun h' => Comp h' f a T m g np nb fl bx t s ∧ Fx h0 h')) := by
              intro hlt
              have e : cnt (fun j => decide (ky a s j < ky a s k)) (j + 1) = cnt (fun j => decide (ky a s j < ky a s k)) j := by simp [cnt, hlt]
              have := ihj h (some (.ref z)) (some (.int (nI (nrs a s j (my (a 13) j))))) hq
              rw [e] at this
              refine jr_iinc1 d_HT_near_118 rfl (by decide) ?_
              refine jr_goto (tgt := 57) d_HT_near_121 (by decide) ?_
              rw [nI_1]
              exact this
            refine jr_istore d_HT_near_87 (by decide) ?_
            refine jr_iload d_HT_near_89 rfl ?_
            refine jr_iload d_HT_near_91 rfl ?_
            refine jr_icmp_lt (tgt := 115) d_HT_near_93 (by decide) (fun hc => yes ?_) (fun hc => ?_)
            · have := (nI_ltI (by omega) (by omega)).mp hc
              omega
            · have hge : ¬ nrs a s j (my (a 13) j) < nrs a s k (my (a 13) k) := fun q => hc ((nI_ltI (by omega) (by omega)).mpr q)
              refine jr_iload d_HT_near_96 rfl ?_
              refine jr_iload d_HT_near_98 rfl ?_
              refine jr_icmp_ne (tgt := 118) d_HT_near_100 (by decide) (fun hc2 => no ?_) (fun hc2 => ?_)
              · have : nrs a s j (my (a 13) j) ≠ nrs a s k (my (a 13) k) := fun q => hc2 (by rw [q])
                omega
              · have he := (nI_eq (by omega) (by omega)).mp hc2
                refine jr_aload d_HT_near_103 rfl ?_
                refine jr_get d_HT_near_105 f_HT_169 w1' rfl ?_
                refine jr_aload_n d_HT_near_108 rfl rfl ?_
                refine jr_get d_HT_near_109 f_HT_169 y1' rfl ?_
                rw [hRj.1, hRk.1]
                refine jr_icmp_ge (tgt := 118) d_HT_near_112 (by decide) (fun hc3 => no ?_) (fun hc3 => yes ?_)
                · have := (nI_leI (by omega) (by omega)).mp hc3
                  omega
                · have : ¬ nu (a 13) k ≤ nu (a 13) j := fun q => hc3 ((nI_leI (by omega) (by omega)).mpr q)
                  omega
        exact inner 0 (Nat.zero_le _) h _ _ hq
    exact key 0 (Nat.zero_le _) h0 _ _ _ _ _ _ ⟨St.rf, rfl, c7⟩ (fun k' hk' => by omega)
  · rw [if_pos hc]
    refine jr_iconst (v := -1) d_HT_near_19 (by decide) ?_
    refine jr_ireturn d_HT_near_20 rfl rfl ?_
    exact opP.ok rfl ⟨hC, Fx.rf⟩
theorem d_HT_say_0 : decode (jy_c m_HT_say) 0 = .ok (.iload_n 3, 1) := by decide +kernel
theorem d_HT_say_1 : decode (jy_c m_HT_say) 1 = .ok (.iconst 1, 1) := by decide +kernel
theorem d_HT_say_2 : decode (jy_c m_HT_say) 2 = .ok (.bipush 8, 2) := by decide +kernel
theorem d_HT_say_4 : decode (jy_c m_HT_say) 4 = .ok (.invokestatic 72, 3) := by decide +kernel
theorem d_HT_say_7 : decode (jy_c m_HT_say) 7 = .ok (.invokestatic 76, 3) := by decide +kernel
theorem d_HT_say_10 : decode (jy_c m_HT_say) 10 = .ok (.iconst 0, 1) := by decide +kernel
theorem d_HT_say_11 : decode (jy_c m_HT_say) 11 = .ok (.istore 4, 2) := by decide +kernel
theorem d_HT_say_13 : decode (jy_c m_HT_say) 13 = .ok (.iload 4, 2) := by decide +kernel
theorem d_HT_say_15 : decode (jy_c m_HT_say) 15 = .ok (.iload_n 3, 1) := by decide +kernel
theorem d_HT_say_16 : decode (jy_c m_HT_say) 16 = .ok (.if_icmp .ge 31, 3) := by decide +kernel
theorem d_HT_say_19 : decode (jy_c m_HT_say) 19 = .ok (.lload_n 1, 1) := by decide +kernel
theorem d_HT_say_20 : decode (jy_c m_HT_say) 20 = .ok (.bipush 8, 2) := by decide +kernel
theorem d_HT_say_22 : decode (jy_c m_HT_say) 22 = .ok (.iload 4, 2) := by decide +kernel
theorem d_HT_say_24 : decode (jy_c m_HT_say) 24 = .ok (.imul, 1) := by decide +kernel
theorem d_HT_say_25 : decode (jy_c m_HT_say) 25 = .ok (.lshr, 1) := by decide +kernel
theorem d_HT_say_26 : decode (jy_c m_HT_say) 26 = .ok (.ldc2_w 156, 3) := by decide +kernel
theorem d_HT_say_29 : decode (jy_c m_HT_say) 29 = .ok (.land, 1) := by decide +kernel
theorem d_HT_say_30 : decode (jy_c m_HT_say) 30 = .ok (.l2i, 1) := by decide +kernel
theorem d_HT_say_31 : decode (jy_c m_HT_say) 31 = .ok (.bipush 97, 2) := by decide +kernel
theorem d_HT_say_33 : decode (jy_c m_HT_say) 33 = .ok (.bipush 122, 2) := by decide +kernel
theorem d_HT_say_35 : decode (jy_c m_HT_say) 35 = .ok (.invokestatic 72, 3) := by decide +kernel
theorem d_HT_say_38 : decode (jy_c m_HT_say) 38 = .ok (.invokestatic 76, 3) := by decide +kernel
theorem d_HT_say_41 : decode (jy_c m_HT_say) 41 = .ok (.iinc 4 1, 3) := by decide +kernel
theorem d_HT_say_44 : decode (jy_c m_HT_say) 44 = .ok (.goto (-31), 3) := by decide +kernel
theorem d_HT_say_47 : decode (jy_c m_HT_say) 47 = .ok (.aload_n 0, 1) := by decide +kernel
theorem d_HT_say_48 : decode (jy_c m_HT_say) 48 = .ok (.getfield 19, 3) := by decide +kernel
theorem d_HT_say_51 : decode (jy_c m_HT_say) 51 = .ok (.getfield 105, 3) := by decide +kernel
theorem d_HT_say_54 : decode (jy_c m_HT_say) 54 = .ok (.ifCond .le 7, 3) := by decide +kernel
theorem d_HT_say_57 : decode (jy_c m_HT_say) 57 = .ok (.iconst 1, 1) := by decide +kernel
theorem d_HT_say_58 : decode (jy_c m_HT_say) 58 = .ok (.goto 4, 3) := by decide +kernel
theorem d_HT_say_61 : decode (jy_c m_HT_say) 61 = .ok (.iconst 0, 1) := by decide +kernel
theorem d_HT_say_62 : decode (jy_c m_HT_say) 62 = .ok (.invokestatic 96, 3) := by decide +kernel
theorem d_HT_say_65 : decode (jy_c m_HT_say) 65 = .ok (.aload_n 0, 1) := by decide +kernel
theorem d_HT_say_66 : decode (jy_c m_HT_say) 66 = .ok (.iload_n 3, 1) := by decide +kernel
theorem d_HT_say_67 : decode (jy_c m_HT_say) 67 = .ok (.putfield 99, 3) := by decide +kernel
theorem d_HT_say_70 : decode (jy_c m_HT_say) 70 = .ok (.iconst 0, 1) := by decide +kernel
theorem d_HT_say_71 : decode (jy_c m_HT_say) 71 = .ok (.istore 4, 2) := by decide +kernel
theorem d_HT_say_73 : decode (jy_c m_HT_say) 73 = .ok (.iload 4, 2) := by decide +kernel
theorem d_HT_say_75 : decode (jy_c m_HT_say) 75 = .ok (.iload_n 3, 1) := by decide +kernel
theorem d_HT_say_76 : decode (jy_c m_HT_say) 76 = .ok (.if_icmp .ge 29, 3) := by decide +kernel
theorem d_HT_say_79 : decode (jy_c m_HT_say) 79 = .ok (.aload_n 0, 1) := by decide +kernel
theorem d_HT_say_80 : decode (jy_c m_HT_say) 80 = .ok (.getfield 27, 3) := by decide +kernel
theorem d_HT_say_83 : decode (jy_c m_HT_say) 83 = .ok (.iload 4, 2) := by decide +kernel
theorem d_HT_say_85 : decode (jy_c m_HT_say) 85 = .ok (.lload_n 1, 1) := by decide +kernel
theorem d_HT_say_86 : decode (jy_c m_HT_say) 86 = .ok (.bipush 8, 2) := by decide +kernel
theorem d_HT_say_88 : decode (jy_c m_HT_say) 88 = .ok (.iload_n 3, 1) := by decide +kernel
theorem d_HT_say_89 : decode (jy_c m_HT_say) 89 = .ok (.iconst 1, 1) := by decide +kernel
theorem d_HT_say_90 : decode (jy_c m_HT_say) 90 = .ok (.isub, 1) := by decide +kernel
theorem d_HT_say_91 : decode (jy_c m_HT_say) 91 = .ok (.iload 4, 2) := by decide +kernel
theorem d_HT_say_93 : decode (jy_c m_HT_say) 93 = .ok (.isub, 1) := by decide +kernel
theorem d_HT_say_94 : decode (jy_c m_HT_say) 94 = .ok (.imul, 1) := by decide +kernel
theorem d_HT_say_95 : decode (jy_c m_HT_say) 95 = .ok (.lshr, 1) := by decide +kernel
theorem d_HT_say_96 : decode (jy_c m_HT_say) 96 = .ok (.l2i, 1) := by decide +kernel
theorem d_HT_say_97 : decode (jy_c m_HT_say) 97 = .ok (.i2b, 1) := by decide +kernel
theorem d_HT_say_98 : decode (jy_c m_HT_say) 98 = .ok (.bastore, 1) := by decide +kernel
theorem d_HT_say_99 : decode (jy_c m_HT_say) 99 = .ok (.iinc 4 1, 3) := by decide +kernel
theorem d_HT_say_102 : decode (jy_c m_HT_say) 102 = .ok (.goto (-29), 3) := by decide +kernel
theorem d_HT_say_105 : decode (jy_c m_HT_say) 105 = .ok (.aload_n 0, 1) := by decide +kernel
theorem d_HT_say_106 : decode (jy_c m_HT_say) 106 = .ok (.iconst 0, 1) := by decide +kernel
theorem d_HT_say_107 : decode (jy_c m_HT_say) 107 = .ok (.invokevirtual 158, 3) := by decide +kernel
theorem d_HT_say_110 : decode (jy_c m_HT_say) 110 = .ok (.ireturn, 1) := by decide +kernel
theorem sx_in {v : Int32} (h : inB v 97 122 = true) : sx v = v := by
  rw [inB_iff] at h
  obtain ⟨k, hk, rfl⟩ := nI_of2 (n := 122) (by decide) (Int32.not_lt.mpr (Int32.le_trans (by decide) h.1)) h.2
  have key : ∀ k, k < 128 → sx (nI k) = nI k := by decide +kernel
  exact key k (by omega)
theorem gdB_k {x : Int64} {k : Nat} : ∀ n, gdB x n = true → k < n → inB (bt x k) 97 122 = true := by
  intro n
  induction n with
  | zero => intro _ h; omega
  | succ n ih =>
    intro h hk
    rw [gdB, Bool.and_eq_true] at h
    by_cases e : k = n
    · subst e; exact h.2
    · exact ih h.1 (by omega)
theorem wrA_s {a : Nat → Nat → Int32} {x : Int64} {n : Nat} : ∀ j k, k < j → wrA a x n j 23 k = bt x (n - 1 - k) := by
  intro j
  induction j with
  | zero => intro k h; omega
  | succ j ih =>
    intro k hk
    show upd2 (wrA a x n j) 23 j (bt x (n - 1 - j)) 23 k = _
    rw [upd2_s]
    by_cases e : k = j
    · subst e; exact upd_s
    · rw [upd_n e]
      exact ih k (by omega)
theorem and255 (v : Int64) : (v &&& 255).toInt32 = v.toInt32 &&& 255 := by
  rw [Int64.toInt32_and]; rfl
theorem ht_say2 {x : Int64} {n : Nat} {P : Outcome → jy_P → Prop} (h8 : n ≤ 8) (hg : gdB x n = true) (h1 : h0[1]? = some (0, cf T f))
    (K : ∀ h (wb : Ft), St (fun i => i = 6) h0 h → h.length = h0.length → h[6]? = some (51, ints 8 wb) → (∀ j, j < n → wb j = bt x (n - 1 - j)) → jy_J G 13 m_HT_say 105 [some (.ref 1), some (.long x), none, some (.int (nI n)), some (.int (nI n))] [] h P) :
    ∀ k, k ≤ n → ∀ h (wb : Ft), St (fun i => i = 6) h0 h → h.length = h0.length → h[6]? = some (51, ints 8 wb) → (∀ j, j < k → wb j = bt x (n - 1 - j)) → jy_J G 13 m_HT_say 73 [some (.ref 1), some (.long x), none, some (.int (nI n)), some (.int (nI k))] [] h P := by
  refine jl_up n _ (fun h wb hS hl h6 q => ?_) (fun k hk ih h wb hS hl h6 q => ?_)
  · refine jr_iload d_HT_say_73 rfl ?_
    refine jr_iload_n d_HT_say_75 rfl rfl ?_
    exact jr_icmp_ge (tgt := 105) d_HT_say_76 (by decide) (fun _ => K h wb hS hl h6 q) (jl_eq (by omega))
  · have h1 := hS _ _ h1 (by decide)
    refine jr_iload d_HT_say_73 rfl ?_
    refine jr_iload_n d_HT_say_75 rfl rfl ?_
    refine jr_icmp_ge (tgt := 105) d_HT_say_76 (by decide) (jl_lt (by omega) hk) (fun _ => ?_)
    refine jr_aload_n d_HT_say_79 rfl rfl ?_
    refine jr_get d_HT_say_80 f_HT_27 h1 rfl ?_
    refine jr_iload d_HT_say_83 rfl ?_
    refine jr_lload_n d_HT_say_85 rfl rfl ?_
    refine jr_bipush (v := 8) d_HT_say_86 (by decide) ?_
    refine jr_iload_n d_HT_say_88 rfl rfl ?_
    refine jr_iconst (v := 1) d_HT_say_89 (by decide) ?_
    refine jr_isub d_HT_say_90 ?_
    refine jr_iload d_HT_say_91 rfl ?_
    refine jr_isub d_HT_say_93 ?_
    have e1 : nI n - 1 - nI k = nI (n - 1 - k) := by
      rw [show n = (n - 1) + 1 by omega, nI_pred, pk_sub (by omega)]
      congr 1
    rw [e1]
    refine jr_imul d_HT_say_94 ?_
    refine jr_lshr d_HT_say_95 ?_
    refine jr_l2i d_HT_say_96 ?_
    refine jr_i2b d_HT_say_97 ?_
    refine cr_bast d_HT_say_98 (by decide) h6 rfl (by omega) (by decide) ?_
    rw [sx_bt, sx_in (gdB_k n hg (by omega))]
    refine jr_iinc1 d_HT_say_99 rfl (by decide) ?_
    refine jr_goto (tgt := 73) d_HT_say_102 (by decide) ?_
    rw [nI_1]
    refine ih _ (upd wb k (bt x (n - 1 - k))) (hS.tr (St.set rfl)) (by simp [hl]) (gs_eq h6) (fun j hj => ?_)
    by_cases e : j = k
    · subst e; exact upd_s
    · rw [upd_n e]
      exact q j (by omega)
theorem c_HT_say (hC : Comp h0 f a T m g np nb fl bx t s) (h12 : m ≤ 12) (hR : tOk (a 13) m) (hD : ∀ j k, j < m → k < m → nu (a 13) j = nu (a 13) k → j = k) (hK : h0.length < jy_K) (x : Int64) (n : Int32) : jy_C G 13 m_HT_say [.ref 1, .long x, .int n] h0 (opP h0 (ex3 (syB x n) 9 (decide (0 < m)) 11 true 0) (some (.int (a 13 (43 * kO (fol (wrA a x n.toNatClampNeg n.toNatClampNeg) n.toNatClampNeg none m))))) (fun h' => Comp h' (upd f 27 n) (wrA a x n.toNatClampNeg n.toNatClampNeg) T m g np nb fl bx t n.toNatClampNeg ∧ Fx h0 h')) := by
  refine jy_C.of [some (.ref 1), some (.long x), none, some (.int n), none] rfl (Nat.le_of_ble_eq_true rfl) ?_
  have h1 := hC.1
  refine jr_iload_n d_HT_say_0 rfl rfl ?_
  refine jr_iconst (v := 1) d_HT_say_1 (by decide) ?_
  refine jr_bipush (v := 8) d_HT_say_2 (by decide) ?_
  refine jr_callSp3 d_HT_say_4 i_HT_72 (Nat.le_of_ble_eq_true rfl) (by decide) (c_HT_isIn _ _ _) ?_
  refine jr_guard d_HT_say_7 i_HT_76 (g_within hK) (Nat.le_of_ble_eq_true rfl) (by decide) (fun _ hq => by cases hq) (fun hc => ?_) (fun hc => opP.ex (by rw [syB, bI_eq0.mp hc]; rfl) (by decide))
  have g1 := bI_ne0.mp hc
  obtain ⟨N, hN1, hN8, rfl⟩ := inB_18 g1
  have eN : syB x (nI N) = gdB x N := by rw [syB, g1, nI_clamp (by omega), Bool.true_and]
  rw [eN, nI_clamp (by omega)]
  refine jr_iconst (v := 0) d_HT_say_10 (by decide) ?_
  refine jr_istore d_HT_say_11 (by decide) ?_
  have key : ∀ k, k ≤ N → gdB x k = true → jy_J G 13 m_HT_say 13 [some (.ref 1), some (.long x), none, some (.int (nI N)), some (.int (nI k))] [] h0 (opP h0 (ex3 (gdB x N) 9 (decide (0 < m)) 11 true 0) (some (.int (a 13 (43 * kO (fol (wrA a x N N) N none m))))) (fun h' => Comp h' (upd f 27 (nI N)) (wrA a x N N) T m g np nb fl bx t N ∧ Fx h0 h')) := by
    refine jl_up N _ (fun hgd => ?_) (fun k hk ih hgd => ?_)
    · rw [hgd]
      refine jr_iload d_HT_say_13 rfl ?_
      refine jr_iload_n d_HT_say_15 rfl rfl ?_
      refine jr_icmp_ge (tgt := 47) d_HT_say_16 (by decide) (fun _ => ?_) (jl_eq (by omega))
      have hC0 := hC
      obtain ⟨c1, ⟨at_, c2⟩, ⟨tb, c3, c3'⟩, c4, c5, ⟨wb, c6, c6'⟩, c7, c8, c9, c10⟩ := hC0
      have c50 := c5
      obtain ⟨ma, gv, mv, t1, -⟩ := c50
      refine jr_aload_n d_HT_say_47 rfl rfl ?_
      refine jr_get d_HT_say_48 f_HT_19 h1 rfl ?_
      refine jr_get d_HT_say_51 f_HT_105 t1 rfl ?_
      refine jy_cut1 62 (fun z => z = bI (decide (0 < m))) (fun K => ?_) (fun z hz => ?_)
      · refine jr_if_le (tgt := 61) d_HT_say_54 (by decide) (fun hc => ?_) (fun hc => ?_)
        · refine jr_iconst (v := 0) d_HT_say_61 (by decide) ?_
          exact K _ (by rw [(pos_b (by omega)).1 hc]; rfl)
        · refine jr_iconst (v := 1) d_HT_say_57 (by decide) ?_
          refine jr_goto (tgt := 62) d_HT_say_58 (by decide) ?_
          exact K _ (by rw [(pos_b (by omega)).2 hc]; rfl)
      subst hz
      refine jr_guard d_HT_say_62 i_HT_96 (g_must hK) (Nat.le_of_ble_eq_true rfl) (by decide) (fun _ hq => by cases hq) (fun hc => ?_) (fun hc => opP.ex (by rw [bI_eq0.mp hc]; rfl) (by decide))
      have g2 := bI_ne0.mp hc
      have g2' : 0 < m := of_decide_eq_true g2
      rw [show ex3 true 9 (decide (0 < m)) 11 true 0 = 0 by rw [g2]; rfl]
      refine jr_aload_n d_HT_say_65 rfl rfl ?_
      refine jr_iload_n d_HT_say_66 rfl rfl ?_
      refine hp_put d_HT_say_67 f_HT_99 (i := 27) rfl h1 (fun h hE67 h1 => ?_)
      refine jr_iconst (v := 0) d_HT_say_70 (by decide) ?_
      refine jr_istore d_HT_say_71 (by decide) ?_
      have s1 : St (fun i => i = 1 ∨ i = 6) h0 h := by rw [hE67]; exact St.set (Or.inl rfl)
      have hl1 : h.length = h0.length := by rw [hE67]; simp
      have h6 : h[6]? = some (51, ints 8 wb) := by rw [hE67, List.getElem?_set_ne (by decide)]; exact c6
      refine ht_say2 (h0 := h) hN8 hgd h1 (fun h' wb' hS hl h6 q => ?_) 0 (Nat.zero_le _) h wb St.rf rfl h6 (fun j hj => by omega)
      have s2 : St (fun i => i = 1 ∨ i = 6) h0 h' := s1.tr (hS.weak (fun i e => Or.inr e))
      have kt : Kt h0 h' := s2.kt (fun i e => by omega)
      have w13 : wrA a x N N 13 = a 13 := wrA_n (by decide) N
      have hC' : Comp h' (upd f 27 (nI N)) (wrA a x N N) T m g np nb fl bx t N := by
        refine ⟨hS _ _ h1 (by decide), ⟨at_, s2 _ _ c2 (by omega)⟩, ⟨tb, s2 _ _ c3 (by omega), ?_⟩, c4, ?_, ⟨wb', h6, fun j hj => by rw [q j hj, wrA_s N j hj]⟩, ?_, ?_, ?_, ?_⟩
        · rw [wrA_n (B := 12) (by decide) N]; exact c3'
        · rw [w13]; exact c5.kt c4 kt
        · obtain ⟨rw_, c7⟩ := c7
          exact ⟨rw_, s2 _ _ c7 (by omega)⟩
        · have := c8.kt kt (fun c w => s2 _ _ w (by omega))
          unfold PA iP at this ⊢
          rw [w13, wrA_n (B := 15) (by decide) N, wrA_n (B := 16) (by decide) N, wrA_n (B := 17) (by decide) N]
          exact this
        · have := c9.st (h' := h') (fun i c w n => s2 i c w (by omega))
          unfold BA at this ⊢
          rw [wrA_n (B := 18) (by decide) N, wrA_n (B := 19) (by decide) N]
          exact this
        · rw [wrA_n (B := 22) (by decide) N]
          exact s2 _ _ c10 (by omega)
      have hl' : h'.length = h0.length := hl.trans hl1
      have hnear := c_HT_near (G := G) hC' h12 (by rw [w13]; exact hR) (by rw [w13]; exact hD) hN8 upd_s (by rw [hl']; exact hK) 0
      refine jr_aload_n d_HT_say_105 rfl rfl ?_
      refine jr_iconst (v := 0) d_HT_say_106 (by decide) ?_
      refine jr_callV (As := [.int 0]) d_HT_say_107 i_HT_158 rfl hC'.1 (Nat.le_of_ble_eq_true rfl) (by decide) hnear (fun v h2 w => ?_) (fun y h2 w => ?_)
      · rcases w with ⟨-, w1, w2, w3⟩ | ⟨w0, -⟩
        · cases w1
          have hfs := fol_some (a := wrA a x N N) (s := N) m g2'
          have e : (if upd f 27 (nI N) 27 = 0 then -1 else nrV (wrA a x N N) (nrI (wrA a x N N) N m (0 : Int32).toNatClampNeg)) = a 13 (43 * kO (fol (wrA a x N N) N none m)) := by
            rw [show upd f 27 (nI N) 27 = nI N from upd_s, if_neg (nI_ne0 (by omega) (by omega)), show (0 : Int32).toNatClampNeg = 0 by decide, nrI]
            rcases hfo : fol (wrA a x N N) N none m with _ | b
            · rw [hfo] at hfs; cases hfs
            · show wrA a x N N 13 (43 * b) = a 13 (43 * b)
              rw [w13]
          rw [e]
          refine jr_ireturn d_HT_say_110 rfl rfl ?_
          exact opP.ok rfl ⟨w2, fun i c q n => w3.1 i c (s2 i c q (by omega)) n, by have := w3.2.1; omega, by have := w3.2.2; omega⟩
        · exact absurd rfl w0
      · rcases w with ⟨-, w1, -⟩ | ⟨w0, -⟩
        · cases w1
        · exact absurd rfl w0
    · refine jr_iload d_HT_say_13 rfl ?_
      refine jr_iload_n d_HT_say_15 rfl rfl ?_
      refine jr_icmp_ge (tgt := 47) d_HT_say_16 (by decide) (jl_lt (by omega) hk) (fun _ => ?_)
      refine jr_lload_n d_HT_say_19 rfl rfl ?_
      refine jr_bipush (v := 8) d_HT_say_20 (by decide) ?_
      refine jr_iload d_HT_say_22 rfl ?_
      refine jr_imul d_HT_say_24 ?_
      refine jr_lshr d_HT_say_25 ?_
      refine jr_ldc2 d_HT_say_26 w_HT_156 ?_
      refine jr_land d_HT_say_29 ?_
      refine jr_l2i d_HT_say_30 ?_
      rw [and255]
      refine jr_bipush (v := 97) d_HT_say_31 (by decide) ?_
      refine jr_bipush (v := 122) d_HT_say_33 (by decide) ?_
      refine jr_callSp3 d_HT_say_35 i_HT_72 (Nat.le_of_ble_eq_true rfl) (by decide) (c_HT_isIn _ _ _) ?_
      refine jr_guard d_HT_say_38 i_HT_76 (g_within hK) (Nat.le_of_ble_eq_true rfl) (by decide) (fun _ hq => by cases hq) (fun hc => ?_) (fun hc => opP.ex (by rw [gdB_f (k := k + 1) (by rw [gdB, hgd, Bool.true_and]; exact bI_eq0.mp hc) N (by omega)]; rfl) (by decide))
      have g3 := bI_ne0.mp hc
      refine jr_iinc1 d_HT_say_41 rfl (by decide) ?_
      refine jr_goto (tgt := 13) d_HT_say_44 (by decide) ?_
      rw [nI_1]
      exact ih (by rw [gdB, hgd, Bool.true_and]; exact g3)
  exact key 0 (Nat.zero_le _) rfl
end NE
