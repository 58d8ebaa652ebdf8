/-! the class: further answers -/
theorem d_HT_over_0 : decode (jy_c m_HT_over) 0 = .ok (.iload_n 1, 1) := by decide +kernel
theorem d_HT_over_1 : decode (jy_c m_HT_over) 1 = .ok (.iconst 0, 1) := by decide +kernel
theorem d_HT_over_2 : decode (jy_c m_HT_over) 2 = .ok (.iconst 4, 1) := by decide +kernel
theorem d_HT_over_3 : decode (jy_c m_HT_over) 3 = .ok (.invokestatic 72, 3) := by decide +kernel
theorem d_HT_over_6 : decode (jy_c m_HT_over) 6 = .ok (.invokestatic 108, 3) := by decide +kernel
theorem d_HT_over_9 : decode (jy_c m_HT_over) 9 = .ok (.iload_n 2, 1) := by decide +kernel
theorem d_HT_over_10 : decode (jy_c m_HT_over) 10 = .ok (.aload_n 0, 1) := by decide +kernel
theorem d_HT_over_11 : decode (jy_c m_HT_over) 11 = .ok (.getfield 57, 3) := by decide +kernel
theorem d_HT_over_14 : decode (jy_c m_HT_over) 14 = .ok (.iload_n 1, 1) := by decide +kernel
theorem d_HT_over_15 : decode (jy_c m_HT_over) 15 = .ok (.iaload, 1) := by decide +kernel
theorem d_HT_over_16 : decode (jy_c m_HT_over) 16 = .ok (.if_icmp .lt 7, 3) := by decide +kernel
theorem d_HT_over_19 : decode (jy_c m_HT_over) 19 = .ok (.iconst 1, 1) := by decide +kernel
theorem d_HT_over_20 : decode (jy_c m_HT_over) 20 = .ok (.goto 4, 3) := by decide +kernel
theorem d_HT_over_23 : decode (jy_c m_HT_over) 23 = .ok (.iconst 0, 1) := by decide +kernel
theorem d_HT_over_24 : decode (jy_c m_HT_over) 24 = .ok (.ireturn, 1) := by decide +kernel
theorem c_HT_over {G : jy_G} {h : jy_P} {T : Nat} {f : Nat → Int32} {a : Nat → Nat → Int32} (h1 : h[1]? = some (0, cf T f)) (hm : h[10]? = some (50, ints 5 (a 22))) (hK : h.length < jy_K) (k v : Int32) : jy_C G 13 m_HT_over [.ref 1, .int k, .int v] h (opP h (ex3 (inB k 0 4) 12 true 0 true 0) (some (.int (bI (decide (a 22 k.toNatClampNeg ≤ v))))) (fun h' => h' = h)) := by
  refine jy_C.of [some (.ref 1), some (.int k), some (.int v)] rfl (Nat.le_of_ble_eq_true rfl) ?_
  refine jr_iload_n d_HT_over_0 rfl rfl ?_
  refine jr_iconst (v := 0) d_HT_over_1 (by decide) ?_
  refine jr_iconst (v := 4) d_HT_over_2 (by decide) ?_
  refine jr_callSp3 d_HT_over_3 i_HT_72 (Nat.le_of_ble_eq_true rfl) (by decide) (c_HT_isIn _ _ _) ?_
  refine jr_guard d_HT_over_6 i_HT_108 (g_known hK) (Nat.le_of_ble_eq_true rfl) (by decide) (fun _ hq => by cases hq) (fun hc => ?_) (fun hc => opP.ex (by rw [bI_eq0.mp hc]; rfl) (by decide))
  have g1 := bI_ne0.mp hc
  obtain ⟨j, hj, rfl⟩ := inB_04 (c := 4) (by decide) g1
  refine jr_iload_n d_HT_over_9 rfl rfl ?_
  refine jr_aload_n d_HT_over_10 rfl rfl ?_
  refine jr_get d_HT_over_11 f_HT_57 h1 rfl ?_
  refine jr_iload_n d_HT_over_14 rfl rfl ?_
  refine cr_iald d_HT_over_15 hm rfl (by omega) (by decide) ?_
  rw [nI_clamp (by omega)]
  refine jr_icmp_lt (tgt := 23) d_HT_over_16 (by decide) (fun hc => ?_) (fun hc => ?_)
  · refine jr_iconst (v := 0) d_HT_over_23 (by decide) ?_
    refine jr_ireturn d_HT_over_24 rfl rfl ?_
    rw [decide_eq_false (Int32.not_le.mpr hc)]
    exact opP.ok (by rw [g1]; rfl) rfl
  · refine jr_iconst (v := 1) d_HT_over_19 (by decide) ?_
    refine jr_goto (tgt := 24) d_HT_over_20 (by decide) ?_
    refine jr_ireturn d_HT_over_24 rfl rfl ?_
    rw [decide_eq_true (Int32.not_lt.mp hc)]
    exact opP.ok (by rw [g1]; rfl) rfl
theorem d_HT_place_0 : decode (jy_c m_HT_place) 0 = .ok (.aload_n 0, 1) := by decide +kernel
theorem d_HT_place_1 : decode (jy_c m_HT_place) 1 = .ok (.getfield 23, 3) := by decide +kernel
theorem d_HT_place_4 : decode (jy_c m_HT_place) 4 = .ok (.ireturn, 1) := by decide +kernel
theorem c_HT_place {G : jy_G} {h : jy_P} {T : Nat} {f : Nat → Int32} (h1 : h[1]? = some (0, cf T f)) : jy_C G 1 m_HT_place [.ref 1] h (pP h (some (.int (f 3)))) := by
  refine jy_C.of [some (.ref 1)] rfl (Nat.le_of_ble_eq_true rfl) ?_
  refine jr_aload_n d_HT_place_0 rfl rfl ?_
  refine jr_get d_HT_place_1 f_HT_23 h1 rfl ?_
  refine jr_ireturn d_HT_place_4 rfl rfl ?_
  exact ⟨rfl, rfl⟩
theorem mx_ge {x y : Int32} : x ≤ mx x y ∧ y ≤ mx x y := by
  unfold mx
  split
  · rename_i h
    exact ⟨Int32.le_of_lt h, Int32.le_refl _⟩
  · rename_i h
    exact ⟨Int32.le_refl _, Int32.not_lt.mp h⟩
theorem sS_ge {a : Nat → Nat → Int32} {k : Nat} : ∀ n, k < n → cl a k 2 ≤ sS a n := by
  intro n
  induction n with
  | zero => intro h; omega
  | succ n ih =>
    intro h
    show cl a k 2 ≤ mx (sS a n) (cl a n 2)
    by_cases e : k = n
    · subst e
      exact mx_ge.2
    · exact Int32.le_trans (ih (by omega)) mx_ge.1
theorem d_HT_strict_0 : decode (jy_c m_HT_strict) 0 = .ok (.iload_n 1, 1) := by decide +kernel
theorem d_HT_strict_1 : decode (jy_c m_HT_strict) 1 = .ok (.ifCond .lt 7, 3) := by decide +kernel
theorem d_HT_strict_4 : decode (jy_c m_HT_strict) 4 = .ok (.iconst 1, 1) := by decide +kernel
theorem d_HT_strict_5 : decode (jy_c m_HT_strict) 5 = .ok (.goto 4, 3) := by decide +kernel
theorem d_HT_strict_8 : decode (jy_c m_HT_strict) 8 = .ok (.iconst 0, 1) := by decide +kernel
theorem d_HT_strict_9 : decode (jy_c m_HT_strict) 9 = .ok (.invokestatic 76, 3) := by decide +kernel
theorem d_HT_strict_12 : decode (jy_c m_HT_strict) 12 = .ok (.aload_n 0, 1) := by decide +kernel
theorem d_HT_strict_13 : decode (jy_c m_HT_strict) 13 = .ok (.invokevirtual 193, 3) := by decide +kernel
theorem d_HT_strict_16 : decode (jy_c m_HT_strict) 16 = .ok (.istore_n 2, 1) := by decide +kernel
theorem d_HT_strict_17 : decode (jy_c m_HT_strict) 17 = .ok (.iload_n 1, 1) := by decide +kernel
theorem d_HT_strict_18 : decode (jy_c m_HT_strict) 18 = .ok (.istore_n 3, 1) := by decide +kernel
theorem d_HT_strict_19 : decode (jy_c m_HT_strict) 19 = .ok (.iconst 0, 1) := by decide +kernel
theorem d_HT_strict_20 : decode (jy_c m_HT_strict) 20 = .ok (.istore 4, 2) := by decide +kernel
theorem d_HT_strict_22 : decode (jy_c m_HT_strict) 22 = .ok (.iload 4, 2) := by decide +kernel
theorem d_HT_strict_24 : decode (jy_c m_HT_strict) 24 = .ok (.aload_n 0, 1) := by decide +kernel
theorem d_HT_strict_25 : decode (jy_c m_HT_strict) 25 = .ok (.getfield 173, 3) := by decide +kernel
theorem d_HT_strict_28 : decode (jy_c m_HT_strict) 28 = .ok (.if_icmp .ge 47, 3) := by decide +kernel
theorem d_HT_strict_31 : decode (jy_c m_HT_strict) 31 = .ok (.aload_n 0, 1) := by decide +kernel
theorem d_HT_strict_32 : decode (jy_c m_HT_strict) 32 = .ok (.getfield 37, 3) := by decide +kernel
theorem d_HT_strict_35 : decode (jy_c m_HT_strict) 35 = .ok (.iload 4, 2) := by decide +kernel
theorem d_HT_strict_37 : decode (jy_c m_HT_strict) 37 = .ok (.aaload, 1) := by decide +kernel
theorem d_HT_strict_38 : decode (jy_c m_HT_strict) 38 = .ok (.getfield 183, 3) := by decide +kernel
theorem d_HT_strict_41 : decode (jy_c m_HT_strict) 41 = .ok (.getfield 127, 3) := by decide +kernel
theorem d_HT_strict_44 : decode (jy_c m_HT_strict) 44 = .ok (.iload_n 2, 1) := by decide +kernel
theorem d_HT_strict_45 : decode (jy_c m_HT_strict) 45 = .ok (.if_icmp .ge 6, 3) := by decide +kernel
theorem d_HT_strict_48 : decode (jy_c m_HT_strict) 48 = .ok (.goto 21, 3) := by decide +kernel
theorem d_HT_strict_51 : decode (jy_c m_HT_strict) 51 = .ok (.iload_n 3, 1) := by decide +kernel
theorem d_HT_strict_52 : decode (jy_c m_HT_strict) 52 = .ok (.ifCond .ne 14, 3) := by decide +kernel
theorem d_HT_strict_55 : decode (jy_c m_HT_strict) 55 = .ok (.aload_n 0, 1) := by decide +kernel
theorem d_HT_strict_56 : decode (jy_c m_HT_strict) 56 = .ok (.getfield 37, 3) := by decide +kernel
theorem d_HT_strict_59 : decode (jy_c m_HT_strict) 59 = .ok (.iload 4, 2) := by decide +kernel
theorem d_HT_strict_61 : decode (jy_c m_HT_strict) 61 = .ok (.aaload, 1) := by decide +kernel
theorem d_HT_strict_62 : decode (jy_c m_HT_strict) 62 = .ok (.getfield 203, 3) := by decide +kernel
theorem d_HT_strict_65 : decode (jy_c m_HT_strict) 65 = .ok (.ireturn, 1) := by decide +kernel
theorem d_HT_strict_66 : decode (jy_c m_HT_strict) 66 = .ok (.iinc 3 (-1), 3) := by decide +kernel
theorem d_HT_strict_69 : decode (jy_c m_HT_strict) 69 = .ok (.iinc 4 1, 3) := by decide +kernel
theorem d_HT_strict_72 : decode (jy_c m_HT_strict) 72 = .ok (.goto (-50), 3) := by decide +kernel
theorem d_HT_strict_75 : decode (jy_c m_HT_strict) 75 = .ok (.iconst (-1), 1) := by decide +kernel
theorem d_HT_strict_76 : decode (jy_c m_HT_strict) 76 = .ok (.ireturn, 1) := by decide +kernel
theorem c_HT_strict {G : jy_G} {h : jy_P} {T : Nat} {f : Nat → Int32} {a : Nat → Nat → Int32} {np : Nat} (h1 : h[1]? = some (0, cf T f)) (hp : PA h a np) (hn : f 12 = nI np) (h8 : np ≤ 8) (hK : h.length < jy_K) (i : Int32) : jy_C G 13 m_HT_strict [.ref 1, .int i] h (opP h (ex3 (decide (0 ≤ i)) 9 true 0 true 0) (some (.int (stF a (sS a np) (np - 0) 0 i))) (fun h' => h' = h)) := by
  refine jy_C.of [some (.ref 1), some (.int i), none, none, none] rfl (Nat.le_of_ble_eq_true rfl) ?_
  refine jr_iload_n d_HT_strict_0 rfl rfl ?_
  refine jy_cut1 9 (fun z => z = bI (decide (0 ≤ i))) (fun K => ?_) (fun z hz => ?_)
  · refine jr_if_lt (tgt := 8) d_HT_strict_1 (by decide) (fun hc => ?_) (fun hc => ?_)
    · refine jr_iconst (v := 0) d_HT_strict_8 (by decide) ?_
      exact K _ (by rw [decide_eq_false (Int32.not_le.mpr hc)]; rfl)
    · refine jr_iconst (v := 1) d_HT_strict_4 (by decide) ?_
      refine jr_goto (tgt := 9) d_HT_strict_5 (by decide) ?_
      exact K _ (by rw [decide_eq_true (Int32.not_lt.mp hc)]; rfl)
  subst hz
  refine jr_guard d_HT_strict_9 i_HT_76 (g_within hK) (Nat.le_of_ble_eq_true rfl) (by decide) (fun _ hq => by cases hq) (fun hc => ?_) (fun hc => opP.ex (by rw [bI_eq0.mp hc]; rfl) (by decide))
  have g1 := bI_ne0.mp hc
  have hp0 := hp
  obtain ⟨pv, v1, v2, v3⟩ := hp0
  refine jr_aload_n d_HT_strict_12 rfl rfl ?_
  refine jr_callVp0 d_HT_strict_13 i_HT_193 h1 (Nat.le_of_ble_eq_true rfl) (by decide) (c_HT_strictness h1 hp hn h8) ?_
  refine jr_istore_n d_HT_strict_16 rfl (by decide) ?_
  refine jr_iload_n d_HT_strict_17 rfl rfl ?_
  refine jr_istore_n d_HT_strict_18 rfl (by decide) ?_
  refine jr_iconst (v := 0) d_HT_strict_19 (by decide) ?_
  refine jr_istore d_HT_strict_20 (by decide) ?_
  rw [g1]
  have key : ∀ p, p ≤ np → ∀ left, jy_J G 13 m_HT_strict 22 [some (.ref 1), some (.int i), some (.int (sS a np)), some (.int left), some (.int (nI p))] [] h (opP h (ex3 true 9 true 0 true 0) (some (.int (stF a (sS a np) (np - p) p left))) (fun h' => h' = h)) := by
    refine jl_up np _ (fun left => ?_) (fun p hp ih left => ?_)
    · refine jr_iload d_HT_strict_22 rfl ?_
      refine jr_aload_n d_HT_strict_24 rfl rfl ?_
      refine jr_get d_HT_strict_25 f_HT_173 h1 rfl ?_
      rw [hn]
      refine jr_icmp_ge (tgt := 75) d_HT_strict_28 (by decide) (fun _ => ?_) (jl_eq (by omega))
      refine jr_iconst (v := -1) d_HT_strict_75 (by decide) ?_
      refine jr_ireturn d_HT_strict_76 rfl rfl ?_
      rw [stF_e]
      exact opP.ok rfl rfl
    · obtain ⟨x, x1, -, mv, dv, hx, ⟨-, y, -, hd, hy⟩, -⟩ := v3 p hp
      refine jr_iload d_HT_strict_22 rfl ?_
      refine jr_aload_n d_HT_strict_24 rfl rfl ?_
      refine jr_get d_HT_strict_25 f_HT_173 h1 rfl ?_
      rw [hn]
      refine jr_icmp_ge (tgt := 75) d_HT_strict_28 (by decide) (jl_lt (by omega) hp) (fun _ => ?_)
      refine jr_aload_n d_HT_strict_31 rfl rfl ?_
      refine jr_get d_HT_strict_32 f_HT_37 h1 rfl ?_
      refine jr_iload d_HT_strict_35 rfl ?_
      refine cr_aald d_HT_strict_37 rfl rfl v1 rfl x1 (by omega) ?_
      refine jr_get d_HT_strict_38 f_HT_183 hx rfl ?_
      refine jr_get d_HT_strict_41 f_HT_127 hd rfl ?_
      refine jr_iload_n d_HT_strict_44 rfl rfl ?_
      have hge := sS_ge (a := a) (k := p) np hp
      refine jr_icmp_ge (tgt := 51) d_HT_strict_45 (by decide) (fun hc2 => ?_) (fun hc2 => ?_)
      · have hc2 : cl a p 2 = sS a np := Int32.le_antisymm hge hc2
        refine jr_iload_n d_HT_strict_51 rfl rfl ?_
        refine jr_if_ne (tgt := 66) d_HT_strict_52 (by decide) (fun hc3 => ?_) (fun hc3 => ?_)
        · refine jr_iincm1 d_HT_strict_66 rfl (by decide) ?_
          refine jr_iinc1 d_HT_strict_69 rfl (by decide) ?_
          refine jr_goto (tgt := 22) d_HT_strict_72 (by decide) ?_
          rw [nI_1, stF_s hp, if_pos hc2, if_neg hc3]
          exact ih _
        · refine jr_aload_n d_HT_strict_55 rfl rfl ?_
          refine jr_get d_HT_strict_56 f_HT_37 h1 rfl ?_
          refine jr_iload d_HT_strict_59 rfl ?_
          refine cr_aald d_HT_strict_61 rfl rfl v1 rfl x1 (by omega) ?_
          refine jr_get d_HT_strict_62 f_HT_203 hx rfl ?_
          refine jr_ireturn d_HT_strict_65 rfl rfl ?_
          rw [stF_s hp, if_pos hc2, if_pos hc3]
          exact opP.ok rfl rfl
      · have hc2 : ¬ cl a p 2 = sS a np := fun q => hc2 (by rw [← q]; exact Int32.le_refl _)
        refine jr_goto (tgt := 69) d_HT_strict_48 (by decide) ?_
        refine jr_iinc1 d_HT_strict_69 rfl (by decide) ?_
        refine jr_goto (tgt := 22) d_HT_strict_72 (by decide) ?_
        rw [nI_1, stF_s hp, if_neg hc2]
        exact ih _
  exact key 0 (Nat.zero_le _) i
theorem d_HT_mixture_0 : decode (jy_c m_HT_mixture) 0 = .ok (.iload_n 1, 1) := by decide +kernel
theorem d_HT_mixture_1 : decode (jy_c m_HT_mixture) 1 = .ok (.iconst 0, 1) := by decide +kernel
theorem d_HT_mixture_2 : decode (jy_c m_HT_mixture) 2 = .ok (.iconst 5, 1) := by decide +kernel
theorem d_HT_mixture_3 : decode (jy_c m_HT_mixture) 3 = .ok (.invokestatic 72, 3) := by decide +kernel
theorem d_HT_mixture_6 : decode (jy_c m_HT_mixture) 6 = .ok (.invokestatic 108, 3) := by decide +kernel
theorem d_HT_mixture_9 : decode (jy_c m_HT_mixture) 9 = .ok (.aload_n 0, 1) := by decide +kernel
theorem d_HT_mixture_10 : decode (jy_c m_HT_mixture) 10 = .ok (.getfield 173, 3) := by decide +kernel
theorem d_HT_mixture_13 : decode (jy_c m_HT_mixture) 13 = .ok (.ifCond .le 7, 3) := by decide +kernel
theorem d_HT_mixture_16 : decode (jy_c m_HT_mixture) 16 = .ok (.iconst 1, 1) := by decide +kernel
theorem d_HT_mixture_17 : decode (jy_c m_HT_mixture) 17 = .ok (.goto 4, 3) := by decide +kernel
theorem d_HT_mixture_20 : decode (jy_c m_HT_mixture) 20 = .ok (.iconst 0, 1) := by decide +kernel
theorem d_HT_mixture_21 : decode (jy_c m_HT_mixture) 21 = .ok (.invokestatic 96, 3) := by decide +kernel
theorem d_HT_mixture_24 : decode (jy_c m_HT_mixture) 24 = .ok (.iconst 0, 1) := by decide +kernel
theorem d_HT_mixture_25 : decode (jy_c m_HT_mixture) 25 = .ok (.istore_n 2, 1) := by decide +kernel
theorem d_HT_mixture_26 : decode (jy_c m_HT_mixture) 26 = .ok (.iconst 0, 1) := by decide +kernel
theorem d_HT_mixture_27 : decode (jy_c m_HT_mixture) 27 = .ok (.istore_n 3, 1) := by decide +kernel
theorem d_HT_mixture_28 : decode (jy_c m_HT_mixture) 28 = .ok (.iload_n 3, 1) := by decide +kernel
theorem d_HT_mixture_29 : decode (jy_c m_HT_mixture) 29 = .ok (.aload_n 0, 1) := by decide +kernel
theorem d_HT_mixture_30 : decode (jy_c m_HT_mixture) 30 = .ok (.getfield 173, 3) := by decide +kernel
theorem d_HT_mixture_33 : decode (jy_c m_HT_mixture) 33 = .ok (.if_icmp .ge 24, 3) := by decide +kernel
theorem d_HT_mixture_36 : decode (jy_c m_HT_mixture) 36 = .ok (.iload_n 2, 1) := by decide +kernel
theorem d_HT_mixture_37 : decode (jy_c m_HT_mixture) 37 = .ok (.aload_n 0, 1) := by decide +kernel
theorem d_HT_mixture_38 : decode (jy_c m_HT_mixture) 38 = .ok (.getfield 37, 3) := by decide +kernel
theorem d_HT_mixture_41 : decode (jy_c m_HT_mixture) 41 = .ok (.iload_n 3, 1) := by decide +kernel
theorem d_HT_mixture_42 : decode (jy_c m_HT_mixture) 42 = .ok (.aaload, 1) := by decide +kernel
theorem d_HT_mixture_43 : decode (jy_c m_HT_mixture) 43 = .ok (.getfield 183, 3) := by decide +kernel
theorem d_HT_mixture_46 : decode (jy_c m_HT_mixture) 46 = .ok (.getfield 132, 3) := by decide +kernel
theorem d_HT_mixture_49 : decode (jy_c m_HT_mixture) 49 = .ok (.ior, 1) := by decide +kernel
theorem d_HT_mixture_50 : decode (jy_c m_HT_mixture) 50 = .ok (.istore_n 2, 1) := by decide +kernel
theorem d_HT_mixture_51 : decode (jy_c m_HT_mixture) 51 = .ok (.iinc 3 1, 3) := by decide +kernel
theorem d_HT_mixture_54 : decode (jy_c m_HT_mixture) 54 = .ok (.goto (-26), 3) := by decide +kernel
theorem d_HT_mixture_57 : decode (jy_c m_HT_mixture) 57 = .ok (.iload_n 1, 1) := by decide +kernel
theorem d_HT_mixture_58 : decode (jy_c m_HT_mixture) 58 = .ok (.tableswitch 58 0 4 #[34, 39, 41, 47, 53], 34) := by decide +kernel
theorem d_HT_mixture_92 : decode (jy_c m_HT_mixture) 92 = .ok (.aload_n 0, 1) := by decide +kernel
theorem d_HT_mixture_93 : decode (jy_c m_HT_mixture) 93 = .ok (.invokevirtual 193, 3) := by decide +kernel
theorem d_HT_mixture_96 : decode (jy_c m_HT_mixture) 96 = .ok (.ireturn, 1) := by decide +kernel
theorem d_HT_mixture_97 : decode (jy_c m_HT_mixture) 97 = .ok (.iload_n 2, 1) := by decide +kernel
theorem d_HT_mixture_98 : decode (jy_c m_HT_mixture) 98 = .ok (.ireturn, 1) := by decide +kernel
theorem d_HT_mixture_99 : decode (jy_c m_HT_mixture) 99 = .ok (.aload_n 0, 1) := by decide +kernel
theorem d_HT_mixture_100 : decode (jy_c m_HT_mixture) 100 = .ok (.iconst 0, 1) := by decide +kernel
theorem d_HT_mixture_101 : decode (jy_c m_HT_mixture) 101 = .ok (.invokevirtual 196, 3) := by decide +kernel
theorem d_HT_mixture_104 : decode (jy_c m_HT_mixture) 104 = .ok (.ireturn, 1) := by decide +kernel
theorem d_HT_mixture_105 : decode (jy_c m_HT_mixture) 105 = .ok (.aload_n 0, 1) := by decide +kernel
theorem d_HT_mixture_106 : decode (jy_c m_HT_mixture) 106 = .ok (.iconst 1, 1) := by decide +kernel
theorem d_HT_mixture_107 : decode (jy_c m_HT_mixture) 107 = .ok (.invokevirtual 196, 3) := by decide +kernel
theorem d_HT_mixture_110 : decode (jy_c m_HT_mixture) 110 = .ok (.ireturn, 1) := by decide +kernel
theorem d_HT_mixture_111 : decode (jy_c m_HT_mixture) 111 = .ok (.aload_n 0, 1) := by decide +kernel
theorem d_HT_mixture_112 : decode (jy_c m_HT_mixture) 112 = .ok (.getfield 173, 3) := by decide +kernel
theorem d_HT_mixture_115 : decode (jy_c m_HT_mixture) 115 = .ok (.ireturn, 1) := by decide +kernel
theorem d_HT_mixture_116 : decode (jy_c m_HT_mixture) 116 = .ok (.aload_n 0, 1) := by decide +kernel
theorem d_HT_mixture_117 : decode (jy_c m_HT_mixture) 117 = .ok (.invokevirtual 200, 3) := by decide +kernel
theorem d_HT_mixture_120 : decode (jy_c m_HT_mixture) 120 = .ok (.ireturn, 1) := by decide +kernel
theorem c_HT_mixture {G : jy_G} {h : jy_P} {T : Nat} {f : Nat → Int32} {a : Nat → Nat → Int32} {np : Nat} (h1 : h[1]? = some (0, cf T f)) (hp : PA h a np) (hn : f 12 = nI np) (h8 : np ≤ 8) (hK : h.length < jy_K) (w : Int32) : jy_C G 13 m_HT_mixture [.ref 1, .int w] h (opP h (ex3 (inB w 0 5) 12 (decide (0 < np)) 11 true 0) (some (.int (mxV a np w))) (fun h' => h' = h)) := by
  refine jy_C.of [some (.ref 1), some (.int w), none, none] rfl (Nat.le_of_ble_eq_true rfl) ?_
  refine jr_iload_n d_HT_mixture_0 rfl rfl ?_
  refine jr_iconst (v := 0) d_HT_mixture_1 (by decide) ?_
  refine jr_iconst (v := 5) d_HT_mixture_2 (by decide) ?_
  refine jr_callSp3 d_HT_mixture_3 i_HT_72 (Nat.le_of_ble_eq_true rfl) (by decide) (c_HT_isIn _ _ _) ?_
  refine jr_guard d_HT_mixture_6 i_HT_108 (g_known hK) (Nat.le_of_ble_eq_true rfl) (by decide) (fun _ hq => by cases hq) (fun hc => ?_) (fun hc => opP.ex (by rw [bI_eq0.mp hc]; rfl) (by decide))
  have g1 := bI_ne0.mp hc
  refine jr_aload_n d_HT_mixture_9 rfl rfl ?_
  refine jr_get d_HT_mixture_10 f_HT_173 h1 rfl ?_
  rw [hn]
  refine jy_cut1 21 (fun z => z = bI (decide (0 < np))) (fun K => ?_) (fun z hz => ?_)
  · refine jr_if_le (tgt := 20) d_HT_mixture_13 (by decide) (fun hc => ?_) (fun hc => ?_)
    · refine jr_iconst (v := 0) d_HT_mixture_20 (by decide) ?_
      exact K _ (by rw [(pos_b (by omega)).1 hc]; rfl)
    · refine jr_iconst (v := 1) d_HT_mixture_16 (by decide) ?_
      refine jr_goto (tgt := 21) d_HT_mixture_17 (by decide) ?_
      exact K _ (by rw [(pos_b (by omega)).2 hc]; rfl)
  subst hz
  refine jr_guard d_HT_mixture_21 i_HT_96 (g_must hK) (Nat.le_of_ble_eq_true rfl) (by decide) (fun _ hq => by cases hq) (fun hc => ?_) (fun hc => opP.ex (by rw [g1, bI_eq0.mp hc]; rfl) (by decide))
  have g2 := bI_ne0.mp hc
  rw [show ex3 (inB w 0 5) 12 (decide (0 < np)) 11 true 0 = 0 by rw [g1, g2]; rfl]
  refine jr_iconst (v := 0) d_HT_mixture_24 (by decide) ?_
  refine jr_istore_n d_HT_mixture_25 rfl (by decide) ?_
  refine jr_iconst (v := 0) d_HT_mixture_26 (by decide) ?_
  refine jr_istore_n d_HT_mixture_27 rfl (by decide) ?_
  have hp0 := hp
  obtain ⟨pv, v1, v2, v3⟩ := hp0
  obtain ⟨j, hj, rfl⟩ := inB_04 (c := 5) (by decide) g1
  have key : ∀ p, p ≤ np → jy_J G 13 m_HT_mixture 28 [some (.ref 1), some (.int (nI j)), some (.int (grs a p)), some (.int (nI p))] [] h (opP h 0 (some (.int (mxV a np (nI j)))) (fun h' => h' = h)) := by
    refine jl_up np _ ?_ (fun p hp ih => ?_)
    · refine jr_iload_n d_HT_mixture_28 rfl rfl ?_
      refine jr_aload_n d_HT_mixture_29 rfl rfl ?_
      refine jr_get d_HT_mixture_30 f_HT_173 h1 rfl ?_
      rw [hn]
      refine jr_icmp_ge (tgt := 57) d_HT_mixture_33 (by decide) (fun _ => ?_) (jl_eq (by omega))
      refine jr_iload_n d_HT_mixture_57 rfl rfl ?_
      have e0 : (nI j).toInt = (j : Int) := nI_toInt (by omega)
      have hj6 : j = 0 ∨ j = 1 ∨ j = 2 ∨ j = 3 ∨ j = 4 ∨ j = 5 := by omega
      rcases hj6 with rfl | rfl | rfl | rfl | rfl | rfl
      · refine jr_tabIn d_HT_mixture_58 (off := 34) (tgt := 92) (by decide) (by decide) (by decide) (by decide) ?_
        refine jr_aload_n d_HT_mixture_92 rfl rfl ?_
        refine jr_callVp0 d_HT_mixture_93 i_HT_193 h1 (Nat.le_of_ble_eq_true rfl) (by decide) (c_HT_strictness h1 hp hn h8) ?_
        refine jr_ireturn d_HT_mixture_96 rfl rfl ?_
        exact opP.ok rfl rfl
      · refine jr_tabIn d_HT_mixture_58 (off := 39) (tgt := 97) (by decide) (by decide) (by decide) (by decide) ?_
        refine jr_iload_n d_HT_mixture_97 rfl rfl ?_
        refine jr_ireturn d_HT_mixture_98 rfl rfl ?_
        exact opP.ok rfl rfl
      · refine jr_tabIn d_HT_mixture_58 (off := 41) (tgt := 99) (by decide) (by decide) (by decide) (by decide) ?_
        refine jr_aload_n d_HT_mixture_99 rfl rfl ?_
        refine jr_iconst (v := 0) d_HT_mixture_100 (by decide) ?_
        refine jr_callVp1 d_HT_mixture_101 i_HT_196 h1 (Nat.le_of_ble_eq_true rfl) (by decide) (c_HT_farthest h1 hp hn h8 false) ?_
        refine jr_ireturn d_HT_mixture_104 rfl rfl ?_
        exact opP.ok rfl rfl
      · refine jr_tabIn d_HT_mixture_58 (off := 47) (tgt := 105) (by decide) (by decide) (by decide) (by decide) ?_
        refine jr_aload_n d_HT_mixture_105 rfl rfl ?_
        refine jr_iconst (v := 1) d_HT_mixture_106 (by decide) ?_
        refine jr_callVp1 d_HT_mixture_107 i_HT_196 h1 (Nat.le_of_ble_eq_true rfl) (by decide) (c_HT_farthest h1 hp hn h8 true) ?_
        refine jr_ireturn d_HT_mixture_110 rfl rfl ?_
        exact opP.ok rfl rfl
      · refine jr_tabIn d_HT_mixture_58 (off := 53) (tgt := 111) (by decide) (by decide) (by decide) (by decide) ?_
        refine jr_aload_n d_HT_mixture_111 rfl rfl ?_
        refine jr_get d_HT_mixture_112 f_HT_173 h1 rfl ?_
        rw [hn]
        refine jr_ireturn d_HT_mixture_115 rfl rfl ?_
        exact opP.ok rfl rfl
      · refine jr_tabOut d_HT_mixture_58 (tgt := 116) (by decide) (by decide) ?_
        refine jr_aload_n d_HT_mixture_116 rfl rfl ?_
        refine jr_callVp0 d_HT_mixture_117 i_HT_200 h1 (Nat.le_of_ble_eq_true rfl) (by decide) (c_HT_pairs h1 hp hn h8) ?_
        refine jr_ireturn d_HT_mixture_120 rfl rfl ?_
        exact opP.ok rfl rfl
    · obtain ⟨x, x1, -, mv, dv, hx, ⟨-, y, -, hd, hy⟩, -⟩ := v3 p hp
      refine jr_iload_n d_HT_mixture_28 rfl rfl ?_
      refine jr_aload_n d_HT_mixture_29 rfl rfl ?_
      refine jr_get d_HT_mixture_30 f_HT_173 h1 rfl ?_
      rw [hn]
      refine jr_icmp_ge (tgt := 57) d_HT_mixture_33 (by decide) (jl_lt (by omega) hp) (fun _ => ?_)
      refine jr_iload_n d_HT_mixture_36 rfl rfl ?_
      refine jr_aload_n d_HT_mixture_37 rfl rfl ?_
      refine jr_get d_HT_mixture_38 f_HT_37 h1 rfl ?_
      refine jr_iload_n d_HT_mixture_41 rfl rfl ?_
      refine cr_aald d_HT_mixture_42 rfl rfl v1 rfl x1 (by omega) ?_
      refine jr_get d_HT_mixture_43 f_HT_183 hx rfl ?_
      refine jr_get d_HT_mixture_46 f_HT_132 hd rfl ?_
      refine jr_ior d_HT_mixture_49 ?_
      refine jr_istore_n d_HT_mixture_50 rfl (by decide) ?_
      refine jr_iinc1 d_HT_mixture_51 rfl (by decide) ?_
      refine jr_goto (tgt := 28) d_HT_mixture_54 (by decide) ?_
      rw [nI_1]
      exact ih
  exact key 0 (Nat.zero_le _)
theorem d_HT_fresh_0 : decode (jy_c m_HT_fresh) 0 = .ok (.iload_n 1, 1) := by decide +kernel
theorem d_HT_fresh_1 : decode (jy_c m_HT_fresh) 1 = .ok (.ifCond .lt 7, 3) := by decide +kernel
theorem d_HT_fresh_4 : decode (jy_c m_HT_fresh) 4 = .ok (.iconst 1, 1) := by decide +kernel
theorem d_HT_fresh_5 : decode (jy_c m_HT_fresh) 5 = .ok (.goto 4, 3) := by decide +kernel
theorem d_HT_fresh_8 : decode (jy_c m_HT_fresh) 8 = .ok (.iconst 0, 1) := by decide +kernel
theorem d_HT_fresh_9 : decode (jy_c m_HT_fresh) 9 = .ok (.invokestatic 76, 3) := by decide +kernel
theorem d_HT_fresh_12 : decode (jy_c m_HT_fresh) 12 = .ok (.iload_n 1, 1) := by decide +kernel
theorem d_HT_fresh_13 : decode (jy_c m_HT_fresh) 13 = .ok (.istore_n 2, 1) := by decide +kernel
theorem d_HT_fresh_14 : decode (jy_c m_HT_fresh) 14 = .ok (.iconst 0, 1) := by decide +kernel
theorem d_HT_fresh_15 : decode (jy_c m_HT_fresh) 15 = .ok (.istore_n 3, 1) := by decide +kernel
theorem d_HT_fresh_16 : decode (jy_c m_HT_fresh) 16 = .ok (.iload_n 3, 1) := by decide +kernel
theorem d_HT_fresh_17 : decode (jy_c m_HT_fresh) 17 = .ok (.aload_n 0, 1) := by decide +kernel
theorem d_HT_fresh_18 : decode (jy_c m_HT_fresh) 18 = .ok (.getfield 208, 3) := by decide +kernel
theorem d_HT_fresh_21 : decode (jy_c m_HT_fresh) 21 = .ok (.if_icmp .ge 33, 3) := by decide +kernel
theorem d_HT_fresh_24 : decode (jy_c m_HT_fresh) 24 = .ok (.aload_n 0, 1) := by decide +kernel
theorem d_HT_fresh_25 : decode (jy_c m_HT_fresh) 25 = .ok (.getfield 43, 3) := by decide +kernel
theorem d_HT_fresh_28 : decode (jy_c m_HT_fresh) 28 = .ok (.iload_n 3, 1) := by decide +kernel
theorem d_HT_fresh_29 : decode (jy_c m_HT_fresh) 29 = .ok (.aaload, 1) := by decide +kernel
theorem d_HT_fresh_30 : decode (jy_c m_HT_fresh) 30 = .ok (.getfield 228, 3) := by decide +kernel
theorem d_HT_fresh_33 : decode (jy_c m_HT_fresh) 33 = .ok (.ifCond .ne 6, 3) := by decide +kernel
theorem d_HT_fresh_36 : decode (jy_c m_HT_fresh) 36 = .ok (.goto 12, 3) := by decide +kernel
theorem d_HT_fresh_39 : decode (jy_c m_HT_fresh) 39 = .ok (.iload_n 2, 1) := by decide +kernel
theorem d_HT_fresh_40 : decode (jy_c m_HT_fresh) 40 = .ok (.ifCond .ne 5, 3) := by decide +kernel
theorem d_HT_fresh_43 : decode (jy_c m_HT_fresh) 43 = .ok (.iload_n 3, 1) := by decide +kernel
theorem d_HT_fresh_44 : decode (jy_c m_HT_fresh) 44 = .ok (.ireturn, 1) := by decide +kernel
theorem d_HT_fresh_45 : decode (jy_c m_HT_fresh) 45 = .ok (.iinc 2 (-1), 3) := by decide +kernel
theorem d_HT_fresh_48 : decode (jy_c m_HT_fresh) 48 = .ok (.iinc 3 1, 3) := by decide +kernel
theorem d_HT_fresh_51 : decode (jy_c m_HT_fresh) 51 = .ok (.goto (-35), 3) := by decide +kernel
theorem d_HT_fresh_54 : decode (jy_c m_HT_fresh) 54 = .ok (.iconst (-1), 1) := by decide +kernel
theorem d_HT_fresh_55 : decode (jy_c m_HT_fresh) 55 = .ok (.ireturn, 1) := by decide +kernel
theorem c_HT_fresh {G : jy_G} {h : jy_P} {T : Nat} {f : Nat → Int32} {a : Nat → Nat → Int32} {nb : Nat} {fl : Nat → Bool} {bx : Nat → Nat} (h1 : h[1]? = some (0, cf T f)) (hB : BA h a nb fl bx) (hn : f 19 = nI nb) (h40 : nb ≤ 40) (hf : f 23 = nI (cnt fl nb)) (hfr : ∀ k, k < nb → fl k = true → a 21 (cnt fl k) = nI k) (hK : h.length < jy_K) (i : Int32) : jy_C G 13 m_HT_fresh [.ref 1, .int i] h (opP h (ex3 (decide (0 ≤ i)) 9 true 0 true 0) (some (.int (if i < f 23 then a 21 i.toNatClampNeg else -1))) (fun h' => h' = h)) := by
  refine jy_C.of [some (.ref 1), some (.int i), none, none] rfl (Nat.le_of_ble_eq_true rfl) ?_
  refine jr_iload_n d_HT_fresh_0 rfl rfl ?_
  refine jy_cut1 9 (fun z => z = bI (decide (0 ≤ i))) (fun K => ?_) (fun z hz => ?_)
  · refine jr_if_lt (tgt := 8) d_HT_fresh_1 (by decide) (fun hc => ?_) (fun hc => ?_)
    · refine jr_iconst (v := 0) d_HT_fresh_8 (by decide) ?_
      exact K _ (by rw [decide_eq_false (Int32.not_le.mpr hc)]; rfl)
    · refine jr_iconst (v := 1) d_HT_fresh_4 (by decide) ?_
      refine jr_goto (tgt := 9) d_HT_fresh_5 (by decide) ?_
      exact K _ (by rw [decide_eq_true (Int32.not_lt.mp hc)]; rfl)
  subst hz
  refine jr_guard d_HT_fresh_9 i_HT_76 (g_within hK) (Nat.le_of_ble_eq_true rfl) (by decide) (fun _ hq => by cases hq) (fun hc => ?_) (fun hc => opP.ex (by rw [bI_eq0.mp hc]; rfl) (by decide))
  have g1 := bI_ne0.mp hc
  obtain ⟨⟨bv, v1, v2, v3⟩, -⟩ := hB
  obtain ⟨n, hn31, rfl⟩ := nI_of (Int32.not_lt.mpr (of_decide_eq_true g1))
  rw [g1, hf, nI_clamp hn31]
  have hcb := cnt_le (g := fl) nb
  refine jr_iload_n d_HT_fresh_12 rfl rfl ?_
  refine jr_istore_n d_HT_fresh_13 rfl (by decide) ?_
  refine jr_iconst (v := 0) d_HT_fresh_14 (by decide) ?_
  refine jr_istore_n d_HT_fresh_15 rfl (by decide) ?_
  have key : ∀ p, p ≤ nb → cnt fl p ≤ n → jy_J G 13 m_HT_fresh 16 [some (.ref 1), some (.int (nI n)), some (.int (nI (n - cnt fl p))), some (.int (nI p))] [] h (opP h (ex3 true 9 true 0 true 0) (some (.int (if nI n < nI (cnt fl nb) then a 21 n else -1))) (fun h' => h' = h)) := by
    refine jl_up nb _ (fun hle => ?_) (fun p hp ih hle => ?_)
    · refine jr_iload_n d_HT_fresh_16 rfl rfl ?_
      refine jr_aload_n d_HT_fresh_17 rfl rfl ?_
      refine jr_get d_HT_fresh_18 f_HT_208 h1 rfl ?_
      rw [hn]
      refine jr_icmp_ge (tgt := 54) d_HT_fresh_21 (by decide) (fun _ => ?_) (jl_eq (by omega))
      refine jr_iconst (v := -1) d_HT_fresh_54 (by decide) ?_
      refine jr_ireturn d_HT_fresh_55 rfl rfl ?_
      rw [if_neg (nI_nlt hle (by omega))]
      exact opP.ok rfl rfl
    · obtain ⟨x1, x2, x3⟩ := v3 p hp
      have hcp := cnt_le (g := fl) p
      refine jr_iload_n d_HT_fresh_16 rfl rfl ?_
      refine jr_aload_n d_HT_fresh_17 rfl rfl ?_
      refine jr_get d_HT_fresh_18 f_HT_208 h1 rfl ?_
      rw [hn]
      refine jr_icmp_ge (tgt := 54) d_HT_fresh_21 (by decide) (jl_lt (by omega) hp) (fun _ => ?_)
      refine jr_aload_n d_HT_fresh_24 rfl rfl ?_
      refine jr_get d_HT_fresh_25 f_HT_43 h1 rfl ?_
      refine jr_iload_n d_HT_fresh_28 rfl rfl ?_
      refine cr_aald d_HT_fresh_29 rfl rfl v1 rfl x1 (by omega) ?_
      refine jr_get d_HT_fresh_30 f_HT_228 x3 rfl ?_
      refine jr_if_ne (tgt := 39) d_HT_fresh_33 (by decide) (fun hc => ?_) (fun hc => ?_)
      · have hfp := bI_ne0.mp hc
        have e1 : cnt fl (p + 1) = cnt fl p + 1 := by simp [cnt, hfp]
        refine jr_iload_n d_HT_fresh_39 rfl rfl ?_
        refine jr_if_ne (tgt := 45) d_HT_fresh_40 (by decide) (fun hc2 => ?_) (fun hc2 => ?_)
        · have hlt : cnt fl p < n := by
            rcases Nat.lt_or_ge (cnt fl p) n with q | q
            · exact q
            · exact absurd (by rw [show n - cnt fl p = 0 by omega]; rfl) hc2
          refine jr_iincm1 d_HT_fresh_45 rfl (by decide) ?_
          refine jr_iinc1 d_HT_fresh_48 rfl (by decide) ?_
          refine jr_goto (tgt := 16) d_HT_fresh_51 (by decide) ?_
          rw [nI_1]
          have := ih (by omega)
          rw [e1, show n - (cnt fl p + 1) = n - cnt fl p - 1 by omega] at this
          rw [show n - cnt fl p = (n - cnt fl p - 1) + 1 by omega, nI_pred]
          exact this
        · have he : n = cnt fl p := by
            have := (nI_eq (b := 0) (by omega) (by decide)).mp hc2
            omega
          refine jr_iload_n d_HT_fresh_43 rfl rfl ?_
          refine jr_ireturn d_HT_fresh_44 rfl rfl ?_
          rw [if_pos (nI_lt (by rw [he]; exact cnt_lt hp hfp) (by omega)), he, hfr p hp hfp]
          exact opP.ok rfl rfl
      · have hfp := bI_eq0.mp hc
        have e1 : cnt fl (p + 1) = cnt fl p := by simp [cnt, hfp]
        refine jr_goto (tgt := 48) d_HT_fresh_36 (by decide) ?_
        refine jr_iinc1 d_HT_fresh_48 rfl (by decide) ?_
        refine jr_goto (tgt := 16) d_HT_fresh_51 (by decide) ?_
        rw [nI_1]
        have := ih (by omega)
        rw [e1] at this
        exact this
  exact key 0 (Nat.zero_le _) (Nat.zero_le _)
theorem d_HT_material_0 : decode (jy_c m_HT_material) 0 = .ok (.iload_n 2, 1) := by decide +kernel
theorem d_HT_material_1 : decode (jy_c m_HT_material) 1 = .ok (.iconst 0, 1) := by decide +kernel
theorem d_HT_material_2 : decode (jy_c m_HT_material) 2 = .ok (.bipush 8, 2) := by decide +kernel
theorem d_HT_material_4 : decode (jy_c m_HT_material) 4 = .ok (.invokestatic 72, 3) := by decide +kernel
theorem d_HT_material_7 : decode (jy_c m_HT_material) 7 = .ok (.invokestatic 108, 3) := by decide +kernel
theorem d_HT_material_10 : decode (jy_c m_HT_material) 10 = .ok (.aload_n 0, 1) := by decide +kernel
theorem d_HT_material_11 : decode (jy_c m_HT_material) 11 = .ok (.getfield 19, 3) := by decide +kernel
theorem d_HT_material_14 : decode (jy_c m_HT_material) 14 = .ok (.iload_n 1, 1) := by decide +kernel
theorem d_HT_material_15 : decode (jy_c m_HT_material) 15 = .ok (.invokevirtual 111, 3) := by decide +kernel
theorem d_HT_material_18 : decode (jy_c m_HT_material) 18 = .ok (.astore_n 3, 1) := by decide +kernel
theorem d_HT_material_19 : decode (jy_c m_HT_material) 19 = .ok (.iload_n 1, 1) := by decide +kernel
theorem d_HT_material_20 : decode (jy_c m_HT_material) 20 = .ok (.ifCond .ne 13, 3) := by decide +kernel
theorem d_HT_material_23 : decode (jy_c m_HT_material) 23 = .ok (.aload_n 0, 1) := by decide +kernel
theorem d_HT_material_24 : decode (jy_c m_HT_material) 24 = .ok (.getfield 19, 3) := by decide +kernel
theorem d_HT_material_27 : decode (jy_c m_HT_material) 27 = .ok (.getfield 115, 3) := by decide +kernel
theorem d_HT_material_30 : decode (jy_c m_HT_material) 30 = .ok (.goto 15, 3) := by decide +kernel
theorem d_HT_material_33 : decode (jy_c m_HT_material) 33 = .ok (.aload_n 3, 1) := by decide +kernel
theorem d_HT_material_34 : decode (jy_c m_HT_material) 34 = .ok (.ifnonnull 7, 3) := by decide +kernel
theorem d_HT_material_37 : decode (jy_c m_HT_material) 37 = .ok (.aconst_null, 1) := by decide +kernel
theorem d_HT_material_38 : decode (jy_c m_HT_material) 38 = .ok (.goto 7, 3) := by decide +kernel
theorem d_HT_material_41 : decode (jy_c m_HT_material) 41 = .ok (.aload_n 3, 1) := by decide +kernel
theorem d_HT_material_42 : decode (jy_c m_HT_material) 42 = .ok (.getfield 119, 3) := by decide +kernel
theorem d_HT_material_45 : decode (jy_c m_HT_material) 45 = .ok (.astore 4, 2) := by decide +kernel
theorem d_HT_material_47 : decode (jy_c m_HT_material) 47 = .ok (.aload 4, 2) := by decide +kernel
theorem d_HT_material_49 : decode (jy_c m_HT_material) 49 = .ok (.ifnull 7, 3) := by decide +kernel
theorem d_HT_material_52 : decode (jy_c m_HT_material) 52 = .ok (.iconst 1, 1) := by decide +kernel
theorem d_HT_material_53 : decode (jy_c m_HT_material) 53 = .ok (.goto 4, 3) := by decide +kernel
theorem d_HT_material_56 : decode (jy_c m_HT_material) 56 = .ok (.iconst 0, 1) := by decide +kernel
theorem d_HT_material_57 : decode (jy_c m_HT_material) 57 = .ok (.invokestatic 108, 3) := by decide +kernel
theorem d_HT_material_60 : decode (jy_c m_HT_material) 60 = .ok (.iload_n 2, 1) := by decide +kernel
theorem d_HT_material_61 : decode (jy_c m_HT_material) 61 = .ok (.tableswitch 102 0 8 #[51, 64, 70, 102, 102, 102, 102, 76, 89], 51) := by decide +kernel
theorem d_HT_material_112 : decode (jy_c m_HT_material) 112 = .ok (.aload_n 3, 1) := by decide +kernel
theorem d_HT_material_113 : decode (jy_c m_HT_material) 113 = .ok (.ifnonnull 7, 3) := by decide +kernel
theorem d_HT_material_116 : decode (jy_c m_HT_material) 116 = .ok (.iconst 0, 1) := by decide +kernel
theorem d_HT_material_117 : decode (jy_c m_HT_material) 117 = .ok (.goto 7, 3) := by decide +kernel
theorem d_HT_material_120 : decode (jy_c m_HT_material) 120 = .ok (.aload_n 3, 1) := by decide +kernel
theorem d_HT_material_121 : decode (jy_c m_HT_material) 121 = .ok (.getfield 124, 3) := by decide +kernel
theorem d_HT_material_124 : decode (jy_c m_HT_material) 124 = .ok (.ireturn, 1) := by decide +kernel
theorem d_HT_material_125 : decode (jy_c m_HT_material) 125 = .ok (.aload 4, 2) := by decide +kernel
theorem d_HT_material_127 : decode (jy_c m_HT_material) 127 = .ok (.getfield 127, 3) := by decide +kernel
theorem d_HT_material_130 : decode (jy_c m_HT_material) 130 = .ok (.ireturn, 1) := by decide +kernel
theorem d_HT_material_131 : decode (jy_c m_HT_material) 131 = .ok (.aload 4, 2) := by decide +kernel
theorem d_HT_material_133 : decode (jy_c m_HT_material) 133 = .ok (.getfield 132, 3) := by decide +kernel
theorem d_HT_material_136 : decode (jy_c m_HT_material) 136 = .ok (.ireturn, 1) := by decide +kernel
theorem d_HT_material_137 : decode (jy_c m_HT_material) 137 = .ok (.aload_n 3, 1) := by decide +kernel
theorem d_HT_material_138 : decode (jy_c m_HT_material) 138 = .ok (.ifnonnull 7, 3) := by decide +kernel
theorem d_HT_material_141 : decode (jy_c m_HT_material) 141 = .ok (.iconst 0, 1) := by decide +kernel
theorem d_HT_material_142 : decode (jy_c m_HT_material) 142 = .ok (.goto 7, 3) := by decide +kernel
theorem d_HT_material_145 : decode (jy_c m_HT_material) 145 = .ok (.aload_n 3, 1) := by decide +kernel
theorem d_HT_material_146 : decode (jy_c m_HT_material) 146 = .ok (.getfield 135, 3) := by decide +kernel
theorem d_HT_material_149 : decode (jy_c m_HT_material) 149 = .ok (.ireturn, 1) := by decide +kernel
theorem d_HT_material_150 : decode (jy_c m_HT_material) 150 = .ok (.aload_n 3, 1) := by decide +kernel
theorem d_HT_material_151 : decode (jy_c m_HT_material) 151 = .ok (.ifnonnull 7, 3) := by decide +kernel
theorem d_HT_material_154 : decode (jy_c m_HT_material) 154 = .ok (.iconst 0, 1) := by decide +kernel
theorem d_HT_material_155 : decode (jy_c m_HT_material) 155 = .ok (.goto 7, 3) := by decide +kernel
theorem d_HT_material_158 : decode (jy_c m_HT_material) 158 = .ok (.aload_n 3, 1) := by decide +kernel
theorem d_HT_material_159 : decode (jy_c m_HT_material) 159 = .ok (.getfield 138, 3) := by decide +kernel
theorem d_HT_material_162 : decode (jy_c m_HT_material) 162 = .ok (.ireturn, 1) := by decide +kernel
theorem d_HT_material_163 : decode (jy_c m_HT_material) 163 = .ok (.aload 4, 2) := by decide +kernel
theorem d_HT_material_165 : decode (jy_c m_HT_material) 165 = .ok (.getfield 139, 3) := by decide +kernel
theorem d_HT_material_168 : decode (jy_c m_HT_material) 168 = .ok (.iload_n 2, 1) := by decide +kernel
theorem d_HT_material_169 : decode (jy_c m_HT_material) 169 = .ok (.iconst 3, 1) := by decide +kernel
theorem d_HT_material_170 : decode (jy_c m_HT_material) 170 = .ok (.isub, 1) := by decide +kernel
theorem d_HT_material_171 : decode (jy_c m_HT_material) 171 = .ok (.iaload, 1) := by decide +kernel
theorem d_HT_material_172 : decode (jy_c m_HT_material) 172 = .ok (.ireturn, 1) := by decide +kernel
theorem fd_no {R : Ft} {x : Int32} : ∀ m, (∀ k, k < m → ¬ R (43 * k) = x) → fd R x m = none := by
  intro m
  induction m with
  | zero => intro _; rfl
  | succ m ih =>
    intro h
    simp [fd, ih (fun k hk => h k (by omega)), h m (by omega)]
theorem c_HT_material {G : jy_G} {h : jy_P} {T : Nat} {f : Nat → Int32} {a : Nat → Nat → Int32} {m : Nat} {g : Bool} (h1 : h[1]? = some (0, cf T f)) (hT : TRep h T (a 13) m g) (hg : f 5 = bI g) (h12 : m ≤ 12) (hR : tOk (a 13) m) (hz : g = true → a 13 517 = 0 ∧ a 13 524 = 0 ∧ a 13 525 = 0) (hK : h.length < jy_K) (n w : Int32) : jy_C G 13 m_HT_material [.ref 1, .int n, .int w] h (opP h (ex3 (mtG f a m n w) 12 true 0 true 0) (some (.int (a 13 (43 * kO (mK f a m n) + mcol w.toNatClampNeg)))) (fun h' => h' = h)) := by
  refine jy_C.of [some (.ref 1), some (.int n), some (.int w), none, none] rfl (Nat.le_of_ble_eq_true rfl) ?_
  refine jr_iload_n d_HT_material_0 rfl rfl ?_
  refine jr_iconst (v := 0) d_HT_material_1 (by decide) ?_
  refine jr_bipush (v := 8) d_HT_material_2 (by decide) ?_
  refine jr_callSp3 d_HT_material_4 i_HT_72 (Nat.le_of_ble_eq_true rfl) (by decide) (c_HT_isIn _ _ _) ?_
  refine jr_guard d_HT_material_7 i_HT_108 (g_known hK) (Nat.le_of_ble_eq_true rfl) (by decide) (fun _ hq => by cases hq) (fun hc => ?_) (fun hc => opP.ex (by rw [mtG, bI_eq0.mp hc, Bool.and_false]; rfl) (by decide))
  have g1 := bI_ne0.mp hc
  obtain ⟨j, hj, rfl⟩ := inB_04 (c := 8) (by decide) g1
  rw [nI_clamp (by omega)]
  have hT0 := hT
  obtain ⟨ma, gv, mv, t1, -, t3, t4, t5, tg⟩ := hT0
  refine jr_aload_n d_HT_material_10 rfl rfl ?_
  refine jr_get d_HT_material_11 f_HT_19 h1 rfl ?_
  refine jr_iload_n d_HT_material_14 rfl rfl ?_
  -- from the second guard on: mv the material (or null), dv what is due
  have bad : ∀ v3, mK f a m n = none → jy_J G 13 m_HT_material 45 [some (.ref 1), some (.int n), some (.int (nI j)), some v3, none] [.null] h (opP h (ex3 (mtG f a m n (nI j)) 12 true 0 true 0) (some (.int (a 13 (43 * kO (mK f a m n) + mcol j)))) (fun h' => h' = h)) := by
    intro v3 hN
    cases v3 <;> (
      refine jr_astoreN d_HT_material_45 (by decide) ?_
      refine jr_aloadN d_HT_material_47 rfl ?_
      refine jr_ifnullN d_HT_material_49 (tgt := 56) (by decide) ?_
      refine jr_iconst (v := 0) d_HT_material_56 (by decide) ?_
      refine jr_guard d_HT_material_57 i_HT_108 (g_known hK) (Nat.le_of_ble_eq_true rfl) (by decide) (fun _ hq => by cases hq) (fun hc => absurd rfl hc) (fun _ => opP.ex (by rw [mtG, hN]; rfl) (by decide)))
  have good : ∀ (k x : Nat) (v3 : Value), mK f a m n = some k → DRep h x (a 13) k → ((v3 = .null ∧ a 13 (43 * k + 1) = 0 ∧ a 13 (43 * k + 8) = 0 ∧ a 13 (43 * k + 9) = 0) ∨ ∃ y na, v3 = .ref y ∧ h[y]? = some (3, [.int (a 13 (43 * k)), .ref na, .int (a 13 (43 * k + 9)), .int (a 13 (43 * k + 1)), .int (a 13 (43 * k + 8)), .ref x])) → jy_J G 13 m_HT_material 45 [some (.ref 1), some (.int n), some (.int (nI j)), some v3, none] [.ref x] h (opP h (ex3 (mtG f a m n (nI j)) 12 true 0 true 0) (some (.int (a 13 (43 * kO (mK f a m n) + mcol j)))) (fun h' => h' = h)) := by
    intro k x v3 hN hD hV
    obtain ⟨-, y, -, hd, hy⟩ := hD
    have hG : mtG f a m n (nI j) = true := by rw [mtG, hN, g1]; rfl
    rw [hG, hN]
    show jy_J _ _ _ _ _ _ _ (opP h (ex3 true 12 true 0 true 0) (some (.int (a 13 (43 * k + mcol j)))) (fun h' => h' = h))
    refine (?_ : jy_J G 13 m_HT_material 45 [some (.ref 1), some (.int n), some (.int (nI j)), some v3, none] [.ref x] h _)
    have sw : jy_J G 13 m_HT_material 60 [some (.ref 1), some (.int n), some (.int (nI j)), some v3, some (.ref x)] [] h (opP h (ex3 true 12 true 0 true 0) (some (.int (a 13 (43 * k + mcol j)))) (fun h' => h' = h)) := by
      refine jr_iload_n d_HT_material_60 rfl rfl ?_
      have def8 : ∀ i, j = i + 3 → i < 4 → jy_J G 13 m_HT_material 163 [some (.ref 1), some (.int n), some (.int (nI j)), some v3, some (.ref x)] [] h (opP h (ex3 true 12 true 0 true 0) (some (.int (a 13 (43 * k + mcol j)))) (fun h' => h' = h)) := by
        intro i hi h4
        have e1 : nI j - 3 = nI i := by rw [hi, show (3 : Int32) = nI 3 from rfl, pk_sub (by omega)]; rfl
        have e2 : 43 * k + mcol j = 43 * k + 4 + i := by
          unfold mcol
          rw [if_neg (by omega), if_pos (by omega)]
          omega
        rw [e2]
        refine jr_aload d_HT_material_163 rfl ?_
        refine jr_get d_HT_material_165 f_HT_139 hd rfl ?_
        refine jr_iload_n d_HT_material_168 rfl rfl ?_
        refine jr_iconst (v := 3) d_HT_material_169 (by decide) ?_
        refine jr_isub d_HT_material_170 ?_
        refine cr_iald d_HT_material_171 hy e1 h4 (by decide) ?_
        refine jr_ireturn d_HT_material_172 rfl rfl ?_
        exact opP.ok rfl rfl
      have hj9 : j = 0 ∨ j = 1 ∨ j = 2 ∨ j = 3 ∨ j = 4 ∨ j = 5 ∨ j = 6 ∨ j = 7 ∨ j = 8 := by omega
      rcases hj9 with rfl | rfl | rfl | rfl | rfl | rfl | rfl | rfl | rfl
      · refine jr_tabIn d_HT_material_61 (off := 51) (tgt := 112) (by decide) (by decide) (by decide) (by decide) ?_
        rcases hV with ⟨rfl, z1, z2, z3⟩ | ⟨y, na, rfl, hV⟩
        · refine jr_aload_nN d_HT_material_112 rfl rfl ?_
          refine jr_ifnonnullN d_HT_material_113 ?_
          refine jr_iconst (v := 0) d_HT_material_116 (by decide) ?_
          refine jr_goto (tgt := 124) d_HT_material_117 (by decide) ?_
          refine jr_ireturn d_HT_material_124 rfl rfl ?_
          exact Or.inl ⟨rfl, by show _ = Outcome.returned (some (.int (a 13 (43 * k + 1)))); rw [z1], rfl⟩
        · refine jr_aload_n d_HT_material_112 rfl rfl ?_
          refine jr_ifnonnull d_HT_material_113 (tgt := 120) (by decide) ?_
          refine jr_aload_n d_HT_material_120 rfl rfl ?_
          refine jr_get d_HT_material_121 f_HT_124 hV rfl ?_
          refine jr_ireturn d_HT_material_124 rfl rfl ?_
          exact opP.ok rfl rfl
      · refine jr_tabIn d_HT_material_61 (off := 64) (tgt := 125) (by decide) (by decide) (by decide) (by decide) ?_
        refine jr_aload d_HT_material_125 rfl ?_
        refine jr_get d_HT_material_127 f_HT_127 hd rfl ?_
        refine jr_ireturn d_HT_material_130 rfl rfl ?_
        exact opP.ok rfl rfl
      · refine jr_tabIn d_HT_material_61 (off := 70) (tgt := 131) (by decide) (by decide) (by decide) (by decide) ?_
        refine jr_aload d_HT_material_131 rfl ?_
        refine jr_get d_HT_material_133 f_HT_132 hd rfl ?_
        refine jr_ireturn d_HT_material_136 rfl rfl ?_
        exact opP.ok rfl rfl
      · exact jr_tabIn d_HT_material_61 (off := 102) (tgt := 163) (by decide) (by decide) (by decide) (by decide) (def8 0 rfl (by decide))
      · exact jr_tabIn d_HT_material_61 (off := 102) (tgt := 163) (by decide) (by decide) (by decide) (by decide) (def8 1 rfl (by decide))
      · exact jr_tabIn d_HT_material_61 (off := 102) (tgt := 163) (by decide) (by decide) (by decide) (by decide) (def8 2 rfl (by decide))
      · exact jr_tabIn d_HT_material_61 (off := 102) (tgt := 163) (by decide) (by decide) (by decide) (by decide) (def8 3 rfl (by decide))
      · refine jr_tabIn d_HT_material_61 (off := 76) (tgt := 137) (by decide) (by decide) (by decide) (by decide) ?_
        rcases hV with ⟨rfl, z1, z2, z3⟩ | ⟨y, na, rfl, hV⟩
        · refine jr_aload_nN d_HT_material_137 rfl rfl ?_
          refine jr_ifnonnullN d_HT_material_138 ?_
          refine jr_iconst (v := 0) d_HT_material_141 (by decide) ?_
          refine jr_goto (tgt := 149) d_HT_material_142 (by decide) ?_
          refine jr_ireturn d_HT_material_149 rfl rfl ?_
          exact Or.inl ⟨rfl, by show _ = Outcome.returned (some (.int (a 13 (43 * k + 8)))); rw [z2], rfl⟩
        · refine jr_aload_n d_HT_material_137 rfl rfl ?_
          refine jr_ifnonnull d_HT_material_138 (tgt := 145) (by decide) ?_
          refine jr_aload_n d_HT_material_145 rfl rfl ?_
          refine jr_get d_HT_material_146 f_HT_135 hV rfl ?_
          refine jr_ireturn d_HT_material_149 rfl rfl ?_
          exact opP.ok rfl rfl
      · refine jr_tabIn d_HT_material_61 (off := 89) (tgt := 150) (by decide) (by decide) (by decide) (by decide) ?_
        rcases hV with ⟨rfl, z1, z2, z3⟩ | ⟨y, na, rfl, hV⟩
        · refine jr_aload_nN d_HT_material_150 rfl rfl ?_
          refine jr_ifnonnullN d_HT_material_151 ?_
          refine jr_iconst (v := 0) d_HT_material_154 (by decide) ?_
          refine jr_goto (tgt := 162) d_HT_material_155 (by decide) ?_
          refine jr_ireturn d_HT_material_162 rfl rfl ?_
          exact Or.inl ⟨rfl, by show _ = Outcome.returned (some (.int (a 13 (43 * k + 9)))); rw [z3], rfl⟩
        · refine jr_aload_n d_HT_material_150 rfl rfl ?_
          refine jr_ifnonnull d_HT_material_151 (tgt := 158) (by decide) ?_
          refine jr_aload_n d_HT_material_158 rfl rfl ?_
          refine jr_get d_HT_material_159 f_HT_138 hV rfl ?_
          refine jr_ireturn d_HT_material_162 rfl rfl ?_
          exact opP.ok rfl rfl
    have last : ∀ L, L = [some (.ref 1), some (.int n), some (.int (nI j)), some v3, some (.ref x)] → jy_J G 13 m_HT_material 47 L [] h (opP h (ex3 true 12 true 0 true 0) (some (.int (a 13 (43 * k + mcol j)))) (fun h' => h' = h)) := by
      intro L hL
      subst hL
      refine jr_aload d_HT_material_47 rfl ?_
      refine jr_ifnull d_HT_material_49 ?_
      refine jr_iconst (v := 1) d_HT_material_52 (by decide) ?_
      refine jr_goto (tgt := 57) d_HT_material_53 (by decide) ?_
      refine jr_guard d_HT_material_57 i_HT_108 (g_known hK) (Nat.le_of_ble_eq_true rfl) (by decide) (fun _ hq => by cases hq) (fun _ => sw) (fun q => absurd q (by decide))
    refine jr_astore d_HT_material_45 (by decide) (last _ ?_)
    rcases hV with ⟨rfl, -⟩ | ⟨y, na, rfl, -⟩ <;> rfl
  refine jr_callV (As := [.int n]) d_HT_material_15 i_HT_111 rfl t1 (Nat.le_of_ble_eq_true rfl) (by decide) (c_TB_of hT h12 n) (fun v h' q => ?_) (fun x h' q => ?_)
  · obtain ⟨rfl, q⟩ := q
    rcases hfd : fd (a 13) n m with _ | k
    · rw [hfd] at q
      cases q
      refine jr_astore_nN d_HT_material_18 rfl (by decide) ?_
      refine jr_iload_n d_HT_material_19 rfl rfl ?_
      refine jr_if_ne (tgt := 33) d_HT_material_20 (by decide) (fun hc => ?_) (fun hc => ?_)
      · have hN : mK f a m n = none := by rw [mK, if_neg hc, hfd]
        refine jr_aload_nN d_HT_material_33 rfl rfl ?_
        refine jr_ifnonnullN d_HT_material_34 ?_
        refine jr_null d_HT_material_37 ?_
        refine jr_goto (tgt := 45) d_HT_material_38 (by decide) ?_
        exact bad _ hN
      · subst hc
        refine jr_aload_n d_HT_material_23 rfl rfl ?_
        refine jr_get d_HT_material_24 f_HT_19 h1 rfl ?_
        refine jr_get d_HT_material_27 f_HT_115 t1 rfl ?_
        refine jr_goto (tgt := 45) d_HT_material_30 (by decide) ?_
        rcases tg with ⟨rfl, x, rfl, tg⟩ | ⟨rfl, rfl⟩
        · obtain ⟨z1, z2, z3⟩ := hz rfl
          have hN : mK f a m 0 = some 12 := by rw [mK, if_pos rfl, hg]; rfl
          exact good 12 x .null hN tg (Or.inl ⟨rfl, z1, z2, z3⟩)
        · have hN : mK f a m 0 = none := by rw [mK, if_pos rfl, hg]; rfl
          exact bad _ hN
    · rw [hfd] at q
      obtain ⟨x, dv, q1, q2, q3⟩ := q
      cases q1
      obtain ⟨hkm, hkx⟩ := fd_lt hfd
      have hr := hR k hkm
      have hn0 : ¬ n = 0 := fun e => by
        rw [e, hr.1] at hkx
        exact nI_ne0 hr.2.1 (by have := hr.2.2.1; omega) hkx
      have hN : mK f a m n = some k := by rw [mK, if_neg hn0, hfd]
      obtain ⟨-, na, y1, -⟩ := q2
      refine jr_astore_n d_HT_material_18 rfl (by decide) ?_
      refine jr_iload_n d_HT_material_19 rfl rfl ?_
      refine jr_if_ne (tgt := 33) d_HT_material_20 (by decide) (fun _ => ?_) (fun hc => absurd hc hn0)
      refine jr_aload_n d_HT_material_33 rfl rfl ?_
      refine jr_ifnonnull d_HT_material_34 (tgt := 41) (by decide) ?_
      refine jr_aload_n d_HT_material_41 rfl rfl ?_
      refine jr_get d_HT_material_42 f_HT_119 y1 rfl ?_
      exact good k dv (.ref x) hN q3 (Or.inr ⟨x, na, rfl, y1⟩)
  · obtain ⟨-, q⟩ := q
    rcases hfd : fd (a 13) n m with _ | k
    · rw [hfd] at q; cases q
    · rw [hfd] at q
      obtain ⟨_, _, q1, -⟩ := q
      cases q1
