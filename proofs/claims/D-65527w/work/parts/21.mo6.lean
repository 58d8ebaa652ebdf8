/-! the reference: material, sign, words -/
def mK (f : Nat → Int32) (a : Nat → Nat → Int32) (m : Nat) (n : Int32) : Option Nat := if n = 0 then (if f 5 = 0 then none else some 12) else fd (a 13) n m
theorem mK_le {f : Nat → Int32} {a : Nat → Nat → Int32} {m : Nat} {n : Int32} (h12 : m ≤ 12) : kO (mK f a m n) ≤ 12 := by
  unfold mK
  split
  · split
    · show 0 ≤ 12; omega
    · show 12 ≤ 12; omega
  · rcases hfd : fd (a 13) n m with _ | k
    · show 0 ≤ 12; omega
    · have := (fd_lt hfd).1
      show k ≤ 12
      omega
def mcol (j : Nat) : Nat := if j < 3 then 1 + j else if j < 7 then j + 1 else if j = 7 then 8 else 9
def mtG (f : Nat → Int32) (a : Nat → Nat → Int32) (m : Nat) (n w : Int32) : Bool := (mK f a m n).isSome && inB w 0 8
def mt (f : Nat → Int32) (a : Nat → Nat → Int32) (m : Nat) (n w : Int32) : Rs := if mtG f a m n w = true then (a 13 (43 * kO (mK f a m n) + mcol w.toNatClampNeg), upd f 0 0, a) else (0, upd f 0 1, a)
theorem d_MO_material_0 : decode (jy_c m_MO_material) 0 = .ok (.iload_n 1, 1) := by decide +kernel
theorem d_MO_material_1 : decode (jy_c m_MO_material) 1 = .ok (.ifCond .ne 19, 3) := by decide +kernel
theorem d_MO_material_4 : decode (jy_c m_MO_material) 4 = .ok (.aload_n 0, 1) := by decide +kernel
theorem d_MO_material_5 : decode (jy_c m_MO_material) 5 = .ok (.getfield 131, 3) := by decide +kernel
theorem d_MO_material_8 : decode (jy_c m_MO_material) 8 = .ok (.ifCond .eq 8, 3) := by decide +kernel
theorem d_MO_material_11 : decode (jy_c m_MO_material) 11 = .ok (.bipush 12, 2) := by decide +kernel
theorem d_MO_material_13 : decode (jy_c m_MO_material) 13 = .ok (.goto 12, 3) := by decide +kernel
theorem d_MO_material_16 : decode (jy_c m_MO_material) 16 = .ok (.iconst (-1), 1) := by decide +kernel
theorem d_MO_material_17 : decode (jy_c m_MO_material) 17 = .ok (.goto 8, 3) := by decide +kernel
theorem d_MO_material_20 : decode (jy_c m_MO_material) 20 = .ok (.aload_n 0, 1) := by decide +kernel
theorem d_MO_material_21 : decode (jy_c m_MO_material) 21 = .ok (.iload_n 1, 1) := by decide +kernel
theorem d_MO_material_22 : decode (jy_c m_MO_material) 22 = .ok (.invokevirtual 140, 3) := by decide +kernel
theorem d_MO_material_25 : decode (jy_c m_MO_material) 25 = .ok (.istore_n 3, 1) := by decide +kernel
theorem d_MO_material_26 : decode (jy_c m_MO_material) 26 = .ok (.aload_n 0, 1) := by decide +kernel
theorem d_MO_material_27 : decode (jy_c m_MO_material) 27 = .ok (.iload_n 3, 1) := by decide +kernel
theorem d_MO_material_28 : decode (jy_c m_MO_material) 28 = .ok (.ifCond .lt 17, 3) := by decide +kernel
theorem d_MO_material_31 : decode (jy_c m_MO_material) 31 = .ok (.iload_n 2, 1) := by decide +kernel
theorem d_MO_material_32 : decode (jy_c m_MO_material) 32 = .ok (.iconst 0, 1) := by decide +kernel
theorem d_MO_material_33 : decode (jy_c m_MO_material) 33 = .ok (.bipush 8, 2) := by decide +kernel
theorem d_MO_material_35 : decode (jy_c m_MO_material) 35 = .ok (.invokestatic 67, 3) := by decide +kernel
theorem d_MO_material_38 : decode (jy_c m_MO_material) 38 = .ok (.ifCond .eq 7, 3) := by decide +kernel
theorem d_MO_material_41 : decode (jy_c m_MO_material) 41 = .ok (.iconst 1, 1) := by decide +kernel
theorem d_MO_material_42 : decode (jy_c m_MO_material) 42 = .ok (.goto 4, 3) := by decide +kernel
theorem d_MO_material_45 : decode (jy_c m_MO_material) 45 = .ok (.iconst 0, 1) := by decide +kernel
theorem d_MO_material_46 : decode (jy_c m_MO_material) 46 = .ok (.iconst 1, 1) := by decide +kernel
theorem d_MO_material_47 : decode (jy_c m_MO_material) 47 = .ok (.iconst 1, 1) := by decide +kernel
theorem d_MO_material_48 : decode (jy_c m_MO_material) 48 = .ok (.invokevirtual 74, 3) := by decide +kernel
theorem d_MO_material_51 : decode (jy_c m_MO_material) 51 = .ok (.ifCond .ne 5, 3) := by decide +kernel
theorem d_MO_material_54 : decode (jy_c m_MO_material) 54 = .ok (.iconst 0, 1) := by decide +kernel
theorem d_MO_material_55 : decode (jy_c m_MO_material) 55 = .ok (.ireturn, 1) := by decide +kernel
theorem d_MO_material_56 : decode (jy_c m_MO_material) 56 = .ok (.aload_n 0, 1) := by decide +kernel
theorem d_MO_material_57 : decode (jy_c m_MO_material) 57 = .ok (.getfield 17, 3) := by decide +kernel
theorem d_MO_material_60 : decode (jy_c m_MO_material) 60 = .ok (.iload_n 3, 1) := by decide +kernel
theorem d_MO_material_61 : decode (jy_c m_MO_material) 61 = .ok (.bipush 43, 2) := by decide +kernel
theorem d_MO_material_63 : decode (jy_c m_MO_material) 63 = .ok (.imul, 1) := by decide +kernel
theorem d_MO_material_64 : decode (jy_c m_MO_material) 64 = .ok (.iload_n 2, 1) := by decide +kernel
theorem d_MO_material_65 : decode (jy_c m_MO_material) 65 = .ok (.iconst 3, 1) := by decide +kernel
theorem d_MO_material_66 : decode (jy_c m_MO_material) 66 = .ok (.if_icmp .ge 9, 3) := by decide +kernel
theorem d_MO_material_69 : decode (jy_c m_MO_material) 69 = .ok (.iconst 1, 1) := by decide +kernel
theorem d_MO_material_70 : decode (jy_c m_MO_material) 70 = .ok (.iload_n 2, 1) := by decide +kernel
theorem d_MO_material_71 : decode (jy_c m_MO_material) 71 = .ok (.iadd, 1) := by decide +kernel
theorem d_MO_material_72 : decode (jy_c m_MO_material) 72 = .ok (.goto 30, 3) := by decide +kernel
theorem d_MO_material_75 : decode (jy_c m_MO_material) 75 = .ok (.iload_n 2, 1) := by decide +kernel
theorem d_MO_material_76 : decode (jy_c m_MO_material) 76 = .ok (.bipush 7, 2) := by decide +kernel
theorem d_MO_material_78 : decode (jy_c m_MO_material) 78 = .ok (.if_icmp .ge 11, 3) := by decide +kernel
theorem d_MO_material_81 : decode (jy_c m_MO_material) 81 = .ok (.iconst 4, 1) := by decide +kernel
theorem d_MO_material_82 : decode (jy_c m_MO_material) 82 = .ok (.iload_n 2, 1) := by decide +kernel
theorem d_MO_material_83 : decode (jy_c m_MO_material) 83 = .ok (.iadd, 1) := by decide +kernel
theorem d_MO_material_84 : decode (jy_c m_MO_material) 84 = .ok (.iconst 3, 1) := by decide +kernel
theorem d_MO_material_85 : decode (jy_c m_MO_material) 85 = .ok (.isub, 1) := by decide +kernel
theorem d_MO_material_86 : decode (jy_c m_MO_material) 86 = .ok (.goto 16, 3) := by decide +kernel
theorem d_MO_material_89 : decode (jy_c m_MO_material) 89 = .ok (.iload_n 2, 1) := by decide +kernel
theorem d_MO_material_90 : decode (jy_c m_MO_material) 90 = .ok (.bipush 7, 2) := by decide +kernel
theorem d_MO_material_92 : decode (jy_c m_MO_material) 92 = .ok (.if_icmp .ne 8, 3) := by decide +kernel
theorem d_MO_material_95 : decode (jy_c m_MO_material) 95 = .ok (.bipush 8, 2) := by decide +kernel
theorem d_MO_material_97 : decode (jy_c m_MO_material) 97 = .ok (.goto 5, 3) := by decide +kernel
theorem d_MO_material_100 : decode (jy_c m_MO_material) 100 = .ok (.bipush 9, 2) := by decide +kernel
theorem d_MO_material_102 : decode (jy_c m_MO_material) 102 = .ok (.iadd, 1) := by decide +kernel
theorem d_MO_material_103 : decode (jy_c m_MO_material) 103 = .ok (.iaload, 1) := by decide +kernel
theorem d_MO_material_104 : decode (jy_c m_MO_material) 104 = .ok (.ireturn, 1) := by decide +kernel
theorem c_MO_material {G : jy_G} {h0 : jy_P} {f : Nat → Int32} {a : Nat → Nat → Int32} {m : Nat} (hM : Mo h0 f a) (hm : f 4 = nI m) (h12 : m ≤ 12) (n w : Int32) : jy_C G 2 m_MO_material [.ref 11, .int n, .int w] h0 (mR h0 (mt f a m n w)) := by
  refine jy_C.of [some (.ref 11), some (.int n), some (.int w), none] rfl (Nat.le_of_ble_eq_true rfl) ?_
  have hM := MS.rf hM
  generalize hg : mR h0 (mt f a m n w) = P
  have hk12 : kO (mK f a m n) ≤ 12 := mK_le h12
  refine jy_cut0 25 (fun z => z = oI (mK f a m n)) (fun K => ?_) (fun z hz => ?_)
  · refine jr_iload_n d_MO_material_0 rfl rfl ?_
    refine jr_if_ne (tgt := 20) d_MO_material_1 (by decide) (fun hc => ?_) (fun hc => ?_)
    · refine jr_aload_n d_MO_material_20 rfl rfl ?_
      refine jr_iload_n d_MO_material_21 rfl rfl ?_
      refine mr_callP1 d_MO_material_22 i_MO_140 hM (Nat.le_of_ble_eq_true rfl) (by decide) (c_MO_find hM.1 hm h12 n) ?_
      exact K _ (by rw [mK, if_neg hc])
    · refine jr_aload_n d_MO_material_4 rfl rfl ?_
      refine mr_get d_MO_material_5 f_MO_131 hM rfl ?_
      refine jr_if_eq (tgt := 16) d_MO_material_8 (by decide) (fun hc2 => ?_) (fun hc2 => ?_)
      · refine jr_iconst (v := -1) d_MO_material_16 (by decide) ?_
        refine jr_goto (tgt := 25) d_MO_material_17 (by decide) ?_
        exact K _ (by rw [mK, if_pos hc, if_pos hc2]; rfl)
      · refine jr_bipush (v := 12) d_MO_material_11 (by decide) ?_
        refine jr_goto (tgt := 25) d_MO_material_13 (by decide) ?_
        exact K _ (by rw [mK, if_pos hc, if_neg hc2]; rfl)
  subst hz
  refine jr_istore_n d_MO_material_25 rfl (by decide) ?_
  refine jr_aload_n d_MO_material_26 rfl rfl ?_
  refine jr_iload_n d_MO_material_27 rfl rfl ?_
  refine jy_cut1 46 (fun z => z = bI (mtG f a m n w)) (fun K => ?_) (fun z hz => ?_)
  · refine jr_if_lt (tgt := 45) d_MO_material_28 (by decide) (fun hc => ?_) (fun hc => ?_)
    · refine jr_iconst (v := 0) d_MO_material_45 (by decide) ?_
      exact K _ (by rw [mtG, (oI_lt (by omega)).mp hc]; rfl)
    · have hs : (mK f a m n).isSome = true := by
        cases hq : (mK f a m n).isSome with
        | false => exact absurd ((oI_lt (by omega)).mpr hq) hc
        | true => rfl
      refine jr_iload_n d_MO_material_31 rfl rfl ?_
      refine jr_iconst (v := 0) d_MO_material_32 (by decide) ?_
      refine jr_bipush (v := 8) d_MO_material_33 (by decide) ?_
      refine jr_callSp3 d_MO_material_35 i_MO_67 (Nat.le_of_ble_eq_true rfl) (by decide) (c_MO_within _ _ _) ?_
      refine jr_if_eq (tgt := 45) d_MO_material_38 (by decide) (fun hc2 => ?_) (fun hc2 => ?_)
      · refine jr_iconst (v := 0) d_MO_material_45 (by decide) ?_
        exact K _ (by rw [mtG, bI_eq0.mp hc2, Bool.and_false]; rfl)
      · refine jr_iconst (v := 1) d_MO_material_41 (by decide) ?_
        refine jr_goto (tgt := 46) d_MO_material_42 (by decide) ?_
        exact K _ (by rw [mtG, hs, bI_ne0.mp hc2]; rfl)
  subst hz
  refine jr_iconst (v := 1) d_MO_material_46 (by decide) ?_
  refine jr_iconst (v := 1) d_MO_material_47 (by decide) ?_
  refine mr_call3 d_MO_material_48 i_MO_74 hM (Nat.le_of_ble_eq_true rfl) (by decide) (c_MO_goes hM.1 _ true true) (fun h hM => ?_)
  refine jr_if_ne (tgt := 56) d_MO_material_51 (by decide) (fun hc => ?_) (fun hc => ?_)
  · have hG := bI_ne0.mp hc
    rw [Bool.and_true, Bool.and_true] at hG
    have hP : P = mP h0 (some (.int (a 13 (43 * kO (mK f a m n) + mcol w.toNatClampNeg)))) (upd f 0 0) a := by
      rw [← hg, mt, if_pos hG]; rfl
    have e0 : gT (mtG f a m n w) true true = 0 := by rw [hG]; rfl
    rw [e0] at hM
    rw [mtG, Bool.and_eq_true] at hG
    obtain ⟨j, hj, hw⟩ := inB_04 (c := 8) (by decide) hG.2
    rw [hP, oI_kO hG.1]
    refine jr_aload_n d_MO_material_56 rfl rfl ?_
    refine mr_get d_MO_material_57 f_MO_17 hM rfl ?_
    refine jr_iload_n d_MO_material_60 rfl rfl ?_
    refine jr_bipush (v := 43) d_MO_material_61 (by decide) ?_
    refine jr_imul d_MO_material_63 ?_
    refine jr_iload_n d_MO_material_64 rfl rfl ?_
    refine jr_iconst (v := 3) d_MO_material_65 (by decide) ?_
    rw [hw, nI_clamp (by omega)]
    refine jy_cut2 102 (fun z => z = nI (mcol j)) (fun K => ?_) (fun z hz => ?_)
    · refine jr_icmp_ge (tgt := 75) d_MO_material_66 (by decide) (fun hc => ?_) (fun hc => ?_)
      · have h3 : ¬ j < 3 := by
          have := (nI_leI (a := 3) (b := j) (by decide) (by omega)).mp hc
          omega
        refine jr_iload_n d_MO_material_75 rfl rfl ?_
        refine jr_bipush (v := 7) d_MO_material_76 (by decide) ?_
        refine jr_icmp_ge (tgt := 89) d_MO_material_78 (by decide) (fun hc => ?_) (fun hc => ?_)
        · have h7 : ¬ j < 7 := by
            have := (nI_leI (a := 7) (b := j) (by decide) (by omega)).mp hc
            omega
          refine jr_iload_n d_MO_material_89 rfl rfl ?_
          refine jr_bipush (v := 7) d_MO_material_90 (by decide) ?_
          refine jr_icmp_ne (tgt := 100) d_MO_material_92 (by decide) (fun hc => ?_) (fun hc => ?_)
          · have h77 : ¬ j = 7 := fun q => hc (by rw [q]; rfl)
            refine jr_bipush (v := 9) d_MO_material_100 (by decide) ?_
            exact K _ (by rw [mcol, if_neg h3, if_neg h7, if_neg h77]; rfl)
          · have h77 : j = 7 := (nI_eq (b := 7) (by omega) (by decide)).mp hc
            refine jr_bipush (v := 8) d_MO_material_95 (by decide) ?_
            refine jr_goto (tgt := 102) d_MO_material_97 (by decide) ?_
            exact K _ (by rw [mcol, if_neg h3, if_neg h7, if_pos h77]; rfl)
        · have h7 : j < 7 := by
            rcases Nat.lt_or_ge j 7 with q | q
            · exact q
            · exact absurd ((nI_leI (a := 7) (b := j) (by decide) (by omega)).mpr q) hc
          refine jr_iconst (v := 4) d_MO_material_81 (by decide) ?_
          refine jr_iload_n d_MO_material_82 rfl rfl ?_
          refine jr_iadd d_MO_material_83 ?_
          refine jr_iconst (v := 3) d_MO_material_84 (by decide) ?_
          refine jr_isub d_MO_material_85 ?_
          refine jr_goto (tgt := 102) d_MO_material_86 (by decide) ?_
          refine K _ ?_
          rw [mcol, if_neg h3, if_pos h7, show (4 : Int32) = nI 4 from rfl, nI_add, show (3 : Int32) = nI 3 from rfl, pk_sub (by omega)]
          congr 1
          omega
      · have h3 : j < 3 := by
          rcases Nat.lt_or_ge j 3 with q | q
          · exact q
          · exact absurd ((nI_leI (a := 3) (b := j) (by decide) (by omega)).mpr q) hc
        refine jr_iconst (v := 1) d_MO_material_69 (by decide) ?_
        refine jr_iload_n d_MO_material_70 rfl rfl ?_
        refine jr_iadd d_MO_material_71 ?_
        refine jr_goto (tgt := 102) d_MO_material_72 (by decide) ?_
        exact K _ (by rw [mcol, if_pos h3, show (1 : Int32) = nI 1 from rfl, nI_add])
    have hcol : mcol j ≤ 9 := by
      unfold mcol
      split
      · omega
      · split
        · omega
        · split <;> omega
    refine jr_iadd d_MO_material_102 ?_
    refine mr_ald d_MO_material_103 hM (by decide) (ix43 _ (mcol j) rfl hz) (by show 43 * kO (mK f a m n) + mcol j < 559; omega) ?_
    refine jr_ireturn d_MO_material_104 rfl rfl ?_
    exact ⟨rfl, hM⟩
  · have hG := bI_eq0.mp hc
    rw [Bool.and_true, Bool.and_true] at hG
    have hP : P = mP h0 (some (.int 0)) (upd f 0 1) a := by
      rw [← hg, mt, if_neg (by rw [hG]; decide)]; rfl
    have e0 : gT (mtG f a m n w) true true = 1 := by rw [hG]; rfl
    rw [e0] at hM
    rw [hP]
    refine jr_iconst (v := 0) d_MO_material_54 (by decide) ?_
    refine jr_ireturn d_MO_material_55 rfl rfl ?_
    exact ⟨rfl, hM⟩
/-- the k-th byte from below -/
def bt (x : Int64) (k : Nat) : Int32 := (x >>> ((8 * nI k).toInt64 &&& 63)).toInt32 &&& 255
def sgA (a : Nat → Nat → Int32) (x : Int64) (t n : Nat) : Nat → Nat → Nat → Int32
  | 0 => a
  | j + 1 => upd2 (sgA a x t n j) 12 (t + j) (bt x (n - 1 - j))
def sgG (f : Nat → Int32) (n : Int32) : Bool := inB n 1 8 && decide (f 1 + n ≤ 400) && true
def sgn (f : Nat → Int32) (a : Nat → Nat → Int32) (t : Nat) (x : Int64) (n : Int32) : Rs := if sgG f n = true then (nI (t + n.toNatClampNeg), upd (upd f 0 0) 1 (nI (t + n.toNatClampNeg)), sgA a x t n.toNatClampNeg n.toNatClampNeg) else (0, upd f 0 (gT (inB n 1 8) (decide (f 1 + n ≤ 400)) true), a)
theorem d_MO_sign_0 : decode (jy_c m_MO_sign) 0 = .ok (.aload_n 0, 1) := by decide +kernel
theorem d_MO_sign_1 : decode (jy_c m_MO_sign) 1 = .ok (.iload_n 3, 1) := by decide +kernel
theorem d_MO_sign_2 : decode (jy_c m_MO_sign) 2 = .ok (.iconst 1, 1) := by decide +kernel
theorem d_MO_sign_3 : decode (jy_c m_MO_sign) 3 = .ok (.bipush 8, 2) := by decide +kernel
theorem d_MO_sign_5 : decode (jy_c m_MO_sign) 5 = .ok (.invokestatic 67, 3) := by decide +kernel
theorem d_MO_sign_8 : decode (jy_c m_MO_sign) 8 = .ok (.aload_n 0, 1) := by decide +kernel
theorem d_MO_sign_9 : decode (jy_c m_MO_sign) 9 = .ok (.getfield 71, 3) := by decide +kernel
theorem d_MO_sign_12 : decode (jy_c m_MO_sign) 12 = .ok (.iload_n 3, 1) := by decide +kernel
theorem d_MO_sign_13 : decode (jy_c m_MO_sign) 13 = .ok (.iadd, 1) := by decide +kernel
theorem d_MO_sign_14 : decode (jy_c m_MO_sign) 14 = .ok (.sipush 400, 3) := by decide +kernel
theorem d_MO_sign_17 : decode (jy_c m_MO_sign) 17 = .ok (.if_icmp .gt 7, 3) := by decide +kernel
theorem d_MO_sign_20 : decode (jy_c m_MO_sign) 20 = .ok (.iconst 1, 1) := by decide +kernel
theorem d_MO_sign_21 : decode (jy_c m_MO_sign) 21 = .ok (.goto 4, 3) := by decide +kernel
theorem d_MO_sign_24 : decode (jy_c m_MO_sign) 24 = .ok (.iconst 0, 1) := by decide +kernel
theorem d_MO_sign_25 : decode (jy_c m_MO_sign) 25 = .ok (.iconst 1, 1) := by decide +kernel
theorem d_MO_sign_26 : decode (jy_c m_MO_sign) 26 = .ok (.invokevirtual 74, 3) := by decide +kernel
theorem d_MO_sign_29 : decode (jy_c m_MO_sign) 29 = .ok (.ifCond .ne 5, 3) := by decide +kernel
theorem d_MO_sign_32 : decode (jy_c m_MO_sign) 32 = .ok (.iconst 0, 1) := by decide +kernel
theorem d_MO_sign_33 : decode (jy_c m_MO_sign) 33 = .ok (.ireturn, 1) := by decide +kernel
theorem d_MO_sign_34 : decode (jy_c m_MO_sign) 34 = .ok (.iload_n 3, 1) := by decide +kernel
theorem d_MO_sign_35 : decode (jy_c m_MO_sign) 35 = .ok (.iconst 1, 1) := by decide +kernel
theorem d_MO_sign_36 : decode (jy_c m_MO_sign) 36 = .ok (.isub, 1) := by decide +kernel
theorem d_MO_sign_37 : decode (jy_c m_MO_sign) 37 = .ok (.istore 4, 2) := by decide +kernel
theorem d_MO_sign_39 : decode (jy_c m_MO_sign) 39 = .ok (.iload 4, 2) := by decide +kernel
theorem d_MO_sign_41 : decode (jy_c m_MO_sign) 41 = .ok (.ifCond .lt 40, 3) := by decide +kernel
theorem d_MO_sign_44 : decode (jy_c m_MO_sign) 44 = .ok (.aload_n 0, 1) := by decide +kernel
theorem d_MO_sign_45 : decode (jy_c m_MO_sign) 45 = .ok (.getfield 7, 3) := by decide +kernel
theorem d_MO_sign_48 : decode (jy_c m_MO_sign) 48 = .ok (.aload_n 0, 1) := by decide +kernel
theorem d_MO_sign_49 : decode (jy_c m_MO_sign) 49 = .ok (.getfield 71, 3) := by decide +kernel
theorem d_MO_sign_52 : decode (jy_c m_MO_sign) 52 = .ok (.lload_n 1, 1) := by decide +kernel
theorem d_MO_sign_53 : decode (jy_c m_MO_sign) 53 = .ok (.bipush 8, 2) := by decide +kernel
theorem d_MO_sign_55 : decode (jy_c m_MO_sign) 55 = .ok (.iload 4, 2) := by decide +kernel
theorem d_MO_sign_57 : decode (jy_c m_MO_sign) 57 = .ok (.imul, 1) := by decide +kernel
theorem d_MO_sign_58 : decode (jy_c m_MO_sign) 58 = .ok (.lshr, 1) := by decide +kernel
theorem d_MO_sign_59 : decode (jy_c m_MO_sign) 59 = .ok (.l2i, 1) := by decide +kernel
theorem d_MO_sign_60 : decode (jy_c m_MO_sign) 60 = .ok (.sipush 255, 3) := by decide +kernel
theorem d_MO_sign_63 : decode (jy_c m_MO_sign) 63 = .ok (.iand, 1) := by decide +kernel
theorem d_MO_sign_64 : decode (jy_c m_MO_sign) 64 = .ok (.iastore, 1) := by decide +kernel
theorem d_MO_sign_65 : decode (jy_c m_MO_sign) 65 = .ok (.aload_n 0, 1) := by decide +kernel
theorem d_MO_sign_66 : decode (jy_c m_MO_sign) 66 = .ok (.dup, 1) := by decide +kernel
theorem d_MO_sign_67 : decode (jy_c m_MO_sign) 67 = .ok (.getfield 71, 3) := by decide +kernel
theorem d_MO_sign_70 : decode (jy_c m_MO_sign) 70 = .ok (.iconst 1, 1) := by decide +kernel
theorem d_MO_sign_71 : decode (jy_c m_MO_sign) 71 = .ok (.iadd, 1) := by decide +kernel
theorem d_MO_sign_72 : decode (jy_c m_MO_sign) 72 = .ok (.putfield 71, 3) := by decide +kernel
theorem d_MO_sign_75 : decode (jy_c m_MO_sign) 75 = .ok (.iinc 4 (-1), 3) := by decide +kernel
theorem d_MO_sign_78 : decode (jy_c m_MO_sign) 78 = .ok (.goto (-39), 3) := by decide +kernel
theorem d_MO_sign_81 : decode (jy_c m_MO_sign) 81 = .ok (.aload_n 0, 1) := by decide +kernel
theorem d_MO_sign_82 : decode (jy_c m_MO_sign) 82 = .ok (.getfield 71, 3) := by decide +kernel
theorem d_MO_sign_85 : decode (jy_c m_MO_sign) 85 = .ok (.ireturn, 1) := by decide +kernel
theorem mo_sign {G : jy_G} {h0 : jy_P} {f : Nat → Int32} {a : Nat → Nat → Int32} {t n : Nat} {x : Int64} (ht : t + n ≤ 400) : ∀ j, j ≤ n → ∀ h, MS h0 h (upd f 1 (nI (t + j))) (sgA a x t n j) → jy_J G 2 m_MO_sign 39 [some (.ref 11), some (.long x), none, some (.int (nI n)), some (.int (nI (n - j) - 1))] [] h (mP h0 (some (.int (nI (t + n)))) (upd f 1 (nI (t + n))) (sgA a x t n n)) := by
  refine jl_up n _ (fun h hM => ?_) (fun j hj ih h hM => ?_)
  · refine jr_iload d_MO_sign_39 rfl ?_
    refine jr_if_lt (tgt := 81) d_MO_sign_41 (by decide) (fun hc => ?_) (fun hc => absurd (show nI (n - n) - 1 < 0 by rw [Nat.sub_self]; decide) hc)
    refine jr_aload_n d_MO_sign_81 rfl rfl ?_
    refine mr_get d_MO_sign_82 f_MO_71 hM rfl ?_
    refine jr_ireturn d_MO_sign_85 rfl rfl ?_
    exact ⟨by rw [upd_s], hM⟩
  · have e : nI (n - j) - 1 = nI (n - 1 - j) := by rw [show n - j = (n - 1 - j) + 1 by omega, nI_pred]
    refine jr_iload d_MO_sign_39 rfl ?_
    rw [e]
    refine jr_if_lt (tgt := 81) d_MO_sign_41 (by decide) (fun hc => absurd hc (nI_pos (by omega))) (fun hc => ?_)
    refine jr_aload_n d_MO_sign_44 rfl rfl ?_
    refine mr_get d_MO_sign_45 f_MO_7 hM rfl ?_
    refine jr_aload_n d_MO_sign_48 rfl rfl ?_
    refine mr_get d_MO_sign_49 f_MO_71 hM rfl ?_
    refine jr_lload_n d_MO_sign_52 rfl rfl ?_
    refine jr_bipush (v := 8) d_MO_sign_53 (by decide) ?_
    refine jr_iload d_MO_sign_55 rfl ?_
    refine jr_imul d_MO_sign_57 ?_
    refine jr_lshr d_MO_sign_58 ?_
    refine jr_l2i d_MO_sign_59 ?_
    refine jr_sipush (v := 255) d_MO_sign_60 (by decide) ?_
    refine jr_iand d_MO_sign_63 ?_
    refine mr_ast d_MO_sign_64 hM (by decide) upd_s (by show t + j < 400; omega) (fun h hM => ?_)
    refine jr_aload_n d_MO_sign_65 rfl rfl ?_
    refine jr_dup d_MO_sign_66 rfl ?_
    refine mr_get d_MO_sign_67 f_MO_71 hM rfl ?_
    refine jr_iconst (v := 1) d_MO_sign_70 (by decide) ?_
    refine jr_iadd d_MO_sign_71 ?_
    refine mr_put d_MO_sign_72 f_MO_71 rfl hM (fun h hM => ?_)
    refine jr_iincm1 d_MO_sign_75 rfl (by decide) ?_
    refine jr_goto (tgt := 39) d_MO_sign_78 (by decide) ?_
    refine (?_ : jy_J G 2 m_MO_sign 39 [some (.ref 11), some (.long x), none, some (.int (nI n)), some (.int (nI (n - 1 - j) - 1))] [] h _)
    rw [show n - 1 - j = n - (j + 1) by omega]
    refine ih h ?_
    rw [upd_upd, upd_s, nI_1] at hM
    exact hM
theorem c_MO_sign {G : jy_G} {h0 : jy_P} {f : Nat → Int32} {a : Nat → Nat → Int32} {t : Nat} (hM : Mo h0 f a) (ht : f 1 = nI t) (h400 : t ≤ 400) (x : Int64) (n : Int32) : jy_C G 2 m_MO_sign [.ref 11, .long x, .int n] h0 (mR h0 (sgn f a t x n)) := by
  refine jy_C.of [some (.ref 11), some (.long x), none, some (.int n), none] rfl (Nat.le_of_ble_eq_true rfl) ?_
  have hM := MS.rf hM
  generalize hg : mR h0 (sgn f a t x n) = P
  refine jr_aload_n d_MO_sign_0 rfl rfl ?_
  refine jr_iload_n d_MO_sign_1 rfl rfl ?_
  refine jr_iconst (v := 1) d_MO_sign_2 (by decide) ?_
  refine jr_bipush (v := 8) d_MO_sign_3 (by decide) ?_
  refine jr_callSp3 d_MO_sign_5 i_MO_67 (Nat.le_of_ble_eq_true rfl) (by decide) (c_MO_within _ _ _) ?_
  refine jr_aload_n d_MO_sign_8 rfl rfl ?_
  refine mr_get d_MO_sign_9 f_MO_71 hM rfl ?_
  refine jr_iload_n d_MO_sign_12 rfl rfl ?_
  refine jr_iadd d_MO_sign_13 ?_
  refine jr_sipush (v := 400) d_MO_sign_14 (by decide) ?_
  refine jy_cut2 25 (fun z => z = bI (decide (f 1 + n ≤ 400))) (fun K => ?_) (fun z hz => ?_)
  · refine jr_icmp_gt (tgt := 24) d_MO_sign_17 (by decide) (fun hc => ?_) (fun hc => ?_)
    · refine jr_iconst (v := 0) d_MO_sign_24 (by decide) ?_
      exact K _ (by rw [decide_eq_false (Int32.not_le.mpr hc)]; rfl)
    · refine jr_iconst (v := 1) d_MO_sign_20 (by decide) ?_
      refine jr_goto (tgt := 25) d_MO_sign_21 (by decide) ?_
      exact K _ (by rw [decide_eq_true (Int32.not_lt.mp hc)]; rfl)
  subst hz
  refine jr_iconst (v := 1) d_MO_sign_25 (by decide) ?_
  refine mr_call3 d_MO_sign_26 i_MO_74 hM (Nat.le_of_ble_eq_true rfl) (by decide) (c_MO_goes hM.1 _ _ true) (fun h hM => ?_)
  refine jr_if_ne (tgt := 34) d_MO_sign_29 (by decide) (fun hc => ?_) (fun hc => ?_)
  · have hG := bI_ne0.mp hc
    have g1 := hG
    rw [Bool.and_true, Bool.and_eq_true] at g1
    have e0 : gT (inB n 1 8) (decide (f 1 + n ≤ 400)) true = 0 := by rw [g1.1, g1.2]; rfl
    rw [e0] at hM
    have hn18 := g1.1
    unfold inB at hn18
    rw [Bool.and_eq_true] at hn18
    obtain ⟨N, hN, rfl⟩ := nI_of2 (n := 8) (by decide) (Int32.not_lt.mpr (Int32.le_trans (by decide) (of_decide_eq_true hn18.1))) (of_decide_eq_true hn18.2)
    have hN1 : 1 ≤ N := (nI_leI (a := 1) (by decide) (by omega)).mp (of_decide_eq_true hn18.1)
    have hT : t + N ≤ 400 := by
      have := of_decide_eq_true g1.2
      rw [ht, nI_add] at this
      exact (nI_leI (b := 400) (by omega) (by decide)).mp this
    have hP : P = mP h0 (some (.int (nI (t + N)))) (upd (upd f 0 0) 1 (nI (t + N))) (sgA a x t N N) := by
      rw [← hg, sgn, if_pos (show sgG f (nI N) = true from hG), nI_clamp (by omega)]; rfl
    rw [hP]
    refine jr_iload_n d_MO_sign_34 rfl rfl ?_
    refine jr_iconst (v := 1) d_MO_sign_35 (by decide) ?_
    refine jr_isub d_MO_sign_36 ?_
    refine jr_istore d_MO_sign_37 (by decide) ?_
    refine mo_sign (f := upd f 0 0) hT 0 (Nat.zero_le _) h ?_
    have : upd (upd f 0 0) 1 (nI (t + 0)) = upd f 0 0 := by
      rw [Nat.add_zero, ← ht]
      exact upd_self (upd f 0 0) 1
    rw [this]
    exact hM
  · have hG := bI_eq0.mp hc
    have hP : P = mP h0 (some (.int 0)) (upd f 0 (gT (inB n 1 8) (decide (f 1 + n ≤ 400)) true)) a := by
      rw [← hg, sgn, if_neg (by rw [show sgG f n = false from hG]; decide)]; rfl
    rw [hP]
    refine jr_iconst (v := 0) d_MO_sign_32 (by decide) ?_
    refine jr_ireturn d_MO_sign_33 rfl rfl ?_
    exact ⟨rfl, hM⟩

/-! words -/
def lev (u v : Nat → Int32) : Nat → Nat → Nat
  | 0, j => j
  | i + 1, 0 => i + 1
  | i + 1, j + 1 => min (lev u v i j + (if u i = v j then 0 else 1)) (min (lev u v i (j + 1)) (lev u v (i + 1) j) + 1)
theorem lev_le {u v : Nat → Int32} : ∀ i j, lev u v i j ≤ i + j := by
  intro i
  induction i with
  | zero => intro j; simp [lev]
  | succ i ih =>
    intro j
    induction j with
    | zero => simp [lev]
    | succ j ih2 =>
      have h1 := ih j
      have h2 : (if u i = v j then 0 else 1) ≤ 1 := by split <;> omega
      rw [lev]
      omega
theorem mn_nI {x y : Nat} (hx : x < 2 ^ 31) (hy : y < 2 ^ 31) : mn (nI x) (nI y) = nI (min x y) := by
  unfold mn
  by_cases h : x < y
  · rw [if_pos (nI_lt h hy), Nat.min_eq_left (by omega)]
  · rw [if_neg (nI_nlt (by omega) hx), Nat.min_eq_right (by omega)]
def at24 (a : Nat → Nat → Int32) (T : Nat → Int32) : Nat → Nat → Int32 := fun B => if B = 24 then T else a B
theorem at24_s {a : Nat → Nat → Int32} {T : Nat → Int32} : at24 a T 24 = T := rfl
theorem at24_n {a : Nat → Nat → Int32} {T : Nat → Int32} {B : Nat} (h : B ≠ 24) : at24 a T B = a B := by simp [at24, h]
theorem at24_u {a : Nat → Nat → Int32} {T : Nat → Int32} {j : Nat} {x : Int32} : upd2 (at24 a T) 24 j x = at24 a (upd T j x) := by
  funext B
  by_cases h : B = 24
  · subst h; rfl
  · simp [upd2, at24, h]
theorem at24_self (a : Nat → Nat → Int32) : at24 a (a 24) = a := by
  funext B
  by_cases h : B = 24
  · subst h; rfl
  · simp [at24, h]
/-- the end of a method that writes the table of distances alone -/
def aP (h : jy_P) (r : Option Value) (f : Nat → Int32) (a : Nat → Nat → Int32) : Outcome → jy_P → Prop := fun o h' => o = .returned r ∧ ∃ T, MS h h' f (at24 a T)
theorem mr_callA1 {G : jy_G} {d d' : Nat} {M M' : jy_M} {pc : Nat} {L : List (Option Value)} {st : List Value} {h0 h : jy_P} {P : Outcome → jy_P → Prop} {f f' : Nat → Int32} {a a' : Nat → Nat → Int32} {idx : Nat} {v1 : Value} {r : Option Value} (hd : decode (jy_c M) pc = .ok (.invokevirtual idx, 3)) (hI : jy_IV (jy_y M).cls idx M' 7 1) (hM : MS h0 h f a) (hst : (st.map fun v => v.category).sum ≤ 8) (hdd : d' < d) (hC : jy_C G d' M' [.ref 11, v1] h (aP h r f' a')) (kk : ∀ h1 T, MS h0 h1 f' (at24 a' T) → jy_J G d M (pc + 3) L (r.toList ++ st) h1 P) : jy_J G d M pc L (v1 :: .ref 11 :: st) h P :=
  jr_callV (As := [v1]) hd hI rfl hM.1.1 hst hdd hC (fun v h' q => by
    obtain ⟨q1, T, q2⟩ := q
    cases q1
    exact kk h' T (hM.tr q2)) (fun x h' q => by cases q.1)
theorem ix11 {x y : Int32} (k c : Nat) (hx : x = nI k) (hy : y = nI c) : x * 11 + y = nI (11 * k + c) := by
  subst hx; subst hy
  show nI k * nI 11 + nI c = _
  rw [pk_mul, nI_add, Nat.mul_comm]
def Tok (u v : Nat → Int32) (n : Nat) (T : Nat → Int32) (i j : Nat) : Prop := (∀ i' j', i' < i → j' ≤ n → T (11 * i' + j') = nI (lev u v i' j')) ∧ ∀ j', j' < j → T (11 * i + j') = nI (lev u v i j')
theorem Tok.next {u v : Nat → Int32} {n : Nat} {T : Nat → Int32} {i j : Nat} (hn : n ≤ 10) (hj : j ≤ n) (h : Tok u v n T i j) : Tok u v n (upd T (11 * i + j) (nI (lev u v i j))) i (j + 1) := by
  refine ⟨fun i' j' h1 h2 => ?_, fun j' h1 => ?_⟩
  · rw [upd_n (by omega)]
    exact h.1 i' j' h1 h2
  · by_cases q : j' = j
    · subst q
      exact upd_s
    · rw [upd_n (by omega)]
      exact h.2 j' (by omega)
theorem d_MO_apart_0 : decode (jy_c m_MO_apart) 0 = .ok (.aload_n 0, 1) := by decide +kernel
theorem d_MO_apart_1 : decode (jy_c m_MO_apart) 1 = .ok (.getfield 17, 3) := by decide +kernel
theorem d_MO_apart_4 : decode (jy_c m_MO_apart) 4 = .ok (.iload_n 1, 1) := by decide +kernel
theorem d_MO_apart_5 : decode (jy_c m_MO_apart) 5 = .ok (.iaload, 1) := by decide +kernel
theorem d_MO_apart_6 : decode (jy_c m_MO_apart) 6 = .ok (.istore_n 2, 1) := by decide +kernel
theorem d_MO_apart_7 : decode (jy_c m_MO_apart) 7 = .ok (.iconst 0, 1) := by decide +kernel
theorem d_MO_apart_8 : decode (jy_c m_MO_apart) 8 = .ok (.istore_n 3, 1) := by decide +kernel
theorem d_MO_apart_9 : decode (jy_c m_MO_apart) 9 = .ok (.iload_n 3, 1) := by decide +kernel
theorem d_MO_apart_10 : decode (jy_c m_MO_apart) 10 = .ok (.aload_n 0, 1) := by decide +kernel
theorem d_MO_apart_11 : decode (jy_c m_MO_apart) 11 = .ok (.getfield 134, 3) := by decide +kernel
theorem d_MO_apart_14 : decode (jy_c m_MO_apart) 14 = .ok (.if_icmp .gt 137, 3) := by decide +kernel
theorem d_MO_apart_17 : decode (jy_c m_MO_apart) 17 = .ok (.iconst 0, 1) := by decide +kernel
theorem d_MO_apart_18 : decode (jy_c m_MO_apart) 18 = .ok (.istore 4, 2) := by decide +kernel
theorem d_MO_apart_20 : decode (jy_c m_MO_apart) 20 = .ok (.iload 4, 2) := by decide +kernel
theorem d_MO_apart_22 : decode (jy_c m_MO_apart) 22 = .ok (.iload_n 2, 1) := by decide +kernel
theorem d_MO_apart_23 : decode (jy_c m_MO_apart) 23 = .ok (.if_icmp .gt 122, 3) := by decide +kernel
theorem d_MO_apart_26 : decode (jy_c m_MO_apart) 26 = .ok (.iload_n 3, 1) := by decide +kernel
theorem d_MO_apart_27 : decode (jy_c m_MO_apart) 27 = .ok (.iload 4, 2) := by decide +kernel
theorem d_MO_apart_29 : decode (jy_c m_MO_apart) 29 = .ok (.iadd, 1) := by decide +kernel
theorem d_MO_apart_30 : decode (jy_c m_MO_apart) 30 = .ok (.istore 5, 2) := by decide +kernel
theorem d_MO_apart_32 : decode (jy_c m_MO_apart) 32 = .ok (.iload_n 3, 1) := by decide +kernel
theorem d_MO_apart_33 : decode (jy_c m_MO_apart) 33 = .ok (.ifCond .le 92, 3) := by decide +kernel
theorem d_MO_apart_36 : decode (jy_c m_MO_apart) 36 = .ok (.iload 4, 2) := by decide +kernel
theorem d_MO_apart_38 : decode (jy_c m_MO_apart) 38 = .ok (.ifCond .le 87, 3) := by decide +kernel
theorem d_MO_apart_41 : decode (jy_c m_MO_apart) 41 = .ok (.aload_n 0, 1) := by decide +kernel
theorem d_MO_apart_42 : decode (jy_c m_MO_apart) 42 = .ok (.getfield 61, 3) := by decide +kernel
theorem d_MO_apart_45 : decode (jy_c m_MO_apart) 45 = .ok (.iload_n 3, 1) := by decide +kernel
theorem d_MO_apart_46 : decode (jy_c m_MO_apart) 46 = .ok (.iconst 1, 1) := by decide +kernel
theorem d_MO_apart_47 : decode (jy_c m_MO_apart) 47 = .ok (.isub, 1) := by decide +kernel
theorem d_MO_apart_48 : decode (jy_c m_MO_apart) 48 = .ok (.bipush 11, 2) := by decide +kernel
theorem d_MO_apart_50 : decode (jy_c m_MO_apart) 50 = .ok (.imul, 1) := by decide +kernel
theorem d_MO_apart_51 : decode (jy_c m_MO_apart) 51 = .ok (.iload 4, 2) := by decide +kernel
theorem d_MO_apart_53 : decode (jy_c m_MO_apart) 53 = .ok (.iadd, 1) := by decide +kernel
theorem d_MO_apart_54 : decode (jy_c m_MO_apart) 54 = .ok (.iconst 1, 1) := by decide +kernel
theorem d_MO_apart_55 : decode (jy_c m_MO_apart) 55 = .ok (.isub, 1) := by decide +kernel
theorem d_MO_apart_56 : decode (jy_c m_MO_apart) 56 = .ok (.iaload, 1) := by decide +kernel
theorem d_MO_apart_57 : decode (jy_c m_MO_apart) 57 = .ok (.aload_n 0, 1) := by decide +kernel
theorem d_MO_apart_58 : decode (jy_c m_MO_apart) 58 = .ok (.getfield 58, 3) := by decide +kernel
theorem d_MO_apart_61 : decode (jy_c m_MO_apart) 61 = .ok (.iload_n 3, 1) := by decide +kernel
theorem d_MO_apart_62 : decode (jy_c m_MO_apart) 62 = .ok (.iconst 1, 1) := by decide +kernel
theorem d_MO_apart_63 : decode (jy_c m_MO_apart) 63 = .ok (.isub, 1) := by decide +kernel
theorem d_MO_apart_64 : decode (jy_c m_MO_apart) 64 = .ok (.iaload, 1) := by decide +kernel
theorem d_MO_apart_65 : decode (jy_c m_MO_apart) 65 = .ok (.aload_n 0, 1) := by decide +kernel
theorem d_MO_apart_66 : decode (jy_c m_MO_apart) 66 = .ok (.getfield 17, 3) := by decide +kernel
theorem d_MO_apart_69 : decode (jy_c m_MO_apart) 69 = .ok (.iload_n 1, 1) := by decide +kernel
theorem d_MO_apart_70 : decode (jy_c m_MO_apart) 70 = .ok (.iload 4, 2) := by decide +kernel
theorem d_MO_apart_72 : decode (jy_c m_MO_apart) 72 = .ok (.iadd, 1) := by decide +kernel
theorem d_MO_apart_73 : decode (jy_c m_MO_apart) 73 = .ok (.iaload, 1) := by decide +kernel
theorem d_MO_apart_74 : decode (jy_c m_MO_apart) 74 = .ok (.if_icmp .ne 7, 3) := by decide +kernel
theorem d_MO_apart_77 : decode (jy_c m_MO_apart) 77 = .ok (.iconst 0, 1) := by decide +kernel
theorem d_MO_apart_78 : decode (jy_c m_MO_apart) 78 = .ok (.goto 4, 3) := by decide +kernel
theorem d_MO_apart_81 : decode (jy_c m_MO_apart) 81 = .ok (.iconst 1, 1) := by decide +kernel
theorem d_MO_apart_82 : decode (jy_c m_MO_apart) 82 = .ok (.iadd, 1) := by decide +kernel
theorem d_MO_apart_83 : decode (jy_c m_MO_apart) 83 = .ok (.istore 5, 2) := by decide +kernel
theorem d_MO_apart_85 : decode (jy_c m_MO_apart) 85 = .ok (.iload 5, 2) := by decide +kernel
theorem d_MO_apart_87 : decode (jy_c m_MO_apart) 87 = .ok (.aload_n 0, 1) := by decide +kernel
theorem d_MO_apart_88 : decode (jy_c m_MO_apart) 88 = .ok (.getfield 61, 3) := by decide +kernel
theorem d_MO_apart_91 : decode (jy_c m_MO_apart) 91 = .ok (.iload_n 3, 1) := by decide +kernel
theorem d_MO_apart_92 : decode (jy_c m_MO_apart) 92 = .ok (.iconst 1, 1) := by decide +kernel
theorem d_MO_apart_93 : decode (jy_c m_MO_apart) 93 = .ok (.isub, 1) := by decide +kernel
theorem d_MO_apart_94 : decode (jy_c m_MO_apart) 94 = .ok (.bipush 11, 2) := by decide +kernel
theorem d_MO_apart_96 : decode (jy_c m_MO_apart) 96 = .ok (.imul, 1) := by decide +kernel
theorem d_MO_apart_97 : decode (jy_c m_MO_apart) 97 = .ok (.iload 4, 2) := by decide +kernel
theorem d_MO_apart_99 : decode (jy_c m_MO_apart) 99 = .ok (.iadd, 1) := by decide +kernel
theorem d_MO_apart_100 : decode (jy_c m_MO_apart) 100 = .ok (.iaload, 1) := by decide +kernel
theorem d_MO_apart_101 : decode (jy_c m_MO_apart) 101 = .ok (.aload_n 0, 1) := by decide +kernel
theorem d_MO_apart_102 : decode (jy_c m_MO_apart) 102 = .ok (.getfield 61, 3) := by decide +kernel
theorem d_MO_apart_105 : decode (jy_c m_MO_apart) 105 = .ok (.iload_n 3, 1) := by decide +kernel
theorem d_MO_apart_106 : decode (jy_c m_MO_apart) 106 = .ok (.bipush 11, 2) := by decide +kernel
theorem d_MO_apart_108 : decode (jy_c m_MO_apart) 108 = .ok (.imul, 1) := by decide +kernel
theorem d_MO_apart_109 : decode (jy_c m_MO_apart) 109 = .ok (.iload 4, 2) := by decide +kernel
theorem d_MO_apart_111 : decode (jy_c m_MO_apart) 111 = .ok (.iadd, 1) := by decide +kernel
theorem d_MO_apart_112 : decode (jy_c m_MO_apart) 112 = .ok (.iconst 1, 1) := by decide +kernel
theorem d_MO_apart_113 : decode (jy_c m_MO_apart) 113 = .ok (.isub, 1) := by decide +kernel
theorem d_MO_apart_114 : decode (jy_c m_MO_apart) 114 = .ok (.iaload, 1) := by decide +kernel
theorem d_MO_apart_115 : decode (jy_c m_MO_apart) 115 = .ok (.invokestatic 144, 3) := by decide +kernel
theorem d_MO_apart_118 : decode (jy_c m_MO_apart) 118 = .ok (.iconst 1, 1) := by decide +kernel
theorem d_MO_apart_119 : decode (jy_c m_MO_apart) 119 = .ok (.iadd, 1) := by decide +kernel
theorem d_MO_apart_120 : decode (jy_c m_MO_apart) 120 = .ok (.invokestatic 144, 3) := by decide +kernel
theorem d_MO_apart_123 : decode (jy_c m_MO_apart) 123 = .ok (.istore 5, 2) := by decide +kernel
theorem d_MO_apart_125 : decode (jy_c m_MO_apart) 125 = .ok (.aload_n 0, 1) := by decide +kernel
theorem d_MO_apart_126 : decode (jy_c m_MO_apart) 126 = .ok (.getfield 61, 3) := by decide +kernel
theorem d_MO_apart_129 : decode (jy_c m_MO_apart) 129 = .ok (.iload_n 3, 1) := by decide +kernel
theorem d_MO_apart_130 : decode (jy_c m_MO_apart) 130 = .ok (.bipush 11, 2) := by decide +kernel
theorem d_MO_apart_132 : decode (jy_c m_MO_apart) 132 = .ok (.imul, 1) := by decide +kernel
theorem d_MO_apart_133 : decode (jy_c m_MO_apart) 133 = .ok (.iload 4, 2) := by decide +kernel
theorem d_MO_apart_135 : decode (jy_c m_MO_apart) 135 = .ok (.iadd, 1) := by decide +kernel
theorem d_MO_apart_136 : decode (jy_c m_MO_apart) 136 = .ok (.iload 5, 2) := by decide +kernel
theorem d_MO_apart_138 : decode (jy_c m_MO_apart) 138 = .ok (.iastore, 1) := by decide +kernel
theorem d_MO_apart_139 : decode (jy_c m_MO_apart) 139 = .ok (.iinc 4 1, 3) := by decide +kernel
theorem d_MO_apart_142 : decode (jy_c m_MO_apart) 142 = .ok (.goto (-122), 3) := by decide +kernel
theorem d_MO_apart_145 : decode (jy_c m_MO_apart) 145 = .ok (.iinc 3 1, 3) := by decide +kernel
theorem d_MO_apart_148 : decode (jy_c m_MO_apart) 148 = .ok (.goto (-139), 3) := by decide +kernel
theorem d_MO_apart_151 : decode (jy_c m_MO_apart) 151 = .ok (.aload_n 0, 1) := by decide +kernel
theorem d_MO_apart_152 : decode (jy_c m_MO_apart) 152 = .ok (.getfield 61, 3) := by decide +kernel
theorem d_MO_apart_155 : decode (jy_c m_MO_apart) 155 = .ok (.aload_n 0, 1) := by decide +kernel
theorem d_MO_apart_156 : decode (jy_c m_MO_apart) 156 = .ok (.getfield 134, 3) := by decide +kernel
theorem d_MO_apart_159 : decode (jy_c m_MO_apart) 159 = .ok (.bipush 11, 2) := by decide +kernel
theorem d_MO_apart_161 : decode (jy_c m_MO_apart) 161 = .ok (.imul, 1) := by decide +kernel
theorem d_MO_apart_162 : decode (jy_c m_MO_apart) 162 = .ok (.iload_n 2, 1) := by decide +kernel
theorem d_MO_apart_163 : decode (jy_c m_MO_apart) 163 = .ok (.iadd, 1) := by decide +kernel
theorem d_MO_apart_164 : decode (jy_c m_MO_apart) 164 = .ok (.iaload, 1) := by decide +kernel
theorem d_MO_apart_165 : decode (jy_c m_MO_apart) 165 = .ok (.ireturn, 1) := by decide +kernel
theorem mo_apart2 {G : jy_G} {h0 : jy_P} {f : Nat → Int32} {a : Nat → Nat → Int32} {K n s i : Nat} {P : Outcome → jy_P → Prop} (hK : K + 11 ≤ 559) (hn : n ≤ 10) (hs : s ≤ 8) (hi : i ≤ s)
    (kk : ∀ h T l5, MS h0 h f (at24 a T) → Tok (a 23) (fun j => a 13 (K + 1 + j)) n T (i + 1) 0 → jy_J G 2 m_MO_apart 145 [some (.ref 11), some (.int (nI K)), some (.int (nI n)), some (.int (nI i)), some (.int (nI (n + 1))), l5] [] h P) :
    ∀ j, j ≤ n + 1 → ∀ h T l5, MS h0 h f (at24 a T) → Tok (a 23) (fun j => a 13 (K + 1 + j)) n T i j → jy_J G 2 m_MO_apart 20 [some (.ref 11), some (.int (nI K)), some (.int (nI n)), some (.int (nI i)), some (.int (nI j)), l5] [] h P := by
  refine jl_up (n + 1) _ (fun h T l5 hM hT => ?_) (fun j hj ih h T l5 hM hT => ?_)
  · refine jr_iload d_MO_apart_20 rfl ?_
    refine jr_iload_n d_MO_apart_22 rfl rfl ?_
    refine jr_icmp_gt (tgt := 145) d_MO_apart_23 (by decide) (fun hc => ?_) (fun hc => absurd (nI_lt (Nat.lt_succ_self n) (by omega)) hc)
    refine kk h T l5 hM ⟨fun i' j' h1 h2 => ?_, fun j' h1 => by omega⟩
    by_cases q : i' = i
    · subst q
      exact hT.2 j' (by omega)
    · exact hT.1 i' j' (by omega) h2
  · refine jr_iload d_MO_apart_20 rfl ?_
    refine jr_iload_n d_MO_apart_22 rfl rfl ?_
    refine jr_icmp_gt (tgt := 145) d_MO_apart_23 (by decide) (fun hc => absurd hc (nI_nlt (by omega) (by omega))) (fun hc => ?_)
    have key : jy_J G 2 m_MO_apart 125 [some (.ref 11), some (.int (nI K)), some (.int (nI n)), some (.int (nI i)), some (.int (nI j)), some (.int (nI (lev (a 23) (fun j => a 13 (K + 1 + j)) i j)))] [] h P := by
      refine jr_aload_n d_MO_apart_125 rfl rfl ?_
      refine mr_get d_MO_apart_126 f_MO_61 hM rfl ?_
      refine jr_iload_n d_MO_apart_129 rfl rfl ?_
      refine jr_bipush (v := 11) d_MO_apart_130 (by decide) ?_
      refine jr_imul d_MO_apart_132 ?_
      refine jr_iload d_MO_apart_133 rfl ?_
      refine jr_iadd d_MO_apart_135 ?_
      refine jr_iload d_MO_apart_136 rfl ?_
      refine mr_ast d_MO_apart_138 hM (by decide) (ix11 i j rfl rfl) (by show 11 * i + j < 99; omega) (fun h hM => ?_)
      refine jr_iinc1 d_MO_apart_139 rfl (by decide) ?_
      refine jr_goto (tgt := 20) d_MO_apart_142 (by decide) ?_
      rw [at24_u] at hM
      rw [nI_1]
      exact ih h _ _ hM (hT.next hn (by omega))
    refine jr_iload_n d_MO_apart_26 rfl rfl ?_
    refine jr_iload d_MO_apart_27 rfl ?_
    refine jr_iadd d_MO_apart_29 ?_
    refine jr_istore d_MO_apart_30 (by decide) ?_
    refine jr_iload_n d_MO_apart_32 rfl rfl ?_
    cases i with
    | zero =>
      refine jr_if_le (tgt := 125) d_MO_apart_33 (by decide) (fun _ => ?_) (fun hc => absurd (by decide) hc)
      rw [nI_add] 
      have : lev (a 23) (fun j => a 13 (K + 1 + j)) 0 j = 0 + j := by simp [lev]
      rw [this] at key
      exact key
    | succ i =>
      refine jr_if_le (tgt := 125) d_MO_apart_33 (by decide) (fun hc => absurd hc (nI_nle (by omega) (by omega))) (fun _ => ?_)
      refine jr_iload d_MO_apart_36 rfl ?_
      cases j with
      | zero =>
        refine jr_if_le (tgt := 125) d_MO_apart_38 (by decide) (fun _ => ?_) (fun hc => absurd (by decide) hc)
        rw [nI_add]
        have : lev (a 23) (fun j => a 13 (K + 1 + j)) (i + 1) 0 = i + 1 + 0 := by simp [lev]
        rw [this] at key
        exact key
      | succ j =>
        refine jr_if_le (tgt := 125) d_MO_apart_38 (by decide) (fun hc => absurd hc (nI_nle (by omega) (by omega))) (fun _ => ?_)
        have x1 : (nI (i + 1) - 1) * 11 + nI (j + 1) - 1 = nI (11 * i + j) := by
          rw [ix11 i (j + 1) (nI_pred i) rfl]
          exact nI_pred (11 * i + j)
        have x2 : (nI (i + 1) - 1) * 11 + nI (j + 1) = nI (11 * i + (j + 1)) := ix11 i (j + 1) (nI_pred i) rfl
        have x3 : nI (i + 1) * 11 + nI (j + 1) - 1 = nI (11 * (i + 1) + j) := by
          rw [ix11 (i + 1) (j + 1) rfl rfl]
          exact nI_pred (11 * (i + 1) + j)
        have t1 := hT.1 i j (by omega) (by omega)
        have t2 := hT.1 i (j + 1) (by omega) (by omega)
        have t3 := hT.2 j (by omega)
        have b1 := lev_le (u := a 23) (v := fun j => a 13 (K + 1 + j)) i j
        have b2 := lev_le (u := a 23) (v := fun j => a 13 (K + 1 + j)) i (j + 1)
        have b3 := lev_le (u := a 23) (v := fun j => a 13 (K + 1 + j)) (i + 1) j
        refine jr_aload_n d_MO_apart_41 rfl rfl ?_
        refine mr_get d_MO_apart_42 f_MO_61 hM rfl ?_
        refine jr_iload_n d_MO_apart_45 rfl rfl ?_
        refine jr_iconst (v := 1) d_MO_apart_46 (by decide) ?_
        refine jr_isub d_MO_apart_47 ?_
        refine jr_bipush (v := 11) d_MO_apart_48 (by decide) ?_
        refine jr_imul d_MO_apart_50 ?_
        refine jr_iload d_MO_apart_51 rfl ?_
        refine jr_iadd d_MO_apart_53 ?_
        refine jr_iconst (v := 1) d_MO_apart_54 (by decide) ?_
        refine jr_isub d_MO_apart_55 ?_
        refine mr_ald d_MO_apart_56 hM (by decide) x1 (by show 11 * i + j < 99; omega) ?_
        refine jr_aload_n d_MO_apart_57 rfl rfl ?_
        refine mr_get d_MO_apart_58 f_MO_58 hM rfl ?_
        refine jr_iload_n d_MO_apart_61 rfl rfl ?_
        refine jr_iconst (v := 1) d_MO_apart_62 (by decide) ?_
        refine jr_isub d_MO_apart_63 ?_
        refine mr_ald d_MO_apart_64 hM (by decide) (nI_pred i) (by show i < 8; omega) ?_
        refine jr_aload_n d_MO_apart_65 rfl rfl ?_
        refine mr_get d_MO_apart_66 f_MO_17 hM rfl ?_
        refine jr_iload_n d_MO_apart_69 rfl rfl ?_
        refine jr_iload d_MO_apart_70 rfl ?_
        refine jr_iadd d_MO_apart_72 ?_
        refine mr_ald d_MO_apart_73 hM (by decide) (nI_add K (j + 1)) (by show K + (j + 1) < 559; omega) ?_
        rw [at24_s, t1]
        refine jy_cut2 82 (fun z => z = nI (if a 23 i = a 13 (K + 1 + j) then 0 else 1)) (fun C => ?_) (fun z hz => ?_)
        · have e : K + (j + 1) = K + 1 + j := by omega
          rw [e]
          refine jr_icmp_ne (tgt := 81) d_MO_apart_74 (by decide) (fun hc => ?_) (fun hc => ?_)
          · have hc : ¬ a 23 i = a 13 (K + 1 + j) := hc
            refine jr_iconst (v := 1) d_MO_apart_81 (by decide) ?_
            exact C _ (by rw [if_neg hc]; rfl)
          · have hc : a 23 i = a 13 (K + 1 + j) := hc
            refine jr_iconst (v := 0) d_MO_apart_77 (by decide) ?_
            refine jr_goto (tgt := 82) d_MO_apart_78 (by decide) ?_
            exact C _ (by rw [if_pos hc]; rfl)
        subst hz
        have b4 : (if a 23 i = a 13 (K + 1 + j) then 0 else 1) ≤ 1 := by split <;> omega
        refine jr_iadd d_MO_apart_82 ?_
        refine jr_istore d_MO_apart_83 (by decide) ?_
        refine jr_iload d_MO_apart_85 rfl ?_
        refine jr_aload_n d_MO_apart_87 rfl rfl ?_
        refine mr_get d_MO_apart_88 f_MO_61 hM rfl ?_
        refine jr_iload_n d_MO_apart_91 rfl rfl ?_
        refine jr_iconst (v := 1) d_MO_apart_92 (by decide) ?_
        refine jr_isub d_MO_apart_93 ?_
        refine jr_bipush (v := 11) d_MO_apart_94 (by decide) ?_
        refine jr_imul d_MO_apart_96 ?_
        refine jr_iload d_MO_apart_97 rfl ?_
        refine jr_iadd d_MO_apart_99 ?_
        refine mr_ald d_MO_apart_100 hM (by decide) x2 (by show 11 * i + (j + 1) < 99; omega) ?_
        refine jr_aload_n d_MO_apart_101 rfl rfl ?_
        refine mr_get d_MO_apart_102 f_MO_61 hM rfl ?_
        refine jr_iload_n d_MO_apart_105 rfl rfl ?_
        refine jr_bipush (v := 11) d_MO_apart_106 (by decide) ?_
        refine jr_imul d_MO_apart_108 ?_
        refine jr_iload d_MO_apart_109 rfl ?_
        refine jr_iadd d_MO_apart_111 ?_
        refine jr_iconst (v := 1) d_MO_apart_112 (by decide) ?_
        refine jr_isub d_MO_apart_113 ?_
        refine mr_ald d_MO_apart_114 hM (by decide) x3 (by show 11 * (i + 1) + j < 99; omega) ?_
        rw [at24_s, t2, t3, nI_add]
        refine jr_callSp2 d_MO_apart_115 i_MO_144 (Nat.le_of_ble_eq_true rfl) (by decide) (c_MO_least _ _) ?_
        refine jr_iconst (v := 1) d_MO_apart_118 (by decide) ?_
        refine jr_iadd d_MO_apart_119 ?_
        refine jr_callSp2 d_MO_apart_120 i_MO_144 (Nat.le_of_ble_eq_true rfl) (by decide) (c_MO_least _ _) ?_
        rw [mn_nI (by omega) (by omega), nI_1, nI_add, mn_nI (by omega) (by omega)]
        refine jr_istore d_MO_apart_123 (by decide) ?_
        have : lev (a 23) (fun j => a 13 (K + 1 + j)) (i + 1) (j + 1) = min (lev (a 23) (fun j => a 13 (K + 1 + j)) i j + (if a 23 i = a 13 (K + 1 + j) then 0 else 1)) (min (lev (a 23) (fun j => a 13 (K + 1 + j)) i (j + 1)) (lev (a 23) (fun j => a 13 (K + 1 + j)) (i + 1) j) + 1) := by rw [lev]
        rw [this] at key
        exact key
theorem mo_apart1 {G : jy_G} {h0 : jy_P} {f : Nat → Int32} {a : Nat → Nat → Int32} {K n s : Nat} (hK : K + 11 ≤ 559) (hn : n ≤ 10) (hs : s ≤ 8) (hf : f 27 = nI s) :
    ∀ i, i ≤ s + 1 → ∀ h T l4 l5, MS h0 h f (at24 a T) → Tok (a 23) (fun j => a 13 (K + 1 + j)) n T i 0 → jy_J G 2 m_MO_apart 9 [some (.ref 11), some (.int (nI K)), some (.int (nI n)), some (.int (nI i)), l4, l5] [] h (aP h0 (some (.int (nI (lev (a 23) (fun j => a 13 (K + 1 + j)) s n)))) f a) := by
  refine jl_up (s + 1) _ (fun h T l4 l5 hM hT => ?_) (fun i hi ih h T l4 l5 hM hT => ?_)
  · refine jr_iload_n d_MO_apart_9 rfl rfl ?_
    refine jr_aload_n d_MO_apart_10 rfl rfl ?_
    refine mr_get d_MO_apart_11 f_MO_134 hM rfl ?_
    rw [hf]
    refine jr_icmp_gt (tgt := 151) d_MO_apart_14 (by decide) (fun hc => ?_) (fun hc => absurd (nI_lt (Nat.lt_succ_self s) (by omega)) hc)
    refine jr_aload_n d_MO_apart_151 rfl rfl ?_
    refine mr_get d_MO_apart_152 f_MO_61 hM rfl ?_
    refine jr_aload_n d_MO_apart_155 rfl rfl ?_
    refine mr_get d_MO_apart_156 f_MO_134 hM rfl ?_
    refine jr_bipush (v := 11) d_MO_apart_159 (by decide) ?_
    refine jr_imul d_MO_apart_161 ?_
    refine jr_iload_n d_MO_apart_162 rfl rfl ?_
    refine jr_iadd d_MO_apart_163 ?_
    refine mr_ald d_MO_apart_164 hM (by decide) (ix11 s n hf rfl) (by show 11 * s + n < 99; omega) ?_
    rw [at24_s, hT.1 s n (by omega) (by omega)]
    refine jr_ireturn d_MO_apart_165 rfl rfl ?_
    exact ⟨rfl, T, hM⟩
  · refine jr_iload_n d_MO_apart_9 rfl rfl ?_
    refine jr_aload_n d_MO_apart_10 rfl rfl ?_
    refine mr_get d_MO_apart_11 f_MO_134 hM rfl ?_
    rw [hf]
    refine jr_icmp_gt (tgt := 151) d_MO_apart_14 (by decide) (fun hc => absurd hc (nI_nlt (by omega) (by omega))) (fun hc => ?_)
    refine jr_iconst (v := 0) d_MO_apart_17 (by decide) ?_
    refine jr_istore d_MO_apart_18 (by decide) ?_
    refine mo_apart2 (a := a) hK hn hs (by omega) (fun h T l5 hM hT => ?_) 0 (Nat.zero_le _) h T l5 hM hT
    refine jr_iinc1 d_MO_apart_145 rfl (by decide) ?_
    refine jr_goto (tgt := 9) d_MO_apart_148 (by decide) ?_
    rw [nI_1]
    exact ih h T _ _ hM hT
theorem c_MO_apart {G : jy_G} {h0 : jy_P} {f : Nat → Int32} {a : Nat → Nat → Int32} {T : Nat → Int32} {K n s : Nat} (hM : Mo h0 f (at24 a T)) (hK : K + 11 ≤ 559) (hn : n ≤ 10) (hR : a 13 K = nI n) (hs : s ≤ 8) (hf : f 27 = nI s) : jy_C G 2 m_MO_apart [.ref 11, .int (nI K)] h0 (aP h0 (some (.int (nI (lev (a 23) (fun j => a 13 (K + 1 + j)) s n)))) f a) := by
  refine jy_C.of [some (.ref 11), some (.int (nI K)), none, none, none, none] rfl (Nat.le_of_ble_eq_true rfl) ?_
  have hM := MS.rf hM
  refine jr_aload_n d_MO_apart_0 rfl rfl ?_
  refine mr_get d_MO_apart_1 f_MO_17 hM rfl ?_
  refine jr_iload_n d_MO_apart_4 rfl rfl ?_
  refine mr_ald d_MO_apart_5 hM (by decide) rfl (by show K < 559; omega) ?_
  rw [at24_n (B := 13) (by decide), hR]
  refine jr_istore_n d_MO_apart_6 rfl (by decide) ?_
  refine jr_iconst (v := 0) d_MO_apart_7 (by decide) ?_
  refine jr_istore_n d_MO_apart_8 rfl (by decide) ?_
  exact mo_apart1 hK hn hs hf 0 (Nat.zero_le _) h0 T _ _ hM ⟨fun i' j' h1 => by omega, fun j' h1 => by omega⟩
