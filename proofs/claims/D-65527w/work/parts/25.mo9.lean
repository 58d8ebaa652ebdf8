/-! the reference: signs that rise, names -/
def RsQ (t : Ft) (n : Nat) (lo hi : Int32) (r : Except Nat (Int32 × Nat)) (v x y : Int32) : Prop := match r with
  | .ok w => v = w.1 ∧ y = -1 ∧ ∃ p, x = nI p ∧ p ≤ n ∧ sk t n p = w.2
  | .error e => bdE t n (fun c => inB c lo hi) e x y
theorem RsQ_e {t : Ft} {n e : Nat} {lo hi v x y : Int32} (h : y = nI e) (h1 : e ≤ n) : RsQ t n lo hi (.error e) v x y := bdE_of (K := fun c => inB c lo hi) h h1
theorem S_e {t : Ft} {n e : Nat} {K : Int32 → Bool} {x y : Int32} {F : Ft} (h : y = nI e) (h1 : e ≤ n) : S t n K (.error e) x y F := bdE_of h h1
theorem inB_iff {c lo hi : Int32} : inB c lo hi = true ↔ lo ≤ c ∧ c ≤ hi := by
  unfold inB
  rw [Bool.and_eq_true, decide_eq_true_iff, decide_eq_true_iff]
theorem d_MO_rising_0 : decode (jy_c m_MO_rising) 0 = .ok (.iconst 0, 1) := by decide +kernel
theorem d_MO_rising_1 : decode (jy_c m_MO_rising) 1 = .ok (.istore 4, 2) := by decide +kernel
theorem d_MO_rising_3 : decode (jy_c m_MO_rising) 3 = .ok (.iload_n 1, 1) := by decide +kernel
theorem d_MO_rising_4 : decode (jy_c m_MO_rising) 4 = .ok (.iconst 1, 1) := by decide +kernel
theorem d_MO_rising_5 : decode (jy_c m_MO_rising) 5 = .ok (.isub, 1) := by decide +kernel
theorem d_MO_rising_6 : decode (jy_c m_MO_rising) 6 = .ok (.istore 5, 2) := by decide +kernel
theorem d_MO_rising_8 : decode (jy_c m_MO_rising) 8 = .ok (.iconst 0, 1) := by decide +kernel
theorem d_MO_rising_9 : decode (jy_c m_MO_rising) 9 = .ok (.istore 6, 2) := by decide +kernel
theorem d_MO_rising_11 : decode (jy_c m_MO_rising) 11 = .ok (.aload_n 0, 1) := by decide +kernel
theorem d_MO_rising_12 : decode (jy_c m_MO_rising) 12 = .ok (.getfield 85, 3) := by decide +kernel
theorem d_MO_rising_15 : decode (jy_c m_MO_rising) 15 = .ok (.ifCond .ge 98, 3) := by decide +kernel
theorem d_MO_rising_18 : decode (jy_c m_MO_rising) 18 = .ok (.iload 6, 2) := by decide +kernel
theorem d_MO_rising_20 : decode (jy_c m_MO_rising) 20 = .ok (.iload_n 3, 1) := by decide +kernel
theorem d_MO_rising_21 : decode (jy_c m_MO_rising) 21 = .ok (.if_icmp .ge 92, 3) := by decide +kernel
theorem d_MO_rising_24 : decode (jy_c m_MO_rising) 24 = .ok (.iload 6, 2) := by decide +kernel
theorem d_MO_rising_26 : decode (jy_c m_MO_rising) 26 = .ok (.ifCond .eq 15, 3) := by decide +kernel
theorem d_MO_rising_29 : decode (jy_c m_MO_rising) 29 = .ok (.aload_n 0, 1) := by decide +kernel
theorem d_MO_rising_30 : decode (jy_c m_MO_rising) 30 = .ok (.invokevirtual 88, 3) := by decide +kernel
theorem d_MO_rising_33 : decode (jy_c m_MO_rising) 33 = .ok (.iload_n 1, 1) := by decide +kernel
theorem d_MO_rising_34 : decode (jy_c m_MO_rising) 34 = .ok (.iload_n 2, 1) := by decide +kernel
theorem d_MO_rising_35 : decode (jy_c m_MO_rising) 35 = .ok (.invokestatic 67, 3) := by decide +kernel
theorem d_MO_rising_38 : decode (jy_c m_MO_rising) 38 = .ok (.ifCond .eq 75, 3) := by decide +kernel
theorem d_MO_rising_41 : decode (jy_c m_MO_rising) 41 = .ok (.aload_n 0, 1) := by decide +kernel
theorem d_MO_rising_42 : decode (jy_c m_MO_rising) 42 = .ok (.invokevirtual 88, 3) := by decide +kernel
theorem d_MO_rising_45 : decode (jy_c m_MO_rising) 45 = .ok (.istore 7, 2) := by decide +kernel
theorem d_MO_rising_47 : decode (jy_c m_MO_rising) 47 = .ok (.iload 7, 2) := by decide +kernel
theorem d_MO_rising_49 : decode (jy_c m_MO_rising) 49 = .ok (.iload_n 1, 1) := by decide +kernel
theorem d_MO_rising_50 : decode (jy_c m_MO_rising) 50 = .ok (.iload_n 2, 1) := by decide +kernel
theorem d_MO_rising_51 : decode (jy_c m_MO_rising) 51 = .ok (.invokestatic 67, 3) := by decide +kernel
theorem d_MO_rising_54 : decode (jy_c m_MO_rising) 54 = .ok (.ifCond .eq 10, 3) := by decide +kernel
theorem d_MO_rising_57 : decode (jy_c m_MO_rising) 57 = .ok (.iload 7, 2) := by decide +kernel
theorem d_MO_rising_59 : decode (jy_c m_MO_rising) 59 = .ok (.iload 5, 2) := by decide +kernel
theorem d_MO_rising_61 : decode (jy_c m_MO_rising) 61 = .ok (.if_icmp .gt 11, 3) := by decide +kernel
theorem d_MO_rising_64 : decode (jy_c m_MO_rising) 64 = .ok (.aload_n 0, 1) := by decide +kernel
theorem d_MO_rising_65 : decode (jy_c m_MO_rising) 65 = .ok (.aload_n 0, 1) := by decide +kernel
theorem d_MO_rising_66 : decode (jy_c m_MO_rising) 66 = .ok (.getfield 78, 3) := by decide +kernel
theorem d_MO_rising_69 : decode (jy_c m_MO_rising) 69 = .ok (.invokevirtual 91, 3) := by decide +kernel
theorem d_MO_rising_72 : decode (jy_c m_MO_rising) 72 = .ok (.aload_n 0, 1) := by decide +kernel
theorem d_MO_rising_73 : decode (jy_c m_MO_rising) 73 = .ok (.getfield 85, 3) := by decide +kernel
theorem d_MO_rising_76 : decode (jy_c m_MO_rising) 76 = .ok (.ifCond .lt 6, 3) := by decide +kernel
theorem d_MO_rising_79 : decode (jy_c m_MO_rising) 79 = .ok (.iload 4, 2) := by decide +kernel
theorem d_MO_rising_81 : decode (jy_c m_MO_rising) 81 = .ok (.ireturn, 1) := by decide +kernel
theorem d_MO_rising_82 : decode (jy_c m_MO_rising) 82 = .ok (.iload 4, 2) := by decide +kernel
theorem d_MO_rising_84 : decode (jy_c m_MO_rising) 84 = .ok (.iconst 1, 1) := by decide +kernel
theorem d_MO_rising_85 : decode (jy_c m_MO_rising) 85 = .ok (.iload 7, 2) := by decide +kernel
theorem d_MO_rising_87 : decode (jy_c m_MO_rising) 87 = .ok (.iload_n 1, 1) := by decide +kernel
theorem d_MO_rising_88 : decode (jy_c m_MO_rising) 88 = .ok (.isub, 1) := by decide +kernel
theorem d_MO_rising_89 : decode (jy_c m_MO_rising) 89 = .ok (.ishl, 1) := by decide +kernel
theorem d_MO_rising_90 : decode (jy_c m_MO_rising) 90 = .ok (.ior, 1) := by decide +kernel
theorem d_MO_rising_91 : decode (jy_c m_MO_rising) 91 = .ok (.istore 4, 2) := by decide +kernel
theorem d_MO_rising_93 : decode (jy_c m_MO_rising) 93 = .ok (.iload 7, 2) := by decide +kernel
theorem d_MO_rising_95 : decode (jy_c m_MO_rising) 95 = .ok (.istore 5, 2) := by decide +kernel
theorem d_MO_rising_97 : decode (jy_c m_MO_rising) 97 = .ok (.iinc 6 1, 3) := by decide +kernel
theorem d_MO_rising_100 : decode (jy_c m_MO_rising) 100 = .ok (.aload_n 0, 1) := by decide +kernel
theorem d_MO_rising_101 : decode (jy_c m_MO_rising) 101 = .ok (.dup, 1) := by decide +kernel
theorem d_MO_rising_102 : decode (jy_c m_MO_rising) 102 = .ok (.getfield 78, 3) := by decide +kernel
theorem d_MO_rising_105 : decode (jy_c m_MO_rising) 105 = .ok (.iconst 1, 1) := by decide +kernel
theorem d_MO_rising_106 : decode (jy_c m_MO_rising) 106 = .ok (.iadd, 1) := by decide +kernel
theorem d_MO_rising_107 : decode (jy_c m_MO_rising) 107 = .ok (.putfield 78, 3) := by decide +kernel
theorem d_MO_rising_110 : decode (jy_c m_MO_rising) 110 = .ok (.goto (-99), 3) := by decide +kernel
theorem d_MO_rising_113 : decode (jy_c m_MO_rising) 113 = .ok (.iload 4, 2) := by decide +kernel
theorem d_MO_rising_115 : decode (jy_c m_MO_rising) 115 = .ok (.ireturn, 1) := by decide +kernel
section RS
variable {G : jy_G} {h0 : jy_P} {f : Nat → Int32} {a : Nat → Nat → Int32} {n : Nat} {F : Ft} {lo hi : Int32}
theorem mo_rising41 {h : jy_P} {p : Nat} {bits last w6 most : Int32} {l7 : Option Value} {Q : Int32 → Int32 → Int32 → Ft → Prop} (hn : f 1 = nI n) (h400 : n ≤ 400) (hM : MS h0 h (g2 f (nI p) (-1)) (at14 a F)) (hp : p ≤ n)
    (kk : inB (hr (a 12) n (sk (a 12) n p)) lo hi = true → last < hr (a 12) n (sk (a 12) n p) → ∀ h, MS h0 h (g2 f (nI (sk (a 12) n p + 1)) (-1)) (at14 a F) → jy_J G 3 m_MO_rising 11 [some (.ref 11), some (.int lo), some (.int hi), some (.int most), some (.int (bits ||| (1 <<< ((hr (a 12) n (sk (a 12) n p) - lo) &&& 31)))), some (.int (hr (a 12) n (sk (a 12) n p))), some (.int (w6 + 1)), some (.int (hr (a 12) n (sk (a 12) n p)))] [] h (qI h0 f a Q))
    (kf : ¬ (inB (hr (a 12) n (sk (a 12) n p)) lo hi = true ∧ last < hr (a 12) n (sk (a 12) n p)) → ∀ v x, Q v x (nI (sk (a 12) n p)) F) : jy_J G 3 m_MO_rising 41 [some (.ref 11), some (.int lo), some (.int hi), some (.int most), some (.int bits), some (.int last), some (.int w6), l7] [] h (qI h0 f a Q) := by
  have hsk := skb (t := a 12) hp
  refine jr_aload_n d_MO_rising_41 rfl rfl ?_
  refine qr_I0 d_MO_rising_42 i_MO_88 hM (Nat.le_of_ble_eq_true rfl) (by decide) (c_seeS hM.1 hn h400 rfl hp) (fun h v x' y' F' hM hq => ?_)
  obtain ⟨rfl, rfl, rfl, rfl⟩ := hq
  have bad : ¬ (inB (hr (a 12) n (sk (a 12) n p)) lo hi = true ∧ last < hr (a 12) n (sk (a 12) n p)) → jy_J G 3 m_MO_rising 64 [some (.ref 11), some (.int lo), some (.int hi), some (.int most), some (.int bits), some (.int last), some (.int w6), some (.int (hr (a 12) n (sk (a 12) n p)))] [] h (qI h0 f a Q) := by
    intro hno
    refine jr_aload_n d_MO_rising_64 rfl rfl ?_
    refine jr_aload_n d_MO_rising_65 rfl rfl ?_
    refine mr_get d_MO_rising_66 f_MO_78 hM rfl ?_
    refine qr_V1 d_MO_rising_69 i_MO_91 hM (Nat.le_of_ble_eq_true rfl) (by decide) (c_failS hM.1 _) (fun h x' y' F' hM hq => ?_)
    obtain ⟨rfl, rfl, rfl⟩ := hq
    have hM : MS h0 h (g2 f (nI (sk (a 12) n p)) (nI (sk (a 12) n p))) (at14 a F) := hM
    refine jr_aload_n d_MO_rising_72 rfl rfl ?_
    refine mr_get d_MO_rising_73 f_MO_85 hM rfl ?_
    refine jr_if_lt (tgt := 82) d_MO_rising_76 (by decide) (fun q => absurd q (nI_pos (by omega))) (fun _ => ?_)
    refine jr_iload d_MO_rising_79 rfl ?_
    refine jr_ireturn d_MO_rising_81 rfl rfl ?_
    exact ⟨_, _, _, _, rfl, hM, kf hno _ _⟩
  refine jr_istore d_MO_rising_45 (by decide) ?_
  refine jr_iload d_MO_rising_47 rfl ?_
  refine jr_iload_n d_MO_rising_49 rfl rfl ?_
  refine jr_iload_n d_MO_rising_50 rfl rfl ?_
  refine jr_callSp3 d_MO_rising_51 i_MO_67 (Nat.le_of_ble_eq_true rfl) (by decide) (c_MO_within _ _ _) ?_
  refine jr_if_eq (tgt := 64) d_MO_rising_54 (by decide) (fun hc => bad (fun q => absurd (q.1.symm.trans (bI_eq0.mp hc)) (by decide))) (fun hc => ?_)
  have hin := bI_ne0.mp hc
  refine jr_iload d_MO_rising_57 rfl ?_
  refine jr_iload d_MO_rising_59 rfl ?_
  refine jr_icmp_gt (tgt := 72) d_MO_rising_61 (by decide) (fun hc2 => ?_) (fun hc2 => bad (fun q => hc2 q.2))
  refine jr_aload_n d_MO_rising_72 rfl rfl ?_
  refine mr_get d_MO_rising_73 f_MO_85 hM rfl ?_
  refine jr_if_lt (tgt := 82) d_MO_rising_76 (by decide) (fun _ => ?_) (fun q => absurd (show (-1 : Int32) < 0 by decide) q)
  refine jr_iload d_MO_rising_82 rfl ?_
  refine jr_iconst (v := 1) d_MO_rising_84 (by decide) ?_
  refine jr_iload d_MO_rising_85 rfl ?_
  refine jr_iload_n d_MO_rising_87 rfl rfl ?_
  refine jr_isub d_MO_rising_88 ?_
  refine jr_ishl d_MO_rising_89 ?_
  refine jr_ior d_MO_rising_90 ?_
  refine jr_istore d_MO_rising_91 (by decide) ?_
  refine jr_iload d_MO_rising_93 rfl ?_
  refine jr_istore d_MO_rising_95 (by decide) ?_
  refine jr_iinc1 d_MO_rising_97 rfl (by decide) ?_
  refine jr_aload_n d_MO_rising_100 rfl rfl ?_
  refine jr_dup d_MO_rising_101 rfl ?_
  refine mr_get d_MO_rising_102 f_MO_78 hM rfl ?_
  refine jr_iconst (v := 1) d_MO_rising_105 (by decide) ?_
  refine jr_iadd d_MO_rising_106 ?_
  refine mr_put d_MO_rising_107 f_MO_78 rfl hM (fun h hM => ?_)
  refine jr_goto (tgt := 11) d_MO_rising_110 (by decide) ?_
  have e3 : g2 f (nI (sk (a 12) n p)) (-1) 10 + 1 = nI (sk (a 12) n p + 1) := nI_1 _
  rw [e3, g2_10] at hM
  exact kk hin hc2 h hM
theorem mo_rising1 {most : Nat} {W : Int32 × Nat} (h31 : most < 2 ^ 31) (hn : f 1 = nI n) (h400 : n ≤ 400) (hlo : ∀ x : Int32, x < lo → x ≤ lo - 1) (hlo2 : lo - 1 < lo) (hl0 : -1 < lo) : ∀ (k : Nat) {h : jy_P} {p j : Nat} {bits last : Int32} {l7 : Option Value}, j + k = most → 1 ≤ j → lo - 1 ≤ last → MS h0 h (g2 f (nI p) (-1)) (at14 a F) → p ≤ n → rsF (a 12) n lo hi k (sk (a 12) n p) bits last = W →
    jy_J G 3 m_MO_rising 11 [some (.ref 11), some (.int lo), some (.int hi), some (.int (nI most)), some (.int bits), some (.int last), some (.int (nI j)), l7] [] h (qI h0 f a (fun v x y F' => F' = F ∧ RsQ (a 12) n lo hi (if inB (hr (a 12) n W.2) lo hi = true then .error W.2 else .ok W) v x y)) := by
  intro k
  induction k with
  | zero =>
    intro h p j bits last l7 hj h1 hl hM hp hW
    have hsk := skb (t := a 12) hp
    have : j = most := by omega
    subst this
    refine jr_aload_n d_MO_rising_11 rfl rfl ?_
    refine mr_get d_MO_rising_12 f_MO_85 hM rfl ?_
    refine jr_if_ge (tgt := 113) d_MO_rising_15 (by decide) (fun q => absurd (show (0 : Int32) ≤ -1 from q) (by decide)) (fun _ => ?_)
    refine jr_iload d_MO_rising_18 rfl ?_
    refine jr_iload_n d_MO_rising_20 rfl rfl ?_
    refine jr_icmp_ge (tgt := 113) d_MO_rising_21 (by decide) (fun _ => ?_) (jl_eq h31)
    refine jr_iload d_MO_rising_113 rfl ?_
    refine jr_ireturn d_MO_rising_115 rfl rfl ?_
    refine ⟨_, _, _, _, rfl, hM, rfl, ?_⟩
    subst hW
    show RsQ (a 12) n lo hi (if inB (hr (a 12) n (sk (a 12) n p)) lo hi = true then .error (sk (a 12) n p) else .ok (bits, sk (a 12) n p)) bits (nI p) (-1)
    by_cases e : inB (hr (a 12) n (sk (a 12) n p)) lo hi = true
    · rw [if_pos e]
      exact ⟨hsk.2, Or.inr ⟨rfl, p, rfl, hp, rfl, e⟩⟩
    · rw [if_neg e]
      exact ⟨rfl, rfl, p, rfl, hp, rfl⟩
  | succ k ih =>
    intro h p j bits last l7 hj h1 hl hM hp hW
    have hsk := skb (t := a 12) hp
    refine jr_aload_n d_MO_rising_11 rfl rfl ?_
    refine mr_get d_MO_rising_12 f_MO_85 hM rfl ?_
    refine jr_if_ge (tgt := 113) d_MO_rising_15 (by decide) (fun q => absurd (show (0 : Int32) ≤ -1 from q) (by decide)) (fun _ => ?_)
    refine jr_iload d_MO_rising_18 rfl ?_
    refine jr_iload_n d_MO_rising_20 rfl rfl ?_
    refine jr_icmp_ge (tgt := 113) d_MO_rising_21 (by decide) (jl_lt h31 (by omega)) (fun _ => ?_)
    refine jr_iload d_MO_rising_24 rfl ?_
    refine jr_if_eq (tgt := 41) d_MO_rising_26 (by decide) (fun q => absurd q (nI_ne0 (by omega) (by omega))) (fun _ => ?_)
    refine jr_aload_n d_MO_rising_29 rfl rfl ?_
    refine qr_I0 d_MO_rising_30 i_MO_88 hM (Nat.le_of_ble_eq_true rfl) (by decide) (c_seeS hM.1 hn h400 rfl hp) (fun h v x' y' F' hM hq => ?_)
    obtain ⟨rfl, rfl, rfl, rfl⟩ := hq
    refine jr_iload_n d_MO_rising_33 rfl rfl ?_
    refine jr_iload_n d_MO_rising_34 rfl rfl ?_
    refine jr_callSp3 d_MO_rising_35 i_MO_67 (Nat.le_of_ble_eq_true rfl) (by decide) (c_MO_within _ _ _) ?_
    refine jr_if_eq (tgt := 113) d_MO_rising_38 (by decide) (fun hc => ?_) (fun hc => ?_)
    · have hin := bI_eq0.mp hc
      have hno : ¬ (last < hr (a 12) n (sk (a 12) n p) ∧ hr (a 12) n (sk (a 12) n p) ≤ hi) := by
        intro q
        have : ¬ lo ≤ hr (a 12) n (sk (a 12) n p) := fun q2 => by
          rw [inB_iff.mpr ⟨q2, q.2⟩] at hin
          cases hin
        exact absurd (Int32.lt_of_lt_of_le q.1 (Int32.le_trans (hlo _ (Int32.not_le.mp this)) hl)) Int32.lt_irrefl
      have e : rsF (a 12) n lo hi (k + 1) (sk (a 12) n p) bits last = (bits, sk (a 12) n p) := by unfold rsF; rw [if_neg hno]
      rw [e] at hW
      subst hW
      refine jr_iload d_MO_rising_113 rfl ?_
      refine jr_ireturn d_MO_rising_115 rfl rfl ?_
      refine ⟨_, _, _, _, rfl, hM, rfl, ?_⟩
      show RsQ (a 12) n lo hi (if inB (hr (a 12) n (sk (a 12) n p)) lo hi = true then .error (sk (a 12) n p) else .ok (bits, sk (a 12) n p)) bits _ (-1)
      rw [if_neg (by rw [hin]; decide)]
      exact ⟨rfl, rfl, sk (a 12) n p, rfl, hsk.2, sk_sk⟩
    · have hin : inB (hr (a 12) n (sk (a 12) n p)) lo hi = true := bI_ne0.mp hc
      refine mo_rising41 (p := sk (a 12) n p) hn h400 hM hsk.2 (fun h1' h2' h hM => ?_) (fun hno v x => ?_)
      · rw [sk_sk] at h1' h2' hM ⊢
        rw [nI_1]
        have e : rsF (a 12) n lo hi (k + 1) (sk (a 12) n p) bits last = rsF (a 12) n lo hi k (sk (a 12) n (sk (a 12) n p + 1)) (bits ||| (1 <<< ((hr (a 12) n (sk (a 12) n p) - lo) &&& 31))) (hr (a 12) n (sk (a 12) n p)) := by
          conv => lhs; unfold rsF
          rw [if_pos ⟨h2', (inB_iff.mp hin).2⟩]
        refine ih (by omega) (by omega) (Int32.le_trans (Int32.le_of_lt hlo2) (inB_iff.mp hin).1) hM (inB_in hl0 hin) (e.symm.trans hW)
      · rw [sk_sk] at hno ⊢
        have hno2 : ¬ (last < hr (a 12) n (sk (a 12) n p) ∧ hr (a 12) n (sk (a 12) n p) ≤ hi) := fun q => hno ⟨hin, q.1⟩
        have e : rsF (a 12) n lo hi (k + 1) (sk (a 12) n p) bits last = (bits, sk (a 12) n p) := by unfold rsF; rw [if_neg hno2]
        rw [e] at hW
        subst hW
        refine ⟨rfl, ?_⟩
        show RsQ (a 12) n lo hi (if inB (hr (a 12) n (sk (a 12) n p)) lo hi = true then .error (sk (a 12) n p) else .ok (bits, sk (a 12) n p)) v x _
        rw [if_pos hin]
        exact RsQ_e rfl hsk.2
theorem c_MO_rising {h : jy_P} {x y : Int32} {p most : Nat} (hm0 : 0 < most) (h31 : most < 2 ^ 31) (hlo : ∀ x : Int32, x < lo → x ≤ lo - 1) (hlo2 : lo - 1 < lo) (hl0 : -1 < lo) (hM : Mo h (g2 f x y) (at14 a F)) (hn : f 1 = nI n) (h400 : n ≤ 400) (hx : x = nI p) (hp : p ≤ n) (hy : y = -1) : jy_C G 3 m_MO_rising [.ref 11, .int lo, .int hi, .int (nI most)] h (qI h f a (fun v x y F' => F' = F ∧ RsQ (a 12) n lo hi (rsP (a 12) n lo hi most (sk (a 12) n p)) v x y)) := by
  refine jy_C.of [some (.ref 11), some (.int lo), some (.int hi), some (.int (nI most)), none, none, none, none] rfl (Nat.le_of_ble_eq_true rfl) ?_
  subst hx; subst hy
  have hM := MS.rf hM
  have hsk := skb (t := a 12) hp
  refine jr_iconst (v := 0) d_MO_rising_0 (by decide) ?_
  refine jr_istore d_MO_rising_1 (by decide) ?_
  refine jr_iload_n d_MO_rising_3 rfl rfl ?_
  refine jr_iconst (v := 1) d_MO_rising_4 (by decide) ?_
  refine jr_isub d_MO_rising_5 ?_
  refine jr_istore d_MO_rising_6 (by decide) ?_
  refine jr_iconst (v := 0) d_MO_rising_8 (by decide) ?_
  refine jr_istore d_MO_rising_9 (by decide) ?_
  refine jr_aload_n d_MO_rising_11 rfl rfl ?_
  refine mr_get d_MO_rising_12 f_MO_85 hM rfl ?_
  refine jr_if_ge (tgt := 113) d_MO_rising_15 (by decide) (fun q => absurd (show (0 : Int32) ≤ -1 from q) (by decide)) (fun _ => ?_)
  refine jr_iload d_MO_rising_18 rfl ?_
  refine jr_iload_n d_MO_rising_20 rfl rfl ?_
  refine jr_icmp_ge (tgt := 113) d_MO_rising_21 (by decide) (fun q => absurd q (nI_ge (a := 0) hm0 h31)) (fun _ => ?_)
  refine jr_iload d_MO_rising_24 rfl ?_
  refine jr_if_eq (tgt := 41) d_MO_rising_26 (by decide) (fun _ => ?_) (fun q => absurd rfl q)
  refine mo_rising41 (p := p) hn h400 hM hp (fun h1' h2' h hM => ?_) (fun hno v x => ?_)
  · obtain ⟨k, rfl⟩ : ∃ k, most = k + 1 := ⟨most - 1, by omega⟩
    have e : rsF (a 12) n lo hi (k + 1) (sk (a 12) n p) 0 (lo - 1) = rsF (a 12) n lo hi k (sk (a 12) n (sk (a 12) n p + 1)) ((0 : Int32) ||| (1 <<< ((hr (a 12) n (sk (a 12) n p) - lo) &&& 31))) (hr (a 12) n (sk (a 12) n p)) := by
      conv => lhs; unfold rsF
      rw [if_pos ⟨h2', (inB_iff.mp h1').2⟩]
    have := mo_rising1 (G := G) (hi := hi) (W := rsF (a 12) n lo hi (k + 1) (sk (a 12) n p) 0 (lo - 1)) (l7 := some (.int (hr (a 12) n (sk (a 12) n p)))) h31 hn h400 hlo hlo2 hl0 k (j := 1) (by omega) (by omega) (Int32.le_trans (Int32.le_of_lt hlo2) (inB_iff.mp h1').1) hM (inB_in hl0 h1') e.symm
    unfold rsP
    rw [if_pos h1']
    exact this
  · refine ⟨rfl, ?_⟩
    have : ¬ inB (hr (a 12) n (sk (a 12) n p)) lo hi = true := fun q => hno ⟨q, Int32.lt_of_lt_of_le hlo2 (inB_iff.mp q).1⟩
    unfold rsP
    rw [if_neg this]
    exact RsQ_e rfl hsk.2
theorem c_MO_risingW {h : jy_P} {x : Int32} {e : Nat} {most : Int32} (hM : Mo h (g2 f x (nI e)) (at14 a F)) (he : e < 2 ^ 31) : jy_C G 3 m_MO_rising [.ref 11, .int lo, .int hi, .int most] h (qI h f a (fun v x y F' => F' = F ∧ y = nI e)) := by
  refine jy_C.of [some (.ref 11), some (.int lo), some (.int hi), some (.int most), none, none, none, none] rfl (Nat.le_of_ble_eq_true rfl) ?_
  have hM := MS.rf hM
  refine jr_iconst (v := 0) d_MO_rising_0 (by decide) ?_
  refine jr_istore d_MO_rising_1 (by decide) ?_
  refine jr_iload_n d_MO_rising_3 rfl rfl ?_
  refine jr_iconst (v := 1) d_MO_rising_4 (by decide) ?_
  refine jr_isub d_MO_rising_5 ?_
  refine jr_istore d_MO_rising_6 (by decide) ?_
  refine jr_iconst (v := 0) d_MO_rising_8 (by decide) ?_
  refine jr_istore d_MO_rising_9 (by decide) ?_
  refine jr_aload_n d_MO_rising_11 rfl rfl ?_
  refine mr_get d_MO_rising_12 f_MO_85 hM rfl ?_
  refine jr_if_ge (tgt := 113) d_MO_rising_15 (by decide) (fun _ => ?_) (fun q => absurd (nI_pos' he) q)
  refine jr_iload d_MO_rising_113 rfl ?_
  refine jr_ireturn d_MO_rising_115 rfl rfl ?_
  exact ⟨_, _, _, _, rfl, hM, rfl, rfl⟩
def RsS (t : Ft) (n : Nat) (lo hi : Int32) (most : Nat) (s : Except Nat (Ft × Nat)) (v x y : Int32) (F : Ft) : Prop := match s with
  | .ok z => F = z.1 ∧ RsQ t n lo hi (rsP t n lo hi most z.2) v x y
  | .error e => y = nI e ∧ e ≤ n
theorem c_risingS {h : jy_P} {x y : Int32} {s : Except Nat (Ft × Nat)} {most : Nat} (hm0 : 0 < most) (h31 : most < 2 ^ 31) (hlo : ∀ x : Int32, x < lo → x ≤ lo - 1) (hlo2 : lo - 1 < lo) (hl0 : -1 < lo) (hM : Mo h (g2 f x y) (at14 a F)) (hn : f 1 = nI n) (h400 : n ≤ 400) (hS : S (a 12) n K0 s x y F) : jy_C G 3 m_MO_rising [.ref 11, .int lo, .int hi, .int (nI most)] h (qI h f a (fun v x y F => RsS (a 12) n lo hi most s v x y F)) := by
  cases s with
  | ok z =>
    obtain ⟨s1, s2, p, s3, s4, s5⟩ := hS
    refine (c_MO_rising hm0 h31 hlo hlo2 hl0 hM hn h400 s3 s4 s2).mono (fun o h' q => ?_)
    obtain ⟨v, x', y', F', q1, q2, q3, q4⟩ := q
    rw [s5] at q4
    exact ⟨v, x', y', F', q1, q2, q3.trans s1, q4⟩
  | error e =>
    obtain ⟨b1, b2⟩ := bdE_K0 hS
    subst b1
    refine (c_MO_risingW hM (by omega)).mono (fun o h' q => ?_)
    obtain ⟨v, x', y', F', q1, q2, q3, q4⟩ := q
    exact ⟨v, x', y', F', q1, q2, q4, b2⟩
theorem RsS.put {t : Ft} {s : Except Nat (Ft × Nat)} {v x y : Int32} {i most : Nat} (h : RsS t n lo hi most s v x y F) : S t n (fun c => inB c lo hi) (ebd s (riP t n lo hi most i)) x y (upd F i v) := by
  cases s with
  | ok z =>
    obtain ⟨h1, h2⟩ := h
    unfold riP
    rw [ebd_ok]
    rcases hq : rsP t n lo hi most z.2 with e | w
    · rw [hq] at h2
      exact h2
    · rw [hq] at h2
      obtain ⟨h3, h4, p, h5, h6, h7⟩ := h2
      exact ⟨by rw [h1, h3], h4, p, h5, h6, h7⟩
  | error e => exact S_e h.1 h.2
end RS
theorem lo97 : (∀ x : Int32, x < 97 → x ≤ 97 - 1) ∧ (97 : Int32) - 1 < 97 ∧ (-1 : Int32) < 97 := by
  refine ⟨fun x hx => ?_, by decide, by decide⟩
  rw [Int32.lt_iff_toInt_lt] at hx
  rw [Int32.le_iff_toInt_le]
  have h1 : (97 : Int32).toInt = 97 := by decide
  have h2 : (97 - 1 : Int32).toInt = 96 := by decide
  omega
theorem lo49 : (∀ x : Int32, x < 49 → x ≤ 49 - 1) ∧ (49 : Int32) - 1 < 49 ∧ (-1 : Int32) < 49 := by
  refine ⟨fun x hx => ?_, by decide, by decide⟩
  rw [Int32.lt_iff_toInt_lt] at hx
  rw [Int32.le_iff_toInt_le]
  have h1 : (49 : Int32).toInt = 49 := by decide
  have h2 : (49 - 1 : Int32).toInt = 48 := by decide
  omega
theorem d_MO_name_0 : decode (jy_c m_MO_name) 0 = .ok (.aload_n 0, 1) := by decide +kernel
theorem d_MO_name_1 : decode (jy_c m_MO_name) 1 = .ok (.bipush 34, 2) := by decide +kernel
theorem d_MO_name_3 : decode (jy_c m_MO_name) 3 = .ok (.invokevirtual 99, 3) := by decide +kernel
theorem d_MO_name_6 : decode (jy_c m_MO_name) 6 = .ok (.iload_n 1, 1) := by decide +kernel
theorem d_MO_name_7 : decode (jy_c m_MO_name) 7 = .ok (.bipush 10, 2) := by decide +kernel
theorem d_MO_name_9 : decode (jy_c m_MO_name) 9 = .ok (.iadd, 1) := by decide +kernel
theorem d_MO_name_10 : decode (jy_c m_MO_name) 10 = .ok (.bipush 11, 2) := by decide +kernel
theorem d_MO_name_12 : decode (jy_c m_MO_name) 12 = .ok (.aload_n 0, 1) := by decide +kernel
theorem d_MO_name_13 : decode (jy_c m_MO_name) 13 = .ok (.getfield 20, 3) := by decide +kernel
theorem d_MO_name_16 : decode (jy_c m_MO_name) 16 = .ok (.iload_n 1, 1) := by decide +kernel
theorem d_MO_name_17 : decode (jy_c m_MO_name) 17 = .ok (.bipush 9, 2) := by decide +kernel
theorem d_MO_name_19 : decode (jy_c m_MO_name) 19 = .ok (.iadd, 1) := by decide +kernel
theorem d_MO_name_20 : decode (jy_c m_MO_name) 20 = .ok (.iaload, 1) := by decide +kernel
theorem d_MO_name_21 : decode (jy_c m_MO_name) 21 = .ok (.imul, 1) := by decide +kernel
theorem d_MO_name_22 : decode (jy_c m_MO_name) 22 = .ok (.iadd, 1) := by decide +kernel
theorem d_MO_name_23 : decode (jy_c m_MO_name) 23 = .ok (.istore_n 2, 1) := by decide +kernel
theorem d_MO_name_24 : decode (jy_c m_MO_name) 24 = .ok (.iconst 0, 1) := by decide +kernel
theorem d_MO_name_25 : decode (jy_c m_MO_name) 25 = .ok (.istore_n 3, 1) := by decide +kernel
theorem d_MO_name_26 : decode (jy_c m_MO_name) 26 = .ok (.aload_n 0, 1) := by decide +kernel
theorem d_MO_name_27 : decode (jy_c m_MO_name) 27 = .ok (.getfield 85, 3) := by decide +kernel
theorem d_MO_name_30 : decode (jy_c m_MO_name) 30 = .ok (.ifCond .ge 71, 3) := by decide +kernel
theorem d_MO_name_33 : decode (jy_c m_MO_name) 33 = .ok (.aload_n 0, 1) := by decide +kernel
theorem d_MO_name_34 : decode (jy_c m_MO_name) 34 = .ok (.invokevirtual 81, 3) := by decide +kernel
theorem d_MO_name_37 : decode (jy_c m_MO_name) 37 = .ok (.bipush 34, 2) := by decide +kernel
theorem d_MO_name_39 : decode (jy_c m_MO_name) 39 = .ok (.if_icmp .eq 62, 3) := by decide +kernel
theorem d_MO_name_42 : decode (jy_c m_MO_name) 42 = .ok (.aload_n 0, 1) := by decide +kernel
theorem d_MO_name_43 : decode (jy_c m_MO_name) 43 = .ok (.invokevirtual 81, 3) := by decide +kernel
theorem d_MO_name_46 : decode (jy_c m_MO_name) 46 = .ok (.bipush 97, 2) := by decide +kernel
theorem d_MO_name_48 : decode (jy_c m_MO_name) 48 = .ok (.bipush 122, 2) := by decide +kernel
theorem d_MO_name_50 : decode (jy_c m_MO_name) 50 = .ok (.invokestatic 67, 3) := by decide +kernel
theorem d_MO_name_53 : decode (jy_c m_MO_name) 53 = .ok (.ifCond .eq 9, 3) := by decide +kernel
theorem d_MO_name_56 : decode (jy_c m_MO_name) 56 = .ok (.iload_n 3, 1) := by decide +kernel
theorem d_MO_name_57 : decode (jy_c m_MO_name) 57 = .ok (.bipush 10, 2) := by decide +kernel
theorem d_MO_name_59 : decode (jy_c m_MO_name) 59 = .ok (.if_icmp .ne 12, 3) := by decide +kernel
theorem d_MO_name_62 : decode (jy_c m_MO_name) 62 = .ok (.aload_n 0, 1) := by decide +kernel
theorem d_MO_name_63 : decode (jy_c m_MO_name) 63 = .ok (.aload_n 0, 1) := by decide +kernel
theorem d_MO_name_64 : decode (jy_c m_MO_name) 64 = .ok (.getfield 78, 3) := by decide +kernel
theorem d_MO_name_67 : decode (jy_c m_MO_name) 67 = .ok (.invokevirtual 91, 3) := by decide +kernel
theorem d_MO_name_70 : decode (jy_c m_MO_name) 70 = .ok (.return_, 1) := by decide +kernel
theorem d_MO_name_71 : decode (jy_c m_MO_name) 71 = .ok (.aload_n 0, 1) := by decide +kernel
theorem d_MO_name_72 : decode (jy_c m_MO_name) 72 = .ok (.getfield 20, 3) := by decide +kernel
theorem d_MO_name_75 : decode (jy_c m_MO_name) 75 = .ok (.iload_n 2, 1) := by decide +kernel
theorem d_MO_name_76 : decode (jy_c m_MO_name) 76 = .ok (.iconst 1, 1) := by decide +kernel
theorem d_MO_name_77 : decode (jy_c m_MO_name) 77 = .ok (.iadd, 1) := by decide +kernel
theorem d_MO_name_78 : decode (jy_c m_MO_name) 78 = .ok (.iload_n 3, 1) := by decide +kernel
theorem d_MO_name_79 : decode (jy_c m_MO_name) 79 = .ok (.iadd, 1) := by decide +kernel
theorem d_MO_name_80 : decode (jy_c m_MO_name) 80 = .ok (.aload_n 0, 1) := by decide +kernel
theorem d_MO_name_81 : decode (jy_c m_MO_name) 81 = .ok (.invokevirtual 81, 3) := by decide +kernel
theorem d_MO_name_84 : decode (jy_c m_MO_name) 84 = .ok (.iastore, 1) := by decide +kernel
theorem d_MO_name_85 : decode (jy_c m_MO_name) 85 = .ok (.iinc 3 1, 3) := by decide +kernel
theorem d_MO_name_88 : decode (jy_c m_MO_name) 88 = .ok (.aload_n 0, 1) := by decide +kernel
theorem d_MO_name_89 : decode (jy_c m_MO_name) 89 = .ok (.dup, 1) := by decide +kernel
theorem d_MO_name_90 : decode (jy_c m_MO_name) 90 = .ok (.getfield 78, 3) := by decide +kernel
theorem d_MO_name_93 : decode (jy_c m_MO_name) 93 = .ok (.iconst 1, 1) := by decide +kernel
theorem d_MO_name_94 : decode (jy_c m_MO_name) 94 = .ok (.iadd, 1) := by decide +kernel
theorem d_MO_name_95 : decode (jy_c m_MO_name) 95 = .ok (.putfield 78, 3) := by decide +kernel
theorem d_MO_name_98 : decode (jy_c m_MO_name) 98 = .ok (.goto (-72), 3) := by decide +kernel
theorem d_MO_name_101 : decode (jy_c m_MO_name) 101 = .ok (.iload_n 3, 1) := by decide +kernel
theorem d_MO_name_102 : decode (jy_c m_MO_name) 102 = .ok (.ifCond .ne 11, 3) := by decide +kernel
theorem d_MO_name_105 : decode (jy_c m_MO_name) 105 = .ok (.aload_n 0, 1) := by decide +kernel
theorem d_MO_name_106 : decode (jy_c m_MO_name) 106 = .ok (.aload_n 0, 1) := by decide +kernel
theorem d_MO_name_107 : decode (jy_c m_MO_name) 107 = .ok (.getfield 78, 3) := by decide +kernel
theorem d_MO_name_110 : decode (jy_c m_MO_name) 110 = .ok (.invokevirtual 91, 3) := by decide +kernel
theorem d_MO_name_113 : decode (jy_c m_MO_name) 113 = .ok (.aload_n 0, 1) := by decide +kernel
theorem d_MO_name_114 : decode (jy_c m_MO_name) 114 = .ok (.getfield 85, 3) := by decide +kernel
theorem d_MO_name_117 : decode (jy_c m_MO_name) 117 = .ok (.ifCond .lt 4, 3) := by decide +kernel
theorem d_MO_name_120 : decode (jy_c m_MO_name) 120 = .ok (.return_, 1) := by decide +kernel
theorem d_MO_name_121 : decode (jy_c m_MO_name) 121 = .ok (.aload_n 0, 1) := by decide +kernel
theorem d_MO_name_122 : decode (jy_c m_MO_name) 122 = .ok (.dup, 1) := by decide +kernel
theorem d_MO_name_123 : decode (jy_c m_MO_name) 123 = .ok (.getfield 78, 3) := by decide +kernel
theorem d_MO_name_126 : decode (jy_c m_MO_name) 126 = .ok (.iconst 1, 1) := by decide +kernel
theorem d_MO_name_127 : decode (jy_c m_MO_name) 127 = .ok (.iadd, 1) := by decide +kernel
theorem d_MO_name_128 : decode (jy_c m_MO_name) 128 = .ok (.putfield 78, 3) := by decide +kernel
theorem d_MO_name_131 : decode (jy_c m_MO_name) 131 = .ok (.aload_n 0, 1) := by decide +kernel
theorem d_MO_name_132 : decode (jy_c m_MO_name) 132 = .ok (.getfield 20, 3) := by decide +kernel
theorem d_MO_name_135 : decode (jy_c m_MO_name) 135 = .ok (.iload_n 2, 1) := by decide +kernel
theorem d_MO_name_136 : decode (jy_c m_MO_name) 136 = .ok (.iload_n 3, 1) := by decide +kernel
theorem d_MO_name_137 : decode (jy_c m_MO_name) 137 = .ok (.iastore, 1) := by decide +kernel
theorem d_MO_name_138 : decode (jy_c m_MO_name) 138 = .ok (.aload_n 0, 1) := by decide +kernel
theorem d_MO_name_139 : decode (jy_c m_MO_name) 139 = .ok (.getfield 20, 3) := by decide +kernel
theorem d_MO_name_142 : decode (jy_c m_MO_name) 142 = .ok (.iload_n 1, 1) := by decide +kernel
theorem d_MO_name_143 : decode (jy_c m_MO_name) 143 = .ok (.bipush 9, 2) := by decide +kernel
theorem d_MO_name_145 : decode (jy_c m_MO_name) 145 = .ok (.iadd, 1) := by decide +kernel
theorem d_MO_name_146 : decode (jy_c m_MO_name) 146 = .ok (.dup2, 1) := by decide +kernel
theorem d_MO_name_147 : decode (jy_c m_MO_name) 147 = .ok (.iaload, 1) := by decide +kernel
theorem d_MO_name_148 : decode (jy_c m_MO_name) 148 = .ok (.iconst 1, 1) := by decide +kernel
theorem d_MO_name_149 : decode (jy_c m_MO_name) 149 = .ok (.iadd, 1) := by decide +kernel
theorem d_MO_name_150 : decode (jy_c m_MO_name) 150 = .ok (.iastore, 1) := by decide +kernel
theorem d_MO_name_151 : decode (jy_c m_MO_name) 151 = .ok (.return_, 1) := by decide +kernel
section NA
variable {G : jy_G} {h0 : jy_P} {f : Nat → Int32} {a : Nat → Nat → Int32} {n : Nat} {M : Nat}
theorem mo_nameW {h : jy_P} {x : Int32} {e : Nat} {F : Ft} {l2 l3 : Option Value} (hMb : M + 42 < 559) (he : e ≤ n) (h400 : n ≤ 400) (hM : MS h0 h (g2 f x (nI e)) (at14 a F)) : jy_J G 4 m_MO_name 6 [some (.ref 11), some (.int (nI M)), l2, l3] [] h (qV h0 f a (fun x y F => bdE (a 12) n K0 e x y)) := by
  refine jr_iload_n d_MO_name_6 rfl rfl ?_
  refine jr_bipush (v := 10) d_MO_name_7 (by decide) ?_
  refine jr_iadd d_MO_name_9 ?_
  refine jr_bipush (v := 11) d_MO_name_10 (by decide) ?_
  refine jr_aload_n d_MO_name_12 rfl rfl ?_
  refine mr_get d_MO_name_13 f_MO_20 hM rfl ?_
  refine jr_iload_n d_MO_name_16 rfl rfl ?_
  refine jr_bipush (v := 9) d_MO_name_17 (by decide) ?_
  refine jr_iadd d_MO_name_19 ?_
  refine mr_ald d_MO_name_20 hM (by decide) (nI_add M 9) (by show M + 9 < 559; omega) ?_
  refine jr_imul d_MO_name_21 ?_
  refine jr_iadd d_MO_name_22 ?_
  refine jr_istore_n d_MO_name_23 rfl (by decide) ?_
  refine jr_iconst (v := 0) d_MO_name_24 (by decide) ?_
  refine jr_istore_n d_MO_name_25 rfl (by decide) ?_
  refine jr_aload_n d_MO_name_26 rfl rfl ?_
  refine mr_get d_MO_name_27 f_MO_85 hM rfl ?_
  refine jr_if_ge (tgt := 101) d_MO_name_30 (by decide) (fun _ => ?_) (fun q => absurd (nI_pos' (by omega)) q)
  refine jr_iload_n d_MO_name_101 rfl rfl ?_
  refine jr_if_ne (tgt := 113) d_MO_name_102 (by decide) (fun q => absurd rfl q) (fun _ => ?_)
  refine jr_aload_n d_MO_name_105 rfl rfl ?_
  refine jr_aload_n d_MO_name_106 rfl rfl ?_
  refine mr_get d_MO_name_107 f_MO_78 hM rfl ?_
  refine qr_V1 d_MO_name_110 i_MO_91 hM (Nat.le_of_ble_eq_true rfl) (by decide) (c_failS hM.1 _) (fun h x' y' F' hM hq => ?_)
  obtain ⟨rfl, rfl, rfl⟩ := hq
  rw [fl_p (by omega)] at hM
  refine jr_aload_n d_MO_name_113 rfl rfl ?_
  refine mr_get d_MO_name_114 f_MO_85 hM rfl ?_
  refine jr_if_lt (tgt := 121) d_MO_name_117 (by decide) (fun q => absurd q (nI_pos (by omega))) (fun _ => ?_)
  refine jr_return d_MO_name_120 rfl ?_
  exact ⟨_, _, _, rfl, hM, bdE_of rfl he⟩
theorem ltN_k {t : Ft} {k p : Nat} (h : ¬ inB (hr t n p) 97 122 = true) : ltN t n k p = 0 := by
  cases k with
  | zero => rfl
  | succ k => unfold ltN; rw [if_neg h]
theorem mo_name1 {F : Ft} {q c : Nat} (hMb : M + 42 < 559) (hn : f 1 = nI n) (h400 : n ≤ 400) (hq : hr (a 12) n q = 34) (hc : F (M + 9) = nI c) (hc2 : c ≤ 2) : ∀ (r : Nat) {h : jy_P} {j : Nat}, j + r = 10 → q + 1 + j ≤ n → ltN (a 12) n 10 (q + 1) = j + ltN (a 12) n r (q + 1 + j) → MS h0 h (g2 f (nI (q + 1 + j)) (-1)) (at14 a (wF (a 12) n F (M + 10 + 11 * c) (q + 1) j)) →
    jy_J G 4 m_MO_name 26 [some (.ref 11), some (.int (nI M)), some (.int (nI (M + 10 + 11 * c))), some (.int (nI j))] [] h (qV h0 f a (fun x y F' => S (a 12) n K0 (wdP (a 12) n F M q) x y F')) := by
  intro r
  have hk : M + 10 + 11 * (F (M + 9)).toNatClampNeg = M + 10 + 11 * c := by rw [hc, nI_clamp (by omega)]
  have bad : ∀ {h : jy_P} {j : Nat}, j ≤ 10 → q + 1 + j ≤ n → ltN (a 12) n 10 (q + 1) = j → ¬ hr (a 12) n (q + 1 + j) = 34 → MS h0 h (g2 f (nI (q + 1 + j)) (-1)) (at14 a (wF (a 12) n F (M + 10 + 11 * c) (q + 1) j)) → jy_J G 4 m_MO_name 62 [some (.ref 11), some (.int (nI M)), some (.int (nI (M + 10 + 11 * c))), some (.int (nI j))] [] h (qV h0 f a (fun x y F' => S (a 12) n K0 (wdP (a 12) n F M q) x y F')) := by
    intro h j hj hjn hl h34 hM
    refine jr_aload_n d_MO_name_62 rfl rfl ?_
    refine jr_aload_n d_MO_name_63 rfl rfl ?_
    refine mr_get d_MO_name_64 f_MO_78 hM rfl ?_
    refine qr_V1 d_MO_name_67 i_MO_91 hM (Nat.le_of_ble_eq_true rfl) (by decide) (c_failS hM.1 _) (fun h x' y' F' hM hq2 => ?_)
    obtain ⟨rfl, rfl, rfl⟩ := hq2
    refine jr_return d_MO_name_70 rfl ?_
    refine ⟨_, _, _, rfl, hM, ?_⟩
    unfold wdP
    rw [if_pos hq, if_neg (by rw [hl]; exact fun w => h34 w.2), hl]
    exact S_e rfl hjn
  have done : ∀ {h : jy_P} {j : Nat}, j ≤ 10 → q + 1 + j ≤ n → ltN (a 12) n 10 (q + 1) = j → hr (a 12) n (q + 1 + j) = 34 → MS h0 h (g2 f (nI (q + 1 + j)) (-1)) (at14 a (wF (a 12) n F (M + 10 + 11 * c) (q + 1) j)) → jy_J G 4 m_MO_name 101 [some (.ref 11), some (.int (nI M)), some (.int (nI (M + 10 + 11 * c))), some (.int (nI j))] [] h (qV h0 f a (fun x y F' => S (a 12) n K0 (wdP (a 12) n F M q) x y F')) := by
    intro h j hj hjn hl h34 hM
    have hin : q + 1 + j < n := hr_in (by rw [h34]; decide)
    refine jr_iload_n d_MO_name_101 rfl rfl ?_
    refine jr_if_ne (tgt := 113) d_MO_name_102 (by decide) (fun hc0 => ?_) (fun hc0 => ?_)
    · have hj0 : 0 < j := by
        rcases Nat.eq_zero_or_pos j with w | w
        · subst w; exact absurd rfl hc0
        · exact w
      refine jr_aload_n d_MO_name_113 rfl rfl ?_
      refine mr_get d_MO_name_114 f_MO_85 hM rfl ?_
      refine jr_if_lt (tgt := 121) d_MO_name_117 (by decide) (fun _ => ?_) (fun w => absurd (show (-1 : Int32) < 0 by decide) w)
      refine jr_aload_n d_MO_name_121 rfl rfl ?_
      refine jr_dup d_MO_name_122 rfl ?_
      refine mr_get d_MO_name_123 f_MO_78 hM rfl ?_
      refine jr_iconst (v := 1) d_MO_name_126 (by decide) ?_
      refine jr_iadd d_MO_name_127 ?_
      refine mr_put d_MO_name_128 f_MO_78 rfl hM (fun h hM => ?_)
      refine jr_aload_n d_MO_name_131 rfl rfl ?_
      refine mr_get d_MO_name_132 f_MO_20 hM rfl ?_
      refine jr_iload_n d_MO_name_135 rfl rfl ?_
      refine jr_iload_n d_MO_name_136 rfl rfl ?_
      refine mr_ast d_MO_name_137 hM (by decide) rfl (by show M + 10 + 11 * c < 559; omega) (fun h hM => ?_)
      refine jr_aload_n d_MO_name_138 rfl rfl ?_
      refine mr_get d_MO_name_139 f_MO_20 hM rfl ?_
      refine jr_iload_n d_MO_name_142 rfl rfl ?_
      refine jr_bipush (v := 9) d_MO_name_143 (by decide) ?_
      refine jr_iadd d_MO_name_145 ?_
      refine jr_dup2 d_MO_name_146 rfl rfl ?_
      refine mr_ald d_MO_name_147 hM (by decide) (nI_add M 9) (by show M + 9 < 559; omega) ?_
      refine jr_iconst (v := 1) d_MO_name_148 (by decide) ?_
      refine jr_iadd d_MO_name_149 ?_
      refine mr_ast d_MO_name_150 hM (by decide) (nI_add M 9) (by show M + 9 < 559; omega) (fun h hM => ?_)
      refine jr_return d_MO_name_151 rfl ?_
      have e3 : g2 f (nI (q + 1 + j)) (-1) 10 + 1 = nI (q + 1 + j + 1) := nI_1 _
      rw [e3, g2_10, at14_u, at14_u] at hM
      refine ⟨_, _, _, rfl, hM, ?_⟩
      unfold wdP
      rw [if_pos hq, hl, if_pos ⟨hj0, h34⟩]
      refine ⟨?_, rfl, q + 1 + j + 1, rfl, hin, rfl⟩
      show _ = wdF (a 12) n F M (q + 1) j
      unfold wdF
      rw [hk]
      rfl
    · have hj0 : j = 0 := (nI_eq (b := 0) (by omega) (by decide)).mp hc0
      subst hj0
      refine jr_aload_n d_MO_name_105 rfl rfl ?_
      refine jr_aload_n d_MO_name_106 rfl rfl ?_
      refine mr_get d_MO_name_107 f_MO_78 hM rfl ?_
      refine qr_V1 d_MO_name_110 i_MO_91 hM (Nat.le_of_ble_eq_true rfl) (by decide) (c_failS hM.1 _) (fun h x' y' F' hM hq2 => ?_)
      obtain ⟨rfl, rfl, rfl⟩ := hq2
      have hM : MS h0 h (g2 f (nI (q + 1 + 0)) (nI (q + 1 + 0))) (at14 a (wF (a 12) n F (M + 10 + 11 * c) (q + 1) 0)) := hM
      refine jr_aload_n d_MO_name_113 rfl rfl ?_
      refine mr_get d_MO_name_114 f_MO_85 hM rfl ?_
      refine jr_if_lt (tgt := 121) d_MO_name_117 (by decide) (fun w => absurd w (nI_pos (by omega))) (fun _ => ?_)
      refine jr_return d_MO_name_120 rfl ?_
      refine ⟨_, _, _, rfl, hM, ?_⟩
      unfold wdP
      rw [if_pos hq, hl, if_neg (fun w => absurd w.1 (by omega))]
      exact S_e rfl (by omega)
  induction r with
  | zero =>
    intro h j hj hjn hl hM
    have hl2 : ltN (a 12) n 10 (q + 1) = j := hl
    have hj10 : j = 10 := by omega
    refine jr_aload_n d_MO_name_26 rfl rfl ?_
    refine mr_get d_MO_name_27 f_MO_85 hM rfl ?_
    refine jr_if_ge (tgt := 101) d_MO_name_30 (by decide) (fun w => absurd (show (0 : Int32) ≤ -1 from w) (by decide)) (fun _ => ?_)
    refine jr_aload_n d_MO_name_33 rfl rfl ?_
    refine mr_callP0 d_MO_name_34 i_MO_81 hM (Nat.le_of_ble_eq_true rfl) (by decide) (c_MO_here hM.1 ⟨hn, h400, rfl, hjn⟩) ?_
    refine jr_bipush (v := 34) d_MO_name_37 (by decide) ?_
    refine jr_icmp_eq (tgt := 101) d_MO_name_39 (by decide) (fun hc0 => done (by omega) hjn hl2 hc0 hM) (fun hc0 => ?_)
    refine jr_aload_n d_MO_name_42 rfl rfl ?_
    refine mr_callP0 d_MO_name_43 i_MO_81 hM (Nat.le_of_ble_eq_true rfl) (by decide) (c_MO_here hM.1 ⟨hn, h400, rfl, hjn⟩) ?_
    refine jr_bipush (v := 97) d_MO_name_46 (by decide) ?_
    refine jr_bipush (v := 122) d_MO_name_48 (by decide) ?_
    refine jr_callSp3 d_MO_name_50 i_MO_67 (Nat.le_of_ble_eq_true rfl) (by decide) (c_MO_within _ _ _) ?_
    refine jr_if_eq (tgt := 62) d_MO_name_53 (by decide) (fun _ => bad (by omega) hjn hl2 hc0 hM) (fun _ => ?_)
    refine jr_iload_n d_MO_name_56 rfl rfl ?_
    refine jr_bipush (v := 10) d_MO_name_57 (by decide) ?_
    exact jr_icmp_ne (tgt := 71) d_MO_name_59 (by decide) (fun w => absurd (by rw [hj10]; rfl) w) (fun _ => bad (by omega) hjn hl2 hc0 hM)
  | succ r ih =>
    intro h j hj hjn hl hM
    refine jr_aload_n d_MO_name_26 rfl rfl ?_
    refine mr_get d_MO_name_27 f_MO_85 hM rfl ?_
    refine jr_if_ge (tgt := 101) d_MO_name_30 (by decide) (fun w => absurd (show (0 : Int32) ≤ -1 from w) (by decide)) (fun _ => ?_)
    refine jr_aload_n d_MO_name_33 rfl rfl ?_
    refine mr_callP0 d_MO_name_34 i_MO_81 hM (Nat.le_of_ble_eq_true rfl) (by decide) (c_MO_here hM.1 ⟨hn, h400, rfl, hjn⟩) ?_
    refine jr_bipush (v := 34) d_MO_name_37 (by decide) ?_
    refine jr_icmp_eq (tgt := 101) d_MO_name_39 (by decide) (fun hc0 => ?_) (fun hc0 => ?_)
    · have hc0 : hr (a 12) n (q + 1 + j) = 34 := hc0
      rw [ltN_k (k := r + 1) (p := q + 1 + j) (by rw [hc0]; decide)] at hl
      exact done (by omega) hjn hl hc0 hM
    · refine jr_aload_n d_MO_name_42 rfl rfl ?_
      refine mr_callP0 d_MO_name_43 i_MO_81 hM (Nat.le_of_ble_eq_true rfl) (by decide) (c_MO_here hM.1 ⟨hn, h400, rfl, hjn⟩) ?_
      refine jr_bipush (v := 97) d_MO_name_46 (by decide) ?_
      refine jr_bipush (v := 122) d_MO_name_48 (by decide) ?_
      refine jr_callSp3 d_MO_name_50 i_MO_67 (Nat.le_of_ble_eq_true rfl) (by decide) (c_MO_within _ _ _) ?_
      refine jr_if_eq (tgt := 62) d_MO_name_53 (by decide) (fun hc1 => ?_) (fun hc1 => ?_)
      · rw [ltN_k (k := r + 1) (p := q + 1 + j) (by rw [show inB (hr (a 12) n (q + 1 + j)) 97 122 = false from bI_eq0.mp hc1]; decide)] at hl
        exact bad (by omega) hjn hl hc0 hM
      · have hin : inB (hr (a 12) n (q + 1 + j)) 97 122 = true := bI_ne0.mp hc1
        have hjn2 := inB_in (by decide) hin
        refine jr_iload_n d_MO_name_56 rfl rfl ?_
        refine jr_bipush (v := 10) d_MO_name_57 (by decide) ?_
        refine jr_icmp_ne (tgt := 71) d_MO_name_59 (by decide) (fun _ => ?_) (fun w => absurd ((nI_eq (b := 10) (by omega) (by decide)).mp w) (by omega))
        have e1 : nI (M + 10 + 11 * c) + 1 + nI j = nI (M + 10 + 11 * c + 1 + j) := by rw [nI_1, nI_add]
        refine jr_aload_n d_MO_name_71 rfl rfl ?_
        refine mr_get d_MO_name_72 f_MO_20 hM rfl ?_
        refine jr_iload_n d_MO_name_75 rfl rfl ?_
        refine jr_iconst (v := 1) d_MO_name_76 (by decide) ?_
        refine jr_iadd d_MO_name_77 ?_
        refine jr_iload_n d_MO_name_78 rfl rfl ?_
        refine jr_iadd d_MO_name_79 ?_
        refine jr_aload_n d_MO_name_80 rfl rfl ?_
        refine mr_callP0 d_MO_name_81 i_MO_81 hM (Nat.le_of_ble_eq_true rfl) (by decide) (c_MO_here hM.1 ⟨hn, h400, rfl, hjn⟩) ?_
        refine mr_ast d_MO_name_84 hM (by decide) e1 (by show M + 10 + 11 * c + 1 + j < 559; omega) (fun h hM => ?_)
        refine jr_iinc1 d_MO_name_85 rfl (by decide) ?_
        refine jr_aload_n d_MO_name_88 rfl rfl ?_
        refine jr_dup d_MO_name_89 rfl ?_
        refine mr_get d_MO_name_90 f_MO_78 hM rfl ?_
        refine jr_iconst (v := 1) d_MO_name_93 (by decide) ?_
        refine jr_iadd d_MO_name_94 ?_
        refine mr_put d_MO_name_95 f_MO_78 rfl hM (fun h hM => ?_)
        refine jr_goto (tgt := 26) d_MO_name_98 (by decide) ?_
        have e3 : g2 f (nI (q + 1 + j)) (-1) 10 + 1 = nI (q + 1 + (j + 1)) := nI_1 _
        rw [e3, g2_10, at14_u] at hM
        rw [nI_1]
        refine ih (j := j + 1) (by omega) hjn2 ?_ hM
        rw [hl]
        conv => lhs; unfold ltN
        rw [if_pos hin]
        show j + (ltN (a 12) n r (q + 1 + j + 1) + 1) = j + 1 + ltN (a 12) n r (q + 1 + j + 1)
        omega
theorem c_nameS {h : jy_P} {x y : Int32} {F : Ft} {s : Except Nat (Ft × Nat)} (hMb : M + 42 < 559) (hM : Mo h (g2 f x y) (at14 a F)) (hn : f 1 = nI n) (h400 : n ≤ 400) (hS : S (a 12) n K0 s x y F) (hc : ∀ z, s = .ok z → ∃ c, c ≤ 2 ∧ z.1 (M + 9) = nI c) : jy_C G 4 m_MO_name [.ref 11, .int (nI M)] h (qV h f a (fun x y F => S (a 12) n K0 (ebd s (fun z => wdP (a 12) n z.1 M z.2)) x y F)) := by
  refine jy_C.of [some (.ref 11), some (.int (nI M)), none, none] rfl (Nat.le_of_ble_eq_true rfl) ?_
  have hM := MS.rf hM
  cases s with
  | ok z =>
    obtain ⟨c, hc2, hcF⟩ := hc z rfl
    obtain ⟨s1, s2, p, s3, s4, s5⟩ := hS
    subst s1; subst s2; subst s3
    have hsk := skb (t := a 12) s4
    refine jr_aload_n d_MO_name_0 rfl rfl ?_
    refine jr_bipush (v := 34) d_MO_name_1 (by decide) ?_
    by_cases e : hr (a 12) n z.2 = 34
    · have hC := c_MO_take (G := G) hM.1 ⟨hn, h400, rfl, s4⟩ m1_lt 34
      rw [show at14 a z.1 12 = a 12 from rfl, s5, if_pos e, g2_10] at hC
      refine mr_call1 d_MO_name_3 i_MO_99 hM (Nat.le_of_ble_eq_true rfl) (by decide) (hC) (fun h hM => ?_)
      have hin : z.2 < n := hr_in (by rw [e]; decide)
      refine jr_iload_n d_MO_name_6 rfl rfl ?_
      refine jr_bipush (v := 10) d_MO_name_7 (by decide) ?_
      refine jr_iadd d_MO_name_9 ?_
      refine jr_bipush (v := 11) d_MO_name_10 (by decide) ?_
      refine jr_aload_n d_MO_name_12 rfl rfl ?_
      refine mr_get d_MO_name_13 f_MO_20 hM rfl ?_
      refine jr_iload_n d_MO_name_16 rfl rfl ?_
      refine jr_bipush (v := 9) d_MO_name_17 (by decide) ?_
      refine jr_iadd d_MO_name_19 ?_
      refine mr_ald d_MO_name_20 hM (by decide) (nI_add M 9) (by show M + 9 < 559; omega) ?_
      rw [show at14 a z.1 14 (M + 9) = nI c from hcF]
      have e1 : nI M + 10 + 11 * nI c = nI (M + 10 + 11 * c) := by
        rw [show (10 : Int32) = nI 10 from rfl, nI_add, show (11 : Int32) = nI 11 from rfl, pk_mul, nI_add]
      refine jr_imul d_MO_name_21 ?_
      refine jr_iadd d_MO_name_22 ?_
      rw [e1]
      refine jr_istore_n d_MO_name_23 rfl (by decide) ?_
      refine jr_iconst (v := 0) d_MO_name_24 (by decide) ?_
      refine jr_istore_n d_MO_name_25 rfl (by decide) ?_
      exact mo_name1 hMb hn h400 e hcF hc2 10 (j := 0) (by omega) hin (Nat.zero_add _).symm hM
    · have hC := c_MO_take (G := G) hM.1 ⟨hn, h400, rfl, s4⟩ m1_lt 34
      rw [show at14 a z.1 12 = a 12 from rfl, s5, if_neg e, g2_10, g2_11] at hC
      refine mr_call1 d_MO_name_3 i_MO_99 hM (Nat.le_of_ble_eq_true rfl) (by decide) (hC) (fun h hM => ?_)
      refine (mo_nameW hMb (e := z.2) (by omega) h400 hM).mono (fun o h' w => ?_)
      obtain ⟨x, y, F, w1, w2, w3⟩ := w
      refine ⟨x, y, F, w1, w2, ?_⟩
      rw [ebd_ok]
      unfold wdP
      rw [if_neg e]
      exact w3
  | error e =>
    obtain ⟨b1, b2⟩ := bdE_K0 hS
    subst b1
    refine jr_aload_n d_MO_name_0 rfl rfl ?_
    refine jr_bipush (v := 34) d_MO_name_1 (by decide) ?_
    refine mr_call1 d_MO_name_3 i_MO_99 hM (Nat.le_of_ble_eq_true rfl) (by decide) (c_MO_takeW hM.1 (by show ¬ nI e < 0; exact nI_pos (by omega)) 34) (fun h hM => ?_)
    exact mo_nameW hMb b2 h400 hM
end NA
