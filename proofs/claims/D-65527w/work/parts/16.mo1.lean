/-! the reference: small methods -/
theorem upd_self (f : Nat → Int32) (k : Nat) : upd f k (f k) = f := by
  funext j
  unfold upd
  split
  · rename_i q; rw [q]
  · rfl
theorem upd_upd (f : Nat → Int32) (k : Nat) (x y : Int32) : upd (upd f k x) k y = upd f k y := by
  funext j
  unfold upd
  split <;> rfl
theorem upd_s {f : Nat → Int32} {k : Nat} {x : Int32} : upd f k x k = x := by simp [upd]
theorem upd_n {f : Nat → Int32} {k j : Nat} {x : Int32} (h : j ≠ k) : upd f k x j = f j := by simp [upd, h]
def inB (x lo hi : Int32) : Bool := decide (lo ≤ x) && decide (x ≤ hi)
theorem d_MO_within_0 : decode (jy_c m_MO_within) 0 = .ok (.iload_n 0, 1) := by decide +kernel
theorem d_MO_within_1 : decode (jy_c m_MO_within) 1 = .ok (.iload_n 1, 1) := by decide +kernel
theorem d_MO_within_2 : decode (jy_c m_MO_within) 2 = .ok (.if_icmp .lt 12, 3) := by decide +kernel
theorem d_MO_within_5 : decode (jy_c m_MO_within) 5 = .ok (.iload_n 0, 1) := by decide +kernel
theorem d_MO_within_6 : decode (jy_c m_MO_within) 6 = .ok (.iload_n 2, 1) := by decide +kernel
theorem d_MO_within_7 : decode (jy_c m_MO_within) 7 = .ok (.if_icmp .gt 7, 3) := by decide +kernel
theorem d_MO_within_10 : decode (jy_c m_MO_within) 10 = .ok (.iconst 1, 1) := by decide +kernel
theorem d_MO_within_11 : decode (jy_c m_MO_within) 11 = .ok (.goto 4, 3) := by decide +kernel
theorem d_MO_within_14 : decode (jy_c m_MO_within) 14 = .ok (.iconst 0, 1) := by decide +kernel
theorem d_MO_within_15 : decode (jy_c m_MO_within) 15 = .ok (.ireturn, 1) := by decide +kernel
theorem c_MO_within {G : jy_G} {h : jy_P} (x lo hi : Int32) : jy_C G 1 m_MO_within [.int x, .int lo, .int hi] h (pP h (some (.int (bI (inB x lo hi))))) := by
  refine jy_C.of [some (.int x), some (.int lo), some (.int hi)] rfl (Nat.le_refl 3) ?_
  refine jr_iload_n d_MO_within_0 rfl rfl ?_
  refine jr_iload_n d_MO_within_1 rfl rfl ?_
  refine jr_icmp_lt (tgt := 14) d_MO_within_2 (by decide) (fun hc => ?_) (fun hc => ?_)
  · refine jr_iconst (v := 0) d_MO_within_14 (by decide) ?_
    refine jr_ireturn d_MO_within_15 rfl rfl ?_
    refine ⟨?_, rfl⟩
    have : inB x lo hi = false := by simp [inB, Int32.not_le.mpr hc]
    rw [this, bI_f]
  · refine jr_iload_n d_MO_within_5 rfl rfl ?_
    refine jr_iload_n d_MO_within_6 rfl rfl ?_
    refine jr_icmp_gt (tgt := 14) d_MO_within_7 (by decide) (fun hc2 => ?_) (fun hc2 => ?_)
    · refine jr_iconst (v := 0) d_MO_within_14 (by decide) ?_
      refine jr_ireturn d_MO_within_15 rfl rfl ?_
      refine ⟨?_, rfl⟩
      have : inB x lo hi = false := by simp [inB, Int32.not_le.mpr hc2]
      rw [this, bI_f]
    · refine jr_iconst (v := 1) d_MO_within_10 (by decide) ?_
      refine jr_goto (tgt := 15) d_MO_within_11 (by decide) ?_
      refine jr_ireturn d_MO_within_15 rfl rfl ?_
      refine ⟨?_, rfl⟩
      have : inB x lo hi = true := by simp [inB, Int32.not_lt.mp hc, Int32.not_lt.mp hc2]
      rw [this, bI_t]
theorem d_MO_thrown_0 : decode (jy_c m_MO_thrown) 0 = .ok (.aload_n 0, 1) := by decide +kernel
theorem d_MO_thrown_1 : decode (jy_c m_MO_thrown) 1 = .ok (.getfield 64, 3) := by decide +kernel
theorem d_MO_thrown_4 : decode (jy_c m_MO_thrown) 4 = .ok (.ireturn, 1) := by decide +kernel
theorem c_MO_thrown {G : jy_G} {h : jy_P} {f : Nat → Int32} {a : Nat → Nat → Int32} (hM : Mo h f a) : jy_C G 1 m_MO_thrown [.ref 11] h (pP h (some (.int (f 0)))) := by
  refine jy_C.of [some (.ref 11)] rfl (Nat.le_refl 1) ?_
  have hM := MS.rf hM
  refine jr_aload_n d_MO_thrown_0 rfl rfl ?_
  refine mr_get d_MO_thrown_1 f_MO_64 hM rfl ?_
  refine jr_ireturn d_MO_thrown_4 rfl rfl ?_
  exact ⟨rfl, rfl⟩
/-- what 'goes' leaves in 'thrown' -/
def gT (x y z : Bool) : Int32 := if x = false then 1 else if y = false then 2 else if z = false then 3 else 0
theorem d_MO_goes_0 : decode (jy_c m_MO_goes) 0 = .ok (.aload_n 0, 1) := by decide +kernel
theorem d_MO_goes_1 : decode (jy_c m_MO_goes) 1 = .ok (.iload_n 1, 1) := by decide +kernel
theorem d_MO_goes_2 : decode (jy_c m_MO_goes) 2 = .ok (.ifCond .ne 7, 3) := by decide +kernel
theorem d_MO_goes_5 : decode (jy_c m_MO_goes) 5 = .ok (.iconst 1, 1) := by decide +kernel
theorem d_MO_goes_6 : decode (jy_c m_MO_goes) 6 = .ok (.goto 20, 3) := by decide +kernel
theorem d_MO_goes_9 : decode (jy_c m_MO_goes) 9 = .ok (.iload_n 2, 1) := by decide +kernel
theorem d_MO_goes_10 : decode (jy_c m_MO_goes) 10 = .ok (.ifCond .ne 7, 3) := by decide +kernel
theorem d_MO_goes_13 : decode (jy_c m_MO_goes) 13 = .ok (.iconst 2, 1) := by decide +kernel
theorem d_MO_goes_14 : decode (jy_c m_MO_goes) 14 = .ok (.goto 12, 3) := by decide +kernel
theorem d_MO_goes_17 : decode (jy_c m_MO_goes) 17 = .ok (.iload_n 3, 1) := by decide +kernel
theorem d_MO_goes_18 : decode (jy_c m_MO_goes) 18 = .ok (.ifCond .ne 7, 3) := by decide +kernel
theorem d_MO_goes_21 : decode (jy_c m_MO_goes) 21 = .ok (.iconst 3, 1) := by decide +kernel
theorem d_MO_goes_22 : decode (jy_c m_MO_goes) 22 = .ok (.goto 4, 3) := by decide +kernel
theorem d_MO_goes_25 : decode (jy_c m_MO_goes) 25 = .ok (.iconst 0, 1) := by decide +kernel
theorem d_MO_goes_26 : decode (jy_c m_MO_goes) 26 = .ok (.putfield 64, 3) := by decide +kernel
theorem d_MO_goes_29 : decode (jy_c m_MO_goes) 29 = .ok (.aload_n 0, 1) := by decide +kernel
theorem d_MO_goes_30 : decode (jy_c m_MO_goes) 30 = .ok (.getfield 64, 3) := by decide +kernel
theorem d_MO_goes_33 : decode (jy_c m_MO_goes) 33 = .ok (.ifCond .ne 7, 3) := by decide +kernel
theorem d_MO_goes_36 : decode (jy_c m_MO_goes) 36 = .ok (.iconst 1, 1) := by decide +kernel
theorem d_MO_goes_37 : decode (jy_c m_MO_goes) 37 = .ok (.goto 4, 3) := by decide +kernel
theorem d_MO_goes_40 : decode (jy_c m_MO_goes) 40 = .ok (.iconst 0, 1) := by decide +kernel
theorem d_MO_goes_41 : decode (jy_c m_MO_goes) 41 = .ok (.ireturn, 1) := by decide +kernel
theorem c_MO_goes {G : jy_G} {h : jy_P} {f : Nat → Int32} {a : Nat → Nat → Int32} (hM : Mo h f a) (x y z : Bool) : jy_C G 1 m_MO_goes [.ref 11, .int (bI x), .int (bI y), .int (bI z)] h (mP h (some (.int (bI (x && y && z)))) (upd f 0 (gT x y z)) a) := by
  refine jy_C.of [some (.ref 11), some (.int (bI x)), some (.int (bI y)), some (.int (bI z))] rfl (Nat.le_refl 4) ?_
  have hM := MS.rf hM
  have key : ∀ w : Int32, w = gT x y z → jy_J G 1 m_MO_goes 26 [some (.ref 11), some (.int (bI x)), some (.int (bI y)), some (.int (bI z))] [.int w, .ref 11] h (mP h (some (.int (bI (x && y && z)))) (upd f 0 (gT x y z)) a) := by
    intro w hw
    subst hw
    refine mr_put d_MO_goes_26 f_MO_64 rfl hM (fun h hM => ?_)
    refine jr_aload_n d_MO_goes_29 rfl rfl ?_
    refine mr_get d_MO_goes_30 f_MO_64 hM rfl ?_
    have e1 : upd f 0 (gT x y z) 0 = gT x y z := upd_s
    rw [e1]
    refine jr_if_ne (tgt := 40) d_MO_goes_33 (by decide) (fun hc => ?_) (fun hc => ?_)
    · refine jr_iconst (v := 0) d_MO_goes_40 (by decide) ?_
      refine jr_ireturn d_MO_goes_41 rfl rfl ?_
      refine ⟨?_, hM⟩
      cases x <;> cases y <;> cases z <;> first | rfl | exact absurd rfl hc
    · refine jr_iconst (v := 1) d_MO_goes_36 (by decide) ?_
      refine jr_goto (tgt := 41) d_MO_goes_37 (by decide) ?_
      refine jr_ireturn d_MO_goes_41 rfl rfl ?_
      refine ⟨?_, hM⟩
      cases x <;> cases y <;> cases z <;> first | rfl | exact absurd hc (by decide)
  refine jr_aload_n d_MO_goes_0 rfl rfl ?_
  refine jr_iload_n d_MO_goes_1 rfl rfl ?_
  refine jr_if_ne (tgt := 9) d_MO_goes_2 (by decide) (fun hc => ?_) (fun hc => ?_)
  · have hx := bI_ne0.mp hc
    refine jr_iload_n d_MO_goes_9 rfl rfl ?_
    refine jr_if_ne (tgt := 17) d_MO_goes_10 (by decide) (fun hc => ?_) (fun hc => ?_)
    · have hy := bI_ne0.mp hc
      refine jr_iload_n d_MO_goes_17 rfl rfl ?_
      refine jr_if_ne (tgt := 25) d_MO_goes_18 (by decide) (fun hc => ?_) (fun hc => ?_)
      · have hz := bI_ne0.mp hc
        refine jr_iconst (v := 0) d_MO_goes_25 (by decide) ?_
        exact key _ (by rw [hx, hy, hz]; rfl)
      · have hz := bI_eq0.mp hc
        refine jr_iconst (v := 3) d_MO_goes_21 (by decide) ?_
        refine jr_goto (tgt := 26) d_MO_goes_22 (by decide) ?_
        exact key _ (by rw [hx, hy, hz]; rfl)
    · have hy := bI_eq0.mp hc
      refine jr_iconst (v := 2) d_MO_goes_13 (by decide) ?_
      refine jr_goto (tgt := 26) d_MO_goes_14 (by decide) ?_
      exact key _ (by rw [hx, hy]; rfl)
  · have hx := bI_eq0.mp hc
    refine jr_iconst (v := 1) d_MO_goes_5 (by decide) ?_
    refine jr_goto (tgt := 26) d_MO_goes_6 (by decide) ?_
    exact key _ (by rw [hx]; rfl)
/-! the tape: t its signs, n how many; hr: the sign at p, or -1; sk: the place behind the blanks -/
def hr (t : Nat → Int32) (n p : Nat) : Int32 := if p < n then t p else -1
def skF (t : Nat → Int32) (n : Nat) : Nat → Nat → Nat
  | 0, p => p
  | k + 1, p => if hr t n p = 32 then skF t n k (p + 1) else p
def sk (t : Nat → Int32) (n p : Nat) : Nat := skF t n (n - p) p
theorem hr_32 {t : Nat → Int32} {n p : Nat} (h : hr t n p = 32) : p < n := by
  unfold hr at h
  split at h
  · assumption
  · exact absurd h (by decide)
theorem sk_step {t : Nat → Int32} {n p : Nat} (h : hr t n p = 32) : sk t n p = sk t n (p + 1) := by
  have hp := hr_32 h
  unfold sk
  rw [show n - p = (n - (p + 1)) + 1 by omega]
  show (if hr t n p = 32 then skF t n (n - (p + 1)) (p + 1) else p) = _
  rw [if_pos h]
theorem sk_stop {t : Nat → Int32} {n p : Nat} (h : ¬ hr t n p = 32) : sk t n p = p := by
  unfold sk
  cases n - p with
  | zero => rfl
  | succ k =>
    show (if hr t n p = 32 then _ else p) = _
    rw [if_neg h]
theorem sk_le {t : Nat → Int32} {n : Nat} : ∀ (k p : Nat), n - p ≤ k → p ≤ n → sk t n p ≤ n := by
  intro k
  induction k with
  | zero =>
    intro p h1 h2
    rw [sk_stop (fun q => by have := hr_32 q; omega)]
    exact h2
  | succ k ih =>
    intro p h1 h2
    by_cases hq : hr t n p = 32
    · rw [sk_step hq]
      exact ih (p + 1) (by have := hr_32 hq; omega) (by have := hr_32 hq; omega)
    · rw [sk_stop hq]
      exact h2
theorem sk_ge {t : Nat → Int32} {n : Nat} : ∀ (k p : Nat), n - p ≤ k → p ≤ sk t n p := by
  intro k
  induction k with
  | zero =>
    intro p h1
    rw [sk_stop (fun q => by have := hr_32 q; omega)]
    exact Nat.le_refl _
  | succ k ih =>
    intro p h1
    by_cases hq : hr t n p = 32
    · rw [sk_step hq]
      have := ih (p + 1) (by have := hr_32 hq; omega)
      omega
    · rw [sk_stop hq]
      exact Nat.le_refl _
theorem sk_n32 {t : Nat → Int32} {n : Nat} : ∀ (k p : Nat), n - p ≤ k → ¬ hr t n (sk t n p) = 32 := by
  intro k
  induction k with
  | zero =>
    intro p h1
    have : ¬ hr t n p = 32 := fun q => by have := hr_32 q; omega
    rw [sk_stop this]
    exact this
  | succ k ih =>
    intro p h1
    by_cases hq : hr t n p = 32
    · rw [sk_step hq]
      exact ih (p + 1) (by have := hr_32 hq; omega)
    · rw [sk_stop hq]
      exact hq
/-- the reference's tape: n signs, at p -/
def tp (f : Nat → Int32) (n p : Nat) : Prop := f 1 = nI n ∧ n ≤ 400 ∧ f 10 = nI p ∧ p ≤ n
theorem d_MO_here_0 : decode (jy_c m_MO_here) 0 = .ok (.aload_n 0, 1) := by decide +kernel
theorem d_MO_here_1 : decode (jy_c m_MO_here) 1 = .ok (.getfield 78, 3) := by decide +kernel
theorem d_MO_here_4 : decode (jy_c m_MO_here) 4 = .ok (.aload_n 0, 1) := by decide +kernel
theorem d_MO_here_5 : decode (jy_c m_MO_here) 5 = .ok (.getfield 71, 3) := by decide +kernel
theorem d_MO_here_8 : decode (jy_c m_MO_here) 8 = .ok (.if_icmp .ge 15, 3) := by decide +kernel
theorem d_MO_here_11 : decode (jy_c m_MO_here) 11 = .ok (.aload_n 0, 1) := by decide +kernel
theorem d_MO_here_12 : decode (jy_c m_MO_here) 12 = .ok (.getfield 7, 3) := by decide +kernel
theorem d_MO_here_15 : decode (jy_c m_MO_here) 15 = .ok (.aload_n 0, 1) := by decide +kernel
theorem d_MO_here_16 : decode (jy_c m_MO_here) 16 = .ok (.getfield 78, 3) := by decide +kernel
theorem d_MO_here_19 : decode (jy_c m_MO_here) 19 = .ok (.iaload, 1) := by decide +kernel
theorem d_MO_here_20 : decode (jy_c m_MO_here) 20 = .ok (.goto 4, 3) := by decide +kernel
theorem d_MO_here_23 : decode (jy_c m_MO_here) 23 = .ok (.iconst (-1), 1) := by decide +kernel
theorem d_MO_here_24 : decode (jy_c m_MO_here) 24 = .ok (.ireturn, 1) := by decide +kernel
theorem c_MO_here {G : jy_G} {h : jy_P} {f : Nat → Int32} {a : Nat → Nat → Int32} {n p : Nat} (hM : Mo h f a) (ht : tp f n p) : jy_C G 1 m_MO_here [.ref 11] h (pP h (some (.int (hr (a 12) n p)))) := by
  refine jy_C.of [some (.ref 11)] rfl (Nat.le_refl 1) ?_
  have hM := MS.rf hM
  obtain ⟨t1, t2, t3, t4⟩ := ht
  refine jr_aload_n d_MO_here_0 rfl rfl ?_
  refine mr_get d_MO_here_1 f_MO_78 hM rfl ?_
  refine jr_aload_n d_MO_here_4 rfl rfl ?_
  refine mr_get d_MO_here_5 f_MO_71 hM rfl ?_
  rw [t1, t3]
  refine jr_icmp_ge (tgt := 23) d_MO_here_8 (by decide) (fun hc => ?_) (fun hc => ?_)
  · have hp : ¬ p < n := fun q => nI_ge q (by omega) hc
    refine jr_iconst (v := -1) d_MO_here_23 (by decide) ?_
    refine jr_ireturn d_MO_here_24 rfl rfl ?_
    exact ⟨by rw [hr, if_neg hp], rfl⟩
  · have hp : p < n := by
      rcases Nat.lt_or_ge p n with q | q
      · exact q
      · exact absurd (nI_le q (by omega)) hc
    refine jr_aload_n d_MO_here_11 rfl rfl ?_
    refine mr_get d_MO_here_12 f_MO_7 hM rfl ?_
    refine jr_aload_n d_MO_here_15 rfl rfl ?_
    refine mr_get d_MO_here_16 f_MO_78 hM rfl ?_
    refine mr_ald d_MO_here_19 hM (by decide) t3 (by show p < 400; omega) ?_
    refine jr_goto (tgt := 24) d_MO_here_20 (by decide) ?_
    refine jr_ireturn d_MO_here_24 rfl rfl ?_
    exact ⟨by rw [hr, if_pos hp], rfl⟩
theorem d_MO_see_0 : decode (jy_c m_MO_see) 0 = .ok (.aload_n 0, 1) := by decide +kernel
theorem d_MO_see_1 : decode (jy_c m_MO_see) 1 = .ok (.invokevirtual 81, 3) := by decide +kernel
theorem d_MO_see_4 : decode (jy_c m_MO_see) 4 = .ok (.bipush 32, 2) := by decide +kernel
theorem d_MO_see_6 : decode (jy_c m_MO_see) 6 = .ok (.if_icmp .ne 16, 3) := by decide +kernel
theorem d_MO_see_9 : decode (jy_c m_MO_see) 9 = .ok (.aload_n 0, 1) := by decide +kernel
theorem d_MO_see_10 : decode (jy_c m_MO_see) 10 = .ok (.dup, 1) := by decide +kernel
theorem d_MO_see_11 : decode (jy_c m_MO_see) 11 = .ok (.getfield 78, 3) := by decide +kernel
theorem d_MO_see_14 : decode (jy_c m_MO_see) 14 = .ok (.iconst 1, 1) := by decide +kernel
theorem d_MO_see_15 : decode (jy_c m_MO_see) 15 = .ok (.iadd, 1) := by decide +kernel
theorem d_MO_see_16 : decode (jy_c m_MO_see) 16 = .ok (.putfield 78, 3) := by decide +kernel
theorem d_MO_see_19 : decode (jy_c m_MO_see) 19 = .ok (.goto (-19), 3) := by decide +kernel
theorem d_MO_see_22 : decode (jy_c m_MO_see) 22 = .ok (.aload_n 0, 1) := by decide +kernel
theorem d_MO_see_23 : decode (jy_c m_MO_see) 23 = .ok (.invokevirtual 81, 3) := by decide +kernel
theorem d_MO_see_26 : decode (jy_c m_MO_see) 26 = .ok (.ireturn, 1) := by decide +kernel
theorem mo_see {G : jy_G} {h0 : jy_P} {a : Nat → Nat → Int32} {n : Nat} : ∀ (k : Nat) {h : jy_P} {f : Nat → Int32} {p : Nat}, n - p ≤ k → MS h0 h f a → tp f n p → jy_J G 2 m_MO_see 0 [some (.ref 11)] [] h (mP h0 (some (.int (hr (a 12) n (sk (a 12) n p)))) (upd f 10 (nI (sk (a 12) n p))) a) := by
  intro k
  induction k with
  | zero =>
    intro h f p hk hM ht
    have h32 : ¬ hr (a 12) n p = 32 := fun q => by have := hr_32 q; omega
    refine jr_aload_n d_MO_see_0 rfl rfl ?_
    refine mr_callP0 d_MO_see_1 i_MO_81 hM (Nat.le_of_ble_eq_true rfl) (by decide) (c_MO_here hM.1 ht) ?_
    refine jr_bipush (v := 32) d_MO_see_4 (by decide) ?_
    refine jr_icmp_ne (tgt := 22) d_MO_see_6 (by decide) (fun hc => ?_) (fun hc => absurd hc h32)
    refine jr_aload_n d_MO_see_22 rfl rfl ?_
    refine mr_callP0 d_MO_see_23 i_MO_81 hM (Nat.le_of_ble_eq_true rfl) (by decide) (c_MO_here hM.1 ht) ?_
    refine jr_ireturn d_MO_see_26 rfl rfl ?_
    rw [sk_stop h32, ← ht.2.2.1, upd_self]
    exact ⟨rfl, hM⟩
  | succ k ih =>
    intro h f p hk hM ht
    refine jr_aload_n d_MO_see_0 rfl rfl ?_
    refine mr_callP0 d_MO_see_1 i_MO_81 hM (Nat.le_of_ble_eq_true rfl) (by decide) (c_MO_here hM.1 ht) ?_
    refine jr_bipush (v := 32) d_MO_see_4 (by decide) ?_
    refine jr_icmp_ne (tgt := 22) d_MO_see_6 (by decide) (fun hc => ?_) (fun hc => ?_)
    · refine jr_aload_n d_MO_see_22 rfl rfl ?_
      refine mr_callP0 d_MO_see_23 i_MO_81 hM (Nat.le_of_ble_eq_true rfl) (by decide) (c_MO_here hM.1 ht) ?_
      refine jr_ireturn d_MO_see_26 rfl rfl ?_
      rw [sk_stop hc, ← ht.2.2.1, upd_self]
      exact ⟨rfl, hM⟩
    · have hp := hr_32 hc
      refine jr_aload_n d_MO_see_9 rfl rfl ?_
      refine jr_dup d_MO_see_10 rfl ?_
      refine mr_get d_MO_see_11 f_MO_78 hM rfl ?_
      refine jr_iconst (v := 1) d_MO_see_14 (by decide) ?_
      refine jr_iadd d_MO_see_15 ?_
      refine mr_put d_MO_see_16 f_MO_78 rfl hM (fun h hM => ?_)
      refine jr_goto (tgt := 0) d_MO_see_19 (by decide) ?_
      have e1 : f 10 + 1 = nI (p + 1) := by rw [ht.2.2.1]; exact nI_1 p
      rw [e1] at hM
      have := ih (p := p + 1) (by omega) hM ⟨ht.1, ht.2.1, upd_s, hp⟩
      rw [upd_upd, ← sk_step hc] at this
      exact this
theorem c_MO_see {G : jy_G} {h : jy_P} {f : Nat → Int32} {a : Nat → Nat → Int32} {n p : Nat} (hM : Mo h f a) (ht : tp f n p) : jy_C G 2 m_MO_see [.ref 11] h (mP h (some (.int (hr (a 12) n (sk (a 12) n p)))) (upd f 10 (nI (sk (a 12) n p))) a) :=
  jy_C.of [some (.ref 11)] rfl (Nat.le_refl 1) (mo_see (n - p) (Nat.le_refl _) (MS.rf hM) ht)
theorem tp_sk {f : Nat → Int32} {t : Nat → Int32} {n p : Nat} (ht : tp f n p) : tp (upd f 10 (nI (sk t n p))) n (sk t n p) := ⟨ht.1, ht.2.1, upd_s, sk_le (n - p) p (Nat.le_refl _) ht.2.2.2⟩
theorem d_MO_fail_0 : decode (jy_c m_MO_fail) 0 = .ok (.aload_n 0, 1) := by decide +kernel
theorem d_MO_fail_1 : decode (jy_c m_MO_fail) 1 = .ok (.getfield 85, 3) := by decide +kernel
theorem d_MO_fail_4 : decode (jy_c m_MO_fail) 4 = .ok (.ifCond .ge 8, 3) := by decide +kernel
theorem d_MO_fail_7 : decode (jy_c m_MO_fail) 7 = .ok (.aload_n 0, 1) := by decide +kernel
theorem d_MO_fail_8 : decode (jy_c m_MO_fail) 8 = .ok (.iload_n 1, 1) := by decide +kernel
theorem d_MO_fail_9 : decode (jy_c m_MO_fail) 9 = .ok (.putfield 85, 3) := by decide +kernel
theorem d_MO_fail_12 : decode (jy_c m_MO_fail) 12 = .ok (.return_, 1) := by decide +kernel
/-- what 'fail' leaves in 'wrong' -/
def fl (w p : Int32) : Int32 := if w < 0 then p else w
theorem c_MO_fail {G : jy_G} {h : jy_P} {f : Nat → Int32} {a : Nat → Nat → Int32} (hM : Mo h f a) (q : Int32) : jy_C G 1 m_MO_fail [.ref 11, .int q] h (mP h none (upd f 11 (fl (f 11) q)) a) := by
  refine jy_C.of [some (.ref 11), some (.int q)] rfl (Nat.le_refl 2) ?_
  have hM := MS.rf hM
  refine jr_aload_n d_MO_fail_0 rfl rfl ?_
  refine mr_get d_MO_fail_1 f_MO_85 hM rfl ?_
  refine jr_if_ge (tgt := 12) d_MO_fail_4 (by decide) (fun hc => ?_) (fun hc => ?_)
  · refine jr_return d_MO_fail_12 rfl ?_
    have : fl (f 11) q = f 11 := by rw [fl, if_neg (Int32.not_lt.mpr hc)]
    rw [this, upd_self]
    exact ⟨rfl, hM⟩
  · have hw : f 11 < 0 := Int32.not_le.mp hc
    refine jr_aload_n d_MO_fail_7 rfl rfl ?_
    refine jr_iload_n d_MO_fail_8 rfl rfl ?_
    refine mr_put d_MO_fail_9 f_MO_85 rfl hM (fun h hM => ?_)
    refine jr_return d_MO_fail_12 rfl ?_
    rw [fl, if_pos hw]
    exact ⟨rfl, hM⟩
theorem d_MO_take_0 : decode (jy_c m_MO_take) 0 = .ok (.aload_n 0, 1) := by decide +kernel
theorem d_MO_take_1 : decode (jy_c m_MO_take) 1 = .ok (.getfield 85, 3) := by decide +kernel
theorem d_MO_take_4 : decode (jy_c m_MO_take) 4 = .ok (.ifCond .lt 4, 3) := by decide +kernel
theorem d_MO_take_7 : decode (jy_c m_MO_take) 7 = .ok (.return_, 1) := by decide +kernel
theorem d_MO_take_8 : decode (jy_c m_MO_take) 8 = .ok (.aload_n 0, 1) := by decide +kernel
theorem d_MO_take_9 : decode (jy_c m_MO_take) 9 = .ok (.invokevirtual 88, 3) := by decide +kernel
theorem d_MO_take_12 : decode (jy_c m_MO_take) 12 = .ok (.iload_n 1, 1) := by decide +kernel
theorem d_MO_take_13 : decode (jy_c m_MO_take) 13 = .ok (.if_icmp .eq 14, 3) := by decide +kernel
theorem d_MO_take_16 : decode (jy_c m_MO_take) 16 = .ok (.aload_n 0, 1) := by decide +kernel
theorem d_MO_take_17 : decode (jy_c m_MO_take) 17 = .ok (.aload_n 0, 1) := by decide +kernel
theorem d_MO_take_18 : decode (jy_c m_MO_take) 18 = .ok (.getfield 78, 3) := by decide +kernel
theorem d_MO_take_21 : decode (jy_c m_MO_take) 21 = .ok (.invokevirtual 91, 3) := by decide +kernel
theorem d_MO_take_24 : decode (jy_c m_MO_take) 24 = .ok (.goto 13, 3) := by decide +kernel
theorem d_MO_take_27 : decode (jy_c m_MO_take) 27 = .ok (.aload_n 0, 1) := by decide +kernel
theorem d_MO_take_28 : decode (jy_c m_MO_take) 28 = .ok (.dup, 1) := by decide +kernel
theorem d_MO_take_29 : decode (jy_c m_MO_take) 29 = .ok (.getfield 78, 3) := by decide +kernel
theorem d_MO_take_32 : decode (jy_c m_MO_take) 32 = .ok (.iconst 1, 1) := by decide +kernel
theorem d_MO_take_33 : decode (jy_c m_MO_take) 33 = .ok (.iadd, 1) := by decide +kernel
theorem d_MO_take_34 : decode (jy_c m_MO_take) 34 = .ok (.putfield 78, 3) := by decide +kernel
theorem d_MO_take_37 : decode (jy_c m_MO_take) 37 = .ok (.return_, 1) := by decide +kernel
/-- 'take' where nothing is wrong yet -/
theorem c_MO_take {G : jy_G} {h : jy_P} {f : Nat → Int32} {a : Nat → Nat → Int32} {n p : Nat} (hM : Mo h f a) (ht : tp f n p) (hw : f 11 < 0) (c : Int32) :
    jy_C G 3 m_MO_take [.ref 11, .int c] h (mP h none (if hr (a 12) n (sk (a 12) n p) = c then upd f 10 (nI (sk (a 12) n p + 1)) else upd (upd f 10 (nI (sk (a 12) n p))) 11 (nI (sk (a 12) n p))) a) := by
  refine jy_C.of [some (.ref 11), some (.int c)] rfl (Nat.le_refl 2) ?_
  have hM := MS.rf hM
  refine jr_aload_n d_MO_take_0 rfl rfl ?_
  refine mr_get d_MO_take_1 f_MO_85 hM rfl ?_
  refine jr_if_lt (tgt := 8) d_MO_take_4 (by decide) (fun hc => ?_) (fun hc => absurd hw hc)
  refine jr_aload_n d_MO_take_8 rfl rfl ?_
  refine mr_call0 d_MO_take_9 i_MO_88 hM (Nat.le_of_ble_eq_true rfl) (by decide) (c_MO_see hM.1 ht) (fun h hM => ?_)
  refine jr_iload_n d_MO_take_12 rfl rfl ?_
  refine jr_icmp_eq (tgt := 27) d_MO_take_13 (by decide) (fun hc => ?_) (fun hc => ?_)
  · rw [if_pos hc]
    refine jr_aload_n d_MO_take_27 rfl rfl ?_
    refine jr_dup d_MO_take_28 rfl ?_
    refine mr_get d_MO_take_29 f_MO_78 hM rfl ?_
    refine jr_iconst (v := 1) d_MO_take_32 (by decide) ?_
    refine jr_iadd d_MO_take_33 ?_
    refine mr_put d_MO_take_34 f_MO_78 rfl hM (fun h hM => ?_)
    refine jr_return d_MO_take_37 rfl ?_
    rw [upd_upd, upd_s, nI_1] at hM
    exact ⟨rfl, hM⟩
  · rw [if_neg hc]
    refine jr_aload_n d_MO_take_16 rfl rfl ?_
    refine jr_aload_n d_MO_take_17 rfl rfl ?_
    refine mr_get d_MO_take_18 f_MO_78 hM rfl ?_
    refine mr_call1 d_MO_take_21 i_MO_91 hM (Nat.le_of_ble_eq_true rfl) (by decide) (c_MO_fail hM.1 _) (fun h hM => ?_)
    refine jr_goto (tgt := 37) d_MO_take_24 (by decide) ?_
    refine jr_return d_MO_take_37 rfl ?_
    have e1 : upd f 10 (nI (sk (a 12) n p)) 11 = f 11 := upd_n (by decide)
    rw [e1, fl, if_pos hw] at hM
    exact ⟨rfl, hM⟩
/-- 'take' where something is wrong -/
theorem c_MO_takeW {G : jy_G} {h : jy_P} {f : Nat → Int32} {a : Nat → Nat → Int32} (hM : Mo h f a) (hw : ¬ f 11 < 0) (c : Int32) : jy_C G 3 m_MO_take [.ref 11, .int c] h (mP h none f a) := by
  refine jy_C.of [some (.ref 11), some (.int c)] rfl (Nat.le_refl 2) ?_
  have hM := MS.rf hM
  refine jr_aload_n d_MO_take_0 rfl rfl ?_
  refine mr_get d_MO_take_1 f_MO_85 hM rfl ?_
  refine jr_if_lt (tgt := 8) d_MO_take_4 (by decide) (fun hc => absurd hc hw) (fun hc => ?_)
  refine jr_return d_MO_take_7 rfl ?_
  exact ⟨rfl, hM⟩
theorem d_MO_isDigit_0 : decode (jy_c m_MO_isDigit) 0 = .ok (.aload_n 0, 1) := by decide +kernel
theorem d_MO_isDigit_1 : decode (jy_c m_MO_isDigit) 1 = .ok (.invokevirtual 81, 3) := by decide +kernel
theorem d_MO_isDigit_4 : decode (jy_c m_MO_isDigit) 4 = .ok (.bipush 48, 2) := by decide +kernel
theorem d_MO_isDigit_6 : decode (jy_c m_MO_isDigit) 6 = .ok (.bipush 57, 2) := by decide +kernel
theorem d_MO_isDigit_8 : decode (jy_c m_MO_isDigit) 8 = .ok (.invokestatic 67, 3) := by decide +kernel
theorem d_MO_isDigit_11 : decode (jy_c m_MO_isDigit) 11 = .ok (.ireturn, 1) := by decide +kernel
def dg (x : Int32) : Bool := inB x 48 57
theorem c_MO_isDigit {G : jy_G} {h : jy_P} {f : Nat → Int32} {a : Nat → Nat → Int32} {n p : Nat} (hM : Mo h f a) (ht : tp f n p) : jy_C G 2 m_MO_isDigit [.ref 11] h (pP h (some (.int (bI (dg (hr (a 12) n p)))))) := by
  refine jy_C.of [some (.ref 11)] rfl (Nat.le_refl 1) ?_
  have hM := MS.rf hM
  refine jr_aload_n d_MO_isDigit_0 rfl rfl ?_
  refine mr_callP0 d_MO_isDigit_1 i_MO_81 hM (Nat.le_of_ble_eq_true rfl) (by decide) (c_MO_here hM.1 ht) ?_
  refine jr_bipush (v := 48) d_MO_isDigit_4 (by decide) ?_
  refine jr_bipush (v := 57) d_MO_isDigit_6 (by decide) ?_
  refine jr_callSp3 d_MO_isDigit_8 i_MO_67 (Nat.le_of_ble_eq_true rfl) (by decide) (c_MO_within _ _ _) ?_
  refine jr_ireturn d_MO_isDigit_11 rfl (bI_nar _) ?_
  exact ⟨rfl, rfl⟩
