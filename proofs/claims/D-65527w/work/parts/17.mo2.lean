/-! the reference: the table, the mixture's numbers -/
theorem ix43 {x y : Int32} (k c : Nat) (hx : x = nI k) (hy : y = nI c) : x * 43 + y = nI (43 * k + c) := by
  subst hx; subst hy
  show nI k * nI 43 + nI c = _
  rw [pk_mul, nI_add, Nat.mul_comm]
def iP (a : Nat → Nat → Int32) (p : Nat) : Nat := (a 17 p).toNatClampNeg
def ixOk (a : Nat → Nat → Int32) (n : Nat) : Prop := ∀ p, p < n → a 17 p = nI (iP a p) ∧ iP a p ≤ 12
def cl (a : Nat → Nat → Int32) (p c : Nat) : Int32 := a 13 (43 * iP a p + c)
def mx (x y : Int32) : Int32 := if x < y then y else x
theorem mx_l {x y : Int32} (h : y ≤ x) : mx x y = x := if_neg (Int32.not_lt.mpr h)
theorem mx_r {x y : Int32} (h : ¬ y ≤ x) : mx x y = y := if_pos (Int32.not_le.mp h)
theorem d_MO_place_0 : decode (jy_c m_MO_place) 0 = .ok (.aload_n 0, 1) := by decide +kernel
theorem d_MO_place_1 : decode (jy_c m_MO_place) 1 = .ok (.iconst 0, 1) := by decide +kernel
theorem d_MO_place_2 : decode (jy_c m_MO_place) 2 = .ok (.putfield 64, 3) := by decide +kernel
theorem d_MO_place_5 : decode (jy_c m_MO_place) 5 = .ok (.aload_n 0, 1) := by decide +kernel
theorem d_MO_place_6 : decode (jy_c m_MO_place) 6 = .ok (.getfield 13, 3) := by decide +kernel
theorem d_MO_place_9 : decode (jy_c m_MO_place) 9 = .ok (.ireturn, 1) := by decide +kernel
theorem c_MO_place {G : jy_G} {h : jy_P} {f : Nat → Int32} {a : Nat → Nat → Int32} (hM : Mo h f a) : jy_C G 1 m_MO_place [.ref 11] h (mP h (some (.int (f 3))) (upd f 0 0) a) := by
  refine jy_C.of [some (.ref 11)] rfl (Nat.le_refl 1) ?_
  have hM := MS.rf hM
  refine jr_aload_n d_MO_place_0 rfl rfl ?_
  refine jr_iconst (v := 0) d_MO_place_1 (by decide) ?_
  refine mr_put d_MO_place_2 f_MO_64 rfl hM (fun h hM => ?_)
  refine jr_aload_n d_MO_place_5 rfl rfl ?_
  refine mr_get d_MO_place_6 f_MO_13 hM rfl ?_
  refine jr_ireturn d_MO_place_9 rfl rfl ?_
  exact ⟨rfl, hM⟩
theorem d_MO_clear_0 : decode (jy_c m_MO_clear) 0 = .ok (.aload_n 0, 1) := by decide +kernel
theorem d_MO_clear_1 : decode (jy_c m_MO_clear) 1 = .ok (.iconst 0, 1) := by decide +kernel
theorem d_MO_clear_2 : decode (jy_c m_MO_clear) 2 = .ok (.putfield 64, 3) := by decide +kernel
theorem d_MO_clear_5 : decode (jy_c m_MO_clear) 5 = .ok (.aload_n 0, 1) := by decide +kernel
theorem d_MO_clear_6 : decode (jy_c m_MO_clear) 6 = .ok (.iconst 0, 1) := by decide +kernel
theorem d_MO_clear_7 : decode (jy_c m_MO_clear) 7 = .ok (.putfield 157, 3) := by decide +kernel
theorem d_MO_clear_10 : decode (jy_c m_MO_clear) 10 = .ok (.aload_n 0, 1) := by decide +kernel
theorem d_MO_clear_11 : decode (jy_c m_MO_clear) 11 = .ok (.iconst 1, 1) := by decide +kernel
theorem d_MO_clear_12 : decode (jy_c m_MO_clear) 12 = .ok (.putfield 52, 3) := by decide +kernel
theorem d_MO_clear_15 : decode (jy_c m_MO_clear) 15 = .ok (.return_, 1) := by decide +kernel
theorem c_MO_clear {G : jy_G} {h : jy_P} {f : Nat → Int32} {a : Nat → Nat → Int32} (hM : Mo h f a) : jy_C G 1 m_MO_clear [.ref 11] h (mP h none (upd (upd (upd f 0 0) 12 0) 25 1) a) := by
  refine jy_C.of [some (.ref 11)] rfl (Nat.le_refl 1) ?_
  have hM := MS.rf hM
  refine jr_aload_n d_MO_clear_0 rfl rfl ?_
  refine jr_iconst (v := 0) d_MO_clear_1 (by decide) ?_
  refine mr_put d_MO_clear_2 f_MO_64 rfl hM (fun h hM => ?_)
  refine jr_aload_n d_MO_clear_5 rfl rfl ?_
  refine jr_iconst (v := 0) d_MO_clear_6 (by decide) ?_
  refine mr_put d_MO_clear_7 f_MO_157 rfl hM (fun h hM => ?_)
  refine jr_aload_n d_MO_clear_10 rfl rfl ?_
  refine jr_iconst (v := 1) d_MO_clear_11 (by decide) ?_
  refine mr_put d_MO_clear_12 f_MO_52 rfl hM (fun h hM => ?_)
  refine jr_return d_MO_clear_15 rfl ?_
  exact ⟨rfl, hM⟩
/-- the first of m rows with the number x -/
def fd (R : Nat → Int32) (x : Int32) : Nat → Option Nat
  | 0 => none
  | m + 1 => match fd R x m with
    | some k => some k
    | none => if R (43 * m) = x then some m else none
def oI : Option Nat → Int32
  | none => -1
  | some k => nI k
theorem fd_keep {R : Nat → Int32} {x : Int32} {k j : Nat} (h : fd R x k = some j) : ∀ m, k ≤ m → fd R x m = some j := by
  intro m hm
  induction m with
  | zero =>
    have : k = 0 := by omega
    subst this
    exact h
  | succ m ih =>
    by_cases hk : k = m + 1
    · subst hk
      exact h
    · have := ih (by omega)
      simp [fd, this]
theorem fd_lt {R : Nat → Int32} {x : Int32} : ∀ {m j : Nat}, fd R x m = some j → j < m ∧ R (43 * j) = x := by
  intro m
  induction m with
  | zero => intro j h; simp [fd] at h
  | succ m ih =>
    intro j h
    unfold fd at h
    split at h
    · rename_i k hk
      cases h
      have := ih hk
      exact ⟨by omega, this.2⟩
    · split at h
      · cases h
        exact ⟨by omega, by assumption⟩
      · cases h
theorem d_MO_find_0 : decode (jy_c m_MO_find) 0 = .ok (.iconst 0, 1) := by decide +kernel
theorem d_MO_find_1 : decode (jy_c m_MO_find) 1 = .ok (.istore_n 2, 1) := by decide +kernel
theorem d_MO_find_2 : decode (jy_c m_MO_find) 2 = .ok (.iload_n 2, 1) := by decide +kernel
theorem d_MO_find_3 : decode (jy_c m_MO_find) 3 = .ok (.aload_n 0, 1) := by decide +kernel
theorem d_MO_find_4 : decode (jy_c m_MO_find) 4 = .ok (.getfield 128, 3) := by decide +kernel
theorem d_MO_find_7 : decode (jy_c m_MO_find) 7 = .ok (.if_icmp .ge 26, 3) := by decide +kernel
theorem d_MO_find_10 : decode (jy_c m_MO_find) 10 = .ok (.aload_n 0, 1) := by decide +kernel
theorem d_MO_find_11 : decode (jy_c m_MO_find) 11 = .ok (.getfield 17, 3) := by decide +kernel
theorem d_MO_find_14 : decode (jy_c m_MO_find) 14 = .ok (.iload_n 2, 1) := by decide +kernel
theorem d_MO_find_15 : decode (jy_c m_MO_find) 15 = .ok (.bipush 43, 2) := by decide +kernel
theorem d_MO_find_17 : decode (jy_c m_MO_find) 17 = .ok (.imul, 1) := by decide +kernel
theorem d_MO_find_18 : decode (jy_c m_MO_find) 18 = .ok (.iconst 0, 1) := by decide +kernel
theorem d_MO_find_19 : decode (jy_c m_MO_find) 19 = .ok (.iadd, 1) := by decide +kernel
theorem d_MO_find_20 : decode (jy_c m_MO_find) 20 = .ok (.iaload, 1) := by decide +kernel
theorem d_MO_find_21 : decode (jy_c m_MO_find) 21 = .ok (.iload_n 1, 1) := by decide +kernel
theorem d_MO_find_22 : decode (jy_c m_MO_find) 22 = .ok (.if_icmp .ne 5, 3) := by decide +kernel
theorem d_MO_find_25 : decode (jy_c m_MO_find) 25 = .ok (.iload_n 2, 1) := by decide +kernel
theorem d_MO_find_26 : decode (jy_c m_MO_find) 26 = .ok (.ireturn, 1) := by decide +kernel
theorem d_MO_find_27 : decode (jy_c m_MO_find) 27 = .ok (.iinc 2 1, 3) := by decide +kernel
theorem d_MO_find_30 : decode (jy_c m_MO_find) 30 = .ok (.goto (-28), 3) := by decide +kernel
theorem d_MO_find_33 : decode (jy_c m_MO_find) 33 = .ok (.iconst (-1), 1) := by decide +kernel
theorem d_MO_find_34 : decode (jy_c m_MO_find) 34 = .ok (.ireturn, 1) := by decide +kernel
theorem mo_find {G : jy_G} {h0 h : jy_P} {f : Nat → Int32} {a : Nat → Nat → Int32} {m : Nat} {x : Int32} (hM : MS h0 h f a) (hm : f 4 = nI m) (h12 : m ≤ 12) : ∀ (k p : Nat), m - p = k → p ≤ m → fd (a 13) x p = none → jy_J G 1 m_MO_find 2 [some (.ref 11), some (.int x), some (.int (nI p))] [] h (pP h (some (.int (oI (fd (a 13) x m))))) := by
  intro k
  induction k with
  | zero =>
    intro p hk hp hn
    have : p = m := by omega
    subst this
    refine jr_iload_n d_MO_find_2 rfl rfl ?_
    refine jr_aload_n d_MO_find_3 rfl rfl ?_
    refine mr_get d_MO_find_4 f_MO_128 hM rfl ?_
    rw [hm]
    refine jr_icmp_ge (tgt := 33) d_MO_find_7 (by decide) (fun hc => ?_) (fun hc => absurd (nI_le (Nat.le_refl p) (by omega)) hc)
    refine jr_iconst (v := -1) d_MO_find_33 (by decide) ?_
    refine jr_ireturn d_MO_find_34 rfl rfl ?_
    rw [hn]
    exact ⟨rfl, rfl⟩
  | succ k ih =>
    intro p hk hp hn
    have hpm : p < m := by omega
    refine jr_iload_n d_MO_find_2 rfl rfl ?_
    refine jr_aload_n d_MO_find_3 rfl rfl ?_
    refine mr_get d_MO_find_4 f_MO_128 hM rfl ?_
    rw [hm]
    refine jr_icmp_ge (tgt := 33) d_MO_find_7 (by decide) (fun hc => absurd hc (nI_ge hpm (by omega))) (fun hc => ?_)
    refine jr_aload_n d_MO_find_10 rfl rfl ?_
    refine mr_get d_MO_find_11 f_MO_17 hM rfl ?_
    refine jr_iload_n d_MO_find_14 rfl rfl ?_
    refine jr_bipush (v := 43) d_MO_find_15 (by decide) ?_
    refine jr_imul d_MO_find_17 ?_
    refine jr_iconst (v := 0) d_MO_find_18 (by decide) ?_
    refine jr_iadd d_MO_find_19 ?_
    refine mr_ald d_MO_find_20 hM (by decide) (ix43 p 0 rfl rfl) (by show 43 * p + 0 < 559; omega) ?_
    refine jr_iload_n d_MO_find_21 rfl rfl ?_
    rw [Nat.add_zero]
    refine jr_icmp_ne (tgt := 27) d_MO_find_22 (by decide) (fun hc2 => ?_) (fun hc2 => ?_)
    · have hc2 : ¬ a 13 (43 * p) = x := hc2
      refine jr_iinc1 d_MO_find_27 rfl (by decide) ?_
      refine jr_goto (tgt := 2) d_MO_find_30 (by decide) ?_
      rw [nI_1]
      exact ih (p + 1) (by omega) (by omega) (by simp [fd, hn, hc2])
    · have hc2 : a 13 (43 * p) = x := hc2
      refine jr_iload_n d_MO_find_25 rfl rfl ?_
      refine jr_ireturn d_MO_find_26 rfl rfl ?_
      have : fd (a 13) x m = some p := fd_keep (k := p + 1) (by simp [fd, hn, hc2]) m (by omega)
      rw [this]
      exact ⟨rfl, rfl⟩
theorem c_MO_find {G : jy_G} {h : jy_P} {f : Nat → Int32} {a : Nat → Nat → Int32} {m : Nat} (hM : Mo h f a) (hm : f 4 = nI m) (h12 : m ≤ 12) (x : Int32) : jy_C G 1 m_MO_find [.ref 11, .int x] h (pP h (some (.int (oI (fd (a 13) x m))))) := by
  refine jy_C.of [some (.ref 11), some (.int x), none] rfl (Nat.le_of_ble_eq_true rfl) ?_
  refine jr_iconst (v := 0) d_MO_find_0 (by decide) ?_
  refine jr_istore_n d_MO_find_1 rfl (by decide) ?_
  exact mo_find (MS.rf hM) hm h12 m 0 (by omega) (by omega) rfl
theorem d_MO_least_0 : decode (jy_c m_MO_least) 0 = .ok (.iload_n 0, 1) := by decide +kernel
theorem d_MO_least_1 : decode (jy_c m_MO_least) 1 = .ok (.iload_n 1, 1) := by decide +kernel
theorem d_MO_least_2 : decode (jy_c m_MO_least) 2 = .ok (.if_icmp .ge 7, 3) := by decide +kernel
theorem d_MO_least_5 : decode (jy_c m_MO_least) 5 = .ok (.iload_n 0, 1) := by decide +kernel
theorem d_MO_least_6 : decode (jy_c m_MO_least) 6 = .ok (.goto 4, 3) := by decide +kernel
theorem d_MO_least_9 : decode (jy_c m_MO_least) 9 = .ok (.iload_n 1, 1) := by decide +kernel
theorem d_MO_least_10 : decode (jy_c m_MO_least) 10 = .ok (.ireturn, 1) := by decide +kernel
def mn (x y : Int32) : Int32 := if x < y then x else y
theorem c_MO_least {G : jy_G} {h : jy_P} (x y : Int32) : jy_C G 1 m_MO_least [.int x, .int y] h (pP h (some (.int (mn x y)))) := by
  refine jy_C.of [some (.int x), some (.int y)] rfl (Nat.le_refl 2) ?_
  refine jr_iload_n d_MO_least_0 rfl rfl ?_
  refine jr_iload_n d_MO_least_1 rfl rfl ?_
  refine jr_icmp_ge (tgt := 9) d_MO_least_2 (by decide) (fun hc => ?_) (fun hc => ?_)
  · refine jr_iload_n d_MO_least_9 rfl rfl ?_
    refine jr_ireturn d_MO_least_10 rfl rfl ?_
    exact ⟨by rw [mn, if_neg (Int32.not_lt.mpr hc)], rfl⟩
  · refine jr_iload_n d_MO_least_5 rfl rfl ?_
    refine jr_goto (tgt := 10) d_MO_least_6 (by decide) ?_
    refine jr_ireturn d_MO_least_10 rfl rfl ?_
    exact ⟨by rw [mn, if_pos (Int32.not_le.mp hc)], rfl⟩
/-- the strictest of n parts -/
def sS (a : Nat → Nat → Int32) : Nat → Int32
  | 0 => 0
  | p + 1 => mx (sS a p) (cl a p 2)
theorem d_MO_strictness_0 : decode (jy_c m_MO_strictness) 0 = .ok (.iconst 0, 1) := by decide +kernel
theorem d_MO_strictness_1 : decode (jy_c m_MO_strictness) 1 = .ok (.istore_n 1, 1) := by decide +kernel
theorem d_MO_strictness_2 : decode (jy_c m_MO_strictness) 2 = .ok (.iconst 0, 1) := by decide +kernel
theorem d_MO_strictness_3 : decode (jy_c m_MO_strictness) 3 = .ok (.istore_n 2, 1) := by decide +kernel
theorem d_MO_strictness_4 : decode (jy_c m_MO_strictness) 4 = .ok (.iload_n 2, 1) := by decide +kernel
theorem d_MO_strictness_5 : decode (jy_c m_MO_strictness) 5 = .ok (.aload_n 0, 1) := by decide +kernel
theorem d_MO_strictness_6 : decode (jy_c m_MO_strictness) 6 = .ok (.getfield 157, 3) := by decide +kernel
theorem d_MO_strictness_9 : decode (jy_c m_MO_strictness) 9 = .ok (.if_icmp .ge 46, 3) := by decide +kernel
theorem d_MO_strictness_12 : decode (jy_c m_MO_strictness) 12 = .ok (.aload_n 0, 1) := by decide +kernel
theorem d_MO_strictness_13 : decode (jy_c m_MO_strictness) 13 = .ok (.getfield 17, 3) := by decide +kernel
theorem d_MO_strictness_16 : decode (jy_c m_MO_strictness) 16 = .ok (.aload_n 0, 1) := by decide +kernel
theorem d_MO_strictness_17 : decode (jy_c m_MO_strictness) 17 = .ok (.getfield 29, 3) := by decide +kernel
theorem d_MO_strictness_20 : decode (jy_c m_MO_strictness) 20 = .ok (.iload_n 2, 1) := by decide +kernel
theorem d_MO_strictness_21 : decode (jy_c m_MO_strictness) 21 = .ok (.iaload, 1) := by decide +kernel
theorem d_MO_strictness_22 : decode (jy_c m_MO_strictness) 22 = .ok (.bipush 43, 2) := by decide +kernel
theorem d_MO_strictness_24 : decode (jy_c m_MO_strictness) 24 = .ok (.imul, 1) := by decide +kernel
theorem d_MO_strictness_25 : decode (jy_c m_MO_strictness) 25 = .ok (.iconst 2, 1) := by decide +kernel
theorem d_MO_strictness_26 : decode (jy_c m_MO_strictness) 26 = .ok (.iadd, 1) := by decide +kernel
theorem d_MO_strictness_27 : decode (jy_c m_MO_strictness) 27 = .ok (.iaload, 1) := by decide +kernel
theorem d_MO_strictness_28 : decode (jy_c m_MO_strictness) 28 = .ok (.iload_n 1, 1) := by decide +kernel
theorem d_MO_strictness_29 : decode (jy_c m_MO_strictness) 29 = .ok (.if_icmp .le 20, 3) := by decide +kernel
theorem d_MO_strictness_32 : decode (jy_c m_MO_strictness) 32 = .ok (.aload_n 0, 1) := by decide +kernel
theorem d_MO_strictness_33 : decode (jy_c m_MO_strictness) 33 = .ok (.getfield 17, 3) := by decide +kernel
theorem d_MO_strictness_36 : decode (jy_c m_MO_strictness) 36 = .ok (.aload_n 0, 1) := by decide +kernel
theorem d_MO_strictness_37 : decode (jy_c m_MO_strictness) 37 = .ok (.getfield 29, 3) := by decide +kernel
theorem d_MO_strictness_40 : decode (jy_c m_MO_strictness) 40 = .ok (.iload_n 2, 1) := by decide +kernel
theorem d_MO_strictness_41 : decode (jy_c m_MO_strictness) 41 = .ok (.iaload, 1) := by decide +kernel
theorem d_MO_strictness_42 : decode (jy_c m_MO_strictness) 42 = .ok (.bipush 43, 2) := by decide +kernel
theorem d_MO_strictness_44 : decode (jy_c m_MO_strictness) 44 = .ok (.imul, 1) := by decide +kernel
theorem d_MO_strictness_45 : decode (jy_c m_MO_strictness) 45 = .ok (.iconst 2, 1) := by decide +kernel
theorem d_MO_strictness_46 : decode (jy_c m_MO_strictness) 46 = .ok (.iadd, 1) := by decide +kernel
theorem d_MO_strictness_47 : decode (jy_c m_MO_strictness) 47 = .ok (.iaload, 1) := by decide +kernel
theorem d_MO_strictness_48 : decode (jy_c m_MO_strictness) 48 = .ok (.istore_n 1, 1) := by decide +kernel
theorem d_MO_strictness_49 : decode (jy_c m_MO_strictness) 49 = .ok (.iinc 2 1, 3) := by decide +kernel
theorem d_MO_strictness_52 : decode (jy_c m_MO_strictness) 52 = .ok (.goto (-48), 3) := by decide +kernel
theorem d_MO_strictness_55 : decode (jy_c m_MO_strictness) 55 = .ok (.iload_n 1, 1) := by decide +kernel
theorem d_MO_strictness_56 : decode (jy_c m_MO_strictness) 56 = .ok (.ireturn, 1) := by decide +kernel
theorem mo_strictness {G : jy_G} {h0 h : jy_P} {f : Nat → Int32} {a : Nat → Nat → Int32} {n : Nat} (hM : MS h0 h f a) (hn : f 12 = nI n) (h8 : n ≤ 8) (hI : ixOk a n) : ∀ (k p : Nat), n - p = k → p ≤ n → jy_J G 1 m_MO_strictness 4 [some (.ref 11), some (.int (sS a p)), some (.int (nI p))] [] h (pP h (some (.int (sS a n)))) := by
  intro k
  induction k with
  | zero =>
    intro p hk hp
    have : p = n := by omega
    subst this
    refine jr_iload_n d_MO_strictness_4 rfl rfl ?_
    refine jr_aload_n d_MO_strictness_5 rfl rfl ?_
    refine mr_get d_MO_strictness_6 f_MO_157 hM rfl ?_
    rw [hn]
    refine jr_icmp_ge (tgt := 55) d_MO_strictness_9 (by decide) (fun hc => ?_) (fun hc => absurd (nI_le (Nat.le_refl p) (by omega)) hc)
    refine jr_iload_n d_MO_strictness_55 rfl rfl ?_
    refine jr_ireturn d_MO_strictness_56 rfl rfl ?_
    exact ⟨rfl, rfl⟩
  | succ k ih =>
    intro p hk hp
    have hpn : p < n := by omega
    obtain ⟨i1, i2⟩ := hI p hpn
    have hih := ih (p + 1) (by omega) (by omega)
    refine jr_iload_n d_MO_strictness_4 rfl rfl ?_
    refine jr_aload_n d_MO_strictness_5 rfl rfl ?_
    refine mr_get d_MO_strictness_6 f_MO_157 hM rfl ?_
    rw [hn]
    refine jr_icmp_ge (tgt := 55) d_MO_strictness_9 (by decide) (fun hc => absurd hc (nI_ge hpn (by omega))) (fun hc => ?_)
    refine jr_aload_n d_MO_strictness_12 rfl rfl ?_
    refine mr_get d_MO_strictness_13 f_MO_17 hM rfl ?_
    refine jr_aload_n d_MO_strictness_16 rfl rfl ?_
    refine mr_get d_MO_strictness_17 f_MO_29 hM rfl ?_
    refine jr_iload_n d_MO_strictness_20 rfl rfl ?_
    refine mr_ald d_MO_strictness_21 hM (by decide) rfl (by show p < 8; omega) ?_
    refine jr_bipush (v := 43) d_MO_strictness_22 (by decide) ?_
    refine jr_imul d_MO_strictness_24 ?_
    refine jr_iconst (v := 2) d_MO_strictness_25 (by decide) ?_
    refine jr_iadd d_MO_strictness_26 ?_
    refine mr_ald d_MO_strictness_27 hM (by decide) (ix43 (iP a p) 2 i1 rfl) (by show 43 * iP a p + 2 < 559; omega) ?_
    refine jr_iload_n d_MO_strictness_28 rfl rfl ?_
    refine jr_icmp_le (tgt := 49) d_MO_strictness_29 (by decide) (fun hc2 => ?_) (fun hc2 => ?_)
    · refine jr_iinc1 d_MO_strictness_49 rfl (by decide) ?_
      refine jr_goto (tgt := 4) d_MO_strictness_52 (by decide) ?_
      rw [nI_1]
      have : sS a (p + 1) = sS a p := mx_l hc2
      rw [this] at hih
      exact hih
    · refine jr_aload_n d_MO_strictness_32 rfl rfl ?_
      refine mr_get d_MO_strictness_33 f_MO_17 hM rfl ?_
      refine jr_aload_n d_MO_strictness_36 rfl rfl ?_
      refine mr_get d_MO_strictness_37 f_MO_29 hM rfl ?_
      refine jr_iload_n d_MO_strictness_40 rfl rfl ?_
      refine mr_ald d_MO_strictness_41 hM (by decide) rfl (by show p < 8; omega) ?_
      refine jr_bipush (v := 43) d_MO_strictness_42 (by decide) ?_
      refine jr_imul d_MO_strictness_44 ?_
      refine jr_iconst (v := 2) d_MO_strictness_45 (by decide) ?_
      refine jr_iadd d_MO_strictness_46 ?_
      refine mr_ald d_MO_strictness_47 hM (by decide) (ix43 (iP a p) 2 i1 rfl) (by show 43 * iP a p + 2 < 559; omega) ?_
      refine jr_istore_n d_MO_strictness_48 rfl (by decide) ?_
      refine jr_iinc1 d_MO_strictness_49 rfl (by decide) ?_
      refine jr_goto (tgt := 4) d_MO_strictness_52 (by decide) ?_
      rw [nI_1]
      have : sS a (p + 1) = cl a p 2 := mx_r hc2
      rw [this] at hih
      exact hih
theorem c_MO_strictness {G : jy_G} {h : jy_P} {f : Nat → Int32} {a : Nat → Nat → Int32} {n : Nat} (hM : Mo h f a) (hn : f 12 = nI n) (h8 : n ≤ 8) (hI : ixOk a n) : jy_C G 1 m_MO_strictness [.ref 11] h (pP h (some (.int (sS a n)))) := by
  refine jy_C.of [some (.ref 11), none, none] rfl (Nat.le_of_ble_eq_true rfl) ?_
  refine jr_iconst (v := 0) d_MO_strictness_0 (by decide) ?_
  refine jr_istore_n d_MO_strictness_1 rfl (by decide) ?_
  refine jr_iconst (v := 0) d_MO_strictness_2 (by decide) ?_
  refine jr_istore_n d_MO_strictness_3 rfl (by decide) ?_
  exact mo_strictness (MS.rf hM) hn h8 hI n 0 (by omega) (by omega)
/-- the column of the distance that counts -/
def dcol (a : Nat → Nat → Int32) (dy : Bool) (p : Nat) : Nat := 4 + (if a 16 p ≤ 200 then 0 else 2) + (if dy then 0 else 1)
def dD (a : Nat → Nat → Int32) (dy : Bool) : Nat → Int32
  | 0 => 0
  | p + 1 => mx (dD a dy p) (cl a p (dcol a dy p))
theorem d_MO_distance_0 : decode (jy_c m_MO_distance) 0 = .ok (.iconst 0, 1) := by decide +kernel
theorem d_MO_distance_1 : decode (jy_c m_MO_distance) 1 = .ok (.istore_n 2, 1) := by decide +kernel
theorem d_MO_distance_2 : decode (jy_c m_MO_distance) 2 = .ok (.iconst 0, 1) := by decide +kernel
theorem d_MO_distance_3 : decode (jy_c m_MO_distance) 3 = .ok (.istore_n 3, 1) := by decide +kernel
theorem d_MO_distance_4 : decode (jy_c m_MO_distance) 4 = .ok (.iload_n 3, 1) := by decide +kernel
theorem d_MO_distance_5 : decode (jy_c m_MO_distance) 5 = .ok (.aload_n 0, 1) := by decide +kernel
theorem d_MO_distance_6 : decode (jy_c m_MO_distance) 6 = .ok (.getfield 157, 3) := by decide +kernel
theorem d_MO_distance_9 : decode (jy_c m_MO_distance) 9 = .ok (.if_icmp .ge 64, 3) := by decide +kernel
theorem d_MO_distance_12 : decode (jy_c m_MO_distance) 12 = .ok (.aload_n 0, 1) := by decide +kernel
theorem d_MO_distance_13 : decode (jy_c m_MO_distance) 13 = .ok (.getfield 17, 3) := by decide +kernel
theorem d_MO_distance_16 : decode (jy_c m_MO_distance) 16 = .ok (.aload_n 0, 1) := by decide +kernel
theorem d_MO_distance_17 : decode (jy_c m_MO_distance) 17 = .ok (.getfield 29, 3) := by decide +kernel
theorem d_MO_distance_20 : decode (jy_c m_MO_distance) 20 = .ok (.iload_n 3, 1) := by decide +kernel
theorem d_MO_distance_21 : decode (jy_c m_MO_distance) 21 = .ok (.iaload, 1) := by decide +kernel
theorem d_MO_distance_22 : decode (jy_c m_MO_distance) 22 = .ok (.bipush 43, 2) := by decide +kernel
theorem d_MO_distance_24 : decode (jy_c m_MO_distance) 24 = .ok (.imul, 1) := by decide +kernel
theorem d_MO_distance_25 : decode (jy_c m_MO_distance) 25 = .ok (.iconst 4, 1) := by decide +kernel
theorem d_MO_distance_26 : decode (jy_c m_MO_distance) 26 = .ok (.iadd, 1) := by decide +kernel
theorem d_MO_distance_27 : decode (jy_c m_MO_distance) 27 = .ok (.aload_n 0, 1) := by decide +kernel
theorem d_MO_distance_28 : decode (jy_c m_MO_distance) 28 = .ok (.getfield 26, 3) := by decide +kernel
theorem d_MO_distance_31 : decode (jy_c m_MO_distance) 31 = .ok (.iload_n 3, 1) := by decide +kernel
theorem d_MO_distance_32 : decode (jy_c m_MO_distance) 32 = .ok (.iaload, 1) := by decide +kernel
theorem d_MO_distance_33 : decode (jy_c m_MO_distance) 33 = .ok (.sipush 200, 3) := by decide +kernel
theorem d_MO_distance_36 : decode (jy_c m_MO_distance) 36 = .ok (.if_icmp .le 7, 3) := by decide +kernel
theorem d_MO_distance_39 : decode (jy_c m_MO_distance) 39 = .ok (.iconst 2, 1) := by decide +kernel
theorem d_MO_distance_40 : decode (jy_c m_MO_distance) 40 = .ok (.goto 4, 3) := by decide +kernel
theorem d_MO_distance_43 : decode (jy_c m_MO_distance) 43 = .ok (.iconst 0, 1) := by decide +kernel
theorem d_MO_distance_44 : decode (jy_c m_MO_distance) 44 = .ok (.iadd, 1) := by decide +kernel
theorem d_MO_distance_45 : decode (jy_c m_MO_distance) 45 = .ok (.iload_n 1, 1) := by decide +kernel
theorem d_MO_distance_46 : decode (jy_c m_MO_distance) 46 = .ok (.ifCond .eq 7, 3) := by decide +kernel
theorem d_MO_distance_49 : decode (jy_c m_MO_distance) 49 = .ok (.iconst 0, 1) := by decide +kernel
theorem d_MO_distance_50 : decode (jy_c m_MO_distance) 50 = .ok (.goto 4, 3) := by decide +kernel
theorem d_MO_distance_53 : decode (jy_c m_MO_distance) 53 = .ok (.iconst 1, 1) := by decide +kernel
theorem d_MO_distance_54 : decode (jy_c m_MO_distance) 54 = .ok (.iadd, 1) := by decide +kernel
theorem d_MO_distance_55 : decode (jy_c m_MO_distance) 55 = .ok (.iaload, 1) := by decide +kernel
theorem d_MO_distance_56 : decode (jy_c m_MO_distance) 56 = .ok (.istore 4, 2) := by decide +kernel
theorem d_MO_distance_58 : decode (jy_c m_MO_distance) 58 = .ok (.iload 4, 2) := by decide +kernel
theorem d_MO_distance_60 : decode (jy_c m_MO_distance) 60 = .ok (.iload_n 2, 1) := by decide +kernel
theorem d_MO_distance_61 : decode (jy_c m_MO_distance) 61 = .ok (.if_icmp .le 6, 3) := by decide +kernel
theorem d_MO_distance_64 : decode (jy_c m_MO_distance) 64 = .ok (.iload 4, 2) := by decide +kernel
theorem d_MO_distance_66 : decode (jy_c m_MO_distance) 66 = .ok (.istore_n 2, 1) := by decide +kernel
theorem d_MO_distance_67 : decode (jy_c m_MO_distance) 67 = .ok (.iinc 3 1, 3) := by decide +kernel
theorem d_MO_distance_70 : decode (jy_c m_MO_distance) 70 = .ok (.goto (-66), 3) := by decide +kernel
theorem d_MO_distance_73 : decode (jy_c m_MO_distance) 73 = .ok (.iload_n 2, 1) := by decide +kernel
theorem d_MO_distance_74 : decode (jy_c m_MO_distance) 74 = .ok (.ireturn, 1) := by decide +kernel
theorem mo_distance {G : jy_G} {h0 h : jy_P} {f : Nat → Int32} {a : Nat → Nat → Int32} {n : Nat} {dy : Bool} (hM : MS h0 h f a) (hn : f 12 = nI n) (h8 : n ≤ 8) (hI : ixOk a n) : ∀ (k p : Nat) (l4 : Option Value), n - p = k → p ≤ n → jy_J G 1 m_MO_distance 4 [some (.ref 11), some (.int (bI dy)), some (.int (dD a dy p)), some (.int (nI p)), l4] [] h (pP h (some (.int (dD a dy n)))) := by
  intro k
  induction k with
  | zero =>
    intro p l4 hk hp
    have : p = n := by omega
    subst this
    refine jr_iload_n d_MO_distance_4 rfl rfl ?_
    refine jr_aload_n d_MO_distance_5 rfl rfl ?_
    refine mr_get d_MO_distance_6 f_MO_157 hM rfl ?_
    rw [hn]
    refine jr_icmp_ge (tgt := 73) d_MO_distance_9 (by decide) (fun hc => ?_) (fun hc => absurd (nI_le (Nat.le_refl p) (by omega)) hc)
    refine jr_iload_n d_MO_distance_73 rfl rfl ?_
    refine jr_ireturn d_MO_distance_74 rfl rfl ?_
    exact ⟨rfl, rfl⟩
  | succ k ih =>
    intro p l4 hk hp
    have hpn : p < n := by omega
    obtain ⟨i1, i2⟩ := hI p hpn
    refine jr_iload_n d_MO_distance_4 rfl rfl ?_
    refine jr_aload_n d_MO_distance_5 rfl rfl ?_
    refine mr_get d_MO_distance_6 f_MO_157 hM rfl ?_
    rw [hn]
    refine jr_icmp_ge (tgt := 73) d_MO_distance_9 (by decide) (fun hc => absurd hc (nI_ge hpn (by omega))) (fun hc => ?_)
    refine jr_aload_n d_MO_distance_12 rfl rfl ?_
    refine mr_get d_MO_distance_13 f_MO_17 hM rfl ?_
    refine jr_aload_n d_MO_distance_16 rfl rfl ?_
    refine mr_get d_MO_distance_17 f_MO_29 hM rfl ?_
    refine jr_iload_n d_MO_distance_20 rfl rfl ?_
    refine mr_ald d_MO_distance_21 hM (by decide) rfl (by show p < 8; omega) ?_
    refine jr_bipush (v := 43) d_MO_distance_22 (by decide) ?_
    refine jr_imul d_MO_distance_24 ?_
    refine jr_iconst (v := 4) d_MO_distance_25 (by decide) ?_
    refine jr_iadd d_MO_distance_26 ?_
    refine jr_aload_n d_MO_distance_27 rfl rfl ?_
    refine mr_get d_MO_distance_28 f_MO_26 hM rfl ?_
    refine jr_iload_n d_MO_distance_31 rfl rfl ?_
    refine mr_ald d_MO_distance_32 hM (by decide) rfl (by show p < 8; omega) ?_
    refine jr_sipush (v := 200) d_MO_distance_33 (by decide) ?_
    refine jy_cut2 44 (fun z => z = nI (if a 16 p ≤ 200 then 0 else 2)) (fun K => ?_) (fun z hz => ?_)
    · refine jr_icmp_le (tgt := 43) d_MO_distance_36 (by decide) (fun hc2 => ?_) (fun hc2 => ?_)
      · refine jr_iconst (v := 0) d_MO_distance_43 (by decide) ?_
        exact K _ (by rw [if_pos hc2]; rfl)
      · refine jr_iconst (v := 2) d_MO_distance_39 (by decide) ?_
        refine jr_goto (tgt := 44) d_MO_distance_40 (by decide) ?_
        exact K _ (by rw [if_neg hc2]; rfl)
    refine jr_iadd d_MO_distance_44 ?_
    refine jr_iload_n d_MO_distance_45 rfl rfl ?_
    refine jy_cut1 54 (fun z => z = nI (if dy then 0 else 1)) (fun K => ?_) (fun y hy => ?_)
    · refine jr_if_eq (tgt := 53) d_MO_distance_46 (by decide) (fun hc2 => ?_) (fun hc2 => ?_)
      · refine jr_iconst (v := 1) d_MO_distance_53 (by decide) ?_
        exact K _ (by rw [bI_eq0.mp hc2]; rfl)
      · refine jr_iconst (v := 0) d_MO_distance_49 (by decide) ?_
        refine jr_goto (tgt := 54) d_MO_distance_50 (by decide) ?_
        exact K _ (by rw [bI_ne0.mp hc2]; rfl)
    have e0 : a 17 p * 43 + 4 + z + y = nI (43 * iP a p + dcol a dy p) := by
      rw [show a 17 p * 43 + 4 = nI (43 * iP a p + 4) from ix43 (iP a p) 4 i1 rfl, hz, hy, nI_add, nI_add]
      unfold dcol
      simp only [Nat.add_assoc]
    have e1 : 43 * iP a p + dcol a dy p < 559 := by
      unfold dcol
      split <;> split <;> omega
    refine jr_iadd d_MO_distance_54 ?_
    refine mr_ald d_MO_distance_55 hM (by decide) e0 e1 ?_
    refine jr_istore d_MO_distance_56 (by decide) ?_
    refine jr_iload d_MO_distance_58 rfl ?_
    refine jr_iload_n d_MO_distance_60 rfl rfl ?_
    have hih := fun l4 => ih (p + 1) l4 (by omega) (by omega)
    refine jr_icmp_le (tgt := 67) d_MO_distance_61 (by decide) (fun hc2 => ?_) (fun hc2 => ?_)
    · refine jr_iinc1 d_MO_distance_67 rfl (by decide) ?_
      refine jr_goto (tgt := 4) d_MO_distance_70 (by decide) ?_
      rw [nI_1]
      have : dD a dy (p + 1) = dD a dy p := mx_l hc2
      rw [this] at hih
      exact hih _
    · refine jr_iload d_MO_distance_64 rfl ?_
      refine jr_istore_n d_MO_distance_66 rfl (by decide) ?_
      refine jr_iinc1 d_MO_distance_67 rfl (by decide) ?_
      refine jr_goto (tgt := 4) d_MO_distance_70 (by decide) ?_
      rw [nI_1]
      have : dD a dy (p + 1) = cl a p (dcol a dy p) := mx_r hc2
      rw [this] at hih
      exact hih _
theorem c_MO_distance {G : jy_G} {h : jy_P} {f : Nat → Int32} {a : Nat → Nat → Int32} {n : Nat} (hM : Mo h f a) (hn : f 12 = nI n) (h8 : n ≤ 8) (hI : ixOk a n) (dy : Bool) : jy_C G 1 m_MO_distance [.ref 11, .int (bI dy)] h (pP h (some (.int (dD a dy n)))) := by
  refine jy_C.of [some (.ref 11), some (.int (bI dy)), none, none, none] rfl (Nat.le_of_ble_eq_true rfl) ?_
  refine jr_iconst (v := 0) d_MO_distance_0 (by decide) ?_
  refine jr_istore_n d_MO_distance_1 rfl (by decide) ?_
  refine jr_iconst (v := 0) d_MO_distance_2 (by decide) ?_
  refine jr_istore_n d_MO_distance_3 rfl (by decide) ?_
  exact mo_distance (MS.rf hM) hn h8 hI n 0 none (by omega) (by omega)
/-- p's row bars q's class -/
def brs (a : Nat → Nat → Int32) (p q : Nat) : Bool := decide ((cl a p 8 >>> (cl a q 1 &&& 31)) &&& 1 = 1)
def ctr (a : Nat → Nat → Int32) (p q : Nat) : Bool := brs a p q || brs a q p
theorem d_MO_contradict_0 : decode (jy_c m_MO_contradict) 0 = .ok (.aload_n 0, 1) := by decide +kernel
theorem d_MO_contradict_1 : decode (jy_c m_MO_contradict) 1 = .ok (.getfield 29, 3) := by decide +kernel
theorem d_MO_contradict_4 : decode (jy_c m_MO_contradict) 4 = .ok (.iload_n 1, 1) := by decide +kernel
theorem d_MO_contradict_5 : decode (jy_c m_MO_contradict) 5 = .ok (.iaload, 1) := by decide +kernel
theorem d_MO_contradict_6 : decode (jy_c m_MO_contradict) 6 = .ok (.bipush 43, 2) := by decide +kernel
theorem d_MO_contradict_8 : decode (jy_c m_MO_contradict) 8 = .ok (.imul, 1) := by decide +kernel
theorem d_MO_contradict_9 : decode (jy_c m_MO_contradict) 9 = .ok (.istore_n 3, 1) := by decide +kernel
theorem d_MO_contradict_10 : decode (jy_c m_MO_contradict) 10 = .ok (.aload_n 0, 1) := by decide +kernel
theorem d_MO_contradict_11 : decode (jy_c m_MO_contradict) 11 = .ok (.getfield 29, 3) := by decide +kernel
theorem d_MO_contradict_14 : decode (jy_c m_MO_contradict) 14 = .ok (.iload_n 2, 1) := by decide +kernel
theorem d_MO_contradict_15 : decode (jy_c m_MO_contradict) 15 = .ok (.iaload, 1) := by decide +kernel
theorem d_MO_contradict_16 : decode (jy_c m_MO_contradict) 16 = .ok (.bipush 43, 2) := by decide +kernel
theorem d_MO_contradict_18 : decode (jy_c m_MO_contradict) 18 = .ok (.imul, 1) := by decide +kernel
theorem d_MO_contradict_19 : decode (jy_c m_MO_contradict) 19 = .ok (.istore 4, 2) := by decide +kernel
theorem d_MO_contradict_21 : decode (jy_c m_MO_contradict) 21 = .ok (.aload_n 0, 1) := by decide +kernel
theorem d_MO_contradict_22 : decode (jy_c m_MO_contradict) 22 = .ok (.getfield 17, 3) := by decide +kernel
theorem d_MO_contradict_25 : decode (jy_c m_MO_contradict) 25 = .ok (.iload_n 3, 1) := by decide +kernel
theorem d_MO_contradict_26 : decode (jy_c m_MO_contradict) 26 = .ok (.bipush 8, 2) := by decide +kernel
theorem d_MO_contradict_28 : decode (jy_c m_MO_contradict) 28 = .ok (.iadd, 1) := by decide +kernel
theorem d_MO_contradict_29 : decode (jy_c m_MO_contradict) 29 = .ok (.iaload, 1) := by decide +kernel
theorem d_MO_contradict_30 : decode (jy_c m_MO_contradict) 30 = .ok (.aload_n 0, 1) := by decide +kernel
theorem d_MO_contradict_31 : decode (jy_c m_MO_contradict) 31 = .ok (.getfield 17, 3) := by decide +kernel
theorem d_MO_contradict_34 : decode (jy_c m_MO_contradict) 34 = .ok (.iload 4, 2) := by decide +kernel
theorem d_MO_contradict_36 : decode (jy_c m_MO_contradict) 36 = .ok (.iconst 1, 1) := by decide +kernel
theorem d_MO_contradict_37 : decode (jy_c m_MO_contradict) 37 = .ok (.iadd, 1) := by decide +kernel
theorem d_MO_contradict_38 : decode (jy_c m_MO_contradict) 38 = .ok (.iaload, 1) := by decide +kernel
theorem d_MO_contradict_39 : decode (jy_c m_MO_contradict) 39 = .ok (.ishr, 1) := by decide +kernel
theorem d_MO_contradict_40 : decode (jy_c m_MO_contradict) 40 = .ok (.iconst 1, 1) := by decide +kernel
theorem d_MO_contradict_41 : decode (jy_c m_MO_contradict) 41 = .ok (.iand, 1) := by decide +kernel
theorem d_MO_contradict_42 : decode (jy_c m_MO_contradict) 42 = .ok (.iconst 1, 1) := by decide +kernel
theorem d_MO_contradict_43 : decode (jy_c m_MO_contradict) 43 = .ok (.if_icmp .eq 28, 3) := by decide +kernel
theorem d_MO_contradict_46 : decode (jy_c m_MO_contradict) 46 = .ok (.aload_n 0, 1) := by decide +kernel
theorem d_MO_contradict_47 : decode (jy_c m_MO_contradict) 47 = .ok (.getfield 17, 3) := by decide +kernel
theorem d_MO_contradict_50 : decode (jy_c m_MO_contradict) 50 = .ok (.iload 4, 2) := by decide +kernel
theorem d_MO_contradict_52 : decode (jy_c m_MO_contradict) 52 = .ok (.bipush 8, 2) := by decide +kernel
theorem d_MO_contradict_54 : decode (jy_c m_MO_contradict) 54 = .ok (.iadd, 1) := by decide +kernel
theorem d_MO_contradict_55 : decode (jy_c m_MO_contradict) 55 = .ok (.iaload, 1) := by decide +kernel
theorem d_MO_contradict_56 : decode (jy_c m_MO_contradict) 56 = .ok (.aload_n 0, 1) := by decide +kernel
theorem d_MO_contradict_57 : decode (jy_c m_MO_contradict) 57 = .ok (.getfield 17, 3) := by decide +kernel
theorem d_MO_contradict_60 : decode (jy_c m_MO_contradict) 60 = .ok (.iload_n 3, 1) := by decide +kernel
theorem d_MO_contradict_61 : decode (jy_c m_MO_contradict) 61 = .ok (.iconst 1, 1) := by decide +kernel
theorem d_MO_contradict_62 : decode (jy_c m_MO_contradict) 62 = .ok (.iadd, 1) := by decide +kernel
theorem d_MO_contradict_63 : decode (jy_c m_MO_contradict) 63 = .ok (.iaload, 1) := by decide +kernel
theorem d_MO_contradict_64 : decode (jy_c m_MO_contradict) 64 = .ok (.ishr, 1) := by decide +kernel
theorem d_MO_contradict_65 : decode (jy_c m_MO_contradict) 65 = .ok (.iconst 1, 1) := by decide +kernel
theorem d_MO_contradict_66 : decode (jy_c m_MO_contradict) 66 = .ok (.iand, 1) := by decide +kernel
theorem d_MO_contradict_67 : decode (jy_c m_MO_contradict) 67 = .ok (.iconst 1, 1) := by decide +kernel
theorem d_MO_contradict_68 : decode (jy_c m_MO_contradict) 68 = .ok (.if_icmp .ne 7, 3) := by decide +kernel
theorem d_MO_contradict_71 : decode (jy_c m_MO_contradict) 71 = .ok (.iconst 1, 1) := by decide +kernel
theorem d_MO_contradict_72 : decode (jy_c m_MO_contradict) 72 = .ok (.goto 4, 3) := by decide +kernel
theorem d_MO_contradict_75 : decode (jy_c m_MO_contradict) 75 = .ok (.iconst 0, 1) := by decide +kernel
theorem d_MO_contradict_76 : decode (jy_c m_MO_contradict) 76 = .ok (.ireturn, 1) := by decide +kernel
theorem c_MO_contradict {G : jy_G} {h : jy_P} {f : Nat → Int32} {a : Nat → Nat → Int32} {n p q : Nat} (hM : Mo h f a) (h8 : n ≤ 8) (hI : ixOk a n) (hp : p < n) (hq : q < n) : jy_C G 1 m_MO_contradict [.ref 11, .int (nI p), .int (nI q)] h (pP h (some (.int (bI (ctr a p q))))) := by
  refine jy_C.of [some (.ref 11), some (.int (nI p)), some (.int (nI q)), none, none] rfl (Nat.le_of_ble_eq_true rfl) ?_
  have hM := MS.rf hM
  obtain ⟨i1, i2⟩ := hI p hp
  obtain ⟨j1, j2⟩ := hI q hq
  refine jr_aload_n d_MO_contradict_0 rfl rfl ?_
  refine mr_get d_MO_contradict_1 f_MO_29 hM rfl ?_
  refine jr_iload_n d_MO_contradict_4 rfl rfl ?_
  refine mr_ald d_MO_contradict_5 hM (by decide) rfl (by show p < 8; omega) ?_
  refine jr_bipush (v := 43) d_MO_contradict_6 (by decide) ?_
  refine jr_imul d_MO_contradict_8 ?_
  refine jr_istore_n d_MO_contradict_9 rfl (by decide) ?_
  refine jr_aload_n d_MO_contradict_10 rfl rfl ?_
  refine mr_get d_MO_contradict_11 f_MO_29 hM rfl ?_
  refine jr_iload_n d_MO_contradict_14 rfl rfl ?_
  refine mr_ald d_MO_contradict_15 hM (by decide) rfl (by show q < 8; omega) ?_
  refine jr_bipush (v := 43) d_MO_contradict_16 (by decide) ?_
  refine jr_imul d_MO_contradict_18 ?_
  refine jr_istore d_MO_contradict_19 (by decide) ?_
  refine jr_aload_n d_MO_contradict_21 rfl rfl ?_
  refine mr_get d_MO_contradict_22 f_MO_17 hM rfl ?_
  refine jr_iload_n d_MO_contradict_25 rfl rfl ?_
  refine jr_bipush (v := 8) d_MO_contradict_26 (by decide) ?_
  refine jr_iadd d_MO_contradict_28 ?_
  refine mr_ald d_MO_contradict_29 hM (by decide) (ix43 (iP a p) 8 i1 rfl) (by show 43 * iP a p + 8 < 559; omega) ?_
  refine jr_aload_n d_MO_contradict_30 rfl rfl ?_
  refine mr_get d_MO_contradict_31 f_MO_17 hM rfl ?_
  refine jr_iload d_MO_contradict_34 rfl ?_
  refine jr_iconst (v := 1) d_MO_contradict_36 (by decide) ?_
  refine jr_iadd d_MO_contradict_37 ?_
  refine mr_ald d_MO_contradict_38 hM (by decide) (ix43 (iP a q) 1 j1 rfl) (by show 43 * iP a q + 1 < 559; omega) ?_
  refine jr_ishr d_MO_contradict_39 ?_
  refine jr_iconst (v := 1) d_MO_contradict_40 (by decide) ?_
  refine jr_iand d_MO_contradict_41 ?_
  refine jr_iconst (v := 1) d_MO_contradict_42 (by decide) ?_
  refine jr_icmp_eq (tgt := 71) d_MO_contradict_43 (by decide) (fun hc => ?_) (fun hc => ?_)
  · refine jr_iconst (v := 1) d_MO_contradict_71 (by decide) ?_
    refine jr_goto (tgt := 76) d_MO_contradict_72 (by decide) ?_
    refine jr_ireturn d_MO_contradict_76 rfl rfl ?_
    refine ⟨?_, rfl⟩
    have : ctr a p q = true := by simp [ctr, brs, cl, hc]
    rw [this]; rfl
  · refine jr_aload_n d_MO_contradict_46 rfl rfl ?_
    refine mr_get d_MO_contradict_47 f_MO_17 hM rfl ?_
    refine jr_iload d_MO_contradict_50 rfl ?_
    refine jr_bipush (v := 8) d_MO_contradict_52 (by decide) ?_
    refine jr_iadd d_MO_contradict_54 ?_
    refine mr_ald d_MO_contradict_55 hM (by decide) (ix43 (iP a q) 8 j1 rfl) (by show 43 * iP a q + 8 < 559; omega) ?_
    refine jr_aload_n d_MO_contradict_56 rfl rfl ?_
    refine mr_get d_MO_contradict_57 f_MO_17 hM rfl ?_
    refine jr_iload_n d_MO_contradict_60 rfl rfl ?_
    refine jr_iconst (v := 1) d_MO_contradict_61 (by decide) ?_
    refine jr_iadd d_MO_contradict_62 ?_
    refine mr_ald d_MO_contradict_63 hM (by decide) (ix43 (iP a p) 1 i1 rfl) (by show 43 * iP a p + 1 < 559; omega) ?_
    refine jr_ishr d_MO_contradict_64 ?_
    refine jr_iconst (v := 1) d_MO_contradict_65 (by decide) ?_
    refine jr_iand d_MO_contradict_66 ?_
    refine jr_iconst (v := 1) d_MO_contradict_67 (by decide) ?_
    refine jr_icmp_ne (tgt := 75) d_MO_contradict_68 (by decide) (fun hc2 => ?_) (fun hc2 => ?_)
    · refine jr_iconst (v := 0) d_MO_contradict_75 (by decide) ?_
      refine jr_ireturn d_MO_contradict_76 rfl rfl ?_
      refine ⟨?_, rfl⟩
      have : ctr a p q = false := by simp [ctr, brs, cl, hc, hc2]
      rw [this]; rfl
    · refine jr_iconst (v := 1) d_MO_contradict_71 (by decide) ?_
      refine jr_goto (tgt := 76) d_MO_contradict_72 (by decide) ?_
      refine jr_ireturn d_MO_contradict_76 rfl rfl ?_
      refine ⟨?_, rfl⟩
      have : ctr a p q = true := by simp [ctr, brs, cl, hc2]
      rw [this]; rfl
