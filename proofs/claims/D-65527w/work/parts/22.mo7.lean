/-! the reference: nearest, following, say, near -/
theorem ix43z {x : Int32} (k : Nat) (hx : x = nI k) : x * 43 = nI (43 * k) := by
  subst hx
  show nI k * nI 43 = _
  rw [pk_mul, Nat.mul_comm]
def nu (R : Nat → Int32) (k : Nat) : Nat := (R (43 * k)).toNatClampNeg
def my (R : Nat → Int32) (k : Nat) : Nat := (R (43 * k + 9)).toNatClampNeg
def ln (R : Nat → Int32) (k i : Nat) : Nat := (R (43 * k + 10 + 11 * i)).toNatClampNeg
def rOk (R : Nat → Int32) (k : Nat) : Prop := R (43 * k) = nI (nu R k) ∧ 1 ≤ nu R k ∧ nu R k ≤ 9999 ∧ R (43 * k + 9) = nI (my R k) ∧ 1 ≤ my R k ∧ my R k ≤ 3 ∧ ∀ i, i < my R k → R (43 * k + 10 + 11 * i) = nI (ln R k i) ∧ 1 ≤ ln R k i ∧ ln R k i ≤ 10
def tOk (R : Nat → Int32) (m : Nat) : Prop := ∀ k, k < m → rOk R k
def lvN (a : Nat → Nat → Int32) (s k i : Nat) : Nat := lev (a 23) (fun j => a 13 (43 * k + 10 + 11 * i + 1 + j)) s (ln (a 13) k i)
def nrs (a : Nat → Nat → Int32) (s k : Nat) : Nat → Nat
  | 0 => 99
  | i + 1 => min (nrs a s k i) (lvN a s k i)
theorem nrs_le {a : Nat → Nat → Int32} {s k : Nat} : ∀ i, nrs a s k i ≤ 99 := by
  intro i
  induction i with
  | zero => exact Nat.le_refl _
  | succ i ih => rw [nrs]; omega
theorem d_MO_nearest_0 : decode (jy_c m_MO_nearest) 0 = .ok (.bipush 99, 2) := by decide +kernel
theorem d_MO_nearest_2 : decode (jy_c m_MO_nearest) 2 = .ok (.istore_n 2, 1) := by decide +kernel
theorem d_MO_nearest_3 : decode (jy_c m_MO_nearest) 3 = .ok (.iconst 0, 1) := by decide +kernel
theorem d_MO_nearest_4 : decode (jy_c m_MO_nearest) 4 = .ok (.istore_n 3, 1) := by decide +kernel
theorem d_MO_nearest_5 : decode (jy_c m_MO_nearest) 5 = .ok (.iload_n 3, 1) := by decide +kernel
theorem d_MO_nearest_6 : decode (jy_c m_MO_nearest) 6 = .ok (.aload_n 0, 1) := by decide +kernel
theorem d_MO_nearest_7 : decode (jy_c m_MO_nearest) 7 = .ok (.getfield 17, 3) := by decide +kernel
theorem d_MO_nearest_10 : decode (jy_c m_MO_nearest) 10 = .ok (.iload_n 1, 1) := by decide +kernel
theorem d_MO_nearest_11 : decode (jy_c m_MO_nearest) 11 = .ok (.bipush 43, 2) := by decide +kernel
theorem d_MO_nearest_13 : decode (jy_c m_MO_nearest) 13 = .ok (.imul, 1) := by decide +kernel
theorem d_MO_nearest_14 : decode (jy_c m_MO_nearest) 14 = .ok (.bipush 9, 2) := by decide +kernel
theorem d_MO_nearest_16 : decode (jy_c m_MO_nearest) 16 = .ok (.iadd, 1) := by decide +kernel
theorem d_MO_nearest_17 : decode (jy_c m_MO_nearest) 17 = .ok (.iaload, 1) := by decide +kernel
theorem d_MO_nearest_18 : decode (jy_c m_MO_nearest) 18 = .ok (.if_icmp .ge 30, 3) := by decide +kernel
theorem d_MO_nearest_21 : decode (jy_c m_MO_nearest) 21 = .ok (.iload_n 2, 1) := by decide +kernel
theorem d_MO_nearest_22 : decode (jy_c m_MO_nearest) 22 = .ok (.aload_n 0, 1) := by decide +kernel
theorem d_MO_nearest_23 : decode (jy_c m_MO_nearest) 23 = .ok (.iload_n 1, 1) := by decide +kernel
theorem d_MO_nearest_24 : decode (jy_c m_MO_nearest) 24 = .ok (.bipush 43, 2) := by decide +kernel
theorem d_MO_nearest_26 : decode (jy_c m_MO_nearest) 26 = .ok (.imul, 1) := by decide +kernel
theorem d_MO_nearest_27 : decode (jy_c m_MO_nearest) 27 = .ok (.bipush 10, 2) := by decide +kernel
theorem d_MO_nearest_29 : decode (jy_c m_MO_nearest) 29 = .ok (.iadd, 1) := by decide +kernel
theorem d_MO_nearest_30 : decode (jy_c m_MO_nearest) 30 = .ok (.bipush 11, 2) := by decide +kernel
theorem d_MO_nearest_32 : decode (jy_c m_MO_nearest) 32 = .ok (.iload_n 3, 1) := by decide +kernel
theorem d_MO_nearest_33 : decode (jy_c m_MO_nearest) 33 = .ok (.imul, 1) := by decide +kernel
theorem d_MO_nearest_34 : decode (jy_c m_MO_nearest) 34 = .ok (.iadd, 1) := by decide +kernel
theorem d_MO_nearest_35 : decode (jy_c m_MO_nearest) 35 = .ok (.invokevirtual 147, 3) := by decide +kernel
theorem d_MO_nearest_38 : decode (jy_c m_MO_nearest) 38 = .ok (.invokestatic 144, 3) := by decide +kernel
theorem d_MO_nearest_41 : decode (jy_c m_MO_nearest) 41 = .ok (.istore_n 2, 1) := by decide +kernel
theorem d_MO_nearest_42 : decode (jy_c m_MO_nearest) 42 = .ok (.iinc 3 1, 3) := by decide +kernel
theorem d_MO_nearest_45 : decode (jy_c m_MO_nearest) 45 = .ok (.goto (-40), 3) := by decide +kernel
theorem d_MO_nearest_48 : decode (jy_c m_MO_nearest) 48 = .ok (.iload_n 2, 1) := by decide +kernel
theorem d_MO_nearest_49 : decode (jy_c m_MO_nearest) 49 = .ok (.ireturn, 1) := by decide +kernel
theorem mo_nearest {G : jy_G} {h0 : jy_P} {f : Nat → Int32} {a : Nat → Nat → Int32} {s k : Nat} (hk : k < 12) (hR : rOk (a 13) k) (hs : s ≤ 8) (hf : f 27 = nI s) : ∀ i, i ≤ my (a 13) k → ∀ h T, MS h0 h f (at24 a T) → jy_J G 3 m_MO_nearest 5 [some (.ref 11), some (.int (nI k)), some (.int (nI (nrs a s k i))), some (.int (nI i))] [] h (aP h0 (some (.int (nI (nrs a s k (my (a 13) k))))) f a) := by
  obtain ⟨r1, r2, r3, r4, r5, r6, r7⟩ := hR
  refine jl_up _ _ (fun h T hM => ?_) (fun i hi ih h T hM => ?_)
  · refine jr_iload_n d_MO_nearest_5 rfl rfl ?_
    refine jr_aload_n d_MO_nearest_6 rfl rfl ?_
    refine mr_get d_MO_nearest_7 f_MO_17 hM rfl ?_
    refine jr_iload_n d_MO_nearest_10 rfl rfl ?_
    refine jr_bipush (v := 43) d_MO_nearest_11 (by decide) ?_
    refine jr_imul d_MO_nearest_13 ?_
    refine jr_bipush (v := 9) d_MO_nearest_14 (by decide) ?_
    refine jr_iadd d_MO_nearest_16 ?_
    refine mr_ald d_MO_nearest_17 hM (by decide) (ix43 k 9 rfl rfl) (by show 43 * k + 9 < 559; omega) ?_
    rw [at24_n (B := 13) (by decide), r4]
    refine jr_icmp_ge (tgt := 48) d_MO_nearest_18 (by decide) (fun _ => ?_) (jl_eq (by omega))
    refine jr_iload_n d_MO_nearest_48 rfl rfl ?_
    refine jr_ireturn d_MO_nearest_49 rfl rfl ?_
    exact ⟨rfl, T, hM⟩
  · obtain ⟨n1, n2, n3⟩ := r7 i hi
    refine jr_iload_n d_MO_nearest_5 rfl rfl ?_
    refine jr_aload_n d_MO_nearest_6 rfl rfl ?_
    refine mr_get d_MO_nearest_7 f_MO_17 hM rfl ?_
    refine jr_iload_n d_MO_nearest_10 rfl rfl ?_
    refine jr_bipush (v := 43) d_MO_nearest_11 (by decide) ?_
    refine jr_imul d_MO_nearest_13 ?_
    refine jr_bipush (v := 9) d_MO_nearest_14 (by decide) ?_
    refine jr_iadd d_MO_nearest_16 ?_
    refine mr_ald d_MO_nearest_17 hM (by decide) (ix43 k 9 rfl rfl) (by show 43 * k + 9 < 559; omega) ?_
    rw [at24_n (B := 13) (by decide), r4]
    refine jr_icmp_ge (tgt := 48) d_MO_nearest_18 (by decide) (jl_lt (by omega) hi) (fun _ => ?_)
    refine jr_iload_n d_MO_nearest_21 rfl rfl ?_
    refine jr_aload_n d_MO_nearest_22 rfl rfl ?_
    refine jr_iload_n d_MO_nearest_23 rfl rfl ?_
    refine jr_bipush (v := 43) d_MO_nearest_24 (by decide) ?_
    refine jr_imul d_MO_nearest_26 ?_
    refine jr_bipush (v := 10) d_MO_nearest_27 (by decide) ?_
    refine jr_iadd d_MO_nearest_29 ?_
    refine jr_bipush (v := 11) d_MO_nearest_30 (by decide) ?_
    refine jr_iload_n d_MO_nearest_32 rfl rfl ?_
    refine jr_imul d_MO_nearest_33 ?_
    refine jr_iadd d_MO_nearest_34 ?_
    have e1 : nI k * 43 + 10 + 11 * nI i = nI (43 * k + 10 + 11 * i) := by
      rw [show nI k * 43 + 10 = nI (43 * k + 10) from ix43 k 10 rfl rfl, show (11 : Int32) = nI 11 from rfl, pk_mul, nI_add]
    rw [e1]
    refine mr_callA1 d_MO_nearest_35 i_MO_147 hM (Nat.le_of_ble_eq_true rfl) (by decide) (c_MO_apart (a := a) (n := ln (a 13) k i) hM.1 (by omega) n3 n1 hs hf) (fun h T hM => ?_)
    refine jr_callSp2 d_MO_nearest_38 i_MO_144 (Nat.le_of_ble_eq_true rfl) (by decide) (c_MO_least _ _) ?_
    have b1 := lev_le (u := a 23) (v := fun j => a 13 (43 * k + 10 + 11 * i + 1 + j)) s (ln (a 13) k i)
    have b2 := nrs_le (a := a) (s := s) (k := k) i
    rw [mn_nI (by omega) (by omega)]
    refine jr_istore_n d_MO_nearest_41 rfl (by decide) ?_
    refine jr_iinc1 d_MO_nearest_42 rfl (by decide) ?_
    refine jr_goto (tgt := 5) d_MO_nearest_45 (by decide) ?_
    rw [nI_1]
    exact ih h T hM
theorem c_MO_nearest {G : jy_G} {h0 : jy_P} {f : Nat → Int32} {a : Nat → Nat → Int32} {T : Nat → Int32} {k s : Nat} (hM : Mo h0 f (at24 a T)) (hk : k < 12) (hR : rOk (a 13) k) (hs : s ≤ 8) (hf : f 27 = nI s) : jy_C G 3 m_MO_nearest [.ref 11, .int (nI k)] h0 (aP h0 (some (.int (nI (nrs a s k (my (a 13) k))))) f a) := by
  refine jy_C.of [some (.ref 11), some (.int (nI k)), none, none] rfl (Nat.le_of_ble_eq_true rfl) ?_
  have hM := MS.rf hM
  refine jr_bipush (v := 99) d_MO_nearest_0 (by decide) ?_
  refine jr_istore_n d_MO_nearest_2 rfl (by decide) ?_
  refine jr_iconst (v := 0) d_MO_nearest_3 (by decide) ?_
  refine jr_istore_n d_MO_nearest_4 rfl (by decide) ?_
  exact mo_nearest hk hR hs hf 0 (Nat.zero_le _) h0 T hM
def ky (a : Nat → Nat → Int32) (s k : Nat) : Nat := nrs a s k (my (a 13) k) * 10000 + nu (a 13) k
theorem ky_lt {a : Nat → Nat → Int32} {s k : Nat} (hR : rOk (a 13) k) : ky a s k < 1000000 := by
  have := nrs_le (a := a) (s := s) (k := k) (my (a 13) k)
  have := hR.2.2.1
  unfold ky
  omega
theorem ky_nI {a : Nat → Nat → Int32} {s k : Nat} (hR : rOk (a 13) k) : nI (nrs a s k (my (a 13) k)) * 10000 + a 13 (43 * k) = nI (ky a s k) := by
  rw [hR.1, show (10000 : Int32) = nI 10000 from rfl, pk_mul, nI_add]; rfl
def bh (a : Nat → Nat → Int32) (s : Nat) : Option Nat → Nat → Bool
  | none, _ => true
  | some l, k => decide (ky a s l < ky a s k)
def nw (a : Nat → Nat → Int32) (s : Nat) : Option Nat → Nat → Bool
  | none, _ => true
  | some b, k => decide (ky a s k < ky a s b)
def fol (a : Nat → Nat → Int32) (s : Nat) (o : Option Nat) : Nat → Option Nat
  | 0 => none
  | k + 1 => if (bh a s o k && nw a s (fol a s o k) k) = true then some k else fol a s o k
theorem fol_lt {a : Nat → Nat → Int32} {s : Nat} {o : Option Nat} : ∀ m b, fol a s o m = some b → b < m := by
  intro m
  induction m with
  | zero => intro b h; cases h
  | succ m ih =>
    intro b h
    unfold fol at h
    split at h
    · cases h; omega
    · have := ih b h
      omega
theorem fol_some {a : Nat → Nat → Int32} {s : Nat} : ∀ m, 0 < m → (fol a s none m).isSome = true := by
  intro m
  induction m with
  | zero => intro h; omega
  | succ m ih =>
    intro _
    unfold fol
    split
    · rfl
    · rename_i hq
      cases m with
      | zero => exact absurd rfl hq
      | succ m => exact ih (by omega)
theorem d_MO_following_0 : decode (jy_c m_MO_following) 0 = .ok (.iconst (-1), 1) := by decide +kernel
theorem d_MO_following_1 : decode (jy_c m_MO_following) 1 = .ok (.istore_n 2, 1) := by decide +kernel
theorem d_MO_following_2 : decode (jy_c m_MO_following) 2 = .ok (.iconst 0, 1) := by decide +kernel
theorem d_MO_following_3 : decode (jy_c m_MO_following) 3 = .ok (.istore_n 3, 1) := by decide +kernel
theorem d_MO_following_4 : decode (jy_c m_MO_following) 4 = .ok (.iload_n 3, 1) := by decide +kernel
theorem d_MO_following_5 : decode (jy_c m_MO_following) 5 = .ok (.aload_n 0, 1) := by decide +kernel
theorem d_MO_following_6 : decode (jy_c m_MO_following) 6 = .ok (.getfield 128, 3) := by decide +kernel
theorem d_MO_following_9 : decode (jy_c m_MO_following) 9 = .ok (.if_icmp .ge 100, 3) := by decide +kernel
theorem d_MO_following_12 : decode (jy_c m_MO_following) 12 = .ok (.aload_n 0, 1) := by decide +kernel
theorem d_MO_following_13 : decode (jy_c m_MO_following) 13 = .ok (.iload_n 3, 1) := by decide +kernel
theorem d_MO_following_14 : decode (jy_c m_MO_following) 14 = .ok (.invokevirtual 150, 3) := by decide +kernel
theorem d_MO_following_17 : decode (jy_c m_MO_following) 17 = .ok (.sipush 10000, 3) := by decide +kernel
theorem d_MO_following_20 : decode (jy_c m_MO_following) 20 = .ok (.imul, 1) := by decide +kernel
theorem d_MO_following_21 : decode (jy_c m_MO_following) 21 = .ok (.aload_n 0, 1) := by decide +kernel
theorem d_MO_following_22 : decode (jy_c m_MO_following) 22 = .ok (.getfield 17, 3) := by decide +kernel
theorem d_MO_following_25 : decode (jy_c m_MO_following) 25 = .ok (.iload_n 3, 1) := by decide +kernel
theorem d_MO_following_26 : decode (jy_c m_MO_following) 26 = .ok (.bipush 43, 2) := by decide +kernel
theorem d_MO_following_28 : decode (jy_c m_MO_following) 28 = .ok (.imul, 1) := by decide +kernel
theorem d_MO_following_29 : decode (jy_c m_MO_following) 29 = .ok (.iaload, 1) := by decide +kernel
theorem d_MO_following_30 : decode (jy_c m_MO_following) 30 = .ok (.iadd, 1) := by decide +kernel
theorem d_MO_following_31 : decode (jy_c m_MO_following) 31 = .ok (.istore 4, 2) := by decide +kernel
theorem d_MO_following_33 : decode (jy_c m_MO_following) 33 = .ok (.iload_n 1, 1) := by decide +kernel
theorem d_MO_following_34 : decode (jy_c m_MO_following) 34 = .ok (.ifCond .lt 27, 3) := by decide +kernel
theorem d_MO_following_37 : decode (jy_c m_MO_following) 37 = .ok (.iload 4, 2) := by decide +kernel
theorem d_MO_following_39 : decode (jy_c m_MO_following) 39 = .ok (.aload_n 0, 1) := by decide +kernel
theorem d_MO_following_40 : decode (jy_c m_MO_following) 40 = .ok (.iload_n 1, 1) := by decide +kernel
theorem d_MO_following_41 : decode (jy_c m_MO_following) 41 = .ok (.invokevirtual 150, 3) := by decide +kernel
theorem d_MO_following_44 : decode (jy_c m_MO_following) 44 = .ok (.sipush 10000, 3) := by decide +kernel
theorem d_MO_following_47 : decode (jy_c m_MO_following) 47 = .ok (.imul, 1) := by decide +kernel
theorem d_MO_following_48 : decode (jy_c m_MO_following) 48 = .ok (.aload_n 0, 1) := by decide +kernel
theorem d_MO_following_49 : decode (jy_c m_MO_following) 49 = .ok (.getfield 17, 3) := by decide +kernel
theorem d_MO_following_52 : decode (jy_c m_MO_following) 52 = .ok (.iload_n 1, 1) := by decide +kernel
theorem d_MO_following_53 : decode (jy_c m_MO_following) 53 = .ok (.bipush 43, 2) := by decide +kernel
theorem d_MO_following_55 : decode (jy_c m_MO_following) 55 = .ok (.imul, 1) := by decide +kernel
theorem d_MO_following_56 : decode (jy_c m_MO_following) 56 = .ok (.iaload, 1) := by decide +kernel
theorem d_MO_following_57 : decode (jy_c m_MO_following) 57 = .ok (.iadd, 1) := by decide +kernel
theorem d_MO_following_58 : decode (jy_c m_MO_following) 58 = .ok (.if_icmp .le 7, 3) := by decide +kernel
theorem d_MO_following_61 : decode (jy_c m_MO_following) 61 = .ok (.iconst 1, 1) := by decide +kernel
theorem d_MO_following_62 : decode (jy_c m_MO_following) 62 = .ok (.goto 4, 3) := by decide +kernel
theorem d_MO_following_65 : decode (jy_c m_MO_following) 65 = .ok (.iconst 0, 1) := by decide +kernel
theorem d_MO_following_66 : decode (jy_c m_MO_following) 66 = .ok (.istore 5, 2) := by decide +kernel
theorem d_MO_following_68 : decode (jy_c m_MO_following) 68 = .ok (.iload 5, 2) := by decide +kernel
theorem d_MO_following_70 : decode (jy_c m_MO_following) 70 = .ok (.ifCond .eq 33, 3) := by decide +kernel
theorem d_MO_following_73 : decode (jy_c m_MO_following) 73 = .ok (.iload_n 2, 1) := by decide +kernel
theorem d_MO_following_74 : decode (jy_c m_MO_following) 74 = .ok (.ifCond .lt 27, 3) := by decide +kernel
theorem d_MO_following_77 : decode (jy_c m_MO_following) 77 = .ok (.iload 4, 2) := by decide +kernel
theorem d_MO_following_79 : decode (jy_c m_MO_following) 79 = .ok (.aload_n 0, 1) := by decide +kernel
theorem d_MO_following_80 : decode (jy_c m_MO_following) 80 = .ok (.iload_n 2, 1) := by decide +kernel
theorem d_MO_following_81 : decode (jy_c m_MO_following) 81 = .ok (.invokevirtual 150, 3) := by decide +kernel
theorem d_MO_following_84 : decode (jy_c m_MO_following) 84 = .ok (.sipush 10000, 3) := by decide +kernel
theorem d_MO_following_87 : decode (jy_c m_MO_following) 87 = .ok (.imul, 1) := by decide +kernel
theorem d_MO_following_88 : decode (jy_c m_MO_following) 88 = .ok (.aload_n 0, 1) := by decide +kernel
theorem d_MO_following_89 : decode (jy_c m_MO_following) 89 = .ok (.getfield 17, 3) := by decide +kernel
theorem d_MO_following_92 : decode (jy_c m_MO_following) 92 = .ok (.iload_n 2, 1) := by decide +kernel
theorem d_MO_following_93 : decode (jy_c m_MO_following) 93 = .ok (.bipush 43, 2) := by decide +kernel
theorem d_MO_following_95 : decode (jy_c m_MO_following) 95 = .ok (.imul, 1) := by decide +kernel
theorem d_MO_following_96 : decode (jy_c m_MO_following) 96 = .ok (.iaload, 1) := by decide +kernel
theorem d_MO_following_97 : decode (jy_c m_MO_following) 97 = .ok (.iadd, 1) := by decide +kernel
theorem d_MO_following_98 : decode (jy_c m_MO_following) 98 = .ok (.if_icmp .ge 5, 3) := by decide +kernel
theorem d_MO_following_101 : decode (jy_c m_MO_following) 101 = .ok (.iload_n 3, 1) := by decide +kernel
theorem d_MO_following_102 : decode (jy_c m_MO_following) 102 = .ok (.istore_n 2, 1) := by decide +kernel
theorem d_MO_following_103 : decode (jy_c m_MO_following) 103 = .ok (.iinc 3 1, 3) := by decide +kernel
theorem d_MO_following_106 : decode (jy_c m_MO_following) 106 = .ok (.goto (-102), 3) := by decide +kernel
theorem d_MO_following_109 : decode (jy_c m_MO_following) 109 = .ok (.iload_n 2, 1) := by decide +kernel
theorem d_MO_following_110 : decode (jy_c m_MO_following) 110 = .ok (.ireturn, 1) := by decide +kernel
theorem mo_following {G : jy_G} {h0 : jy_P} {f : Nat → Int32} {a : Nat → Nat → Int32} {s m : Nat} {o : Option Nat} (hm : f 4 = nI m) (h12 : m ≤ 12) (hR : tOk (a 13) m) (hs : s ≤ 8) (hf : f 27 = nI s) (ho : ∀ l, o = some l → l < m) : ∀ k, k ≤ m → ∀ h T l4 l5, MS h0 h f (at24 a T) → jy_J G 4 m_MO_following 4 [some (.ref 11), some (.int (oI o)), some (.int (oI (fol a s o k))), some (.int (nI k)), l4, l5] [] h (aP h0 (some (.int (oI (fol a s o m)))) f a) := by
  refine jl_up m _ (fun h T l4 l5 hM => ?_) (fun k hk ih h T l4 l5 hM => ?_)
  · refine jr_iload_n d_MO_following_4 rfl rfl ?_
    refine jr_aload_n d_MO_following_5 rfl rfl ?_
    refine mr_get d_MO_following_6 f_MO_128 hM rfl ?_
    rw [hm]
    refine jr_icmp_ge (tgt := 109) d_MO_following_9 (by decide) (fun _ => ?_) (jl_eq (by omega))
    refine jr_iload_n d_MO_following_109 rfl rfl ?_
    refine jr_ireturn d_MO_following_110 rfl rfl ?_
    exact ⟨rfl, T, hM⟩
  · have hRk := hR k hk
    have bk := ky_lt (s := s) hRk
    refine jr_iload_n d_MO_following_4 rfl rfl ?_
    refine jr_aload_n d_MO_following_5 rfl rfl ?_
    refine mr_get d_MO_following_6 f_MO_128 hM rfl ?_
    rw [hm]
    refine jr_icmp_ge (tgt := 109) d_MO_following_9 (by decide) (jl_lt (by omega) hk) (fun _ => ?_)
    refine jr_aload_n d_MO_following_12 rfl rfl ?_
    refine jr_iload_n d_MO_following_13 rfl rfl ?_
    refine mr_callA1 d_MO_following_14 i_MO_150 hM (Nat.le_of_ble_eq_true rfl) (by decide) (c_MO_nearest (a := a) hM.1 (by omega) hRk hs hf) (fun h T hM => ?_)
    refine jr_sipush (v := 10000) d_MO_following_17 (by decide) ?_
    refine jr_imul d_MO_following_20 ?_
    refine jr_aload_n d_MO_following_21 rfl rfl ?_
    refine mr_get d_MO_following_22 f_MO_17 hM rfl ?_
    refine jr_iload_n d_MO_following_25 rfl rfl ?_
    refine jr_bipush (v := 43) d_MO_following_26 (by decide) ?_
    refine jr_imul d_MO_following_28 ?_
    refine mr_ald d_MO_following_29 hM (by decide) (ix43z k rfl) (by show 43 * k < 559; omega) ?_
    rw [at24_n (B := 13) (by decide)]
    refine jr_iadd d_MO_following_30 ?_
    rw [ky_nI hRk]
    have last : ∀ h T l5, MS h0 h f (at24 a T) → ∀ b, b = fol a s o (k + 1) → jy_J G 4 m_MO_following 103 [some (.ref 11), some (.int (oI o)), some (.int (oI b)), some (.int (nI k)), some (.int (nI (ky a s k))), l5] [] h (aP h0 (some (.int (oI (fol a s o m)))) f a) := by
      intro h T l5 hM b hb
      subst hb
      refine jr_iinc1 d_MO_following_103 rfl (by decide) ?_
      refine jr_goto (tgt := 4) d_MO_following_106 (by decide) ?_
      rw [nI_1]
      exact ih h T _ _ hM
    have mid : ∀ h T z, MS h0 h f (at24 a T) → z = bI (bh a s o k) → jy_J G 4 m_MO_following 66 [some (.ref 11), some (.int (oI o)), some (.int (oI (fol a s o k))), some (.int (nI k)), some (.int (nI (ky a s k))), l5] [.int z] h (aP h0 (some (.int (oI (fol a s o m)))) f a) := by
      intro h T z hM hz
      subst hz
      refine jr_istore d_MO_following_66 (by decide) ?_
      refine jr_iload d_MO_following_68 rfl ?_
      refine jr_if_eq (tgt := 103) d_MO_following_70 (by decide) (fun hc => ?_) (fun hc => ?_)
      · have : fol a s o (k + 1) = fol a s o k := by simp [fol, bI_eq0.mp hc]
        exact last h T _ hM _ this.symm
      · have hb := bI_ne0.mp hc
        refine jr_iload_n d_MO_following_73 rfl rfl ?_
        rcases hfo : fol a s o k with _ | b
        · refine jr_if_lt (tgt := 101) d_MO_following_74 (by decide) (fun _ => ?_) (fun q => absurd (by decide) q)
          have : fol a s o (k + 1) = some k := by simp [fol, hb, hfo, nw]
          refine jr_iload_n d_MO_following_101 rfl rfl ?_
          refine jr_istore_n d_MO_following_102 rfl (by decide) ?_
          exact last h T _ hM _ this.symm
        · have hbk := fol_lt _ _ hfo
          have hRb := hR b (by omega)
          have bb := ky_lt (s := s) hRb
          refine jr_if_lt (tgt := 101) d_MO_following_74 (by decide) (fun q => absurd q (nI_pos (by omega))) (fun _ => ?_)
          refine jr_iload d_MO_following_77 rfl ?_
          refine jr_aload_n d_MO_following_79 rfl rfl ?_
          refine jr_iload_n d_MO_following_80 rfl rfl ?_
          refine mr_callA1 d_MO_following_81 i_MO_150 hM (Nat.le_of_ble_eq_true rfl) (by decide) (c_MO_nearest (a := a) hM.1 (by omega) hRb hs hf) (fun h T hM => ?_)
          refine jr_sipush (v := 10000) d_MO_following_84 (by decide) ?_
          refine jr_imul d_MO_following_87 ?_
          refine jr_aload_n d_MO_following_88 rfl rfl ?_
          refine mr_get d_MO_following_89 f_MO_17 hM rfl ?_
          refine jr_iload_n d_MO_following_92 rfl rfl ?_
          refine jr_bipush (v := 43) d_MO_following_93 (by decide) ?_
          refine jr_imul d_MO_following_95 ?_
          refine mr_ald d_MO_following_96 hM (by decide) (ix43z b rfl) (by show 43 * b < 559; omega) ?_
          rw [at24_n (B := 13) (by decide)]
          refine jr_iadd d_MO_following_97 ?_
          rw [ky_nI hRb]
          refine jr_icmp_ge (tgt := 103) d_MO_following_98 (by decide) (fun hc => ?_) (fun hc => ?_)
          · have h2 := (nI_leI (by omega) (by omega)).mp hc
            have : fol a s o (k + 1) = some b := by
              simp only [fol, hb, hfo, nw, decide_eq_false (show ¬ ky a s k < ky a s b by omega)]; rfl
            exact last h T _ hM _ this.symm
          · have h2 : ky a s k < ky a s b := by
              rcases Nat.lt_or_ge (ky a s k) (ky a s b) with q | q
              · exact q
              · exact absurd ((nI_leI (by omega) (by omega)).mpr q) hc
            have : fol a s o (k + 1) = some k := by
              simp only [fol, hb, hfo, nw, decide_eq_true h2]; rfl
            refine jr_iload_n d_MO_following_101 rfl rfl ?_
            refine jr_istore_n d_MO_following_102 rfl (by decide) ?_
            exact last h T _ hM _ this.symm
    refine jr_istore d_MO_following_31 (by decide) ?_
    refine jr_iload_n d_MO_following_33 rfl rfl ?_
    rcases o with _ | l
    · refine jr_if_lt (tgt := 61) d_MO_following_34 (by decide) (fun _ => ?_) (fun q => absurd (by decide) q)
      refine jr_iconst (v := 1) d_MO_following_61 (by decide) ?_
      refine jr_goto (tgt := 66) d_MO_following_62 (by decide) ?_
      exact mid h T _ hM rfl
    · have hl := ho l rfl
      have hRl := hR l hl
      have bl := ky_lt (s := s) hRl
      refine jr_if_lt (tgt := 61) d_MO_following_34 (by decide) (fun q => absurd q (nI_pos (by omega))) (fun _ => ?_)
      refine jr_iload d_MO_following_37 rfl ?_
      refine jr_aload_n d_MO_following_39 rfl rfl ?_
      refine jr_iload_n d_MO_following_40 rfl rfl ?_
      refine mr_callA1 d_MO_following_41 i_MO_150 hM (Nat.le_of_ble_eq_true rfl) (by decide) (c_MO_nearest (a := a) hM.1 (by omega) hRl hs hf) (fun h T hM => ?_)
      refine jr_sipush (v := 10000) d_MO_following_44 (by decide) ?_
      refine jr_imul d_MO_following_47 ?_
      refine jr_aload_n d_MO_following_48 rfl rfl ?_
      refine mr_get d_MO_following_49 f_MO_17 hM rfl ?_
      refine jr_iload_n d_MO_following_52 rfl rfl ?_
      refine jr_bipush (v := 43) d_MO_following_53 (by decide) ?_
      refine jr_imul d_MO_following_55 ?_
      refine mr_ald d_MO_following_56 hM (by decide) (ix43z l rfl) (by show 43 * l < 559; omega) ?_
      rw [at24_n (B := 13) (by decide)]
      refine jr_iadd d_MO_following_57 ?_
      rw [ky_nI hRl]
      refine jr_icmp_le (tgt := 65) d_MO_following_58 (by decide) (fun hc => ?_) (fun hc => ?_)
      · have h2 := (nI_leI (by omega) (by omega)).mp hc
        refine jr_iconst (v := 0) d_MO_following_65 (by decide) ?_
        exact mid h T _ hM (by rw [bh, decide_eq_false (by omega)]; rfl)
      · have h2 : ky a s l < ky a s k := by
          rcases Nat.lt_or_ge (ky a s l) (ky a s k) with q | q
          · exact q
          · exact absurd ((nI_leI (by omega) (by omega)).mpr q) hc
        refine jr_iconst (v := 1) d_MO_following_61 (by decide) ?_
        refine jr_goto (tgt := 66) d_MO_following_62 (by decide) ?_
        exact mid h T _ hM (by rw [bh, decide_eq_true h2]; rfl)
theorem c_MO_following {G : jy_G} {h0 : jy_P} {f : Nat → Int32} {a : Nat → Nat → Int32} {T : Nat → Int32} {s m : Nat} {o : Option Nat} (hM : Mo h0 f (at24 a T)) (hm : f 4 = nI m) (h12 : m ≤ 12) (hR : tOk (a 13) m) (hs : s ≤ 8) (hf : f 27 = nI s) (ho : ∀ l, o = some l → l < m) : jy_C G 4 m_MO_following [.ref 11, .int (oI o)] h0 (aP h0 (some (.int (oI (fol a s o m)))) f a) := by
  refine jy_C.of [some (.ref 11), some (.int (oI o)), none, none, none, none] rfl (Nat.le_of_ble_eq_true rfl) ?_
  have hM := MS.rf hM
  refine jr_iconst (v := -1) d_MO_following_0 (by decide) ?_
  refine jr_istore_n d_MO_following_1 rfl (by decide) ?_
  refine jr_iconst (v := 0) d_MO_following_2 (by decide) ?_
  refine jr_istore_n d_MO_following_3 rfl (by decide) ?_
  exact mo_following hm h12 hR hs hf ho 0 (Nat.zero_le _) h0 T _ _ hM
def aR (h : jy_P) (x : Rs) : Outcome → jy_P → Prop := aP h (some (.int x.1)) x.2.1 x.2.2
def gdB (x : Int64) : Nat → Bool
  | 0 => true
  | k + 1 => gdB x k && inB (bt x k) 97 122
theorem gdB_f {x : Int64} {k : Nat} (h : gdB x k = false) : ∀ n, k ≤ n → gdB x n = false := by
  intro n
  induction n with
  | zero => intro q; have : k = 0 := by omega
            subst this; exact h
  | succ n ih =>
    intro q
    by_cases e : k = n + 1
    · subst e; exact h
    · rw [gdB, ih (by omega)]; rfl
def syB (x : Int64) (n : Int32) : Bool := inB n 1 8 && gdB x n.toNatClampNeg
def wrA (a : Nat → Nat → Int32) (x : Int64) (n : Nat) : Nat → Nat → Nat → Int32
  | 0 => a
  | k + 1 => upd2 (wrA a x n k) 23 k (bt x (n - 1 - k))
theorem wrA_n {a : Nat → Nat → Int32} {x : Int64} {n B : Nat} (hB : B ≠ 23) : ∀ k, wrA a x n k B = a B := by
  intro k
  induction k with
  | zero => rfl
  | succ k ih =>
    show upd2 (wrA a x n k) 23 k (bt x (n - 1 - k)) B = a B
    rw [upd2_n hB, ih]
def sy (f : Nat → Int32) (a : Nat → Nat → Int32) (m : Nat) (x : Int64) (n : Int32) : Rs :=
  if (syB x n && decide (0 < m) && true) = true then (a 13 (43 * kO (fol (wrA a x n.toNatClampNeg n.toNatClampNeg) n.toNatClampNeg none m)), upd (upd f 0 0) 27 n, wrA a x n.toNatClampNeg n.toNatClampNeg)
  else (0, upd f 0 (gT (syB x n) (decide (0 < m)) true), a)
theorem inB_18 {n : Int32} (h : inB n 1 8 = true) : ∃ N, 1 ≤ N ∧ N ≤ 8 ∧ n = nI N := by
  unfold inB at h
  rw [Bool.and_eq_true] at h
  obtain ⟨N, hN, rfl⟩ := nI_of2 (n := 8) (by decide) (Int32.not_lt.mpr (Int32.le_trans (by decide) (of_decide_eq_true h.1))) (of_decide_eq_true h.2)
  exact ⟨N, (nI_leI (a := 1) (by decide) (by omega)).mp (of_decide_eq_true h.1), hN, rfl⟩
theorem d_MO_say_0 : decode (jy_c m_MO_say) 0 = .ok (.iload_n 3, 1) := by decide +kernel
theorem d_MO_say_1 : decode (jy_c m_MO_say) 1 = .ok (.iconst 1, 1) := by decide +kernel
theorem d_MO_say_2 : decode (jy_c m_MO_say) 2 = .ok (.bipush 8, 2) := by decide +kernel
theorem d_MO_say_4 : decode (jy_c m_MO_say) 4 = .ok (.invokestatic 67, 3) := by decide +kernel
theorem d_MO_say_7 : decode (jy_c m_MO_say) 7 = .ok (.istore 4, 2) := by decide +kernel
theorem d_MO_say_9 : decode (jy_c m_MO_say) 9 = .ok (.iconst 0, 1) := by decide +kernel
theorem d_MO_say_10 : decode (jy_c m_MO_say) 10 = .ok (.istore 5, 2) := by decide +kernel
theorem d_MO_say_12 : decode (jy_c m_MO_say) 12 = .ok (.iload 5, 2) := by decide +kernel
theorem d_MO_say_14 : decode (jy_c m_MO_say) 14 = .ok (.iload_n 3, 1) := by decide +kernel
theorem d_MO_say_15 : decode (jy_c m_MO_say) 15 = .ok (.if_icmp .ge 35, 3) := by decide +kernel
theorem d_MO_say_18 : decode (jy_c m_MO_say) 18 = .ok (.iload 4, 2) := by decide +kernel
theorem d_MO_say_20 : decode (jy_c m_MO_say) 20 = .ok (.ifCond .eq 30, 3) := by decide +kernel
theorem d_MO_say_23 : decode (jy_c m_MO_say) 23 = .ok (.lload_n 1, 1) := by decide +kernel
theorem d_MO_say_24 : decode (jy_c m_MO_say) 24 = .ok (.bipush 8, 2) := by decide +kernel
theorem d_MO_say_26 : decode (jy_c m_MO_say) 26 = .ok (.iload 5, 2) := by decide +kernel
theorem d_MO_say_28 : decode (jy_c m_MO_say) 28 = .ok (.imul, 1) := by decide +kernel
theorem d_MO_say_29 : decode (jy_c m_MO_say) 29 = .ok (.lshr, 1) := by decide +kernel
theorem d_MO_say_30 : decode (jy_c m_MO_say) 30 = .ok (.l2i, 1) := by decide +kernel
theorem d_MO_say_31 : decode (jy_c m_MO_say) 31 = .ok (.sipush 255, 3) := by decide +kernel
theorem d_MO_say_34 : decode (jy_c m_MO_say) 34 = .ok (.iand, 1) := by decide +kernel
theorem d_MO_say_35 : decode (jy_c m_MO_say) 35 = .ok (.bipush 97, 2) := by decide +kernel
theorem d_MO_say_37 : decode (jy_c m_MO_say) 37 = .ok (.bipush 122, 2) := by decide +kernel
theorem d_MO_say_39 : decode (jy_c m_MO_say) 39 = .ok (.invokestatic 67, 3) := by decide +kernel
theorem d_MO_say_42 : decode (jy_c m_MO_say) 42 = .ok (.istore 4, 2) := by decide +kernel
theorem d_MO_say_44 : decode (jy_c m_MO_say) 44 = .ok (.iinc 5 1, 3) := by decide +kernel
theorem d_MO_say_47 : decode (jy_c m_MO_say) 47 = .ok (.goto (-35), 3) := by decide +kernel
theorem d_MO_say_50 : decode (jy_c m_MO_say) 50 = .ok (.aload_n 0, 1) := by decide +kernel
theorem d_MO_say_51 : decode (jy_c m_MO_say) 51 = .ok (.iload 4, 2) := by decide +kernel
theorem d_MO_say_53 : decode (jy_c m_MO_say) 53 = .ok (.aload_n 0, 1) := by decide +kernel
theorem d_MO_say_54 : decode (jy_c m_MO_say) 54 = .ok (.getfield 128, 3) := by decide +kernel
theorem d_MO_say_57 : decode (jy_c m_MO_say) 57 = .ok (.ifCond .le 7, 3) := by decide +kernel
theorem d_MO_say_60 : decode (jy_c m_MO_say) 60 = .ok (.iconst 1, 1) := by decide +kernel
theorem d_MO_say_61 : decode (jy_c m_MO_say) 61 = .ok (.goto 4, 3) := by decide +kernel
theorem d_MO_say_64 : decode (jy_c m_MO_say) 64 = .ok (.iconst 0, 1) := by decide +kernel
theorem d_MO_say_65 : decode (jy_c m_MO_say) 65 = .ok (.iconst 1, 1) := by decide +kernel
theorem d_MO_say_66 : decode (jy_c m_MO_say) 66 = .ok (.invokevirtual 74, 3) := by decide +kernel
theorem d_MO_say_69 : decode (jy_c m_MO_say) 69 = .ok (.ifCond .ne 5, 3) := by decide +kernel
theorem d_MO_say_72 : decode (jy_c m_MO_say) 72 = .ok (.iconst 0, 1) := by decide +kernel
theorem d_MO_say_73 : decode (jy_c m_MO_say) 73 = .ok (.ireturn, 1) := by decide +kernel
theorem d_MO_say_74 : decode (jy_c m_MO_say) 74 = .ok (.aload_n 0, 1) := by decide +kernel
theorem d_MO_say_75 : decode (jy_c m_MO_say) 75 = .ok (.iload_n 3, 1) := by decide +kernel
theorem d_MO_say_76 : decode (jy_c m_MO_say) 76 = .ok (.putfield 134, 3) := by decide +kernel
theorem d_MO_say_79 : decode (jy_c m_MO_say) 79 = .ok (.iconst 0, 1) := by decide +kernel
theorem d_MO_say_80 : decode (jy_c m_MO_say) 80 = .ok (.istore 5, 2) := by decide +kernel
theorem d_MO_say_82 : decode (jy_c m_MO_say) 82 = .ok (.iload 5, 2) := by decide +kernel
theorem d_MO_say_84 : decode (jy_c m_MO_say) 84 = .ok (.iload_n 3, 1) := by decide +kernel
theorem d_MO_say_85 : decode (jy_c m_MO_say) 85 = .ok (.if_icmp .ge 32, 3) := by decide +kernel
theorem d_MO_say_88 : decode (jy_c m_MO_say) 88 = .ok (.aload_n 0, 1) := by decide +kernel
theorem d_MO_say_89 : decode (jy_c m_MO_say) 89 = .ok (.getfield 58, 3) := by decide +kernel
theorem d_MO_say_92 : decode (jy_c m_MO_say) 92 = .ok (.iload 5, 2) := by decide +kernel
theorem d_MO_say_94 : decode (jy_c m_MO_say) 94 = .ok (.lload_n 1, 1) := by decide +kernel
theorem d_MO_say_95 : decode (jy_c m_MO_say) 95 = .ok (.bipush 8, 2) := by decide +kernel
theorem d_MO_say_97 : decode (jy_c m_MO_say) 97 = .ok (.iload_n 3, 1) := by decide +kernel
theorem d_MO_say_98 : decode (jy_c m_MO_say) 98 = .ok (.iconst 1, 1) := by decide +kernel
theorem d_MO_say_99 : decode (jy_c m_MO_say) 99 = .ok (.isub, 1) := by decide +kernel
theorem d_MO_say_100 : decode (jy_c m_MO_say) 100 = .ok (.iload 5, 2) := by decide +kernel
theorem d_MO_say_102 : decode (jy_c m_MO_say) 102 = .ok (.isub, 1) := by decide +kernel
theorem d_MO_say_103 : decode (jy_c m_MO_say) 103 = .ok (.imul, 1) := by decide +kernel
theorem d_MO_say_104 : decode (jy_c m_MO_say) 104 = .ok (.lshr, 1) := by decide +kernel
theorem d_MO_say_105 : decode (jy_c m_MO_say) 105 = .ok (.l2i, 1) := by decide +kernel
theorem d_MO_say_106 : decode (jy_c m_MO_say) 106 = .ok (.sipush 255, 3) := by decide +kernel
theorem d_MO_say_109 : decode (jy_c m_MO_say) 109 = .ok (.iand, 1) := by decide +kernel
theorem d_MO_say_110 : decode (jy_c m_MO_say) 110 = .ok (.iastore, 1) := by decide +kernel
theorem d_MO_say_111 : decode (jy_c m_MO_say) 111 = .ok (.iinc 5 1, 3) := by decide +kernel
theorem d_MO_say_114 : decode (jy_c m_MO_say) 114 = .ok (.goto (-32), 3) := by decide +kernel
theorem d_MO_say_117 : decode (jy_c m_MO_say) 117 = .ok (.aload_n 0, 1) := by decide +kernel
theorem d_MO_say_118 : decode (jy_c m_MO_say) 118 = .ok (.getfield 17, 3) := by decide +kernel
theorem d_MO_say_121 : decode (jy_c m_MO_say) 121 = .ok (.aload_n 0, 1) := by decide +kernel
theorem d_MO_say_122 : decode (jy_c m_MO_say) 122 = .ok (.iconst (-1), 1) := by decide +kernel
theorem d_MO_say_123 : decode (jy_c m_MO_say) 123 = .ok (.invokevirtual 153, 3) := by decide +kernel
theorem d_MO_say_126 : decode (jy_c m_MO_say) 126 = .ok (.bipush 43, 2) := by decide +kernel
theorem d_MO_say_128 : decode (jy_c m_MO_say) 128 = .ok (.imul, 1) := by decide +kernel
theorem d_MO_say_129 : decode (jy_c m_MO_say) 129 = .ok (.iaload, 1) := by decide +kernel
theorem d_MO_say_130 : decode (jy_c m_MO_say) 130 = .ok (.ireturn, 1) := by decide +kernel
theorem mo_say1 {G : jy_G} {h : jy_P} {x : Int64} {n : Nat} {P : Outcome → jy_P → Prop} (h8 : n ≤ 8) (K : ∀ l5, jy_J G 5 m_MO_say 50 [some (.ref 11), some (.long x), none, some (.int (nI n)), some (.int (bI (gdB x n))), l5] [] h P) : ∀ k, k ≤ n → jy_J G 5 m_MO_say 12 [some (.ref 11), some (.long x), none, some (.int (nI n)), some (.int (bI (gdB x k))), some (.int (nI k))] [] h P := by
  refine jl_up n _ ?_ (fun k hk ih => ?_)
  · refine jr_iload d_MO_say_12 rfl ?_
    refine jr_iload_n d_MO_say_14 rfl rfl ?_
    exact jr_icmp_ge (tgt := 50) d_MO_say_15 (by decide) (fun _ => K _) (jl_eq (by omega))
  · refine jr_iload d_MO_say_12 rfl ?_
    refine jr_iload_n d_MO_say_14 rfl rfl ?_
    refine jr_icmp_ge (tgt := 50) d_MO_say_15 (by decide) (jl_lt (by omega) hk) (fun _ => ?_)
    refine jr_iload d_MO_say_18 rfl ?_
    refine jr_if_eq (tgt := 50) d_MO_say_20 (by decide) (fun hc => ?_) (fun hc => ?_)
    · have h1 := bI_eq0.mp hc
      have := K (some (.int (nI k)))
      rw [gdB_f h1 n (by omega)] at this
      rw [h1]
      exact this
    · have h1 := bI_ne0.mp hc
      refine jr_lload_n d_MO_say_23 rfl rfl ?_
      refine jr_bipush (v := 8) d_MO_say_24 (by decide) ?_
      refine jr_iload d_MO_say_26 rfl ?_
      refine jr_imul d_MO_say_28 ?_
      refine jr_lshr d_MO_say_29 ?_
      refine jr_l2i d_MO_say_30 ?_
      refine jr_sipush (v := 255) d_MO_say_31 (by decide) ?_
      refine jr_iand d_MO_say_34 ?_
      refine jr_bipush (v := 97) d_MO_say_35 (by decide) ?_
      refine jr_bipush (v := 122) d_MO_say_37 (by decide) ?_
      refine jr_callSp3 d_MO_say_39 i_MO_67 (Nat.le_of_ble_eq_true rfl) (by decide) (c_MO_within _ _ _) ?_
      refine jr_istore d_MO_say_42 (by decide) ?_
      refine jr_iinc1 d_MO_say_44 rfl (by decide) ?_
      refine jr_goto (tgt := 12) d_MO_say_47 (by decide) ?_
      rw [nI_1]
      have : gdB x (k + 1) = inB (bt x k) 97 122 := by rw [gdB, h1, Bool.true_and]
      rw [this] at ih
      exact ih
theorem mo_say2 {G : jy_G} {h0 : jy_P} {f : Nat → Int32} {a : Nat → Nat → Int32} {x : Int64} {n : Nat} {w : Int32} {P : Outcome → jy_P → Prop} (h8 : n ≤ 8) (K : ∀ h l5, MS h0 h f (wrA a x n n) → jy_J G 5 m_MO_say 117 [some (.ref 11), some (.long x), none, some (.int (nI n)), some (.int w), l5] [] h P) : ∀ k, k ≤ n → ∀ h, MS h0 h f (wrA a x n k) → jy_J G 5 m_MO_say 82 [some (.ref 11), some (.long x), none, some (.int (nI n)), some (.int w), some (.int (nI k))] [] h P := by
  refine jl_up n _ (fun h hM => ?_) (fun k hk ih h hM => ?_)
  · refine jr_iload d_MO_say_82 rfl ?_
    refine jr_iload_n d_MO_say_84 rfl rfl ?_
    exact jr_icmp_ge (tgt := 117) d_MO_say_85 (by decide) (fun _ => K h _ hM) (jl_eq (by omega))
  · refine jr_iload d_MO_say_82 rfl ?_
    refine jr_iload_n d_MO_say_84 rfl rfl ?_
    refine jr_icmp_ge (tgt := 117) d_MO_say_85 (by decide) (jl_lt (by omega) hk) (fun _ => ?_)
    refine jr_aload_n d_MO_say_88 rfl rfl ?_
    refine mr_get d_MO_say_89 f_MO_58 hM rfl ?_
    refine jr_iload d_MO_say_92 rfl ?_
    refine jr_lload_n d_MO_say_94 rfl rfl ?_
    refine jr_bipush (v := 8) d_MO_say_95 (by decide) ?_
    refine jr_iload_n d_MO_say_97 rfl rfl ?_
    refine jr_iconst (v := 1) d_MO_say_98 (by decide) ?_
    refine jr_isub d_MO_say_99 ?_
    refine jr_iload d_MO_say_100 rfl ?_
    refine jr_isub d_MO_say_102 ?_
    have e1 : nI n - 1 - nI k = nI (n - 1 - k) := by
      rw [show n = (n - 1) + 1 by omega, nI_pred, pk_sub (by omega)]
      congr 1
    rw [e1]
    refine jr_imul d_MO_say_103 ?_
    refine jr_lshr d_MO_say_104 ?_
    refine jr_l2i d_MO_say_105 ?_
    refine jr_sipush (v := 255) d_MO_say_106 (by decide) ?_
    refine jr_iand d_MO_say_109 ?_
    refine mr_ast d_MO_say_110 hM (by decide) rfl (by show k < 8; omega) (fun h hM => ?_)
    refine jr_iinc1 d_MO_say_111 rfl (by decide) ?_
    refine jr_goto (tgt := 82) d_MO_say_114 (by decide) ?_
    rw [nI_1]
    exact ih h hM
theorem c_MO_say {G : jy_G} {h0 : jy_P} {f : Nat → Int32} {a : Nat → Nat → Int32} {m : Nat} (hM : Mo h0 f a) (hm : f 4 = nI m) (h12 : m ≤ 12) (hR : tOk (a 13) m) (x : Int64) (n : Int32) : jy_C G 5 m_MO_say [.ref 11, .long x, .int n] h0 (aR h0 (sy f a m x n)) := by
  refine jy_C.of [some (.ref 11), some (.long x), none, some (.int n), none, none] rfl (Nat.le_of_ble_eq_true rfl) ?_
  have hM := MS.rf hM
  generalize hg : aR h0 (sy f a m x n) = P
  refine jr_iload_n d_MO_say_0 rfl rfl ?_
  refine jr_iconst (v := 1) d_MO_say_1 (by decide) ?_
  refine jr_bipush (v := 8) d_MO_say_2 (by decide) ?_
  refine jr_callSp3 d_MO_say_4 i_MO_67 (Nat.le_of_ble_eq_true rfl) (by decide) (c_MO_within _ _ _) ?_
  refine jr_istore d_MO_say_7 (by decide) ?_
  refine jr_iconst (v := 0) d_MO_say_9 (by decide) ?_
  refine jr_istore d_MO_say_10 (by decide) ?_
  have key : ∀ l5, jy_J G 5 m_MO_say 50 [some (.ref 11), some (.long x), none, some (.int n), some (.int (bI (syB x n))), l5] [] h0 P := by
    intro l5
    refine jr_aload_n d_MO_say_50 rfl rfl ?_
    refine jr_iload d_MO_say_51 rfl ?_
    refine jr_aload_n d_MO_say_53 rfl rfl ?_
    refine mr_get d_MO_say_54 f_MO_128 hM rfl ?_
    rw [hm]
    refine jy_cut1 65 (fun z => z = bI (decide (0 < m))) (fun K => ?_) (fun z hz => ?_)
    · refine jr_if_le (tgt := 64) d_MO_say_57 (by decide) (fun hc => ?_) (fun hc => ?_)
      · refine jr_iconst (v := 0) d_MO_say_64 (by decide) ?_
        exact K _ (by rw [(pos_b (by omega)).1 hc]; rfl)
      · refine jr_iconst (v := 1) d_MO_say_60 (by decide) ?_
        refine jr_goto (tgt := 65) d_MO_say_61 (by decide) ?_
        exact K _ (by rw [(pos_b (by omega)).2 hc]; rfl)
    subst hz
    refine jr_iconst (v := 1) d_MO_say_65 (by decide) ?_
    refine mr_call3 d_MO_say_66 i_MO_74 hM (Nat.le_of_ble_eq_true rfl) (by decide) (c_MO_goes hM.1 _ _ true) (fun h hM => ?_)
    refine jr_if_ne (tgt := 74) d_MO_say_69 (by decide) (fun hc => ?_) (fun hc => ?_)
    · have hG := bI_ne0.mp hc
      have g1 := hG
      rw [Bool.and_true, Bool.and_eq_true] at g1
      have e0 : gT (syB x n) (decide (0 < m)) true = 0 := by rw [g1.1, g1.2]; rfl
      rw [e0] at hM
      have g2 : 0 < m := of_decide_eq_true g1.2
      have g3 := g1.1
      rw [syB, Bool.and_eq_true] at g3
      obtain ⟨N, hN1, hN8, rfl⟩ := inB_18 g3.1
      have hP : P = aP h0 (some (.int (a 13 (43 * kO (fol (wrA a x N N) N none m))))) (upd (upd f 0 0) 27 (nI N)) (wrA a x N N) := by
        rw [← hg, sy, if_pos hG, nI_clamp (by omega)]; rfl
      rw [hP]
      refine jr_aload_n d_MO_say_74 rfl rfl ?_
      refine jr_iload_n d_MO_say_75 rfl rfl ?_
      refine mr_put d_MO_say_76 f_MO_134 rfl hM (fun h hM => ?_)
      refine jr_iconst (v := 0) d_MO_say_79 (by decide) ?_
      refine jr_istore d_MO_say_80 (by decide) ?_
      refine mo_say2 (a := a) hN8 (fun h l5 hM => ?_) 0 (Nat.zero_le _) h hM
      have hM : MS h0 h (upd (upd f 0 0) 27 (nI N)) (at24 (wrA a x N N) (wrA a x N N 24)) := by rw [at24_self]; exact hM
      have hfs := fol_some (a := wrA a x N N) (s := N) m g2
      rcases hfo : fol (wrA a x N N) N none m with _ | b
      · rw [hfo] at hfs; cases hfs
      · have hb := fol_lt _ _ hfo
        refine jr_aload_n d_MO_say_117 rfl rfl ?_
        refine mr_get d_MO_say_118 f_MO_17 hM rfl ?_
        refine jr_aload_n d_MO_say_121 rfl rfl ?_
        refine jr_iconst (v := -1) d_MO_say_122 (by decide) ?_
        refine mr_callA1 d_MO_say_123 i_MO_153 hM (Nat.le_of_ble_eq_true rfl) (by decide) (c_MO_following (o := none) hM.1 hm h12 (by rw [wrA_n (by decide)]; exact hR) hN8 upd_s (fun l hl => by cases hl)) (fun h T hM => ?_)
        rw [hfo]
        refine jr_bipush (v := 43) d_MO_say_126 (by decide) ?_
        refine jr_imul d_MO_say_128 ?_
        refine mr_ald d_MO_say_129 hM (by decide) (ix43z b rfl) (by show 43 * b < 559; omega) ?_
        refine jr_ireturn d_MO_say_130 rfl rfl ?_
        refine ⟨?_, T, hM⟩
        rw [at24_n (by decide), wrA_n (by decide)]; rfl
    · have hG := bI_eq0.mp hc
      have hP : P = aP h0 (some (.int 0)) (upd f 0 (gT (syB x n) (decide (0 < m)) true)) a := by
        rw [← hg, sy, if_neg (by rw [hG]; decide)]; rfl
      rw [hP]
      refine jr_iconst (v := 0) d_MO_say_72 (by decide) ?_
      refine jr_ireturn d_MO_say_73 rfl rfl ?_
      exact ⟨rfl, a 24, by rw [at24_self]; exact hM⟩
  cases hb : inB n 1 8 with
  | false =>
    have e : syB x n = false := by rw [syB, hb]; rfl
    rw [e] at key
    refine jr_iload d_MO_say_12 rfl ?_
    refine jr_iload_n d_MO_say_14 rfl rfl ?_
    refine jr_icmp_ge (tgt := 50) d_MO_say_15 (by decide) (fun _ => key _) (fun _ => ?_)
    refine jr_iload d_MO_say_18 rfl ?_
    exact jr_if_eq (tgt := 50) d_MO_say_20 (by decide) (fun _ => key _) (fun q => absurd rfl q)
  | true =>
    obtain ⟨N, hN1, hN8, rfl⟩ := inB_18 hb
    have e : syB x (nI N) = gdB x N := by rw [syB, hb, nI_clamp (by omega), Bool.true_and]
    rw [e] at key
    exact mo_say1 hN8 key 0 (Nat.zero_le _)
def nrI (a : Nat → Nat → Int32) (s m : Nat) : Nat → Option Nat
  | 0 => fol a s none m
  | k + 1 => match nrI a s m k with
    | none => none
    | some l => fol a s (some l) m
theorem nrI_none {a : Nat → Nat → Int32} {s m k : Nat} (h : nrI a s m k = none) : ∀ n, k ≤ n → nrI a s m n = none := by
  intro n
  induction n with
  | zero => intro q; have : k = 0 := by omega
            subst this; exact h
  | succ n ih =>
    intro q
    by_cases e : k = n + 1
    · subst e; exact h
    · rw [nrI, ih (by omega)]
theorem nrI_lt {a : Nat → Nat → Int32} {s m k l : Nat} (h : nrI a s m k = some l) : l < m := by
  cases k with
  | zero => exact fol_lt _ _ h
  | succ k =>
    unfold nrI at h
    split at h
    · cases h
    · exact fol_lt _ _ h
def nrV (a : Nat → Nat → Int32) : Option Nat → Int32
  | none => -1
  | some l => a 13 (43 * l)
def nea (f : Nat → Int32) (a : Nat → Nat → Int32) (m : Nat) (i : Int32) : Rs :=
  if decide (0 ≤ i) = true then (if f 27 = 0 then -1 else nrV a (nrI a (f 27).toNatClampNeg m i.toNatClampNeg), upd f 0 0, a) else (0, upd f 0 1, a)
theorem d_MO_near_0 : decode (jy_c m_MO_near) 0 = .ok (.aload_n 0, 1) := by decide +kernel
theorem d_MO_near_1 : decode (jy_c m_MO_near) 1 = .ok (.iload_n 1, 1) := by decide +kernel
theorem d_MO_near_2 : decode (jy_c m_MO_near) 2 = .ok (.ifCond .lt 7, 3) := by decide +kernel
theorem d_MO_near_5 : decode (jy_c m_MO_near) 5 = .ok (.iconst 1, 1) := by decide +kernel
theorem d_MO_near_6 : decode (jy_c m_MO_near) 6 = .ok (.goto 4, 3) := by decide +kernel
theorem d_MO_near_9 : decode (jy_c m_MO_near) 9 = .ok (.iconst 0, 1) := by decide +kernel
theorem d_MO_near_10 : decode (jy_c m_MO_near) 10 = .ok (.iconst 1, 1) := by decide +kernel
theorem d_MO_near_11 : decode (jy_c m_MO_near) 11 = .ok (.iconst 1, 1) := by decide +kernel
theorem d_MO_near_12 : decode (jy_c m_MO_near) 12 = .ok (.invokevirtual 74, 3) := by decide +kernel
theorem d_MO_near_15 : decode (jy_c m_MO_near) 15 = .ok (.ifCond .eq 10, 3) := by decide +kernel
theorem d_MO_near_18 : decode (jy_c m_MO_near) 18 = .ok (.aload_n 0, 1) := by decide +kernel
theorem d_MO_near_19 : decode (jy_c m_MO_near) 19 = .ok (.getfield 134, 3) := by decide +kernel
theorem d_MO_near_22 : decode (jy_c m_MO_near) 22 = .ok (.ifCond .ne 16, 3) := by decide +kernel
theorem d_MO_near_25 : decode (jy_c m_MO_near) 25 = .ok (.aload_n 0, 1) := by decide +kernel
theorem d_MO_near_26 : decode (jy_c m_MO_near) 26 = .ok (.getfield 64, 3) := by decide +kernel
theorem d_MO_near_29 : decode (jy_c m_MO_near) 29 = .ok (.ifCond .le 7, 3) := by decide +kernel
theorem d_MO_near_32 : decode (jy_c m_MO_near) 32 = .ok (.iconst 0, 1) := by decide +kernel
theorem d_MO_near_33 : decode (jy_c m_MO_near) 33 = .ok (.goto 4, 3) := by decide +kernel
theorem d_MO_near_36 : decode (jy_c m_MO_near) 36 = .ok (.iconst (-1), 1) := by decide +kernel
theorem d_MO_near_37 : decode (jy_c m_MO_near) 37 = .ok (.ireturn, 1) := by decide +kernel
theorem d_MO_near_38 : decode (jy_c m_MO_near) 38 = .ok (.aload_n 0, 1) := by decide +kernel
theorem d_MO_near_39 : decode (jy_c m_MO_near) 39 = .ok (.iconst (-1), 1) := by decide +kernel
theorem d_MO_near_40 : decode (jy_c m_MO_near) 40 = .ok (.invokevirtual 153, 3) := by decide +kernel
theorem d_MO_near_43 : decode (jy_c m_MO_near) 43 = .ok (.istore_n 2, 1) := by decide +kernel
theorem d_MO_near_44 : decode (jy_c m_MO_near) 44 = .ok (.iconst 0, 1) := by decide +kernel
theorem d_MO_near_45 : decode (jy_c m_MO_near) 45 = .ok (.istore_n 3, 1) := by decide +kernel
theorem d_MO_near_46 : decode (jy_c m_MO_near) 46 = .ok (.iload_n 3, 1) := by decide +kernel
theorem d_MO_near_47 : decode (jy_c m_MO_near) 47 = .ok (.iload_n 1, 1) := by decide +kernel
theorem d_MO_near_48 : decode (jy_c m_MO_near) 48 = .ok (.if_icmp .ge 19, 3) := by decide +kernel
theorem d_MO_near_51 : decode (jy_c m_MO_near) 51 = .ok (.iload_n 2, 1) := by decide +kernel
theorem d_MO_near_52 : decode (jy_c m_MO_near) 52 = .ok (.ifCond .lt 15, 3) := by decide +kernel
theorem d_MO_near_55 : decode (jy_c m_MO_near) 55 = .ok (.aload_n 0, 1) := by decide +kernel
theorem d_MO_near_56 : decode (jy_c m_MO_near) 56 = .ok (.iload_n 2, 1) := by decide +kernel
theorem d_MO_near_57 : decode (jy_c m_MO_near) 57 = .ok (.invokevirtual 153, 3) := by decide +kernel
theorem d_MO_near_60 : decode (jy_c m_MO_near) 60 = .ok (.istore_n 2, 1) := by decide +kernel
theorem d_MO_near_61 : decode (jy_c m_MO_near) 61 = .ok (.iinc 3 1, 3) := by decide +kernel
theorem d_MO_near_64 : decode (jy_c m_MO_near) 64 = .ok (.goto (-18), 3) := by decide +kernel
theorem d_MO_near_67 : decode (jy_c m_MO_near) 67 = .ok (.iload_n 2, 1) := by decide +kernel
theorem d_MO_near_68 : decode (jy_c m_MO_near) 68 = .ok (.ifCond .ge 7, 3) := by decide +kernel
theorem d_MO_near_71 : decode (jy_c m_MO_near) 71 = .ok (.iconst (-1), 1) := by decide +kernel
theorem d_MO_near_72 : decode (jy_c m_MO_near) 72 = .ok (.goto 12, 3) := by decide +kernel
theorem d_MO_near_75 : decode (jy_c m_MO_near) 75 = .ok (.aload_n 0, 1) := by decide +kernel
theorem d_MO_near_76 : decode (jy_c m_MO_near) 76 = .ok (.getfield 17, 3) := by decide +kernel
theorem d_MO_near_79 : decode (jy_c m_MO_near) 79 = .ok (.iload_n 2, 1) := by decide +kernel
theorem d_MO_near_80 : decode (jy_c m_MO_near) 80 = .ok (.bipush 43, 2) := by decide +kernel
theorem d_MO_near_82 : decode (jy_c m_MO_near) 82 = .ok (.imul, 1) := by decide +kernel
theorem d_MO_near_83 : decode (jy_c m_MO_near) 83 = .ok (.iaload, 1) := by decide +kernel
theorem d_MO_near_84 : decode (jy_c m_MO_near) 84 = .ok (.ireturn, 1) := by decide +kernel
theorem mo_near {G : jy_G} {h0 : jy_P} {f : Nat → Int32} {a : Nat → Nat → Int32} {m s i : Nat} (hm : f 4 = nI m) (h12 : m ≤ 12) (hR : tOk (a 13) m) (hs : s ≤ 8) (hf : f 27 = nI s) (hi : i < 2 ^ 31) : ∀ k, k ≤ i → ∀ h T, MS h0 h f (at24 a T) → jy_J G 5 m_MO_near 46 [some (.ref 11), some (.int (nI i)), some (.int (oI (nrI a s m k))), some (.int (nI k))] [] h (aP h0 (some (.int (nrV a (nrI a s m i)))) f a) := by
  have fin : ∀ o, o = nrI a s m i → ∀ k h T, MS h0 h f (at24 a T) → jy_J G 5 m_MO_near 67 [some (.ref 11), some (.int (nI i)), some (.int (oI o)), some (.int (nI k))] [] h (aP h0 (some (.int (nrV a (nrI a s m i)))) f a) := by
    intro o ho k h T hM
    rcases o with _ | l
    · refine jr_iload_n d_MO_near_67 rfl rfl ?_
      refine jr_if_ge (tgt := 75) d_MO_near_68 (by decide) (fun q => absurd q (by decide)) (fun _ => ?_)
      refine jr_iconst (v := -1) d_MO_near_71 (by decide) ?_
      refine jr_goto (tgt := 84) d_MO_near_72 (by decide) ?_
      refine jr_ireturn d_MO_near_84 rfl rfl ?_
      exact ⟨by rw [← ho]; rfl, T, hM⟩
    · have := nrI_lt ho.symm
      refine jr_iload_n d_MO_near_67 rfl rfl ?_
      refine jr_if_ge (tgt := 75) d_MO_near_68 (by decide) (fun _ => ?_) (fun q => absurd (nI_pos' (by omega)) q)
      refine jr_aload_n d_MO_near_75 rfl rfl ?_
      refine mr_get d_MO_near_76 f_MO_17 hM rfl ?_
      refine jr_iload_n d_MO_near_79 rfl rfl ?_
      refine jr_bipush (v := 43) d_MO_near_80 (by decide) ?_
      refine jr_imul d_MO_near_82 ?_
      refine mr_ald d_MO_near_83 hM (by decide) (ix43z l rfl) (by show 43 * l < 559; omega) ?_
      refine jr_ireturn d_MO_near_84 rfl rfl ?_
      exact ⟨by rw [← ho, at24_n (by decide)]; rfl, T, hM⟩
  refine jl_up i _ (fun h T hM => ?_) (fun k hk ih h T hM => ?_)
  · refine jr_iload_n d_MO_near_46 rfl rfl ?_
    refine jr_iload_n d_MO_near_47 rfl rfl ?_
    exact jr_icmp_ge (tgt := 67) d_MO_near_48 (by decide) (fun _ => fin _ rfl _ h T hM) (jl_eq hi)
  · refine jr_iload_n d_MO_near_46 rfl rfl ?_
    refine jr_iload_n d_MO_near_47 rfl rfl ?_
    refine jr_icmp_ge (tgt := 67) d_MO_near_48 (by decide) (jl_lt hi hk) (fun _ => ?_)
    rcases hq : nrI a s m k with _ | l
    · refine jr_iload_n d_MO_near_51 rfl rfl ?_
      refine jr_if_lt (tgt := 67) d_MO_near_52 (by decide) (fun _ => ?_) (fun q => absurd (by decide) q)
      exact fin none (nrI_none hq i (by omega)).symm _ h T hM
    · have hl := nrI_lt hq
      refine jr_iload_n d_MO_near_51 rfl rfl ?_
      refine jr_if_lt (tgt := 67) d_MO_near_52 (by decide) (fun q => absurd q (nI_pos (by omega))) (fun _ => ?_)
      refine jr_aload_n d_MO_near_55 rfl rfl ?_
      refine jr_iload_n d_MO_near_56 rfl rfl ?_
      refine mr_callA1 d_MO_near_57 i_MO_153 hM (Nat.le_of_ble_eq_true rfl) (by decide) (c_MO_following (a := a) (o := some l) hM.1 hm h12 hR hs hf (fun l' h' => by cases h'; exact hl)) (fun h T hM => ?_)
      refine jr_istore_n d_MO_near_60 rfl (by decide) ?_
      refine jr_iinc1 d_MO_near_61 rfl (by decide) ?_
      refine jr_goto (tgt := 46) d_MO_near_64 (by decide) ?_
      rw [nI_1]
      have e : nrI a s m (k + 1) = fol a s (some l) m := by rw [nrI, hq]
      rw [e] at ih
      exact ih h T hM
theorem c_MO_near {G : jy_G} {h0 : jy_P} {f : Nat → Int32} {a : Nat → Nat → Int32} {m s : Nat} (hM : Mo h0 f a) (hm : f 4 = nI m) (h12 : m ≤ 12) (hR : tOk (a 13) m) (hs : s ≤ 8) (hf : f 27 = nI s) (i : Int32) : jy_C G 5 m_MO_near [.ref 11, .int i] h0 (aR h0 (nea f a m i)) := by
  refine jy_C.of [some (.ref 11), some (.int i), none, none] rfl (Nat.le_of_ble_eq_true rfl) ?_
  have hM := MS.rf hM
  refine jr_aload_n d_MO_near_0 rfl rfl ?_
  refine jr_iload_n d_MO_near_1 rfl rfl ?_
  refine jr_if_lt (tgt := 9) d_MO_near_2 (by decide) (fun hc => ?_) (fun hc => ?_)
  · refine jr_iconst (v := 0) d_MO_near_9 (by decide) ?_
    refine jr_iconst (v := 1) d_MO_near_10 (by decide) ?_
    refine jr_iconst (v := 1) d_MO_near_11 (by decide) ?_
    refine mr_call3 d_MO_near_12 i_MO_74 hM (Nat.le_of_ble_eq_true rfl) (by decide) (c_MO_goes hM.1 false true true) (fun h hM => ?_)
    refine jr_if_eq (tgt := 25) d_MO_near_15 (by decide) (fun _ => ?_) (fun q => absurd rfl q)
    refine jr_aload_n d_MO_near_25 rfl rfl ?_
    refine mr_get d_MO_near_26 f_MO_64 hM rfl ?_
    refine jr_if_le (tgt := 36) d_MO_near_29 (by decide) (fun q => absurd (show (1 : Int32) ≤ 0 from q) (by decide)) (fun _ => ?_)
    refine jr_iconst (v := 0) d_MO_near_32 (by decide) ?_
    refine jr_goto (tgt := 37) d_MO_near_33 (by decide) ?_
    refine jr_ireturn d_MO_near_37 rfl rfl ?_
    rw [nea, if_neg (by rw [decide_eq_false (Int32.not_le.mpr hc)]; decide)]
    exact ⟨rfl, a 24, by rw [at24_self]; exact hM⟩
  · refine jr_iconst (v := 1) d_MO_near_5 (by decide) ?_
    refine jr_goto (tgt := 10) d_MO_near_6 (by decide) ?_
    refine jr_iconst (v := 1) d_MO_near_10 (by decide) ?_
    refine jr_iconst (v := 1) d_MO_near_11 (by decide) ?_
    refine mr_call3 d_MO_near_12 i_MO_74 hM (Nat.le_of_ble_eq_true rfl) (by decide) (c_MO_goes hM.1 true true true) (fun h hM => ?_)
    rw [nea, if_pos (by rw [decide_eq_true (Int32.not_lt.mp hc)])]
    refine jr_if_eq (tgt := 25) d_MO_near_15 (by decide) (fun q => absurd q (by decide)) (fun _ => ?_)
    refine jr_aload_n d_MO_near_18 rfl rfl ?_
    refine mr_get d_MO_near_19 f_MO_134 hM rfl ?_
    refine jr_if_ne (tgt := 38) d_MO_near_22 (by decide) (fun hc2 => ?_) (fun hc2 => ?_)
    · have hc2 : ¬ f 27 = 0 := hc2
      have hM : MS h0 h (upd f 0 0) (at24 a (a 24)) := by rw [at24_self]; exact hM
      rw [if_neg hc2, hf, nI_clamp (by omega)]
      obtain ⟨j, hj, rfl⟩ := nI_of hc
      rw [nI_clamp hj]
      refine jr_aload_n d_MO_near_38 rfl rfl ?_
      refine jr_iconst (v := -1) d_MO_near_39 (by decide) ?_
      refine mr_callA1 d_MO_near_40 i_MO_153 hM (Nat.le_of_ble_eq_true rfl) (by decide) (c_MO_following (a := a) (o := none) hM.1 hm h12 hR hs hf (fun l hl => by cases hl)) (fun h T hM => ?_)
      refine jr_istore_n d_MO_near_43 rfl (by decide) ?_
      refine jr_iconst (v := 0) d_MO_near_44 (by decide) ?_
      refine jr_istore_n d_MO_near_45 rfl (by decide) ?_
      exact mo_near (f := upd f 0 0) hm h12 hR hs hf hj 0 (Nat.zero_le _) h T hM
    · have hc2 : f 27 = 0 := hc2
      rw [if_pos hc2]
      refine jr_aload_n d_MO_near_25 rfl rfl ?_
      refine mr_get d_MO_near_26 f_MO_64 hM rfl ?_
      refine jr_if_le (tgt := 36) d_MO_near_29 (by decide) (fun _ => ?_) (fun q => absurd (show (0 : Int32) ≤ 0 by decide) q)
      refine jr_iconst (v := -1) d_MO_near_36 (by decide) ?_
      refine jr_ireturn d_MO_near_37 rfl rfl ?_
      exact ⟨rfl, a 24, by rw [at24_self]; exact hM⟩
