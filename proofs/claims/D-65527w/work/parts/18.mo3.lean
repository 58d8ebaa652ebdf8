/-! the reference: mixture and plume -/
abbrev Rs : Type := Int32 × (Nat → Int32) × (Nat → Nat → Int32)
def mR (h : jy_P) (x : Rs) : Outcome → jy_P → Prop := mP h (some (.int x.1)) x.2.1 x.2.2
/-- a loop that counts up -/
theorem jl_up (n : Nat) (Q : Nat → Prop) (he : Q n) (hs : ∀ p, p < n → Q (p + 1) → Q p) : ∀ p, p ≤ n → Q p := by
  have : ∀ k p, n - p = k → p ≤ n → Q p := by
    intro k
    induction k with
    | zero =>
      intro p h1 h2
      have : p = n := by omega
      subst this
      exact he
    | succ k ih =>
      intro p h1 h2
      exact hs p (by omega) (ih (p + 1) (by omega) (by omega))
  exact fun p hp => this (n - p) p rfl hp
theorem jl_lt {a b : Nat} (hb : b < 2 ^ 31) {A : Prop} (h : a < b) : nI b ≤ nI a → A := fun q => absurd q (nI_ge h hb)
theorem jl_eq {a : Nat} (ha : a < 2 ^ 31) {A : Prop} : ¬ nI a ≤ nI a → A := fun q => absurd (nI_le (Nat.le_refl a) ha) q
def cnt (g : Nat → Bool) : Nat → Nat
  | 0 => 0
  | p + 1 => cnt g p + (if g p then 1 else 0)
theorem cnt_congr {g g' : Nat → Bool} : ∀ {n : Nat}, (∀ p, p < n → g p = g' p) → cnt g n = cnt g' n := by
  intro n
  induction n with
  | zero => intro _; rfl
  | succ n ih =>
    intro h
    show cnt g n + _ = cnt g' n + _
    rw [ih (fun p hp => h p (by omega)), h n (by omega)]
def gk (f : Nat → Int32) (a : Nat → Nat → Int32) (m : Nat) (n : Int32) : Option Nat := match fd (a 13) n m with
  | some k => some k
  | none => if f 5 = 0 then none else some 12
def kO : Option Nat → Nat
  | none => 0
  | some k => k
theorem gk_le {f : Nat → Int32} {a : Nat → Nat → Int32} {m : Nat} {n : Int32} (h12 : m ≤ 12) : kO (gk f a m n) ≤ 12 := by
  unfold gk
  split
  · rename_i k hk
    have := (fd_lt hk).1
    show k ≤ 12
    omega
  · split
    · show 0 ≤ 12; omega
    · show 12 ≤ 12; omega
theorem oI_kO {o : Option Nat} (h : o.isSome = true) : oI o = nI (kO o) := by
  cases o with
  | none => cases h
  | some k => rfl
theorem oI_lt {o : Option Nat} (hk : kO o < 2 ^ 31) : oI o < 0 ↔ o.isSome = false := by
  cases o with
  | none => exact ⟨fun _ => rfl, fun _ => by decide⟩
  | some k => exact ⟨fun q => absurd q (nI_pos hk), fun q => by cases q⟩
def adA (a : Nat → Nat → Int32) (p : Nat) (n l : Int32) (k : Nat) : Nat → Nat → Int32 := upd2 (upd2 (upd2 a 15 p n) 16 p l) 17 p (nI k)
def adG (f : Nat → Int32) (a : Nat → Nat → Int32) (m p : Nat) (n l : Int32) : Bool := (gk f a m n).isSome && (inB n 1 9999 && inB l 1 100000) && decide (p < 8)
def ad (f : Nat → Int32) (a : Nat → Nat → Int32) (m p : Nat) (n l : Int32) : Rs :=
  if adG f a m p n l = true then (nI (cnt (fun q => ctr (adA a p n l (kO (gk f a m n))) q p) p), upd (upd f 0 0) 12 (nI (p + 1)), adA a p n l (kO (gk f a m n)))
  else (0, upd f 0 (gT (gk f a m n).isSome (inB n 1 9999 && inB l 1 100000) (decide (p < 8))), a)
theorem adA_ix {a : Nat → Nat → Int32} {p k : Nat} {n l : Int32} (hI : ixOk a p) (hk : k ≤ 12) : ixOk (adA a p n l k) (p + 1) := by
  intro r hr
  have e : adA a p n l k 17 = upd (a 17) p (nI k) := rfl
  unfold iP
  rw [e]
  by_cases hrp : r = p
  · subst hrp
    rw [upd_s, nI_clamp (by omega)]
    exact ⟨rfl, hk⟩
  · rw [upd_n hrp]
    exact hI r (by omega)
theorem d_MO_add_0 : decode (jy_c m_MO_add) 0 = .ok (.aload_n 0, 1) := by decide +kernel
theorem d_MO_add_1 : decode (jy_c m_MO_add) 1 = .ok (.iload_n 1, 1) := by decide +kernel
theorem d_MO_add_2 : decode (jy_c m_MO_add) 2 = .ok (.invokevirtual 140, 3) := by decide +kernel
theorem d_MO_add_5 : decode (jy_c m_MO_add) 5 = .ok (.istore_n 3, 1) := by decide +kernel
theorem d_MO_add_6 : decode (jy_c m_MO_add) 6 = .ok (.iload_n 3, 1) := by decide +kernel
theorem d_MO_add_7 : decode (jy_c m_MO_add) 7 = .ok (.ifCond .ge 13, 3) := by decide +kernel
theorem d_MO_add_10 : decode (jy_c m_MO_add) 10 = .ok (.aload_n 0, 1) := by decide +kernel
theorem d_MO_add_11 : decode (jy_c m_MO_add) 11 = .ok (.getfield 131, 3) := by decide +kernel
theorem d_MO_add_14 : decode (jy_c m_MO_add) 14 = .ok (.ifCond .eq 6, 3) := by decide +kernel
theorem d_MO_add_17 : decode (jy_c m_MO_add) 17 = .ok (.bipush 12, 2) := by decide +kernel
theorem d_MO_add_19 : decode (jy_c m_MO_add) 19 = .ok (.istore_n 3, 1) := by decide +kernel
theorem d_MO_add_20 : decode (jy_c m_MO_add) 20 = .ok (.aload_n 0, 1) := by decide +kernel
theorem d_MO_add_21 : decode (jy_c m_MO_add) 21 = .ok (.iload_n 3, 1) := by decide +kernel
theorem d_MO_add_22 : decode (jy_c m_MO_add) 22 = .ok (.ifCond .lt 7, 3) := by decide +kernel
theorem d_MO_add_25 : decode (jy_c m_MO_add) 25 = .ok (.iconst 1, 1) := by decide +kernel
theorem d_MO_add_26 : decode (jy_c m_MO_add) 26 = .ok (.goto 4, 3) := by decide +kernel
theorem d_MO_add_29 : decode (jy_c m_MO_add) 29 = .ok (.iconst 0, 1) := by decide +kernel
theorem d_MO_add_30 : decode (jy_c m_MO_add) 30 = .ok (.iload_n 1, 1) := by decide +kernel
theorem d_MO_add_31 : decode (jy_c m_MO_add) 31 = .ok (.iconst 1, 1) := by decide +kernel
theorem d_MO_add_32 : decode (jy_c m_MO_add) 32 = .ok (.sipush 9999, 3) := by decide +kernel
theorem d_MO_add_35 : decode (jy_c m_MO_add) 35 = .ok (.invokestatic 67, 3) := by decide +kernel
theorem d_MO_add_38 : decode (jy_c m_MO_add) 38 = .ok (.ifCond .eq 17, 3) := by decide +kernel
theorem d_MO_add_41 : decode (jy_c m_MO_add) 41 = .ok (.iload_n 2, 1) := by decide +kernel
theorem d_MO_add_42 : decode (jy_c m_MO_add) 42 = .ok (.iconst 1, 1) := by decide +kernel
theorem d_MO_add_43 : decode (jy_c m_MO_add) 43 = .ok (.ldc 156, 2) := by decide +kernel
theorem d_MO_add_45 : decode (jy_c m_MO_add) 45 = .ok (.invokestatic 67, 3) := by decide +kernel
theorem d_MO_add_48 : decode (jy_c m_MO_add) 48 = .ok (.ifCond .eq 7, 3) := by decide +kernel
theorem d_MO_add_51 : decode (jy_c m_MO_add) 51 = .ok (.iconst 1, 1) := by decide +kernel
theorem d_MO_add_52 : decode (jy_c m_MO_add) 52 = .ok (.goto 4, 3) := by decide +kernel
theorem d_MO_add_55 : decode (jy_c m_MO_add) 55 = .ok (.iconst 0, 1) := by decide +kernel
theorem d_MO_add_56 : decode (jy_c m_MO_add) 56 = .ok (.aload_n 0, 1) := by decide +kernel
theorem d_MO_add_57 : decode (jy_c m_MO_add) 57 = .ok (.getfield 157, 3) := by decide +kernel
theorem d_MO_add_60 : decode (jy_c m_MO_add) 60 = .ok (.bipush 8, 2) := by decide +kernel
theorem d_MO_add_62 : decode (jy_c m_MO_add) 62 = .ok (.if_icmp .ge 7, 3) := by decide +kernel
theorem d_MO_add_65 : decode (jy_c m_MO_add) 65 = .ok (.iconst 1, 1) := by decide +kernel
theorem d_MO_add_66 : decode (jy_c m_MO_add) 66 = .ok (.goto 4, 3) := by decide +kernel
theorem d_MO_add_69 : decode (jy_c m_MO_add) 69 = .ok (.iconst 0, 1) := by decide +kernel
theorem d_MO_add_70 : decode (jy_c m_MO_add) 70 = .ok (.invokevirtual 74, 3) := by decide +kernel
theorem d_MO_add_73 : decode (jy_c m_MO_add) 73 = .ok (.ifCond .ne 5, 3) := by decide +kernel
theorem d_MO_add_76 : decode (jy_c m_MO_add) 76 = .ok (.iconst 0, 1) := by decide +kernel
theorem d_MO_add_77 : decode (jy_c m_MO_add) 77 = .ok (.ireturn, 1) := by decide +kernel
theorem d_MO_add_78 : decode (jy_c m_MO_add) 78 = .ok (.aload_n 0, 1) := by decide +kernel
theorem d_MO_add_79 : decode (jy_c m_MO_add) 79 = .ok (.getfield 23, 3) := by decide +kernel
theorem d_MO_add_82 : decode (jy_c m_MO_add) 82 = .ok (.aload_n 0, 1) := by decide +kernel
theorem d_MO_add_83 : decode (jy_c m_MO_add) 83 = .ok (.getfield 157, 3) := by decide +kernel
theorem d_MO_add_86 : decode (jy_c m_MO_add) 86 = .ok (.iload_n 1, 1) := by decide +kernel
theorem d_MO_add_87 : decode (jy_c m_MO_add) 87 = .ok (.iastore, 1) := by decide +kernel
theorem d_MO_add_88 : decode (jy_c m_MO_add) 88 = .ok (.aload_n 0, 1) := by decide +kernel
theorem d_MO_add_89 : decode (jy_c m_MO_add) 89 = .ok (.getfield 26, 3) := by decide +kernel
theorem d_MO_add_92 : decode (jy_c m_MO_add) 92 = .ok (.aload_n 0, 1) := by decide +kernel
theorem d_MO_add_93 : decode (jy_c m_MO_add) 93 = .ok (.getfield 157, 3) := by decide +kernel
theorem d_MO_add_96 : decode (jy_c m_MO_add) 96 = .ok (.iload_n 2, 1) := by decide +kernel
theorem d_MO_add_97 : decode (jy_c m_MO_add) 97 = .ok (.iastore, 1) := by decide +kernel
theorem d_MO_add_98 : decode (jy_c m_MO_add) 98 = .ok (.aload_n 0, 1) := by decide +kernel
theorem d_MO_add_99 : decode (jy_c m_MO_add) 99 = .ok (.getfield 29, 3) := by decide +kernel
theorem d_MO_add_102 : decode (jy_c m_MO_add) 102 = .ok (.aload_n 0, 1) := by decide +kernel
theorem d_MO_add_103 : decode (jy_c m_MO_add) 103 = .ok (.getfield 157, 3) := by decide +kernel
theorem d_MO_add_106 : decode (jy_c m_MO_add) 106 = .ok (.iload_n 3, 1) := by decide +kernel
theorem d_MO_add_107 : decode (jy_c m_MO_add) 107 = .ok (.iastore, 1) := by decide +kernel
theorem d_MO_add_108 : decode (jy_c m_MO_add) 108 = .ok (.aload_n 0, 1) := by decide +kernel
theorem d_MO_add_109 : decode (jy_c m_MO_add) 109 = .ok (.dup, 1) := by decide +kernel
theorem d_MO_add_110 : decode (jy_c m_MO_add) 110 = .ok (.getfield 157, 3) := by decide +kernel
theorem d_MO_add_113 : decode (jy_c m_MO_add) 113 = .ok (.iconst 1, 1) := by decide +kernel
theorem d_MO_add_114 : decode (jy_c m_MO_add) 114 = .ok (.iadd, 1) := by decide +kernel
theorem d_MO_add_115 : decode (jy_c m_MO_add) 115 = .ok (.putfield 157, 3) := by decide +kernel
theorem d_MO_add_118 : decode (jy_c m_MO_add) 118 = .ok (.iconst 0, 1) := by decide +kernel
theorem d_MO_add_119 : decode (jy_c m_MO_add) 119 = .ok (.istore 4, 2) := by decide +kernel
theorem d_MO_add_121 : decode (jy_c m_MO_add) 121 = .ok (.iconst 0, 1) := by decide +kernel
theorem d_MO_add_122 : decode (jy_c m_MO_add) 122 = .ok (.istore 5, 2) := by decide +kernel
theorem d_MO_add_124 : decode (jy_c m_MO_add) 124 = .ok (.iload 5, 2) := by decide +kernel
theorem d_MO_add_126 : decode (jy_c m_MO_add) 126 = .ok (.aload_n 0, 1) := by decide +kernel
theorem d_MO_add_127 : decode (jy_c m_MO_add) 127 = .ok (.getfield 157, 3) := by decide +kernel
theorem d_MO_add_130 : decode (jy_c m_MO_add) 130 = .ok (.iconst 1, 1) := by decide +kernel
theorem d_MO_add_131 : decode (jy_c m_MO_add) 131 = .ok (.isub, 1) := by decide +kernel
theorem d_MO_add_132 : decode (jy_c m_MO_add) 132 = .ok (.if_icmp .ge 27, 3) := by decide +kernel
theorem d_MO_add_135 : decode (jy_c m_MO_add) 135 = .ok (.aload_n 0, 1) := by decide +kernel
theorem d_MO_add_136 : decode (jy_c m_MO_add) 136 = .ok (.iload 5, 2) := by decide +kernel
theorem d_MO_add_138 : decode (jy_c m_MO_add) 138 = .ok (.aload_n 0, 1) := by decide +kernel
theorem d_MO_add_139 : decode (jy_c m_MO_add) 139 = .ok (.getfield 157, 3) := by decide +kernel
theorem d_MO_add_142 : decode (jy_c m_MO_add) 142 = .ok (.iconst 1, 1) := by decide +kernel
theorem d_MO_add_143 : decode (jy_c m_MO_add) 143 = .ok (.isub, 1) := by decide +kernel
theorem d_MO_add_144 : decode (jy_c m_MO_add) 144 = .ok (.invokevirtual 160, 3) := by decide +kernel
theorem d_MO_add_147 : decode (jy_c m_MO_add) 147 = .ok (.ifCond .eq 6, 3) := by decide +kernel
theorem d_MO_add_150 : decode (jy_c m_MO_add) 150 = .ok (.iinc 4 1, 3) := by decide +kernel
theorem d_MO_add_153 : decode (jy_c m_MO_add) 153 = .ok (.iinc 5 1, 3) := by decide +kernel
theorem d_MO_add_156 : decode (jy_c m_MO_add) 156 = .ok (.goto (-32), 3) := by decide +kernel
theorem d_MO_add_159 : decode (jy_c m_MO_add) 159 = .ok (.iload 4, 2) := by decide +kernel
theorem d_MO_add_161 : decode (jy_c m_MO_add) 161 = .ok (.ireturn, 1) := by decide +kernel
theorem mo_add {G : jy_G} {h0 h : jy_P} {f : Nat → Int32} {a : Nat → Nat → Int32} {p : Nat} {x y z : Int32} (hM : MS h0 h f a) (hn : f 12 = nI (p + 1)) (h8 : p < 8) (hI : ixOk a (p + 1)) : ∀ q, q ≤ p → jy_J G 2 m_MO_add 124 [some (.ref 11), some (.int x), some (.int y), some (.int z), some (.int (nI (cnt (fun q => ctr a q p) q))), some (.int (nI q))] [] h (mP h0 (some (.int (nI (cnt (fun q => ctr a q p) p)))) f a) := by
  refine jl_up p _ ?_ (fun q hq ih => ?_)
  · refine jr_iload d_MO_add_124 rfl ?_
    refine jr_aload_n d_MO_add_126 rfl rfl ?_
    refine mr_get d_MO_add_127 f_MO_157 hM rfl ?_
    refine jr_iconst (v := 1) d_MO_add_130 (by decide) ?_
    refine jr_isub d_MO_add_131 ?_
    rw [hn, nI_pred]
    refine jr_icmp_ge (tgt := 159) d_MO_add_132 (by decide) (fun hc => ?_) (jl_eq (by omega))
    refine jr_iload d_MO_add_159 rfl ?_
    refine jr_ireturn d_MO_add_161 rfl rfl ?_
    exact ⟨rfl, hM⟩
  · refine jr_iload d_MO_add_124 rfl ?_
    refine jr_aload_n d_MO_add_126 rfl rfl ?_
    refine mr_get d_MO_add_127 f_MO_157 hM rfl ?_
    refine jr_iconst (v := 1) d_MO_add_130 (by decide) ?_
    refine jr_isub d_MO_add_131 ?_
    rw [hn, nI_pred]
    refine jr_icmp_ge (tgt := 159) d_MO_add_132 (by decide) (jl_lt (by omega) hq) (fun hc => ?_)
    refine jr_aload_n d_MO_add_135 rfl rfl ?_
    refine jr_iload d_MO_add_136 rfl ?_
    refine jr_aload_n d_MO_add_138 rfl rfl ?_
    refine mr_get d_MO_add_139 f_MO_157 hM rfl ?_
    refine jr_iconst (v := 1) d_MO_add_142 (by decide) ?_
    refine jr_isub d_MO_add_143 ?_
    rw [hn, nI_pred]
    refine mr_callP2 d_MO_add_144 i_MO_160 hM (Nat.le_of_ble_eq_true rfl) (by decide) (c_MO_contradict hM.1 (by omega) hI (by omega) (by omega)) ?_
    refine jr_if_eq (tgt := 153) d_MO_add_147 (by decide) (fun hc => ?_) (fun hc => ?_)
    · refine jr_iinc1 d_MO_add_153 rfl (by decide) ?_
      refine jr_goto (tgt := 124) d_MO_add_156 (by decide) ?_
      rw [nI_1]
      have : cnt (fun q => ctr a q p) (q + 1) = cnt (fun q => ctr a q p) q := by simp [cnt, bI_eq0.mp hc]
      rw [this] at ih
      exact ih
    · refine jr_iinc1 d_MO_add_150 rfl (by decide) ?_
      refine jr_iinc1 d_MO_add_153 rfl (by decide) ?_
      refine jr_goto (tgt := 124) d_MO_add_156 (by decide) ?_
      rw [nI_1, nI_1]
      have : cnt (fun q => ctr a q p) (q + 1) = cnt (fun q => ctr a q p) q + 1 := by simp [cnt, bI_ne0.mp hc]
      rw [this] at ih
      exact ih
theorem c_MO_add {G : jy_G} {h0 : jy_P} {f : Nat → Int32} {a : Nat → Nat → Int32} {m p : Nat} (hM : Mo h0 f a) (hm : f 4 = nI m) (h12 : m ≤ 12) (hn : f 12 = nI p) (h8 : p ≤ 8) (hI : ixOk a p) (n l : Int32) : jy_C G 2 m_MO_add [.ref 11, .int n, .int l] h0 (mR h0 (ad f a m p n l)) := by
  refine jy_C.of [some (.ref 11), some (.int n), some (.int l), none, none, none] rfl (Nat.le_of_ble_eq_true rfl) ?_
  have hM := MS.rf hM
  generalize hg : mR h0 (ad f a m p n l) = P
  refine jr_aload_n d_MO_add_0 rfl rfl ?_
  refine jr_iload_n d_MO_add_1 rfl rfl ?_
  refine mr_callP1 d_MO_add_2 i_MO_140 hM (Nat.le_of_ble_eq_true rfl) (by decide) (c_MO_find hM.1 hm h12 n) ?_
  refine jr_istore_n d_MO_add_5 rfl (by decide) ?_
  refine jr_iload_n d_MO_add_6 rfl rfl ?_
  have hk12 : kO (gk f a m n) ≤ 12 := gk_le h12
  have key : jy_J G 2 m_MO_add 20 [some (.ref 11), some (.int n), some (.int l), some (.int (oI (gk f a m n))), none, none] [] h0 P := by
    refine jr_aload_n d_MO_add_20 rfl rfl ?_
    refine jr_iload_n d_MO_add_21 rfl rfl ?_
    refine jy_cut1 30 (fun z => z = bI (gk f a m n).isSome) (fun K => ?_) (fun z hz => ?_)
    · refine jr_if_lt (tgt := 29) d_MO_add_22 (by decide) (fun hc => ?_) (fun hc => ?_)
      · refine jr_iconst (v := 0) d_MO_add_29 (by decide) ?_
        exact K _ (by rw [(oI_lt (by omega)).mp hc]; rfl)
      · refine jr_iconst (v := 1) d_MO_add_25 (by decide) ?_
        refine jr_goto (tgt := 30) d_MO_add_26 (by decide) ?_
        exact K _ (by
          cases hq : (gk f a m n).isSome with
          | false => exact absurd ((oI_lt (by omega)).mpr hq) hc
          | true => rfl)
    subst hz
    refine jr_iload_n d_MO_add_30 rfl rfl ?_
    refine jr_iconst (v := 1) d_MO_add_31 (by decide) ?_
    refine jr_sipush (v := 9999) d_MO_add_32 (by decide) ?_
    refine jr_callSp3 d_MO_add_35 i_MO_67 (Nat.le_of_ble_eq_true rfl) (by decide) (c_MO_within _ _ _) ?_
    refine jy_cut1 56 (fun z => z = bI (inB n 1 9999 && inB l 1 100000)) (fun K => ?_) (fun z hz => ?_)
    · refine jr_if_eq (tgt := 55) d_MO_add_38 (by decide) (fun hc => ?_) (fun hc => ?_)
      · refine jr_iconst (v := 0) d_MO_add_55 (by decide) ?_
        exact K _ (by rw [bI_eq0.mp hc]; rfl)
      · refine jr_iload_n d_MO_add_41 rfl rfl ?_
        refine jr_iconst (v := 1) d_MO_add_42 (by decide) ?_
        refine jr_ldc d_MO_add_43 w_MO_156 ?_
        refine jr_callSp3 d_MO_add_45 i_MO_67 (Nat.le_of_ble_eq_true rfl) (by decide) (c_MO_within _ _ _) ?_
        refine jr_if_eq (tgt := 55) d_MO_add_48 (by decide) (fun hc2 => ?_) (fun hc2 => ?_)
        · refine jr_iconst (v := 0) d_MO_add_55 (by decide) ?_
          exact K _ (by rw [bI_eq0.mp hc2, Bool.and_false]; rfl)
        · refine jr_iconst (v := 1) d_MO_add_51 (by decide) ?_
          refine jr_goto (tgt := 56) d_MO_add_52 (by decide) ?_
          exact K _ (by rw [bI_ne0.mp hc, bI_ne0.mp hc2]; rfl)
    subst hz
    refine jr_aload_n d_MO_add_56 rfl rfl ?_
    refine mr_get d_MO_add_57 f_MO_157 hM rfl ?_
    refine jr_bipush (v := 8) d_MO_add_60 (by decide) ?_
    rw [hn]
    refine jy_cut2 70 (fun z => z = bI (decide (p < 8))) (fun K => ?_) (fun z hz => ?_)
    · refine jr_icmp_ge (tgt := 69) d_MO_add_62 (by decide) (fun hc => ?_) (fun hc => ?_)
      · have : ¬ p < 8 := fun q => absurd hc (nI_ge (b := 8) q (by omega))
        refine jr_iconst (v := 0) d_MO_add_69 (by decide) ?_
        exact K _ (by rw [decide_eq_false this]; rfl)
      · have : p < 8 := by
          rcases Nat.lt_or_ge p 8 with q | q
          · exact q
          · exact absurd (nI_le (a := 8) q (by omega)) hc
        refine jr_iconst (v := 1) d_MO_add_65 (by decide) ?_
        refine jr_goto (tgt := 70) d_MO_add_66 (by decide) ?_
        exact K _ (by rw [decide_eq_true this]; rfl)
    subst hz
    refine mr_call3 d_MO_add_70 i_MO_74 hM (Nat.le_of_ble_eq_true rfl) (by decide) (c_MO_goes hM.1 _ _ _) (fun h hM => ?_)
    refine jr_if_ne (tgt := 78) d_MO_add_73 (by decide) (fun hc => ?_) (fun hc => ?_)
    · have hG := bI_ne0.mp hc
      have g1 : (gk f a m n).isSome = true := by rw [Bool.and_eq_true, Bool.and_eq_true] at hG; exact hG.1.1
      have g2 : (inB n 1 9999 && inB l 1 100000) = true := by rw [Bool.and_eq_true, Bool.and_eq_true] at hG; exact hG.1.2
      have g3 : p < 8 := by rw [Bool.and_eq_true, Bool.and_eq_true] at hG; exact of_decide_eq_true hG.2
      have e0 : gT (gk f a m n).isSome (inB n 1 9999 && inB l 1 100000) (decide (p < 8)) = 0 := by rw [g1, g2, decide_eq_true g3]; rfl
      rw [e0] at hM
      have hP : P = mP h0 (some (.int (nI (cnt (fun q => ctr (adA a p n l (kO (gk f a m n))) q p) p)))) (upd (upd f 0 0) 12 (nI (p + 1))) (adA a p n l (kO (gk f a m n))) := by
        rw [← hg, ad, if_pos (show adG f a m p n l = true from hG)]; rfl
      rw [hP, oI_kO g1]
      refine jr_aload_n d_MO_add_78 rfl rfl ?_
      refine mr_get d_MO_add_79 f_MO_23 hM rfl ?_
      refine jr_aload_n d_MO_add_82 rfl rfl ?_
      refine mr_get d_MO_add_83 f_MO_157 hM rfl ?_
      refine jr_iload_n d_MO_add_86 rfl rfl ?_
      refine mr_ast d_MO_add_87 hM (by decide) hn g3 (fun h hM => ?_)
      refine jr_aload_n d_MO_add_88 rfl rfl ?_
      refine mr_get d_MO_add_89 f_MO_26 hM rfl ?_
      refine jr_aload_n d_MO_add_92 rfl rfl ?_
      refine mr_get d_MO_add_93 f_MO_157 hM rfl ?_
      refine jr_iload_n d_MO_add_96 rfl rfl ?_
      refine mr_ast d_MO_add_97 hM (by decide) hn g3 (fun h hM => ?_)
      refine jr_aload_n d_MO_add_98 rfl rfl ?_
      refine mr_get d_MO_add_99 f_MO_29 hM rfl ?_
      refine jr_aload_n d_MO_add_102 rfl rfl ?_
      refine mr_get d_MO_add_103 f_MO_157 hM rfl ?_
      refine jr_iload_n d_MO_add_106 rfl rfl ?_
      refine mr_ast d_MO_add_107 hM (by decide) hn g3 (fun h hM => ?_)
      refine jr_aload_n d_MO_add_108 rfl rfl ?_
      refine jr_dup d_MO_add_109 rfl ?_
      refine mr_get d_MO_add_110 f_MO_157 hM rfl ?_
      refine jr_iconst (v := 1) d_MO_add_113 (by decide) ?_
      refine jr_iadd d_MO_add_114 ?_
      refine mr_put d_MO_add_115 f_MO_157 rfl hM (fun h hM => ?_)
      refine jr_iconst (v := 0) d_MO_add_118 (by decide) ?_
      refine jr_istore d_MO_add_119 (by decide) ?_
      refine jr_iconst (v := 0) d_MO_add_121 (by decide) ?_
      refine jr_istore d_MO_add_122 (by decide) ?_
      have e1 : upd f 0 0 12 + 1 = nI (p + 1) := by show f 12 + 1 = _; rw [hn, nI_1]
      rw [e1] at hM
      exact mo_add hM upd_s g3 (adA_ix hI hk12) 0 (Nat.zero_le _)
    · have hG := bI_eq0.mp hc
      have hP : P = mP h0 (some (.int 0)) (upd f 0 (gT (gk f a m n).isSome (inB n 1 9999 && inB l 1 100000) (decide (p < 8)))) a := by
        rw [← hg, ad, if_neg (by rw [show adG f a m p n l = false from hG]; decide)]; rfl
      rw [hP]
      refine jr_iconst (v := 0) d_MO_add_76 (by decide) ?_
      refine jr_ireturn d_MO_add_77 rfl rfl ?_
      exact ⟨rfl, hM⟩
  rcases hfd : fd (a 13) n m with _ | k
  · refine jr_if_ge (tgt := 20) d_MO_add_7 (by decide) (fun hc => absurd hc (by decide)) (fun hc => ?_)
    refine jr_aload_n d_MO_add_10 rfl rfl ?_
    refine mr_get d_MO_add_11 f_MO_131 hM rfl ?_
    refine jr_if_eq (tgt := 20) d_MO_add_14 (by decide) (fun hc2 => ?_) (fun hc2 => ?_)
    · have : gk f a m n = none := by simp [gk, hfd, hc2]
      rw [this] at key
      exact key
    · have : gk f a m n = some 12 := by simp [gk, hfd, hc2]
      rw [this] at key
      refine jr_bipush (v := 12) d_MO_add_17 (by decide) ?_
      refine jr_istore_n d_MO_add_19 rfl (by decide) ?_
      exact key
  · have : gk f a m n = some k := by simp [gk, hfd]
    rw [this] at key
    have := (fd_lt hfd).1
    exact jr_if_ge (tgt := 20) d_MO_add_7 (by decide) (fun hc => key) (fun hc => absurd (nI_pos' (by omega)) hc)
