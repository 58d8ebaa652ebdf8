/-! the reference: wind, fresh, in, step, mark, over, material, sign -/
theorem dD_congr {a a' : Nat → Nat → Int32} {dy : Bool} (h3 : a' 13 = a 13) (h6 : a' 16 = a 16) (h7 : a' 17 = a 17) : ∀ n, dD a' dy n = dD a dy n := by
  intro n
  induction n with
  | zero => rfl
  | succ n ih => simp only [dD, ih, cl, dcol, iP, h3, h6, h7]
theorem plm_congr {a a' : Nat → Nat → Int32} {dy : Bool} {n : Nat} {wx wy x y : Int32} (h3 : a' 13 = a 13) (h6 : a' 16 = a 16) (h7 : a' 17 = a 17) : plm a' n dy wx wy x y = plm a n dy wx wy x y := by
  unfold plm
  rw [dD_congr h3 h6 h7]
def wsA (a : Nat → Nat → Int32) (g : Nat → Bool) : Nat → Nat → Nat → Int32
  | 0 => a
  | p + 1 => upd2 (wsA a g p) 20 p (bI (g p))
theorem wsA_n {a : Nat → Nat → Int32} {g : Nat → Bool} {B : Nat} (hB : B ≠ 20) : ∀ p, wsA a g p B = a B := by
  intro p
  induction p with
  | zero => rfl
  | succ p ih =>
    show upd2 (wsA a g p) 20 p (bI (g p)) B = a B
    rw [upd2_n hB, ih]
theorem wsA_s {a : Nat → Nat → Int32} {g : Nat → Bool} : ∀ p k, k < p → wsA a g p 20 k = bI (g k) := by
  intro p
  induction p with
  | zero => intro k hk; omega
  | succ p ih =>
    intro k hk
    show upd2 (wsA a g p) 20 p (bI (g p)) 20 k = bI (g k)
    rw [upd2_s]
    by_cases hkp : k = p
    · subst hkp
      exact upd_s
    · rw [upd_n hkp]
      exact ih k (by omega)
def frA (a : Nat → Nat → Int32) (g : Nat → Bool) : Nat → Nat → Nat → Int32
  | 0 => a
  | p + 1 => if g p then upd2 (frA a g p) 21 (cnt g p) (nI p) else frA a g p
theorem frA_n {a : Nat → Nat → Int32} {g : Nat → Bool} {B : Nat} (hB : B ≠ 21) : ∀ p, frA a g p B = a B := by
  intro p
  induction p with
  | zero => rfl
  | succ p ih =>
    unfold frA
    split
    · rw [upd2_n hB, ih]
    · exact ih
theorem cnt_le {g : Nat → Bool} : ∀ p, cnt g p ≤ p := by
  intro p
  induction p with
  | zero => exact Nat.le_refl _
  | succ p ih =>
    show cnt g p + (if g p then 1 else 0) ≤ p + 1
    split <;> omega
theorem cnt_mono {g : Nat → Bool} {k : Nat} : ∀ p, k ≤ p → cnt g k ≤ cnt g p := by
  intro p
  induction p with
  | zero => intro h; have : k = 0 := by omega
            subst this; exact Nat.le_refl _
  | succ p ih =>
    intro h
    by_cases hk : k = p + 1
    · subst hk; exact Nat.le_refl _
    · have := ih (by omega)
      show cnt g k ≤ cnt g p + (if g p then 1 else 0)
      omega
theorem cnt_lt {g : Nat → Bool} {k p : Nat} (h : k < p) (hg : g k = true) : cnt g k < cnt g p := by
  have := cnt_mono (g := g) (k := k + 1) p h
  have e : cnt g (k + 1) = cnt g k + 1 := by simp [cnt, hg]
  omega
theorem frA_s {a : Nat → Nat → Int32} {g : Nat → Bool} : ∀ p k, k < p → g k = true → frA a g p 21 (cnt g k) = nI k := by
  intro p
  induction p with
  | zero => intro k hk; omega
  | succ p ih =>
    intro k hk hg
    by_cases hkp : k = p
    · subst hkp
      simp only [frA, hg, if_true, upd2_s, upd_s]
    · have h1 := ih k (by omega) hg
      have h2 := cnt_lt (p := p) (by omega) hg
      unfold frA
      split
      · rw [upd2_s, upd_n (by omega)]
        exact h1
      · exact h1
def wdB (x y : Int32) : Bool := inB x (-100) 100 && inB y (-100) 100 && (decide (¬ x = 0) || decide (¬ y = 0))
/-- within the plume before, behind -/
def wd0 (f : Nat → Int32) (a : Nat → Nat → Int32) (n : Nat) (dy : Bool) (k : Nat) : Bool := plm a n dy (f 16) (f 17) (a 18 k) (a 19 k)
def wd1 (f : Nat → Int32) (a : Nat → Nat → Int32) (n : Nat) (dy : Bool) (x y : Int32) (dz : Bool) (k : Nat) : Bool := !wd0 f a n dy k && plm a n dz x y (a 18 k) (a 19 k)
def wd (f : Nat → Int32) (a : Nat → Nat → Int32) (n b : Nat) (dy : Bool) (x y : Int32) (dz : Bool) : Rs :=
  if wdB x y = true then (nI (cnt (wd1 f a n dy x y dz) b), upd (upd (upd (upd (upd f 0 0) 16 x) 17 y) 18 (bI dz)) 23 (nI (cnt (wd1 f a n dy x y dz) b)), frA (wsA a (wd0 f a n dy) b) (wd1 f a n dy x y dz) b)
  else (0, upd f 0 1, a)
theorem ixOk_congr {a a' : Nat → Nat → Int32} {n : Nat} (h : a' 17 = a 17) (hI : ixOk a n) : ixOk a' n := by
  intro p hp
  unfold iP
  rw [h]
  exact hI p hp
theorem d_MO_wind_0 : decode (jy_c m_MO_wind) 0 = .ok (.aload_n 0, 1) := by decide +kernel
theorem d_MO_wind_1 : decode (jy_c m_MO_wind) 1 = .ok (.iload_n 1, 1) := by decide +kernel
theorem d_MO_wind_2 : decode (jy_c m_MO_wind) 2 = .ok (.bipush (-100), 2) := by decide +kernel
theorem d_MO_wind_4 : decode (jy_c m_MO_wind) 4 = .ok (.bipush 100, 2) := by decide +kernel
theorem d_MO_wind_6 : decode (jy_c m_MO_wind) 6 = .ok (.invokestatic 67, 3) := by decide +kernel
theorem d_MO_wind_9 : decode (jy_c m_MO_wind) 9 = .ok (.ifCond .eq 26, 3) := by decide +kernel
theorem d_MO_wind_12 : decode (jy_c m_MO_wind) 12 = .ok (.iload_n 2, 1) := by decide +kernel
theorem d_MO_wind_13 : decode (jy_c m_MO_wind) 13 = .ok (.bipush (-100), 2) := by decide +kernel
theorem d_MO_wind_15 : decode (jy_c m_MO_wind) 15 = .ok (.bipush 100, 2) := by decide +kernel
theorem d_MO_wind_17 : decode (jy_c m_MO_wind) 17 = .ok (.invokestatic 67, 3) := by decide +kernel
theorem d_MO_wind_20 : decode (jy_c m_MO_wind) 20 = .ok (.ifCond .eq 15, 3) := by decide +kernel
theorem d_MO_wind_23 : decode (jy_c m_MO_wind) 23 = .ok (.iload_n 1, 1) := by decide +kernel
theorem d_MO_wind_24 : decode (jy_c m_MO_wind) 24 = .ok (.ifCond .ne 7, 3) := by decide +kernel
theorem d_MO_wind_27 : decode (jy_c m_MO_wind) 27 = .ok (.iload_n 2, 1) := by decide +kernel
theorem d_MO_wind_28 : decode (jy_c m_MO_wind) 28 = .ok (.ifCond .eq 7, 3) := by decide +kernel
theorem d_MO_wind_31 : decode (jy_c m_MO_wind) 31 = .ok (.iconst 1, 1) := by decide +kernel
theorem d_MO_wind_32 : decode (jy_c m_MO_wind) 32 = .ok (.goto 4, 3) := by decide +kernel
theorem d_MO_wind_35 : decode (jy_c m_MO_wind) 35 = .ok (.iconst 0, 1) := by decide +kernel
theorem d_MO_wind_36 : decode (jy_c m_MO_wind) 36 = .ok (.iconst 1, 1) := by decide +kernel
theorem d_MO_wind_37 : decode (jy_c m_MO_wind) 37 = .ok (.iconst 1, 1) := by decide +kernel
theorem d_MO_wind_38 : decode (jy_c m_MO_wind) 38 = .ok (.invokevirtual 74, 3) := by decide +kernel
theorem d_MO_wind_41 : decode (jy_c m_MO_wind) 41 = .ok (.ifCond .ne 5, 3) := by decide +kernel
theorem d_MO_wind_44 : decode (jy_c m_MO_wind) 44 = .ok (.iconst 0, 1) := by decide +kernel
theorem d_MO_wind_45 : decode (jy_c m_MO_wind) 45 = .ok (.ireturn, 1) := by decide +kernel
theorem d_MO_wind_46 : decode (jy_c m_MO_wind) 46 = .ok (.iconst 0, 1) := by decide +kernel
theorem d_MO_wind_47 : decode (jy_c m_MO_wind) 47 = .ok (.istore 4, 2) := by decide +kernel
theorem d_MO_wind_49 : decode (jy_c m_MO_wind) 49 = .ok (.iload 4, 2) := by decide +kernel
theorem d_MO_wind_51 : decode (jy_c m_MO_wind) 51 = .ok (.aload_n 0, 1) := by decide +kernel
theorem d_MO_wind_52 : decode (jy_c m_MO_wind) 52 = .ok (.getfield 179, 3) := by decide +kernel
theorem d_MO_wind_55 : decode (jy_c m_MO_wind) 55 = .ok (.if_icmp .ge 34, 3) := by decide +kernel
theorem d_MO_wind_58 : decode (jy_c m_MO_wind) 58 = .ok (.aload_n 0, 1) := by decide +kernel
theorem d_MO_wind_59 : decode (jy_c m_MO_wind) 59 = .ok (.getfield 45, 3) := by decide +kernel
theorem d_MO_wind_62 : decode (jy_c m_MO_wind) 62 = .ok (.iload 4, 2) := by decide +kernel
theorem d_MO_wind_64 : decode (jy_c m_MO_wind) 64 = .ok (.aload_n 0, 1) := by decide +kernel
theorem d_MO_wind_65 : decode (jy_c m_MO_wind) 65 = .ok (.aload_n 0, 1) := by decide +kernel
theorem d_MO_wind_66 : decode (jy_c m_MO_wind) 66 = .ok (.getfield 39, 3) := by decide +kernel
theorem d_MO_wind_69 : decode (jy_c m_MO_wind) 69 = .ok (.iload 4, 2) := by decide +kernel
theorem d_MO_wind_71 : decode (jy_c m_MO_wind) 71 = .ok (.iaload, 1) := by decide +kernel
theorem d_MO_wind_72 : decode (jy_c m_MO_wind) 72 = .ok (.aload_n 0, 1) := by decide +kernel
theorem d_MO_wind_73 : decode (jy_c m_MO_wind) 73 = .ok (.getfield 42, 3) := by decide +kernel
theorem d_MO_wind_76 : decode (jy_c m_MO_wind) 76 = .ok (.iload 4, 2) := by decide +kernel
theorem d_MO_wind_78 : decode (jy_c m_MO_wind) 78 = .ok (.iaload, 1) := by decide +kernel
theorem d_MO_wind_79 : decode (jy_c m_MO_wind) 79 = .ok (.invokevirtual 182, 3) := by decide +kernel
theorem d_MO_wind_82 : decode (jy_c m_MO_wind) 82 = .ok (.bastore, 1) := by decide +kernel
theorem d_MO_wind_83 : decode (jy_c m_MO_wind) 83 = .ok (.iinc 4 1, 3) := by decide +kernel
theorem d_MO_wind_86 : decode (jy_c m_MO_wind) 86 = .ok (.goto (-37), 3) := by decide +kernel
theorem d_MO_wind_89 : decode (jy_c m_MO_wind) 89 = .ok (.aload_n 0, 1) := by decide +kernel
theorem d_MO_wind_90 : decode (jy_c m_MO_wind) 90 = .ok (.iload_n 1, 1) := by decide +kernel
theorem d_MO_wind_91 : decode (jy_c m_MO_wind) 91 = .ok (.putfield 32, 3) := by decide +kernel
theorem d_MO_wind_94 : decode (jy_c m_MO_wind) 94 = .ok (.aload_n 0, 1) := by decide +kernel
theorem d_MO_wind_95 : decode (jy_c m_MO_wind) 95 = .ok (.iload_n 2, 1) := by decide +kernel
theorem d_MO_wind_96 : decode (jy_c m_MO_wind) 96 = .ok (.putfield 171, 3) := by decide +kernel
theorem d_MO_wind_99 : decode (jy_c m_MO_wind) 99 = .ok (.aload_n 0, 1) := by decide +kernel
theorem d_MO_wind_100 : decode (jy_c m_MO_wind) 100 = .ok (.iload_n 3, 1) := by decide +kernel
theorem d_MO_wind_101 : decode (jy_c m_MO_wind) 101 = .ok (.putfield 35, 3) := by decide +kernel
theorem d_MO_wind_104 : decode (jy_c m_MO_wind) 104 = .ok (.aload_n 0, 1) := by decide +kernel
theorem d_MO_wind_105 : decode (jy_c m_MO_wind) 105 = .ok (.iconst 0, 1) := by decide +kernel
theorem d_MO_wind_106 : decode (jy_c m_MO_wind) 106 = .ok (.putfield 185, 3) := by decide +kernel
theorem d_MO_wind_109 : decode (jy_c m_MO_wind) 109 = .ok (.iconst 0, 1) := by decide +kernel
theorem d_MO_wind_110 : decode (jy_c m_MO_wind) 110 = .ok (.istore 4, 2) := by decide +kernel
theorem d_MO_wind_112 : decode (jy_c m_MO_wind) 112 = .ok (.iload 4, 2) := by decide +kernel
theorem d_MO_wind_114 : decode (jy_c m_MO_wind) 114 = .ok (.aload_n 0, 1) := by decide +kernel
theorem d_MO_wind_115 : decode (jy_c m_MO_wind) 115 = .ok (.getfield 179, 3) := by decide +kernel
theorem d_MO_wind_118 : decode (jy_c m_MO_wind) 118 = .ok (.if_icmp .ge 64, 3) := by decide +kernel
theorem d_MO_wind_121 : decode (jy_c m_MO_wind) 121 = .ok (.aload_n 0, 1) := by decide +kernel
theorem d_MO_wind_122 : decode (jy_c m_MO_wind) 122 = .ok (.getfield 45, 3) := by decide +kernel
theorem d_MO_wind_125 : decode (jy_c m_MO_wind) 125 = .ok (.iload 4, 2) := by decide +kernel
theorem d_MO_wind_127 : decode (jy_c m_MO_wind) 127 = .ok (.baload, 1) := by decide +kernel
theorem d_MO_wind_128 : decode (jy_c m_MO_wind) 128 = .ok (.ifCond .ne 48, 3) := by decide +kernel
theorem d_MO_wind_131 : decode (jy_c m_MO_wind) 131 = .ok (.aload_n 0, 1) := by decide +kernel
theorem d_MO_wind_132 : decode (jy_c m_MO_wind) 132 = .ok (.aload_n 0, 1) := by decide +kernel
theorem d_MO_wind_133 : decode (jy_c m_MO_wind) 133 = .ok (.getfield 39, 3) := by decide +kernel
theorem d_MO_wind_136 : decode (jy_c m_MO_wind) 136 = .ok (.iload 4, 2) := by decide +kernel
theorem d_MO_wind_138 : decode (jy_c m_MO_wind) 138 = .ok (.iaload, 1) := by decide +kernel
theorem d_MO_wind_139 : decode (jy_c m_MO_wind) 139 = .ok (.aload_n 0, 1) := by decide +kernel
theorem d_MO_wind_140 : decode (jy_c m_MO_wind) 140 = .ok (.getfield 42, 3) := by decide +kernel
theorem d_MO_wind_143 : decode (jy_c m_MO_wind) 143 = .ok (.iload 4, 2) := by decide +kernel
theorem d_MO_wind_145 : decode (jy_c m_MO_wind) 145 = .ok (.iaload, 1) := by decide +kernel
theorem d_MO_wind_146 : decode (jy_c m_MO_wind) 146 = .ok (.invokevirtual 182, 3) := by decide +kernel
theorem d_MO_wind_149 : decode (jy_c m_MO_wind) 149 = .ok (.ifCond .ne 6, 3) := by decide +kernel
theorem d_MO_wind_152 : decode (jy_c m_MO_wind) 152 = .ok (.goto 24, 3) := by decide +kernel
theorem d_MO_wind_155 : decode (jy_c m_MO_wind) 155 = .ok (.aload_n 0, 1) := by decide +kernel
theorem d_MO_wind_156 : decode (jy_c m_MO_wind) 156 = .ok (.getfield 49, 3) := by decide +kernel
theorem d_MO_wind_159 : decode (jy_c m_MO_wind) 159 = .ok (.aload_n 0, 1) := by decide +kernel
theorem d_MO_wind_160 : decode (jy_c m_MO_wind) 160 = .ok (.getfield 185, 3) := by decide +kernel
theorem d_MO_wind_163 : decode (jy_c m_MO_wind) 163 = .ok (.iload 4, 2) := by decide +kernel
theorem d_MO_wind_165 : decode (jy_c m_MO_wind) 165 = .ok (.iastore, 1) := by decide +kernel
theorem d_MO_wind_166 : decode (jy_c m_MO_wind) 166 = .ok (.aload_n 0, 1) := by decide +kernel
theorem d_MO_wind_167 : decode (jy_c m_MO_wind) 167 = .ok (.dup, 1) := by decide +kernel
theorem d_MO_wind_168 : decode (jy_c m_MO_wind) 168 = .ok (.getfield 185, 3) := by decide +kernel
theorem d_MO_wind_171 : decode (jy_c m_MO_wind) 171 = .ok (.iconst 1, 1) := by decide +kernel
theorem d_MO_wind_172 : decode (jy_c m_MO_wind) 172 = .ok (.iadd, 1) := by decide +kernel
theorem d_MO_wind_173 : decode (jy_c m_MO_wind) 173 = .ok (.putfield 185, 3) := by decide +kernel
theorem d_MO_wind_176 : decode (jy_c m_MO_wind) 176 = .ok (.iinc 4 1, 3) := by decide +kernel
theorem d_MO_wind_179 : decode (jy_c m_MO_wind) 179 = .ok (.goto (-67), 3) := by decide +kernel
theorem d_MO_wind_182 : decode (jy_c m_MO_wind) 182 = .ok (.aload_n 0, 1) := by decide +kernel
theorem d_MO_wind_183 : decode (jy_c m_MO_wind) 183 = .ok (.getfield 185, 3) := by decide +kernel
theorem d_MO_wind_186 : decode (jy_c m_MO_wind) 186 = .ok (.ireturn, 1) := by decide +kernel
theorem mo_wind1 {G : jy_G} {h0 : jy_P} {f : Nat → Int32} {a : Nat → Nat → Int32} {n b : Nat} {dy : Bool} {x y z : Int32} {P : Outcome → jy_P → Prop} (hn : f 12 = nI n) (h8 : n ≤ 8) (hI : ixOk a n) (hd : f 18 = bI dy) (hb : f 19 = nI b) (h40 : b ≤ 40)
    (K : ∀ h, MS h0 h f (wsA a (wd0 f a n dy) b) → jy_J G 3 m_MO_wind 89 [some (.ref 11), some (.int x), some (.int y), some (.int z), some (.int (nI b))] [] h P) : ∀ p, p ≤ b → ∀ h, MS h0 h f (wsA a (wd0 f a n dy) p) → jy_J G 3 m_MO_wind 49 [some (.ref 11), some (.int x), some (.int y), some (.int z), some (.int (nI p))] [] h P := by
  refine jl_up b _ (fun h hM => ?_) (fun p hp ih h hM => ?_)
  · refine jr_iload d_MO_wind_49 rfl ?_
    refine jr_aload_n d_MO_wind_51 rfl rfl ?_
    refine mr_get d_MO_wind_52 f_MO_179 hM rfl ?_
    rw [hb]
    exact jr_icmp_ge (tgt := 89) d_MO_wind_55 (by decide) (fun hc => K h hM) (jl_eq (by omega))
  · refine jr_iload d_MO_wind_49 rfl ?_
    refine jr_aload_n d_MO_wind_51 rfl rfl ?_
    refine mr_get d_MO_wind_52 f_MO_179 hM rfl ?_
    rw [hb]
    refine jr_icmp_ge (tgt := 89) d_MO_wind_55 (by decide) (jl_lt (by omega) hp) (fun hc => ?_)
    refine jr_aload_n d_MO_wind_58 rfl rfl ?_
    refine mr_get d_MO_wind_59 f_MO_45 hM rfl ?_
    refine jr_iload d_MO_wind_62 rfl ?_
    refine jr_aload_n d_MO_wind_64 rfl rfl ?_
    refine jr_aload_n d_MO_wind_65 rfl rfl ?_
    refine mr_get d_MO_wind_66 f_MO_39 hM rfl ?_
    refine jr_iload d_MO_wind_69 rfl ?_
    refine mr_ald d_MO_wind_71 hM (by decide) rfl (by show p < 40; omega) ?_
    refine jr_aload_n d_MO_wind_72 rfl rfl ?_
    refine mr_get d_MO_wind_73 f_MO_42 hM rfl ?_
    refine jr_iload d_MO_wind_76 rfl ?_
    refine mr_ald d_MO_wind_78 hM (by decide) rfl (by show p < 40; omega) ?_
    refine mr_callP2 d_MO_wind_79 i_MO_182 hM (Nat.le_of_ble_eq_true rfl) (by decide) (c_MO_isIn hM.1 hn h8 (ixOk_congr (wsA_n (by decide) p) hI) hd _ _) ?_
    rw [plm_congr (a := a) (wsA_n (by decide) p) (wsA_n (by decide) p) (wsA_n (by decide) p), wsA_n (B := 18) (by decide) p, wsA_n (B := 19) (by decide) p]
    refine mr_zast d_MO_wind_82 hM rfl (by omega) (bI_01 _) (fun h hM => ?_)
    refine jr_iinc1 d_MO_wind_83 rfl (by decide) ?_
    refine jr_goto (tgt := 49) d_MO_wind_86 (by decide) ?_
    rw [nI_1]
    exact ih _ hM
theorem mo_wind2 {G : jy_G} {h0 : jy_P} {f : Nat → Int32} {a a0 : Nat → Nat → Int32} {n b : Nat} {dz : Bool} {x y z : Int32} {g : Nat → Bool} (hn : f 12 = nI n) (h8 : n ≤ 8) (hI : ixOk a n) (hd : f 18 = bI dz) (hb : f 19 = nI b) (h40 : b ≤ 40) (h13 : a 13 = a0 13) (h16 : a 16 = a0 16) (h17 : a 17 = a0 17)
    (hg : ∀ k, k < b → g k = (decide (a 20 k = 0) && plm a0 n dz (f 16) (f 17) (a 18 k) (a 19 k))) : ∀ p, p ≤ b → ∀ h, MS h0 h (upd f 23 (nI (cnt g p))) (frA a g p) → jy_J G 3 m_MO_wind 112 [some (.ref 11), some (.int x), some (.int y), some (.int z), some (.int (nI p))] [] h (mP h0 (some (.int (nI (cnt g b)))) (upd f 23 (nI (cnt g b))) (frA a g b)) := by
  refine jl_up b _ (fun h hM => ?_) (fun p hp ih h hM => ?_)
  · refine jr_iload d_MO_wind_112 rfl ?_
    refine jr_aload_n d_MO_wind_114 rfl rfl ?_
    refine mr_get d_MO_wind_115 f_MO_179 hM rfl ?_
    rw [show upd f 23 (nI (cnt g b)) 19 = f 19 from rfl, hb]
    refine jr_icmp_ge (tgt := 182) d_MO_wind_118 (by decide) (fun hc => ?_) (jl_eq (by omega))
    refine jr_aload_n d_MO_wind_182 rfl rfl ?_
    refine mr_get d_MO_wind_183 f_MO_185 hM rfl ?_
    refine jr_ireturn d_MO_wind_186 rfl rfl ?_
    exact ⟨by rw [upd_s], hM⟩
  · have hgp := hg p hp
    have hcp : cnt g p ≤ p := cnt_le p
    refine jr_iload d_MO_wind_112 rfl ?_
    refine jr_aload_n d_MO_wind_114 rfl rfl ?_
    refine mr_get d_MO_wind_115 f_MO_179 hM rfl ?_
    rw [show upd f 23 (nI (cnt g p)) 19 = f 19 from rfl, hb]
    refine jr_icmp_ge (tgt := 182) d_MO_wind_118 (by decide) (jl_lt (by omega) hp) (fun hc => ?_)
    refine jr_aload_n d_MO_wind_121 rfl rfl ?_
    refine mr_get d_MO_wind_122 f_MO_45 hM rfl ?_
    refine jr_iload d_MO_wind_125 rfl ?_
    refine mr_zald d_MO_wind_127 hM rfl (by omega) ?_
    rw [frA_n (B := 20) (by decide) p]
    have skip : g p = false → jy_J G 3 m_MO_wind 176 [some (.ref 11), some (.int x), some (.int y), some (.int z), some (.int (nI p))] [] h (mP h0 (some (.int (nI (cnt g b)))) (upd f 23 (nI (cnt g b))) (frA a g b)) := by
      intro hq
      refine jr_iinc1 d_MO_wind_176 rfl (by decide) ?_
      refine jr_goto (tgt := 112) d_MO_wind_179 (by decide) ?_
      rw [nI_1]
      have e1 : cnt g (p + 1) = cnt g p := by simp [cnt, hq]
      have e2 : frA a g (p + 1) = frA a g p := by simp [frA, hq]
      exact ih h (by rw [e1, e2]; exact hM)
    refine jr_if_ne (tgt := 176) d_MO_wind_128 (by decide) (fun hc2 => skip (by rw [hgp, decide_eq_false hc2]; rfl)) (fun hc2 => ?_)
    refine jr_aload_n d_MO_wind_131 rfl rfl ?_
    refine jr_aload_n d_MO_wind_132 rfl rfl ?_
    refine mr_get d_MO_wind_133 f_MO_39 hM rfl ?_
    refine jr_iload d_MO_wind_136 rfl ?_
    refine mr_ald d_MO_wind_138 hM (by decide) rfl (by show p < 40; omega) ?_
    refine jr_aload_n d_MO_wind_139 rfl rfl ?_
    refine mr_get d_MO_wind_140 f_MO_42 hM rfl ?_
    refine jr_iload d_MO_wind_143 rfl ?_
    refine mr_ald d_MO_wind_145 hM (by decide) rfl (by show p < 40; omega) ?_
    refine mr_callP2 d_MO_wind_146 i_MO_182 hM (Nat.le_of_ble_eq_true rfl) (by decide) (c_MO_isIn hM.1 hn h8 (ixOk_congr (frA_n (by decide) p) hI) hd _ _) ?_
    rw [plm_congr (a := a0) ((frA_n (by decide) p).trans h13) ((frA_n (by decide) p).trans h16) ((frA_n (by decide) p).trans h17), frA_n (B := 18) (by decide) p, frA_n (B := 19) (by decide) p, show upd f 23 (nI (cnt g p)) 16 = f 16 from rfl, show upd f 23 (nI (cnt g p)) 17 = f 17 from rfl]
    refine jr_if_ne (tgt := 155) d_MO_wind_149 (by decide) (fun hc3 => ?_) (fun hc3 => ?_)
    · have hq : g p = true := by rw [hgp, decide_eq_true hc2, bI_ne0.mp hc3]; rfl
      refine jr_aload_n d_MO_wind_155 rfl rfl ?_
      refine mr_get d_MO_wind_156 f_MO_49 hM rfl ?_
      refine jr_aload_n d_MO_wind_159 rfl rfl ?_
      refine mr_get d_MO_wind_160 f_MO_185 hM rfl ?_
      refine jr_iload d_MO_wind_163 rfl ?_
      refine mr_ast d_MO_wind_165 hM (by decide) upd_s (by show cnt g p < 40; omega) (fun h hM => ?_)
      refine jr_aload_n d_MO_wind_166 rfl rfl ?_
      refine jr_dup d_MO_wind_167 rfl ?_
      refine mr_get d_MO_wind_168 f_MO_185 hM rfl ?_
      refine jr_iconst (v := 1) d_MO_wind_171 (by decide) ?_
      refine jr_iadd d_MO_wind_172 ?_
      refine mr_put d_MO_wind_173 f_MO_185 rfl hM (fun h hM => ?_)
      refine jr_iinc1 d_MO_wind_176 rfl (by decide) ?_
      refine jr_goto (tgt := 112) d_MO_wind_179 (by decide) ?_
      rw [nI_1]
      have e1 : cnt g (p + 1) = cnt g p + 1 := by simp [cnt, hq]
      have e2 : frA a g (p + 1) = upd2 (frA a g p) 21 (cnt g p) (nI p) := by simp [frA, hq]
      refine ih h ?_
      rw [upd_upd, upd_s, nI_1] at hM
      rw [e1, e2]
      exact hM
    · refine jr_goto (tgt := 176) d_MO_wind_152 (by decide) ?_
      exact skip (by rw [hgp, bI_eq0.mp hc3, Bool.and_false])
theorem c_MO_wind {G : jy_G} {h0 : jy_P} {f : Nat → Int32} {a : Nat → Nat → Int32} {n b : Nat} {dy : Bool} (hM : Mo h0 f a) (hn : f 12 = nI n) (h8 : n ≤ 8) (hI : ixOk a n) (hd : f 18 = bI dy) (hb : f 19 = nI b) (h40 : b ≤ 40) (x y : Int32) (dz : Bool) : jy_C G 3 m_MO_wind [.ref 11, .int x, .int y, .int (bI dz)] h0 (mR h0 (wd f a n b dy x y dz)) := by
  refine jy_C.of [some (.ref 11), some (.int x), some (.int y), some (.int (bI dz)), none] rfl (Nat.le_of_ble_eq_true rfl) ?_
  have hM := MS.rf hM
  generalize hg : mR h0 (wd f a n b dy x y dz) = P
  refine jr_aload_n d_MO_wind_0 rfl rfl ?_
  refine jr_iload_n d_MO_wind_1 rfl rfl ?_
  refine jr_bipush (v := -100) d_MO_wind_2 (by decide) ?_
  refine jr_bipush (v := 100) d_MO_wind_4 (by decide) ?_
  refine jr_callSp3 d_MO_wind_6 i_MO_67 (Nat.le_of_ble_eq_true rfl) (by decide) (c_MO_within _ _ _) ?_
  refine jy_cut1 36 (fun z => z = bI (wdB x y)) (fun K => ?_) (fun z hz => ?_)
  · refine jr_if_eq (tgt := 35) d_MO_wind_9 (by decide) (fun hc => ?_) (fun hc => ?_)
    · refine jr_iconst (v := 0) d_MO_wind_35 (by decide) ?_
      exact K _ (by rw [wdB, bI_eq0.mp hc]; rfl)
    · refine jr_iload_n d_MO_wind_12 rfl rfl ?_
      refine jr_bipush (v := -100) d_MO_wind_13 (by decide) ?_
      refine jr_bipush (v := 100) d_MO_wind_15 (by decide) ?_
      refine jr_callSp3 d_MO_wind_17 i_MO_67 (Nat.le_of_ble_eq_true rfl) (by decide) (c_MO_within _ _ _) ?_
      refine jr_if_eq (tgt := 35) d_MO_wind_20 (by decide) (fun hc2 => ?_) (fun hc2 => ?_)
      · refine jr_iconst (v := 0) d_MO_wind_35 (by decide) ?_
        exact K _ (by rw [wdB, bI_eq0.mp hc2, Bool.and_false]; rfl)
      · refine jr_iload_n d_MO_wind_23 rfl rfl ?_
        refine jr_if_ne (tgt := 31) d_MO_wind_24 (by decide) (fun hc3 => ?_) (fun hc3 => ?_)
        · refine jr_iconst (v := 1) d_MO_wind_31 (by decide) ?_
          refine jr_goto (tgt := 36) d_MO_wind_32 (by decide) ?_
          exact K _ (by rw [wdB, bI_ne0.mp hc, bI_ne0.mp hc2, decide_eq_true hc3]; rfl)
        · refine jr_iload_n d_MO_wind_27 rfl rfl ?_
          refine jr_if_eq (tgt := 35) d_MO_wind_28 (by decide) (fun hc4 => ?_) (fun hc4 => ?_)
          · refine jr_iconst (v := 0) d_MO_wind_35 (by decide) ?_
            exact K _ (by rw [wdB, bI_ne0.mp hc, bI_ne0.mp hc2, decide_eq_false (fun q => q hc3), decide_eq_false (fun q => q hc4)]; rfl)
          · refine jr_iconst (v := 1) d_MO_wind_31 (by decide) ?_
            refine jr_goto (tgt := 36) d_MO_wind_32 (by decide) ?_
            exact K _ (by rw [wdB, bI_ne0.mp hc, bI_ne0.mp hc2, decide_eq_true hc4, Bool.or_true]; rfl)
  subst hz
  refine jr_iconst (v := 1) d_MO_wind_36 (by decide) ?_
  refine jr_iconst (v := 1) d_MO_wind_37 (by decide) ?_
  refine mr_call3 d_MO_wind_38 i_MO_74 hM (Nat.le_of_ble_eq_true rfl) (by decide) (c_MO_goes hM.1 _ true true) (fun h hM => ?_)
  refine jr_if_ne (tgt := 46) d_MO_wind_41 (by decide) (fun hc => ?_) (fun hc => ?_)
  · have hG := bI_ne0.mp hc
    rw [Bool.and_true, Bool.and_true] at hG
    have e0 : gT (wdB x y) true true = 0 := by rw [hG]; rfl
    rw [e0] at hM
    have hP : P = mP h0 (some (.int (nI (cnt (wd1 f a n dy x y dz) b)))) (upd (upd (upd (upd (upd f 0 0) 16 x) 17 y) 18 (bI dz)) 23 (nI (cnt (wd1 f a n dy x y dz) b))) (frA (wsA a (wd0 f a n dy) b) (wd1 f a n dy x y dz) b) := by
      rw [← hg, wd, if_pos hG]; rfl
    rw [hP]
    refine jr_iconst (v := 0) d_MO_wind_46 (by decide) ?_
    refine jr_istore d_MO_wind_47 (by decide) ?_
    refine mo_wind1 (f := upd f 0 0) (a := a) hn h8 hI hd hb h40 (fun h hM => ?_) 0 (Nat.zero_le _) h hM
    refine jr_aload_n d_MO_wind_89 rfl rfl ?_
    refine jr_iload_n d_MO_wind_90 rfl rfl ?_
    refine mr_put d_MO_wind_91 f_MO_32 rfl hM (fun h hM => ?_)
    refine jr_aload_n d_MO_wind_94 rfl rfl ?_
    refine jr_iload_n d_MO_wind_95 rfl rfl ?_
    refine mr_put d_MO_wind_96 f_MO_171 rfl hM (fun h hM => ?_)
    refine jr_aload_n d_MO_wind_99 rfl rfl ?_
    refine jr_iload_n d_MO_wind_100 rfl rfl ?_
    refine mr_putZ d_MO_wind_101 f_MO_35 rfl (bI_01 _) hM (fun h hM => ?_)
    refine jr_aload_n d_MO_wind_104 rfl rfl ?_
    refine jr_iconst (v := 0) d_MO_wind_105 (by decide) ?_
    refine mr_put d_MO_wind_106 f_MO_185 rfl hM (fun h hM => ?_)
    refine jr_iconst (v := 0) d_MO_wind_109 (by decide) ?_
    refine jr_istore d_MO_wind_110 (by decide) ?_
    refine mo_wind2 (f := upd (upd (upd (upd f 0 0) 16 x) 17 y) 18 (bI dz)) (a := wsA a (wd0 f a n dy) b) (a0 := a) (dz := dz) (n := n) (g := wd1 f a n dy x y dz) hn h8 (ixOk_congr (wsA_n (by decide) b) hI) rfl hb h40 (wsA_n (by decide) b) (wsA_n (by decide) b) (wsA_n (by decide) b) (fun k hk => ?_) 0 (Nat.zero_le _) h hM
    rw [wsA_s b k hk, wsA_n (B := 18) (by decide) b, wsA_n (B := 19) (by decide) b]
    show (!wd0 f a n dy k && plm a n dz x y (a 18 k) (a 19 k)) = _
    cases wd0 f a n dy k <;> rfl
  · have hG := bI_eq0.mp hc
    rw [Bool.and_true, Bool.and_true] at hG
    have e0 : gT (wdB x y) true true = 1 := by rw [hG]; rfl
    rw [e0] at hM
    have hP : P = mP h0 (some (.int 0)) (upd f 0 1) a := by
      rw [← hg, wd, if_neg (by rw [hG]; decide)]; rfl
    rw [hP]
    refine jr_iconst (v := 0) d_MO_wind_44 (by decide) ?_
    refine jr_ireturn d_MO_wind_45 rfl rfl ?_
    exact ⟨rfl, hM⟩
def frI (f : Nat → Int32) (a : Nat → Nat → Int32) (i : Int32) : Rs := if decide (0 ≤ i) = true then (if i < f 23 then a 21 i.toNatClampNeg else -1, upd f 0 0, a) else (0, upd f 0 1, a)
theorem d_MO_fresh_0 : decode (jy_c m_MO_fresh) 0 = .ok (.aload_n 0, 1) := by decide +kernel
theorem d_MO_fresh_1 : decode (jy_c m_MO_fresh) 1 = .ok (.iload_n 1, 1) := by decide +kernel
theorem d_MO_fresh_2 : decode (jy_c m_MO_fresh) 2 = .ok (.ifCond .lt 7, 3) := by decide +kernel
theorem d_MO_fresh_5 : decode (jy_c m_MO_fresh) 5 = .ok (.iconst 1, 1) := by decide +kernel
theorem d_MO_fresh_6 : decode (jy_c m_MO_fresh) 6 = .ok (.goto 4, 3) := by decide +kernel
theorem d_MO_fresh_9 : decode (jy_c m_MO_fresh) 9 = .ok (.iconst 0, 1) := by decide +kernel
theorem d_MO_fresh_10 : decode (jy_c m_MO_fresh) 10 = .ok (.iconst 1, 1) := by decide +kernel
theorem d_MO_fresh_11 : decode (jy_c m_MO_fresh) 11 = .ok (.iconst 1, 1) := by decide +kernel
theorem d_MO_fresh_12 : decode (jy_c m_MO_fresh) 12 = .ok (.invokevirtual 74, 3) := by decide +kernel
theorem d_MO_fresh_15 : decode (jy_c m_MO_fresh) 15 = .ok (.ifCond .ne 5, 3) := by decide +kernel
theorem d_MO_fresh_18 : decode (jy_c m_MO_fresh) 18 = .ok (.iconst 0, 1) := by decide +kernel
theorem d_MO_fresh_19 : decode (jy_c m_MO_fresh) 19 = .ok (.ireturn, 1) := by decide +kernel
theorem d_MO_fresh_20 : decode (jy_c m_MO_fresh) 20 = .ok (.iload_n 1, 1) := by decide +kernel
theorem d_MO_fresh_21 : decode (jy_c m_MO_fresh) 21 = .ok (.aload_n 0, 1) := by decide +kernel
theorem d_MO_fresh_22 : decode (jy_c m_MO_fresh) 22 = .ok (.getfield 185, 3) := by decide +kernel
theorem d_MO_fresh_25 : decode (jy_c m_MO_fresh) 25 = .ok (.if_icmp .ge 12, 3) := by decide +kernel
theorem d_MO_fresh_28 : decode (jy_c m_MO_fresh) 28 = .ok (.aload_n 0, 1) := by decide +kernel
theorem d_MO_fresh_29 : decode (jy_c m_MO_fresh) 29 = .ok (.getfield 49, 3) := by decide +kernel
theorem d_MO_fresh_32 : decode (jy_c m_MO_fresh) 32 = .ok (.iload_n 1, 1) := by decide +kernel
theorem d_MO_fresh_33 : decode (jy_c m_MO_fresh) 33 = .ok (.iaload, 1) := by decide +kernel
theorem d_MO_fresh_34 : decode (jy_c m_MO_fresh) 34 = .ok (.goto 4, 3) := by decide +kernel
theorem d_MO_fresh_37 : decode (jy_c m_MO_fresh) 37 = .ok (.iconst (-1), 1) := by decide +kernel
theorem d_MO_fresh_38 : decode (jy_c m_MO_fresh) 38 = .ok (.ireturn, 1) := by decide +kernel
theorem c_MO_fresh {G : jy_G} {h0 : jy_P} {f : Nat → Int32} {a : Nat → Nat → Int32} {c : Nat} (hM : Mo h0 f a) (hfc : f 23 = nI c) (h40 : c ≤ 40) (i : Int32) : jy_C G 2 m_MO_fresh [.ref 11, .int i] h0 (mR h0 (frI f a i)) := by
  refine jy_C.of [some (.ref 11), some (.int i)] rfl (Nat.le_of_ble_eq_true rfl) ?_
  have hM := MS.rf hM
  refine jr_aload_n d_MO_fresh_0 rfl rfl ?_
  refine jr_iload_n d_MO_fresh_1 rfl rfl ?_
  refine jr_if_lt (tgt := 9) d_MO_fresh_2 (by decide) (fun hc => ?_) (fun hc => ?_)
  · refine jr_iconst (v := 0) d_MO_fresh_9 (by decide) ?_
    refine jr_iconst (v := 1) d_MO_fresh_10 (by decide) ?_
    refine jr_iconst (v := 1) d_MO_fresh_11 (by decide) ?_
    refine mr_call3 d_MO_fresh_12 i_MO_74 hM (Nat.le_of_ble_eq_true rfl) (by decide) (c_MO_goes hM.1 false true true) (fun h hM => ?_)
    refine jr_if_ne (tgt := 20) d_MO_fresh_15 (by decide) (fun q => absurd rfl q) (fun _ => ?_)
    refine jr_iconst (v := 0) d_MO_fresh_18 (by decide) ?_
    refine jr_ireturn d_MO_fresh_19 rfl rfl ?_
    rw [frI, if_neg (by rw [decide_eq_false (Int32.not_le.mpr hc)]; decide)]
    exact ⟨rfl, hM⟩
  · refine jr_iconst (v := 1) d_MO_fresh_5 (by decide) ?_
    refine jr_goto (tgt := 10) d_MO_fresh_6 (by decide) ?_
    refine jr_iconst (v := 1) d_MO_fresh_10 (by decide) ?_
    refine jr_iconst (v := 1) d_MO_fresh_11 (by decide) ?_
    refine mr_call3 d_MO_fresh_12 i_MO_74 hM (Nat.le_of_ble_eq_true rfl) (by decide) (c_MO_goes hM.1 true true true) (fun h hM => ?_)
    refine jr_if_ne (tgt := 20) d_MO_fresh_15 (by decide) (fun _ => ?_) (fun q => absurd q (by decide))
    rw [frI, if_pos (by rw [decide_eq_true (Int32.not_lt.mp hc)])]
    refine jr_iload_n d_MO_fresh_20 rfl rfl ?_
    refine jr_aload_n d_MO_fresh_21 rfl rfl ?_
    refine mr_get d_MO_fresh_22 f_MO_185 hM rfl ?_
    refine jr_icmp_ge (tgt := 37) d_MO_fresh_25 (by decide) (fun hc2 => ?_) (fun hc2 => ?_)
    · have hc2 : f 23 ≤ i := hc2
      refine jr_iconst (v := -1) d_MO_fresh_37 (by decide) ?_
      refine jr_ireturn d_MO_fresh_38 rfl rfl ?_
      exact ⟨by rw [if_neg (Int32.not_lt.mpr hc2)], hM⟩
    · have hc2 : i < f 23 := Int32.not_le.mp hc2
      obtain ⟨j, hj, rfl⟩ := nI_of hc
      have hjc : j < 40 := by
        rw [hfc] at hc2
        have := (nI_ltI hj (by omega)).mp hc2
        omega
      refine jr_aload_n d_MO_fresh_28 rfl rfl ?_
      refine mr_get d_MO_fresh_29 f_MO_49 hM rfl ?_
      refine jr_iload_n d_MO_fresh_32 rfl rfl ?_
      refine mr_ald d_MO_fresh_33 hM (by decide) rfl hjc ?_
      refine jr_goto (tgt := 38) d_MO_fresh_34 (by decide) ?_
      refine jr_ireturn d_MO_fresh_38 rfl rfl ?_
      exact ⟨by rw [if_pos hc2, nI_clamp hj], hM⟩
def inG (n : Nat) (x y : Int32) : Bool := iPt x y && decide (0 < n) && true
def inR (f : Nat → Int32) (a : Nat → Nat → Int32) (n : Nat) (dy : Bool) (x y : Int32) : Rs := if inG n x y = true then (bI (plm a n dy (f 16) (f 17) x y), upd f 0 0, a) else (0, upd f 0 (gT (iPt x y) (decide (0 < n)) true), a)
theorem d_MO_in_0 : decode (jy_c m_MO_in) 0 = .ok (.aload_n 0, 1) := by decide +kernel
theorem d_MO_in_1 : decode (jy_c m_MO_in) 1 = .ok (.iload_n 1, 1) := by decide +kernel
theorem d_MO_in_2 : decode (jy_c m_MO_in) 2 = .ok (.iload_n 2, 1) := by decide +kernel
theorem d_MO_in_3 : decode (jy_c m_MO_in) 3 = .ok (.invokestatic 176, 3) := by decide +kernel
theorem d_MO_in_6 : decode (jy_c m_MO_in) 6 = .ok (.aload_n 0, 1) := by decide +kernel
theorem d_MO_in_7 : decode (jy_c m_MO_in) 7 = .ok (.getfield 157, 3) := by decide +kernel
theorem d_MO_in_10 : decode (jy_c m_MO_in) 10 = .ok (.ifCond .le 7, 3) := by decide +kernel
theorem d_MO_in_13 : decode (jy_c m_MO_in) 13 = .ok (.iconst 1, 1) := by decide +kernel
theorem d_MO_in_14 : decode (jy_c m_MO_in) 14 = .ok (.goto 4, 3) := by decide +kernel
theorem d_MO_in_17 : decode (jy_c m_MO_in) 17 = .ok (.iconst 0, 1) := by decide +kernel
theorem d_MO_in_18 : decode (jy_c m_MO_in) 18 = .ok (.iconst 1, 1) := by decide +kernel
theorem d_MO_in_19 : decode (jy_c m_MO_in) 19 = .ok (.invokevirtual 74, 3) := by decide +kernel
theorem d_MO_in_22 : decode (jy_c m_MO_in) 22 = .ok (.ifCond .eq 16, 3) := by decide +kernel
theorem d_MO_in_25 : decode (jy_c m_MO_in) 25 = .ok (.aload_n 0, 1) := by decide +kernel
theorem d_MO_in_26 : decode (jy_c m_MO_in) 26 = .ok (.iload_n 1, 1) := by decide +kernel
theorem d_MO_in_27 : decode (jy_c m_MO_in) 27 = .ok (.iload_n 2, 1) := by decide +kernel
theorem d_MO_in_28 : decode (jy_c m_MO_in) 28 = .ok (.invokevirtual 182, 3) := by decide +kernel
theorem d_MO_in_31 : decode (jy_c m_MO_in) 31 = .ok (.ifCond .eq 7, 3) := by decide +kernel
theorem d_MO_in_34 : decode (jy_c m_MO_in) 34 = .ok (.iconst 1, 1) := by decide +kernel
theorem d_MO_in_35 : decode (jy_c m_MO_in) 35 = .ok (.goto 4, 3) := by decide +kernel
theorem d_MO_in_38 : decode (jy_c m_MO_in) 38 = .ok (.iconst 0, 1) := by decide +kernel
theorem d_MO_in_39 : decode (jy_c m_MO_in) 39 = .ok (.ireturn, 1) := by decide +kernel
theorem c_MO_in {G : jy_G} {h0 : jy_P} {f : Nat → Int32} {a : Nat → Nat → Int32} {n : Nat} {dy : Bool} (hM : Mo h0 f a) (hn : f 12 = nI n) (h8 : n ≤ 8) (hI : ixOk a n) (hd : f 18 = bI dy) (x y : Int32) : jy_C G 3 m_MO_in [.ref 11, .int x, .int y] h0 (mR h0 (inR f a n dy x y)) := by
  refine jy_C.of [some (.ref 11), some (.int x), some (.int y)] rfl (Nat.le_of_ble_eq_true rfl) ?_
  have hM := MS.rf hM
  generalize hg : mR h0 (inR f a n dy x y) = P
  refine jr_aload_n d_MO_in_0 rfl rfl ?_
  refine jr_iload_n d_MO_in_1 rfl rfl ?_
  refine jr_iload_n d_MO_in_2 rfl rfl ?_
  refine jr_callSp2 d_MO_in_3 i_MO_176 (Nat.le_of_ble_eq_true rfl) (by decide) (c_MO_isPoint _ _) ?_
  refine jr_aload_n d_MO_in_6 rfl rfl ?_
  refine mr_get d_MO_in_7 f_MO_157 hM rfl ?_
  rw [hn]
  refine jy_cut1 18 (fun z => z = bI (decide (0 < n))) (fun K => ?_) (fun z hz => ?_)
  · refine jr_if_le (tgt := 17) d_MO_in_10 (by decide) (fun hc => ?_) (fun hc => ?_)
    · refine jr_iconst (v := 0) d_MO_in_17 (by decide) ?_
      exact K _ (by rw [(pos_b (by omega)).1 hc]; rfl)
    · refine jr_iconst (v := 1) d_MO_in_13 (by decide) ?_
      refine jr_goto (tgt := 18) d_MO_in_14 (by decide) ?_
      exact K _ (by rw [(pos_b (by omega)).2 hc]; rfl)
  subst hz
  refine jr_iconst (v := 1) d_MO_in_18 (by decide) ?_
  refine mr_call3 d_MO_in_19 i_MO_74 hM (Nat.le_of_ble_eq_true rfl) (by decide) (c_MO_goes hM.1 _ _ true) (fun h hM => ?_)
  refine jr_if_eq (tgt := 38) d_MO_in_22 (by decide) (fun hc => ?_) (fun hc => ?_)
  · have hG := bI_eq0.mp hc
    have hP : P = mP h0 (some (.int 0)) (upd f 0 (gT (iPt x y) (decide (0 < n)) true)) a := by
      rw [← hg, inR, if_neg (by rw [show inG n x y = false from hG]; decide)]; rfl
    rw [hP]
    refine jr_iconst (v := 0) d_MO_in_38 (by decide) ?_
    refine jr_ireturn d_MO_in_39 rfl rfl ?_
    exact ⟨rfl, hM⟩
  · have hG := bI_ne0.mp hc
    have g1 := hG
    rw [Bool.and_true, Bool.and_eq_true] at g1
    have e0 : gT (iPt x y) (decide (0 < n)) true = 0 := by rw [g1.1, g1.2]; rfl
    rw [e0] at hM
    have hP : P = mP h0 (some (.int (bI (plm a n dy (f 16) (f 17) x y)))) (upd f 0 0) a := by
      rw [← hg, inR, if_pos (show inG n x y = true from hG)]; rfl
    rw [hP]
    refine jr_aload_n d_MO_in_25 rfl rfl ?_
    refine jr_iload_n d_MO_in_26 rfl rfl ?_
    refine jr_iload_n d_MO_in_27 rfl rfl ?_
    refine mr_callP2 d_MO_in_28 i_MO_182 hM (Nat.le_of_ble_eq_true rfl) (by decide) (c_MO_isIn (dy := dy) hM.1 hn h8 hI hd _ _) ?_
    refine jr_if_eq (tgt := 38) d_MO_in_31 (by decide) (fun hc => ?_) (fun hc => ?_)
    · refine jr_iconst (v := 0) d_MO_in_38 (by decide) ?_
      refine jr_ireturn d_MO_in_39 rfl rfl ?_
      exact ⟨by rw [show plm a n dy (f 16) (f 17) x y = false from bI_eq0.mp hc]; rfl, hM⟩
    · refine jr_iconst (v := 1) d_MO_in_34 (by decide) ?_
      refine jr_goto (tgt := 39) d_MO_in_35 (by decide) ?_
      refine jr_ireturn d_MO_in_39 rfl rfl ?_
      exact ⟨by rw [show plm a n dy (f 16) (f 17) x y = true from bI_ne0.mp hc]; rfl, hM⟩
def spB (f : Nat → Int32) (n : Nat) (i : Int32) : Bool := decide (0 < n) && decide (i = f 25)
def spV (a : Nat → Nat → Int32) (n : Nat) (i : Int32) : Int32 := if i = (if sS a n < 5 then 3 else 6) then 1 else i + 1
def spG (f : Nat → Int32) (n : Nat) (i : Int32) : Bool := inB i 1 6 && spB f n i && true
def sp (f : Nat → Int32) (a : Nat → Nat → Int32) (n : Nat) (i : Int32) : Rs := if spG f n i = true then (spV a n i, upd (upd f 0 0) 25 (spV a n i), a) else (0, upd f 0 (gT (inB i 1 6) (spB f n i) true), a)
theorem d_MO_step_0 : decode (jy_c m_MO_step) 0 = .ok (.aload_n 0, 1) := by decide +kernel
theorem d_MO_step_1 : decode (jy_c m_MO_step) 1 = .ok (.iload_n 1, 1) := by decide +kernel
theorem d_MO_step_2 : decode (jy_c m_MO_step) 2 = .ok (.iconst 1, 1) := by decide +kernel
theorem d_MO_step_3 : decode (jy_c m_MO_step) 3 = .ok (.bipush 6, 2) := by decide +kernel
theorem d_MO_step_5 : decode (jy_c m_MO_step) 5 = .ok (.invokestatic 67, 3) := by decide +kernel
theorem d_MO_step_8 : decode (jy_c m_MO_step) 8 = .ok (.aload_n 0, 1) := by decide +kernel
theorem d_MO_step_9 : decode (jy_c m_MO_step) 9 = .ok (.getfield 157, 3) := by decide +kernel
theorem d_MO_step_12 : decode (jy_c m_MO_step) 12 = .ok (.ifCond .le 15, 3) := by decide +kernel
theorem d_MO_step_15 : decode (jy_c m_MO_step) 15 = .ok (.iload_n 1, 1) := by decide +kernel
theorem d_MO_step_16 : decode (jy_c m_MO_step) 16 = .ok (.aload_n 0, 1) := by decide +kernel
theorem d_MO_step_17 : decode (jy_c m_MO_step) 17 = .ok (.getfield 52, 3) := by decide +kernel
theorem d_MO_step_20 : decode (jy_c m_MO_step) 20 = .ok (.if_icmp .ne 7, 3) := by decide +kernel
theorem d_MO_step_23 : decode (jy_c m_MO_step) 23 = .ok (.iconst 1, 1) := by decide +kernel
theorem d_MO_step_24 : decode (jy_c m_MO_step) 24 = .ok (.goto 4, 3) := by decide +kernel
theorem d_MO_step_27 : decode (jy_c m_MO_step) 27 = .ok (.iconst 0, 1) := by decide +kernel
theorem d_MO_step_28 : decode (jy_c m_MO_step) 28 = .ok (.iconst 1, 1) := by decide +kernel
theorem d_MO_step_29 : decode (jy_c m_MO_step) 29 = .ok (.invokevirtual 74, 3) := by decide +kernel
theorem d_MO_step_32 : decode (jy_c m_MO_step) 32 = .ok (.ifCond .ne 5, 3) := by decide +kernel
theorem d_MO_step_35 : decode (jy_c m_MO_step) 35 = .ok (.iconst 0, 1) := by decide +kernel
theorem d_MO_step_36 : decode (jy_c m_MO_step) 36 = .ok (.ireturn, 1) := by decide +kernel
theorem d_MO_step_37 : decode (jy_c m_MO_step) 37 = .ok (.aload_n 0, 1) := by decide +kernel
theorem d_MO_step_38 : decode (jy_c m_MO_step) 38 = .ok (.iload_n 1, 1) := by decide +kernel
theorem d_MO_step_39 : decode (jy_c m_MO_step) 39 = .ok (.aload_n 0, 1) := by decide +kernel
theorem d_MO_step_40 : decode (jy_c m_MO_step) 40 = .ok (.invokevirtual 164, 3) := by decide +kernel
theorem d_MO_step_43 : decode (jy_c m_MO_step) 43 = .ok (.iconst 5, 1) := by decide +kernel
theorem d_MO_step_44 : decode (jy_c m_MO_step) 44 = .ok (.if_icmp .ge 7, 3) := by decide +kernel
theorem d_MO_step_47 : decode (jy_c m_MO_step) 47 = .ok (.iconst 3, 1) := by decide +kernel
theorem d_MO_step_48 : decode (jy_c m_MO_step) 48 = .ok (.goto 5, 3) := by decide +kernel
theorem d_MO_step_51 : decode (jy_c m_MO_step) 51 = .ok (.bipush 6, 2) := by decide +kernel
theorem d_MO_step_53 : decode (jy_c m_MO_step) 53 = .ok (.if_icmp .ne 7, 3) := by decide +kernel
theorem d_MO_step_56 : decode (jy_c m_MO_step) 56 = .ok (.iconst 1, 1) := by decide +kernel
theorem d_MO_step_57 : decode (jy_c m_MO_step) 57 = .ok (.goto 6, 3) := by decide +kernel
theorem d_MO_step_60 : decode (jy_c m_MO_step) 60 = .ok (.iload_n 1, 1) := by decide +kernel
theorem d_MO_step_61 : decode (jy_c m_MO_step) 61 = .ok (.iconst 1, 1) := by decide +kernel
theorem d_MO_step_62 : decode (jy_c m_MO_step) 62 = .ok (.iadd, 1) := by decide +kernel
theorem d_MO_step_63 : decode (jy_c m_MO_step) 63 = .ok (.putfield 52, 3) := by decide +kernel
theorem d_MO_step_66 : decode (jy_c m_MO_step) 66 = .ok (.aload_n 0, 1) := by decide +kernel
theorem d_MO_step_67 : decode (jy_c m_MO_step) 67 = .ok (.getfield 52, 3) := by decide +kernel
theorem d_MO_step_70 : decode (jy_c m_MO_step) 70 = .ok (.ireturn, 1) := by decide +kernel
theorem c_MO_step {G : jy_G} {h0 : jy_P} {f : Nat → Int32} {a : Nat → Nat → Int32} {n : Nat} (hM : Mo h0 f a) (hn : f 12 = nI n) (h8 : n ≤ 8) (hI : ixOk a n) (i : Int32) : jy_C G 2 m_MO_step [.ref 11, .int i] h0 (mR h0 (sp f a n i)) := by
  refine jy_C.of [some (.ref 11), some (.int i)] rfl (Nat.le_of_ble_eq_true rfl) ?_
  have hM := MS.rf hM
  generalize hg : mR h0 (sp f a n i) = P
  refine jr_aload_n d_MO_step_0 rfl rfl ?_
  refine jr_iload_n d_MO_step_1 rfl rfl ?_
  refine jr_iconst (v := 1) d_MO_step_2 (by decide) ?_
  refine jr_bipush (v := 6) d_MO_step_3 (by decide) ?_
  refine jr_callSp3 d_MO_step_5 i_MO_67 (Nat.le_of_ble_eq_true rfl) (by decide) (c_MO_within _ _ _) ?_
  refine jr_aload_n d_MO_step_8 rfl rfl ?_
  refine mr_get d_MO_step_9 f_MO_157 hM rfl ?_
  rw [hn]
  refine jy_cut1 28 (fun z => z = bI (spB f n i)) (fun K => ?_) (fun z hz => ?_)
  · refine jr_if_le (tgt := 27) d_MO_step_12 (by decide) (fun hc => ?_) (fun hc => ?_)
    · refine jr_iconst (v := 0) d_MO_step_27 (by decide) ?_
      exact K _ (by rw [spB, (pos_b (by omega)).1 hc]; rfl)
    · refine jr_iload_n d_MO_step_15 rfl rfl ?_
      refine jr_aload_n d_MO_step_16 rfl rfl ?_
      refine mr_get d_MO_step_17 f_MO_52 hM rfl ?_
      refine jr_icmp_ne (tgt := 27) d_MO_step_20 (by decide) (fun hc2 => ?_) (fun hc2 => ?_)
      · refine jr_iconst (v := 0) d_MO_step_27 (by decide) ?_
        exact K _ (by rw [spB, decide_eq_false hc2, Bool.and_false]; rfl)
      · refine jr_iconst (v := 1) d_MO_step_23 (by decide) ?_
        refine jr_goto (tgt := 28) d_MO_step_24 (by decide) ?_
        exact K _ (by rw [spB, (pos_b (by omega)).2 hc, decide_eq_true hc2]; rfl)
  subst hz
  refine jr_iconst (v := 1) d_MO_step_28 (by decide) ?_
  refine mr_call3 d_MO_step_29 i_MO_74 hM (Nat.le_of_ble_eq_true rfl) (by decide) (c_MO_goes hM.1 _ _ true) (fun h hM => ?_)
  refine jr_if_ne (tgt := 37) d_MO_step_32 (by decide) (fun hc => ?_) (fun hc => ?_)
  · have hG := bI_ne0.mp hc
    have g1 := hG
    rw [Bool.and_true, Bool.and_eq_true] at g1
    have e0 : gT (inB i 1 6) (spB f n i) true = 0 := by rw [g1.1, g1.2]; rfl
    rw [e0] at hM
    have hP : P = mP h0 (some (.int (spV a n i))) (upd (upd f 0 0) 25 (spV a n i)) a := by
      rw [← hg, sp, if_pos (show spG f n i = true from hG)]; rfl
    rw [hP]
    refine jr_aload_n d_MO_step_37 rfl rfl ?_
    refine jr_iload_n d_MO_step_38 rfl rfl ?_
    refine jr_aload_n d_MO_step_39 rfl rfl ?_
    refine mr_callP0 d_MO_step_40 i_MO_164 hM (Nat.le_of_ble_eq_true rfl) (by decide) (c_MO_strictness hM.1 hn h8 hI) ?_
    refine jr_iconst (v := 5) d_MO_step_43 (by decide) ?_
    refine jy_cut2 53 (fun z => z = (if sS a n < 5 then 3 else 6)) (fun K => ?_) (fun z hz => ?_)
    · refine jr_icmp_ge (tgt := 51) d_MO_step_44 (by decide) (fun hc => ?_) (fun hc => ?_)
      · refine jr_bipush (v := 6) d_MO_step_51 (by decide) ?_
        exact K _ (by rw [if_neg (Int32.not_lt.mpr hc)])
      · refine jr_iconst (v := 3) d_MO_step_47 (by decide) ?_
        refine jr_goto (tgt := 53) d_MO_step_48 (by decide) ?_
        exact K _ (by rw [if_pos (Int32.not_le.mp hc)])
    subst hz
    refine jy_cut2 63 (fun z => z = spV a n i) (fun K => ?_) (fun z hz => ?_)
    · refine jr_icmp_ne (tgt := 60) d_MO_step_53 (by decide) (fun hc => ?_) (fun hc => ?_)
      · refine jr_iload_n d_MO_step_60 rfl rfl ?_
        refine jr_iconst (v := 1) d_MO_step_61 (by decide) ?_
        refine jr_iadd d_MO_step_62 ?_
        exact K _ (by rw [spV, if_neg hc])
      · refine jr_iconst (v := 1) d_MO_step_56 (by decide) ?_
        refine jr_goto (tgt := 63) d_MO_step_57 (by decide) ?_
        exact K _ (by rw [spV, if_pos hc])
    subst hz
    refine mr_put d_MO_step_63 f_MO_52 rfl hM (fun h hM => ?_)
    refine jr_aload_n d_MO_step_66 rfl rfl ?_
    refine mr_get d_MO_step_67 f_MO_52 hM rfl ?_
    refine jr_ireturn d_MO_step_70 rfl rfl ?_
    exact ⟨by rw [upd_s], hM⟩
  · have hG := bI_eq0.mp hc
    have hP : P = mP h0 (some (.int 0)) (upd f 0 (gT (inB i 1 6) (spB f n i) true)) a := by
      rw [← hg, sp, if_neg (by rw [show spG f n i = false from hG]; decide)]; rfl
    rw [hP]
    refine jr_iconst (v := 0) d_MO_step_35 (by decide) ?_
    refine jr_ireturn d_MO_step_36 rfl rfl ?_
    exact ⟨rfl, hM⟩
def mkG (k v : Int32) : Bool := inB k 0 4 && decide (0 ≤ v) && true
def mk (f : Nat → Int32) (a : Nat → Nat → Int32) (k v : Int32) : (Nat → Int32) × (Nat → Nat → Int32) := if mkG k v = true then (upd f 0 0, upd2 a 22 k.toNatClampNeg v) else (upd f 0 (gT (inB k 0 4) (decide (0 ≤ v)) true), a)
theorem inB_04 {k : Int32} {c : Nat} {cI : Int32} (hcI : cI.toInt = c) (h : inB k 0 cI = true) : ∃ j, j ≤ c ∧ k = nI j := by
  unfold inB at h
  rw [Bool.and_eq_true] at h
  exact nI_of2 hcI (Int32.not_lt.mpr (of_decide_eq_true h.1)) (of_decide_eq_true h.2)
theorem d_MO_mark_0 : decode (jy_c m_MO_mark) 0 = .ok (.aload_n 0, 1) := by decide +kernel
theorem d_MO_mark_1 : decode (jy_c m_MO_mark) 1 = .ok (.iload_n 1, 1) := by decide +kernel
theorem d_MO_mark_2 : decode (jy_c m_MO_mark) 2 = .ok (.iconst 0, 1) := by decide +kernel
theorem d_MO_mark_3 : decode (jy_c m_MO_mark) 3 = .ok (.iconst 4, 1) := by decide +kernel
theorem d_MO_mark_4 : decode (jy_c m_MO_mark) 4 = .ok (.invokestatic 67, 3) := by decide +kernel
theorem d_MO_mark_7 : decode (jy_c m_MO_mark) 7 = .ok (.iload_n 2, 1) := by decide +kernel
theorem d_MO_mark_8 : decode (jy_c m_MO_mark) 8 = .ok (.ifCond .lt 7, 3) := by decide +kernel
theorem d_MO_mark_11 : decode (jy_c m_MO_mark) 11 = .ok (.iconst 1, 1) := by decide +kernel
theorem d_MO_mark_12 : decode (jy_c m_MO_mark) 12 = .ok (.goto 4, 3) := by decide +kernel
theorem d_MO_mark_15 : decode (jy_c m_MO_mark) 15 = .ok (.iconst 0, 1) := by decide +kernel
theorem d_MO_mark_16 : decode (jy_c m_MO_mark) 16 = .ok (.iconst 1, 1) := by decide +kernel
theorem d_MO_mark_17 : decode (jy_c m_MO_mark) 17 = .ok (.invokevirtual 74, 3) := by decide +kernel
theorem d_MO_mark_20 : decode (jy_c m_MO_mark) 20 = .ok (.ifCond .eq 10, 3) := by decide +kernel
theorem d_MO_mark_23 : decode (jy_c m_MO_mark) 23 = .ok (.aload_n 0, 1) := by decide +kernel
theorem d_MO_mark_24 : decode (jy_c m_MO_mark) 24 = .ok (.getfield 55, 3) := by decide +kernel
theorem d_MO_mark_27 : decode (jy_c m_MO_mark) 27 = .ok (.iload_n 1, 1) := by decide +kernel
theorem d_MO_mark_28 : decode (jy_c m_MO_mark) 28 = .ok (.iload_n 2, 1) := by decide +kernel
theorem d_MO_mark_29 : decode (jy_c m_MO_mark) 29 = .ok (.iastore, 1) := by decide +kernel
theorem d_MO_mark_30 : decode (jy_c m_MO_mark) 30 = .ok (.return_, 1) := by decide +kernel
theorem c_MO_mark {G : jy_G} {h0 : jy_P} {f : Nat → Int32} {a : Nat → Nat → Int32} (hM : Mo h0 f a) (k v : Int32) : jy_C G 2 m_MO_mark [.ref 11, .int k, .int v] h0 (mP h0 none (mk f a k v).1 (mk f a k v).2) := by
  refine jy_C.of [some (.ref 11), some (.int k), some (.int v)] rfl (Nat.le_of_ble_eq_true rfl) ?_
  have hM := MS.rf hM
  refine jr_aload_n d_MO_mark_0 rfl rfl ?_
  refine jr_iload_n d_MO_mark_1 rfl rfl ?_
  refine jr_iconst (v := 0) d_MO_mark_2 (by decide) ?_
  refine jr_iconst (v := 4) d_MO_mark_3 (by decide) ?_
  refine jr_callSp3 d_MO_mark_4 i_MO_67 (Nat.le_of_ble_eq_true rfl) (by decide) (c_MO_within _ _ _) ?_
  refine jr_iload_n d_MO_mark_7 rfl rfl ?_
  refine jy_cut1 16 (fun z => z = bI (decide (0 ≤ v))) (fun K => ?_) (fun z hz => ?_)
  · refine jr_if_lt (tgt := 15) d_MO_mark_8 (by decide) (fun hc => ?_) (fun hc => ?_)
    · refine jr_iconst (v := 0) d_MO_mark_15 (by decide) ?_
      exact K _ (by rw [decide_eq_false (Int32.not_le.mpr hc)]; rfl)
    · refine jr_iconst (v := 1) d_MO_mark_11 (by decide) ?_
      refine jr_goto (tgt := 16) d_MO_mark_12 (by decide) ?_
      exact K _ (by rw [decide_eq_true (Int32.not_lt.mp hc)]; rfl)
  subst hz
  refine jr_iconst (v := 1) d_MO_mark_16 (by decide) ?_
  refine mr_call3 d_MO_mark_17 i_MO_74 hM (Nat.le_of_ble_eq_true rfl) (by decide) (c_MO_goes hM.1 _ _ true) (fun h hM => ?_)
  refine jr_if_eq (tgt := 30) d_MO_mark_20 (by decide) (fun hc => ?_) (fun hc => ?_)
  · have hG := bI_eq0.mp hc
    refine jr_return d_MO_mark_30 rfl ?_
    rw [mk, if_neg (by rw [show mkG k v = false from hG]; decide)]
    exact ⟨rfl, hM⟩
  · have hG := bI_ne0.mp hc
    have g1 := hG
    rw [Bool.and_true, Bool.and_eq_true] at g1
    have e0 : gT (inB k 0 4) (decide (0 ≤ v)) true = 0 := by rw [g1.1, g1.2]; rfl
    rw [e0] at hM
    obtain ⟨j, hj, hk⟩ := inB_04 (c := 4) (by decide) g1.1
    rw [mk, if_pos (show mkG k v = true from hG)]
    refine jr_aload_n d_MO_mark_23 rfl rfl ?_
    refine mr_get d_MO_mark_24 f_MO_55 hM rfl ?_
    refine jr_iload_n d_MO_mark_27 rfl rfl ?_
    refine jr_iload_n d_MO_mark_28 rfl rfl ?_
    refine mr_ast d_MO_mark_29 hM (by decide) hk (by show j < 5; omega) (fun h hM => ?_)
    refine jr_return d_MO_mark_30 rfl ?_
    exact ⟨rfl, by rw [hk, nI_clamp (by omega)]; exact hM⟩
def ov (f : Nat → Int32) (a : Nat → Nat → Int32) (k v : Int32) : Rs := if inB k 0 4 = true then (bI (decide (a 22 k.toNatClampNeg ≤ v)), upd f 0 0, a) else (0, upd f 0 1, a)
theorem d_MO_over_0 : decode (jy_c m_MO_over) 0 = .ok (.aload_n 0, 1) := by decide +kernel
theorem d_MO_over_1 : decode (jy_c m_MO_over) 1 = .ok (.iload_n 1, 1) := by decide +kernel
theorem d_MO_over_2 : decode (jy_c m_MO_over) 2 = .ok (.iconst 0, 1) := by decide +kernel
theorem d_MO_over_3 : decode (jy_c m_MO_over) 3 = .ok (.iconst 4, 1) := by decide +kernel
theorem d_MO_over_4 : decode (jy_c m_MO_over) 4 = .ok (.invokestatic 67, 3) := by decide +kernel
theorem d_MO_over_7 : decode (jy_c m_MO_over) 7 = .ok (.iconst 1, 1) := by decide +kernel
theorem d_MO_over_8 : decode (jy_c m_MO_over) 8 = .ok (.iconst 1, 1) := by decide +kernel
theorem d_MO_over_9 : decode (jy_c m_MO_over) 9 = .ok (.invokevirtual 74, 3) := by decide +kernel
theorem d_MO_over_12 : decode (jy_c m_MO_over) 12 = .ok (.ifCond .eq 17, 3) := by decide +kernel
theorem d_MO_over_15 : decode (jy_c m_MO_over) 15 = .ok (.iload_n 2, 1) := by decide +kernel
theorem d_MO_over_16 : decode (jy_c m_MO_over) 16 = .ok (.aload_n 0, 1) := by decide +kernel
theorem d_MO_over_17 : decode (jy_c m_MO_over) 17 = .ok (.getfield 55, 3) := by decide +kernel
theorem d_MO_over_20 : decode (jy_c m_MO_over) 20 = .ok (.iload_n 1, 1) := by decide +kernel
theorem d_MO_over_21 : decode (jy_c m_MO_over) 21 = .ok (.iaload, 1) := by decide +kernel
theorem d_MO_over_22 : decode (jy_c m_MO_over) 22 = .ok (.if_icmp .lt 7, 3) := by decide +kernel
theorem d_MO_over_25 : decode (jy_c m_MO_over) 25 = .ok (.iconst 1, 1) := by decide +kernel
theorem d_MO_over_26 : decode (jy_c m_MO_over) 26 = .ok (.goto 4, 3) := by decide +kernel
theorem d_MO_over_29 : decode (jy_c m_MO_over) 29 = .ok (.iconst 0, 1) := by decide +kernel
theorem d_MO_over_30 : decode (jy_c m_MO_over) 30 = .ok (.ireturn, 1) := by decide +kernel
theorem c_MO_over {G : jy_G} {h0 : jy_P} {f : Nat → Int32} {a : Nat → Nat → Int32} (hM : Mo h0 f a) (k v : Int32) : jy_C G 2 m_MO_over [.ref 11, .int k, .int v] h0 (mR h0 (ov f a k v)) := by
  refine jy_C.of [some (.ref 11), some (.int k), some (.int v)] rfl (Nat.le_of_ble_eq_true rfl) ?_
  have hM := MS.rf hM
  generalize hg : mR h0 (ov f a k v) = P
  refine jr_aload_n d_MO_over_0 rfl rfl ?_
  refine jr_iload_n d_MO_over_1 rfl rfl ?_
  refine jr_iconst (v := 0) d_MO_over_2 (by decide) ?_
  refine jr_iconst (v := 4) d_MO_over_3 (by decide) ?_
  refine jr_callSp3 d_MO_over_4 i_MO_67 (Nat.le_of_ble_eq_true rfl) (by decide) (c_MO_within _ _ _) ?_
  refine jr_iconst (v := 1) d_MO_over_7 (by decide) ?_
  refine jr_iconst (v := 1) d_MO_over_8 (by decide) ?_
  refine mr_call3 d_MO_over_9 i_MO_74 hM (Nat.le_of_ble_eq_true rfl) (by decide) (c_MO_goes hM.1 _ true true) (fun h hM => ?_)
  refine jr_if_eq (tgt := 29) d_MO_over_12 (by decide) (fun hc => ?_) (fun hc => ?_)
  · have hG := bI_eq0.mp hc
    rw [Bool.and_true, Bool.and_true] at hG
    have hP : P = mP h0 (some (.int 0)) (upd f 0 1) a := by
      rw [← hg, ov, if_neg (by rw [hG]; decide)]; rfl
    have e0 : gT (inB k 0 4) true true = 1 := by rw [hG]; rfl
    rw [e0] at hM
    rw [hP]
    refine jr_iconst (v := 0) d_MO_over_29 (by decide) ?_
    refine jr_ireturn d_MO_over_30 rfl rfl ?_
    exact ⟨rfl, hM⟩
  · have hG := bI_ne0.mp hc
    rw [Bool.and_true, Bool.and_true] at hG
    have hP : P = mP h0 (some (.int (bI (decide (a 22 k.toNatClampNeg ≤ v))))) (upd f 0 0) a := by
      rw [← hg, ov, if_pos hG]; rfl
    have e0 : gT (inB k 0 4) true true = 0 := by rw [hG]; rfl
    rw [e0] at hM
    rw [hP]
    obtain ⟨j, hj, hk⟩ := inB_04 (c := 4) (by decide) hG
    refine jr_iload_n d_MO_over_15 rfl rfl ?_
    refine jr_aload_n d_MO_over_16 rfl rfl ?_
    refine mr_get d_MO_over_17 f_MO_55 hM rfl ?_
    refine jr_iload_n d_MO_over_20 rfl rfl ?_
    refine mr_ald d_MO_over_21 hM (by decide) hk (by show j < 5; omega) ?_
    refine jr_icmp_lt (tgt := 29) d_MO_over_22 (by decide) (fun hc => ?_) (fun hc => ?_)
    · refine jr_iconst (v := 0) d_MO_over_29 (by decide) ?_
      refine jr_ireturn d_MO_over_30 rfl rfl ?_
      exact ⟨by rw [hk, nI_clamp (by omega), decide_eq_false (Int32.not_le.mpr hc)]; rfl, hM⟩
    · refine jr_iconst (v := 1) d_MO_over_25 (by decide) ?_
      refine jr_goto (tgt := 30) d_MO_over_26 (by decide) ?_
      refine jr_ireturn d_MO_over_30 rfl rfl ?_
      exact ⟨by rw [hk, nI_clamp (by omega), decide_eq_true (Int32.not_lt.mp hc)]; rfl, hM⟩
