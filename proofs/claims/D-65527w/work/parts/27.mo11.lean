/-! the reference: the general row, the whole text -/
theorem qr_M0 {G : jy_G} {d d' : Nat} {M M' : jy_M} {pc : Nat} {L : List (Option Value)} {st : List Value} {h0 h : jy_P} {P : Outcome → jy_P → Prop} {f f'' : Nat → Int32} {a a'' : Nat → Nat → Int32} {idx i : Nat} {Q : Int32 → Int32 → Int32 → Ft → Prop} (hd : decode (jy_c M) pc = .ok (.invokevirtual idx, 3)) (hI : jy_IV (jy_y M).cls idx M' 7 0) (hM : MS h0 h f'' a'') (hst : (st.map fun v => v.category).sum ≤ 8) (hdd : d' < d) (hC : jy_C G d' M' [.ref 11] h (qM h f a i Q)) (kk : ∀ h1 w x y F, MS h0 h1 (g2 (upd f i w) x y) (at14 a F) → Q w x y F → jy_J G d M (pc + 3) L st h1 P) : jy_J G d M pc L (.ref 11 :: st) h P :=
  jr_callV (As := []) hd hI rfl hM.1.1 hst hdd hC (fun v h' q => by
    obtain ⟨w, x, y, F, q1, q2, q3⟩ := q
    cases q1
    exact kk h' w x y F (hM.tr q2) q3) (fun x h' q => by obtain ⟨w, x, y, F, q1, q2, q3⟩ := q; cases q1)
theorem d_MO_generalRow_0 : decode (jy_c m_MO_generalRow) 0 = .ok (.sipush 516, 3) := by decide +kernel
theorem d_MO_generalRow_3 : decode (jy_c m_MO_generalRow) 3 = .ok (.istore_n 1, 1) := by decide +kernel
theorem d_MO_generalRow_4 : decode (jy_c m_MO_generalRow) 4 = .ok (.aload_n 0, 1) := by decide +kernel
theorem d_MO_generalRow_5 : decode (jy_c m_MO_generalRow) 5 = .ok (.getfield 119, 3) := by decide +kernel
theorem d_MO_generalRow_8 : decode (jy_c m_MO_generalRow) 8 = .ok (.ifCond .eq 13, 3) := by decide +kernel
theorem d_MO_generalRow_11 : decode (jy_c m_MO_generalRow) 11 = .ok (.aload_n 0, 1) := by decide +kernel
theorem d_MO_generalRow_12 : decode (jy_c m_MO_generalRow) 12 = .ok (.aload_n 0, 1) := by decide +kernel
theorem d_MO_generalRow_13 : decode (jy_c m_MO_generalRow) 13 = .ok (.getfield 78, 3) := by decide +kernel
theorem d_MO_generalRow_16 : decode (jy_c m_MO_generalRow) 16 = .ok (.iconst 1, 1) := by decide +kernel
theorem d_MO_generalRow_17 : decode (jy_c m_MO_generalRow) 17 = .ok (.isub, 1) := by decide +kernel
theorem d_MO_generalRow_18 : decode (jy_c m_MO_generalRow) 18 = .ok (.invokevirtual 91, 3) := by decide +kernel
theorem d_MO_generalRow_21 : decode (jy_c m_MO_generalRow) 21 = .ok (.aload_n 0, 1) := by decide +kernel
theorem d_MO_generalRow_22 : decode (jy_c m_MO_generalRow) 22 = .ok (.iconst 1, 1) := by decide +kernel
theorem d_MO_generalRow_23 : decode (jy_c m_MO_generalRow) 23 = .ok (.putfield 119, 3) := by decide +kernel
theorem d_MO_generalRow_26 : decode (jy_c m_MO_generalRow) 26 = .ok (.aload_n 0, 1) := by decide +kernel
theorem d_MO_generalRow_27 : decode (jy_c m_MO_generalRow) 27 = .ok (.getfield 20, 3) := by decide +kernel
theorem d_MO_generalRow_30 : decode (jy_c m_MO_generalRow) 30 = .ok (.iload_n 1, 1) := by decide +kernel
theorem d_MO_generalRow_31 : decode (jy_c m_MO_generalRow) 31 = .ok (.iconst 0, 1) := by decide +kernel
theorem d_MO_generalRow_32 : decode (jy_c m_MO_generalRow) 32 = .ok (.iadd, 1) := by decide +kernel
theorem d_MO_generalRow_33 : decode (jy_c m_MO_generalRow) 33 = .ok (.iconst 0, 1) := by decide +kernel
theorem d_MO_generalRow_34 : decode (jy_c m_MO_generalRow) 34 = .ok (.iastore, 1) := by decide +kernel
theorem d_MO_generalRow_35 : decode (jy_c m_MO_generalRow) 35 = .ok (.aload_n 0, 1) := by decide +kernel
theorem d_MO_generalRow_36 : decode (jy_c m_MO_generalRow) 36 = .ok (.getfield 20, 3) := by decide +kernel
theorem d_MO_generalRow_39 : decode (jy_c m_MO_generalRow) 39 = .ok (.iload_n 1, 1) := by decide +kernel
theorem d_MO_generalRow_40 : decode (jy_c m_MO_generalRow) 40 = .ok (.iconst 1, 1) := by decide +kernel
theorem d_MO_generalRow_41 : decode (jy_c m_MO_generalRow) 41 = .ok (.iadd, 1) := by decide +kernel
theorem d_MO_generalRow_42 : decode (jy_c m_MO_generalRow) 42 = .ok (.iconst 0, 1) := by decide +kernel
theorem d_MO_generalRow_43 : decode (jy_c m_MO_generalRow) 43 = .ok (.iastore, 1) := by decide +kernel
theorem d_MO_generalRow_44 : decode (jy_c m_MO_generalRow) 44 = .ok (.aload_n 0, 1) := by decide +kernel
theorem d_MO_generalRow_45 : decode (jy_c m_MO_generalRow) 45 = .ok (.getfield 20, 3) := by decide +kernel
theorem d_MO_generalRow_48 : decode (jy_c m_MO_generalRow) 48 = .ok (.iload_n 1, 1) := by decide +kernel
theorem d_MO_generalRow_49 : decode (jy_c m_MO_generalRow) 49 = .ok (.bipush 8, 2) := by decide +kernel
theorem d_MO_generalRow_51 : decode (jy_c m_MO_generalRow) 51 = .ok (.iadd, 1) := by decide +kernel
theorem d_MO_generalRow_52 : decode (jy_c m_MO_generalRow) 52 = .ok (.iconst 0, 1) := by decide +kernel
theorem d_MO_generalRow_53 : decode (jy_c m_MO_generalRow) 53 = .ok (.iastore, 1) := by decide +kernel
theorem d_MO_generalRow_54 : decode (jy_c m_MO_generalRow) 54 = .ok (.aload_n 0, 1) := by decide +kernel
theorem d_MO_generalRow_55 : decode (jy_c m_MO_generalRow) 55 = .ok (.getfield 20, 3) := by decide +kernel
theorem d_MO_generalRow_58 : decode (jy_c m_MO_generalRow) 58 = .ok (.iload_n 1, 1) := by decide +kernel
theorem d_MO_generalRow_59 : decode (jy_c m_MO_generalRow) 59 = .ok (.bipush 9, 2) := by decide +kernel
theorem d_MO_generalRow_61 : decode (jy_c m_MO_generalRow) 61 = .ok (.iadd, 1) := by decide +kernel
theorem d_MO_generalRow_62 : decode (jy_c m_MO_generalRow) 62 = .ok (.iconst 0, 1) := by decide +kernel
theorem d_MO_generalRow_63 : decode (jy_c m_MO_generalRow) 63 = .ok (.iastore, 1) := by decide +kernel
theorem d_MO_generalRow_64 : decode (jy_c m_MO_generalRow) 64 = .ok (.aload_n 0, 1) := by decide +kernel
theorem d_MO_generalRow_65 : decode (jy_c m_MO_generalRow) 65 = .ok (.iload_n 1, 1) := by decide +kernel
theorem d_MO_generalRow_66 : decode (jy_c m_MO_generalRow) 66 = .ok (.invokevirtual 116, 3) := by decide +kernel
theorem d_MO_generalRow_69 : decode (jy_c m_MO_generalRow) 69 = .ok (.aload_n 0, 1) := by decide +kernel
theorem d_MO_generalRow_70 : decode (jy_c m_MO_generalRow) 70 = .ok (.bipush 59, 2) := by decide +kernel
theorem d_MO_generalRow_72 : decode (jy_c m_MO_generalRow) 72 = .ok (.invokevirtual 99, 3) := by decide +kernel
theorem d_MO_generalRow_75 : decode (jy_c m_MO_generalRow) 75 = .ok (.return_, 1) := by decide +kernel
section GR
variable {G : jy_G} {h0 : jy_P} {f : Nat → Int32} {a : Nat → Nat → Int32} {n : Nat}
theorem c_generalRow {q : Nat} {F : Ft} {g : Bool} (hg : f 8 = bI g) (hM : Mo h0 (g2 f (nI (q + 1)) (-1)) (at14 a F)) (hn : f 1 = nI n) (h400 : n ≤ 400) (hq : q + 1 ≤ n) : jy_C G 5 m_MO_generalRow [.ref 11] h0 (qM h0 f a 8 (fun w x y F' => w = 1 ∧ S (a 12) n K0 (if g = true then .error q else grP (a 12) n (F, sk (a 12) n (q + 1))) x y F')) := by
  refine jy_C.of [some (.ref 11), none] rfl (Nat.le_of_ble_eq_true rfl) ?_
  have hM := MS.rf hM
  refine jr_sipush (v := 516) d_MO_generalRow_0 (by decide) ?_
  refine jr_istore_n d_MO_generalRow_3 rfl (by decide) ?_
  refine jr_aload_n d_MO_generalRow_4 rfl rfl ?_
  refine mr_get d_MO_generalRow_5 f_MO_119 hM rfl ?_
  rw [show g2 f (nI (q + 1)) (-1) 8 = bI g from hg]
  have rest : ∀ h y, MS h0 h (g2 f (nI (q + 1)) y) (at14 a F) → S (a 12) n K0 (if g = true then .error q else .ok (grF F, sk (a 12) n (q + 1))) (nI (q + 1)) y (grF F) → jy_J G 5 m_MO_generalRow 21 [some (.ref 11), some (.int 516)] [] h (qM h0 f a 8 (fun w x y F' => w = 1 ∧ S (a 12) n K0 (if g = true then .error q else grP (a 12) n (F, sk (a 12) n (q + 1))) x y F')) := by
    intro h y hM hS
    refine jr_aload_n d_MO_generalRow_21 rfl rfl ?_
    refine jr_iconst (v := 1) d_MO_generalRow_22 (by decide) ?_
    refine mr_putZ d_MO_generalRow_23 f_MO_119 rfl (by decide) hM (fun h hM => ?_)
    refine jr_aload_n d_MO_generalRow_26 rfl rfl ?_
    refine mr_get d_MO_generalRow_27 f_MO_20 hM rfl ?_
    refine jr_iload_n d_MO_generalRow_30 rfl rfl ?_
    refine jr_iconst (v := 0) d_MO_generalRow_31 (by decide) ?_
    refine jr_iadd d_MO_generalRow_32 ?_
    refine jr_iconst (v := 0) d_MO_generalRow_33 (by decide) ?_
    refine mr_ast d_MO_generalRow_34 hM (by decide) (show (516 : Int32) + 0 = nI 516 by decide) (by decide) (fun h hM => ?_)
    refine jr_aload_n d_MO_generalRow_35 rfl rfl ?_
    refine mr_get d_MO_generalRow_36 f_MO_20 hM rfl ?_
    refine jr_iload_n d_MO_generalRow_39 rfl rfl ?_
    refine jr_iconst (v := 1) d_MO_generalRow_40 (by decide) ?_
    refine jr_iadd d_MO_generalRow_41 ?_
    refine jr_iconst (v := 0) d_MO_generalRow_42 (by decide) ?_
    refine mr_ast d_MO_generalRow_43 hM (by decide) (show (516 : Int32) + 1 = nI 517 by decide) (by decide) (fun h hM => ?_)
    refine jr_aload_n d_MO_generalRow_44 rfl rfl ?_
    refine mr_get d_MO_generalRow_45 f_MO_20 hM rfl ?_
    refine jr_iload_n d_MO_generalRow_48 rfl rfl ?_
    refine jr_bipush (v := 8) d_MO_generalRow_49 (by decide) ?_
    refine jr_iadd d_MO_generalRow_51 ?_
    refine jr_iconst (v := 0) d_MO_generalRow_52 (by decide) ?_
    refine mr_ast d_MO_generalRow_53 hM (by decide) (show (516 : Int32) + 8 = nI 524 by decide) (by decide) (fun h hM => ?_)
    refine jr_aload_n d_MO_generalRow_54 rfl rfl ?_
    refine mr_get d_MO_generalRow_55 f_MO_20 hM rfl ?_
    refine jr_iload_n d_MO_generalRow_58 rfl rfl ?_
    refine jr_bipush (v := 9) d_MO_generalRow_59 (by decide) ?_
    refine jr_iadd d_MO_generalRow_61 ?_
    refine jr_iconst (v := 0) d_MO_generalRow_62 (by decide) ?_
    refine mr_ast d_MO_generalRow_63 hM (by decide) (show (516 : Int32) + 9 = nI 525 by decide) (by decide) (fun h hM => ?_)
    rw [g2_8, at14_u, at14_u, at14_u, at14_u] at hM
    refine jr_aload_n d_MO_generalRow_64 rfl rfl ?_
    refine jr_iload_n d_MO_generalRow_65 rfl rfl ?_
    refine qr_V1 d_MO_generalRow_66 i_MO_116 hM (Nat.le_of_ble_eq_true rfl) (by decide) (c_dueS (M := 516) (by decide) hM.1 hn h400 hS) (fun h x y F hM hS => ?_)
    refine jr_aload_n d_MO_generalRow_69 rfl rfl ?_
    refine jr_bipush (v := 59) d_MO_generalRow_70 (by decide) ?_
    refine qr_V1 d_MO_generalRow_72 i_MO_99 hM (Nat.le_of_ble_eq_true rfl) (by decide) (c_takeS (K := dg) hM.1 hn h400 59 (by decide) (fun v hv => dg_ne (by decide) hv) hS) (fun h x y F hM hS => ?_)
    refine jr_return d_MO_generalRow_75 rfl ?_
    refine ⟨_, x, y, F, rfl, hM, rfl, ?_⟩
    cases g with
    | true => exact hS
    | false => exact hS
  refine jr_if_eq (tgt := 21) d_MO_generalRow_8 (by decide) (fun hc => ?_) (fun hc => ?_)
  · have := bI_eq0.mp hc
    subst this
    exact rest h0 _ hM ⟨rfl, rfl, q + 1, rfl, hq, rfl⟩
  · have := bI_ne0.mp hc
    subst this
    refine jr_aload_n d_MO_generalRow_11 rfl rfl ?_
    refine jr_aload_n d_MO_generalRow_12 rfl rfl ?_
    refine mr_get d_MO_generalRow_13 f_MO_78 hM rfl ?_
    refine jr_iconst (v := 1) d_MO_generalRow_16 (by decide) ?_
    refine jr_isub d_MO_generalRow_17 ?_
    refine qr_V1 d_MO_generalRow_18 i_MO_91 hM (Nat.le_of_ble_eq_true rfl) (by decide) (c_failS hM.1 _) (fun h x' y' F' hM hq2 => ?_)
    obtain ⟨rfl, rfl, rfl⟩ := hq2
    have e1 : fl (-1) (g2 f (nI (q + 1)) (-1) 10 - 1) = nI q := nI_pred q
    rw [e1] at hM
    exact rest h _ hM (S_e rfl (by omega))
end GR
def fR (f : Nat → Int32) (k : Nat) (g : Bool) : Nat → Int32 := upd (upd f 7 (nI k)) 8 (bI g)
theorem fR_7 {f : Nat → Int32} {k k' : Nat} {g : Bool} : upd (fR f k g) 7 (nI k') = fR f k' g := by
  funext j
  simp only [fR, upd]
  by_cases h7 : j = 7
  · subst h7; rfl
  · simp [h7]
theorem fR_8 {f : Nat → Int32} {k : Nat} {g : Bool} : upd (fR f k g) 8 1 = fR f k true := by
  funext j
  simp only [fR, upd]
  by_cases h7 : j = 8
  · subst h7; rfl
  · simp [h7]
def at13 (a : Nat → Nat → Int32) (R : Ft) : Nat → Nat → Int32 := fun B => if B = 13 then R else a B
theorem at13_u {a : Nat → Nat → Int32} {R : Ft} {j : Nat} {x : Int32} : upd2 (at13 a R) 13 j x = at13 a (upd R j x) := by
  funext B
  by_cases h : B = 13
  · subst h; rfl
  · simp [upd2, at13, h]
theorem at13_self (a : Nat → Nat → Int32) : at13 a (a 13) = a := by
  funext B
  by_cases h : B = 13
  · subst h; rfl
  · simp [at13, h]
def cpF (R F : Ft) (p : Nat) : Ft := fun j => if j < p then F j else R j
theorem cpF_0 {R F : Ft} : cpF R F 0 = R := by
  funext j
  simp [cpF]
theorem cpF_s {R F : Ft} {p : Nat} : upd (cpF R F p) p (F p) = cpF R F (p + 1) := by
  funext j
  simp only [cpF, upd]
  by_cases h : j = p
  · subst h
    rw [if_pos rfl, if_pos (by omega)]
  · by_cases h2 : j < p
    · rw [if_neg h, if_pos h2, if_pos (by omega)]
    · rw [if_neg h, if_neg h2, if_neg (by omega)]
def rdQ (h : jy_P) (f : Nat → Int32) (a : Nat → Nat → Int32) (n : Nat) (R : Except Nat (Ft × Nat × Bool)) : Outcome → jy_P → Prop := fun o h' => match R with
  | .error e => ∃ f' F', o = .returned (some (.int 0)) ∧ MS h h' f' (at14 a F') ∧ e ≤ n ∧ f' 0 = 1 ∧ f' 1 = 0 ∧ f' 3 = nI e ∧ ∀ j, j ∉ [0, 1, 3, 7, 8, 10, 11] → f' j = f j
  | .ok z => ∃ f' a', o = .returned (some (.int (nI z.2.1))) ∧ MS h h' f' a' ∧ f' 0 = 0 ∧ f' 1 = 0 ∧ f' 3 = -1 ∧ f' 4 = nI z.2.1 ∧ f' 5 = bI z.2.2 ∧ f' 12 = 0 ∧ f' 25 = 1 ∧ f' 27 = 0 ∧ (∀ j, j ∉ [0, 1, 3, 4, 5, 7, 8, 10, 11, 12, 25, 27] → f' j = f j) ∧ (∀ j, j < 559 → a' 13 j = z.1 j) ∧ ∀ B, B ∉ [13, 14] → a' B = a B
theorem d_MO_read_0 : decode (jy_c m_MO_read) 0 = .ok (.aload_n 0, 1) := by decide +kernel
theorem d_MO_read_1 : decode (jy_c m_MO_read) 1 = .ok (.iconst 0, 1) := by decide +kernel
theorem d_MO_read_2 : decode (jy_c m_MO_read) 2 = .ok (.putfield 110, 3) := by decide +kernel
theorem d_MO_read_5 : decode (jy_c m_MO_read) 5 = .ok (.aload_n 0, 1) := by decide +kernel
theorem d_MO_read_6 : decode (jy_c m_MO_read) 6 = .ok (.iconst 0, 1) := by decide +kernel
theorem d_MO_read_7 : decode (jy_c m_MO_read) 7 = .ok (.putfield 119, 3) := by decide +kernel
theorem d_MO_read_10 : decode (jy_c m_MO_read) 10 = .ok (.aload_n 0, 1) := by decide +kernel
theorem d_MO_read_11 : decode (jy_c m_MO_read) 11 = .ok (.iconst 0, 1) := by decide +kernel
theorem d_MO_read_12 : decode (jy_c m_MO_read) 12 = .ok (.putfield 78, 3) := by decide +kernel
theorem d_MO_read_15 : decode (jy_c m_MO_read) 15 = .ok (.aload_n 0, 1) := by decide +kernel
theorem d_MO_read_16 : decode (jy_c m_MO_read) 16 = .ok (.iconst (-1), 1) := by decide +kernel
theorem d_MO_read_17 : decode (jy_c m_MO_read) 17 = .ok (.putfield 85, 3) := by decide +kernel
theorem d_MO_read_20 : decode (jy_c m_MO_read) 20 = .ok (.aload_n 0, 1) := by decide +kernel
theorem d_MO_read_21 : decode (jy_c m_MO_read) 21 = .ok (.getfield 85, 3) := by decide +kernel
theorem d_MO_read_24 : decode (jy_c m_MO_read) 24 = .ok (.ifCond .ge 64, 3) := by decide +kernel
theorem d_MO_read_27 : decode (jy_c m_MO_read) 27 = .ok (.aload_n 0, 1) := by decide +kernel
theorem d_MO_read_28 : decode (jy_c m_MO_read) 28 = .ok (.invokevirtual 88, 3) := by decide +kernel
theorem d_MO_read_31 : decode (jy_c m_MO_read) 31 = .ok (.ifCond .lt 57, 3) := by decide +kernel
theorem d_MO_read_34 : decode (jy_c m_MO_read) 34 = .ok (.aload_n 0, 1) := by decide +kernel
theorem d_MO_read_35 : decode (jy_c m_MO_read) 35 = .ok (.invokevirtual 81, 3) := by decide +kernel
theorem d_MO_read_38 : decode (jy_c m_MO_read) 38 = .ok (.istore_n 1, 1) := by decide +kernel
theorem d_MO_read_39 : decode (jy_c m_MO_read) 39 = .ok (.aload_n 0, 1) := by decide +kernel
theorem d_MO_read_40 : decode (jy_c m_MO_read) 40 = .ok (.dup, 1) := by decide +kernel
theorem d_MO_read_41 : decode (jy_c m_MO_read) 41 = .ok (.getfield 78, 3) := by decide +kernel
theorem d_MO_read_44 : decode (jy_c m_MO_read) 44 = .ok (.iconst 1, 1) := by decide +kernel
theorem d_MO_read_45 : decode (jy_c m_MO_read) 45 = .ok (.iadd, 1) := by decide +kernel
theorem d_MO_read_46 : decode (jy_c m_MO_read) 46 = .ok (.putfield 78, 3) := by decide +kernel
theorem d_MO_read_49 : decode (jy_c m_MO_read) 49 = .ok (.iload_n 1, 1) := by decide +kernel
theorem d_MO_read_50 : decode (jy_c m_MO_read) 50 = .ok (.bipush 109, 2) := by decide +kernel
theorem d_MO_read_52 : decode (jy_c m_MO_read) 52 = .ok (.if_icmp .ne 10, 3) := by decide +kernel
theorem d_MO_read_55 : decode (jy_c m_MO_read) 55 = .ok (.aload_n 0, 1) := by decide +kernel
theorem d_MO_read_56 : decode (jy_c m_MO_read) 56 = .ok (.invokevirtual 122, 3) := by decide +kernel
theorem d_MO_read_59 : decode (jy_c m_MO_read) 59 = .ok (.goto 26, 3) := by decide +kernel
theorem d_MO_read_62 : decode (jy_c m_MO_read) 62 = .ok (.iload_n 1, 1) := by decide +kernel
theorem d_MO_read_63 : decode (jy_c m_MO_read) 63 = .ok (.bipush 122, 2) := by decide +kernel
theorem d_MO_read_65 : decode (jy_c m_MO_read) 65 = .ok (.if_icmp .ne 10, 3) := by decide +kernel
theorem d_MO_read_68 : decode (jy_c m_MO_read) 68 = .ok (.aload_n 0, 1) := by decide +kernel
theorem d_MO_read_69 : decode (jy_c m_MO_read) 69 = .ok (.invokevirtual 125, 3) := by decide +kernel
theorem d_MO_read_72 : decode (jy_c m_MO_read) 72 = .ok (.goto 13, 3) := by decide +kernel
theorem d_MO_read_75 : decode (jy_c m_MO_read) 75 = .ok (.aload_n 0, 1) := by decide +kernel
theorem d_MO_read_76 : decode (jy_c m_MO_read) 76 = .ok (.aload_n 0, 1) := by decide +kernel
theorem d_MO_read_77 : decode (jy_c m_MO_read) 77 = .ok (.getfield 78, 3) := by decide +kernel
theorem d_MO_read_80 : decode (jy_c m_MO_read) 80 = .ok (.iconst 1, 1) := by decide +kernel
theorem d_MO_read_81 : decode (jy_c m_MO_read) 81 = .ok (.isub, 1) := by decide +kernel
theorem d_MO_read_82 : decode (jy_c m_MO_read) 82 = .ok (.invokevirtual 91, 3) := by decide +kernel
theorem d_MO_read_85 : decode (jy_c m_MO_read) 85 = .ok (.goto (-65), 3) := by decide +kernel
theorem d_MO_read_88 : decode (jy_c m_MO_read) 88 = .ok (.aload_n 0, 1) := by decide +kernel
theorem d_MO_read_89 : decode (jy_c m_MO_read) 89 = .ok (.iconst 0, 1) := by decide +kernel
theorem d_MO_read_90 : decode (jy_c m_MO_read) 90 = .ok (.putfield 71, 3) := by decide +kernel
theorem d_MO_read_93 : decode (jy_c m_MO_read) 93 = .ok (.aload_n 0, 1) := by decide +kernel
theorem d_MO_read_94 : decode (jy_c m_MO_read) 94 = .ok (.aload_n 0, 1) := by decide +kernel
theorem d_MO_read_95 : decode (jy_c m_MO_read) 95 = .ok (.getfield 85, 3) := by decide +kernel
theorem d_MO_read_98 : decode (jy_c m_MO_read) 98 = .ok (.putfield 13, 3) := by decide +kernel
theorem d_MO_read_101 : decode (jy_c m_MO_read) 101 = .ok (.aload_n 0, 1) := by decide +kernel
theorem d_MO_read_102 : decode (jy_c m_MO_read) 102 = .ok (.aload_n 0, 1) := by decide +kernel
theorem d_MO_read_103 : decode (jy_c m_MO_read) 103 = .ok (.getfield 85, 3) := by decide +kernel
theorem d_MO_read_106 : decode (jy_c m_MO_read) 106 = .ok (.ifCond .ge 7, 3) := by decide +kernel
theorem d_MO_read_109 : decode (jy_c m_MO_read) 109 = .ok (.iconst 1, 1) := by decide +kernel
theorem d_MO_read_110 : decode (jy_c m_MO_read) 110 = .ok (.goto 4, 3) := by decide +kernel
theorem d_MO_read_113 : decode (jy_c m_MO_read) 113 = .ok (.iconst 0, 1) := by decide +kernel
theorem d_MO_read_114 : decode (jy_c m_MO_read) 114 = .ok (.iconst 1, 1) := by decide +kernel
theorem d_MO_read_115 : decode (jy_c m_MO_read) 115 = .ok (.iconst 1, 1) := by decide +kernel
theorem d_MO_read_116 : decode (jy_c m_MO_read) 116 = .ok (.invokevirtual 74, 3) := by decide +kernel
theorem d_MO_read_119 : decode (jy_c m_MO_read) 119 = .ok (.ifCond .ne 5, 3) := by decide +kernel
theorem d_MO_read_122 : decode (jy_c m_MO_read) 122 = .ok (.iconst 0, 1) := by decide +kernel
theorem d_MO_read_123 : decode (jy_c m_MO_read) 123 = .ok (.ireturn, 1) := by decide +kernel
theorem d_MO_read_124 : decode (jy_c m_MO_read) 124 = .ok (.iconst 0, 1) := by decide +kernel
theorem d_MO_read_125 : decode (jy_c m_MO_read) 125 = .ok (.istore_n 1, 1) := by decide +kernel
theorem d_MO_read_126 : decode (jy_c m_MO_read) 126 = .ok (.iload_n 1, 1) := by decide +kernel
theorem d_MO_read_127 : decode (jy_c m_MO_read) 127 = .ok (.sipush 559, 3) := by decide +kernel
theorem d_MO_read_130 : decode (jy_c m_MO_read) 130 = .ok (.if_icmp .ge 21, 3) := by decide +kernel
theorem d_MO_read_133 : decode (jy_c m_MO_read) 133 = .ok (.aload_n 0, 1) := by decide +kernel
theorem d_MO_read_134 : decode (jy_c m_MO_read) 134 = .ok (.getfield 17, 3) := by decide +kernel
theorem d_MO_read_137 : decode (jy_c m_MO_read) 137 = .ok (.iload_n 1, 1) := by decide +kernel
theorem d_MO_read_138 : decode (jy_c m_MO_read) 138 = .ok (.aload_n 0, 1) := by decide +kernel
theorem d_MO_read_139 : decode (jy_c m_MO_read) 139 = .ok (.getfield 20, 3) := by decide +kernel
theorem d_MO_read_142 : decode (jy_c m_MO_read) 142 = .ok (.iload_n 1, 1) := by decide +kernel
theorem d_MO_read_143 : decode (jy_c m_MO_read) 143 = .ok (.iaload, 1) := by decide +kernel
theorem d_MO_read_144 : decode (jy_c m_MO_read) 144 = .ok (.iastore, 1) := by decide +kernel
theorem d_MO_read_145 : decode (jy_c m_MO_read) 145 = .ok (.iinc 1 1, 3) := by decide +kernel
theorem d_MO_read_148 : decode (jy_c m_MO_read) 148 = .ok (.goto (-22), 3) := by decide +kernel
theorem d_MO_read_151 : decode (jy_c m_MO_read) 151 = .ok (.aload_n 0, 1) := by decide +kernel
theorem d_MO_read_152 : decode (jy_c m_MO_read) 152 = .ok (.aload_n 0, 1) := by decide +kernel
theorem d_MO_read_153 : decode (jy_c m_MO_read) 153 = .ok (.getfield 110, 3) := by decide +kernel
theorem d_MO_read_156 : decode (jy_c m_MO_read) 156 = .ok (.putfield 128, 3) := by decide +kernel
theorem d_MO_read_159 : decode (jy_c m_MO_read) 159 = .ok (.aload_n 0, 1) := by decide +kernel
theorem d_MO_read_160 : decode (jy_c m_MO_read) 160 = .ok (.aload_n 0, 1) := by decide +kernel
theorem d_MO_read_161 : decode (jy_c m_MO_read) 161 = .ok (.getfield 119, 3) := by decide +kernel
theorem d_MO_read_164 : decode (jy_c m_MO_read) 164 = .ok (.putfield 131, 3) := by decide +kernel
theorem d_MO_read_167 : decode (jy_c m_MO_read) 167 = .ok (.aload_n 0, 1) := by decide +kernel
theorem d_MO_read_168 : decode (jy_c m_MO_read) 168 = .ok (.iconst 0, 1) := by decide +kernel
theorem d_MO_read_169 : decode (jy_c m_MO_read) 169 = .ok (.putfield 134, 3) := by decide +kernel
theorem d_MO_read_172 : decode (jy_c m_MO_read) 172 = .ok (.aload_n 0, 1) := by decide +kernel
theorem d_MO_read_173 : decode (jy_c m_MO_read) 173 = .ok (.invokevirtual 137, 3) := by decide +kernel
theorem d_MO_read_176 : decode (jy_c m_MO_read) 176 = .ok (.aload_n 0, 1) := by decide +kernel
theorem d_MO_read_177 : decode (jy_c m_MO_read) 177 = .ok (.getfield 128, 3) := by decide +kernel
theorem d_MO_read_180 : decode (jy_c m_MO_read) 180 = .ok (.ireturn, 1) := by decide +kernel
section RE
variable {G : jy_G} {h0 : jy_P} {f : Nat → Int32} {a : Nat → Nat → Int32} {n : Nat}
theorem mo_read1 {P : Outcome → jy_P → Prop} {R : Except Nat (Ft × Nat × Bool)} (hn : f 1 = nI n) (h400 : n ≤ 400)
    (Ko : ∀ h l1 x F k g, R = .ok (F, k, g) → MS h0 h (g2 (fR f k g) x (-1)) (at14 a F) → jy_J G 6 m_MO_read 88 [some (.ref 11), l1] [] h P)
    (Ke : ∀ h l1 x F w7 w8 e, R = .error e → e ≤ n → MS h0 h (g2 (upd (upd f 7 w7) 8 w8) x (nI e)) (at14 a F) → jy_J G 6 m_MO_read 88 [some (.ref 11), l1] [] h P) :
    ∀ (i : Nat) {h : jy_P} {x : Int32} {F : Ft} {k : Nat} {g : Bool} {q : Nat} {l1 : Option Value}, n < q + i → k ≤ 12 → MS h0 h (g2 (fR f k g) x (-1)) (at14 a F) → (∃ p, x = nI p ∧ p ≤ n ∧ sk (a 12) n p = q) → rdP (a 12) n i F k g q = R → jy_J G 6 m_MO_read 20 [some (.ref 11), l1] [] h P := by
  intro i
  induction i with
  | zero =>
    intro h x F k g q l1 hi h12 hM ⟨p, h1, h2, h3⟩ hR
    have := (skb (t := a 12) h2).2
    omega
  | succ i ih =>
    intro h x F k g q l1 hi h12 hM ⟨p, h1, h2, h3⟩ hR
    have hsk := (skb (t := a 12) h2).2
    subst h1
    rw [rdP] at hR
    refine jr_aload_n d_MO_read_20 rfl rfl ?_
    refine mr_get d_MO_read_21 f_MO_85 hM rfl ?_
    refine jr_if_ge (tgt := 88) d_MO_read_24 (by decide) (fun q => absurd (show (0 : Int32) ≤ -1 from q) (by decide)) (fun _ => ?_)
    refine jr_aload_n d_MO_read_27 rfl rfl ?_
    refine qr_I0 d_MO_read_28 i_MO_88 hM (Nat.le_of_ble_eq_true rfl) (by decide) (c_seeS (n := n) hM.1 hn h400 rfl h2) (fun h v x' y' F' hM hq => ?_)
    obtain ⟨rfl, rfl, rfl, rfl⟩ := hq
    rw [h3] at hM hsk ⊢
    refine jr_if_lt (tgt := 88) d_MO_read_31 (by decide) (fun hc => ?_) (fun hc => ?_)
    · rw [if_pos hc] at hR
      exact Ko h _ _ F k g hR.symm hM
    · rw [if_neg hc] at hR
      have hin : q < n := hr_in (fun e => hc (by rw [e]; decide))
      refine jr_aload_n d_MO_read_34 rfl rfl ?_
      refine mr_callP0 d_MO_read_35 i_MO_81 hM (Nat.le_of_ble_eq_true rfl) (by decide) (c_MO_here (n := n) (p := q) hM.1 ⟨hn, h400, rfl, hsk⟩) ?_
      refine jr_istore_n d_MO_read_38 rfl (by decide) ?_
      refine jr_aload_n d_MO_read_39 rfl rfl ?_
      refine jr_dup d_MO_read_40 rfl ?_
      refine mr_get d_MO_read_41 f_MO_78 hM rfl ?_
      refine jr_iconst (v := 1) d_MO_read_44 (by decide) ?_
      refine jr_iadd d_MO_read_45 ?_
      refine mr_put d_MO_read_46 f_MO_78 rfl hM (fun h hM => ?_)
      rw [show at14 a F 12 = a 12 from rfl]
      have e3 : g2 (fR f k g) (nI q) (-1) 10 + 1 = nI (q + 1) := nI_1 _
      rw [e3, g2_10] at hM
      have bad : ∀ h l1 x F w7 w8 e, R = .error e → e ≤ n → MS h0 h (g2 (upd (upd f 7 w7) 8 w8) x (nI e)) (at14 a F) → jy_J G 6 m_MO_read 85 [some (.ref 11), l1] [] h P := by
        intro h l1 x F w7 w8 e hE he hM
        refine jr_goto (tgt := 20) d_MO_read_85 (by decide) ?_
        refine jr_aload_n d_MO_read_20 rfl rfl ?_
        refine mr_get d_MO_read_21 f_MO_85 hM rfl ?_
        exact jr_if_ge (tgt := 88) d_MO_read_24 (by decide) (fun _ => Ke h _ _ _ _ _ e hE he hM) (fun w => absurd (nI_pos' (by omega)) w)
      have e7 : ∀ w, upd (fR f k g) 7 w = upd (upd f 7 w) 8 (bI g) := by
        intro w
        funext j
        simp only [fR, upd]
        by_cases h7 : j = 7
        · subst h7; rfl
        · simp [h7]
      refine jr_iload_n d_MO_read_49 rfl rfl ?_
      refine jr_bipush (v := 109) d_MO_read_50 (by decide) ?_
      refine jr_icmp_ne (tgt := 62) d_MO_read_52 (by decide) (fun hc2 => ?_) (fun hc2 => ?_)
      · rw [if_neg hc2] at hR
        refine jr_iload_n d_MO_read_62 rfl rfl ?_
        refine jr_bipush (v := 122) d_MO_read_63 (by decide) ?_
        refine jr_icmp_ne (tgt := 75) d_MO_read_65 (by decide) (fun hc3 => ?_) (fun hc3 => ?_)
        · rw [if_neg hc3] at hR
          refine jr_aload_n d_MO_read_75 rfl rfl ?_
          refine jr_aload_n d_MO_read_76 rfl rfl ?_
          refine mr_get d_MO_read_77 f_MO_78 hM rfl ?_
          refine jr_iconst (v := 1) d_MO_read_80 (by decide) ?_
          refine jr_isub d_MO_read_81 ?_
          refine qr_V1 d_MO_read_82 i_MO_91 hM (Nat.le_of_ble_eq_true rfl) (by decide) (c_failS hM.1 _) (fun h x' y' F' hM hq => ?_)
          obtain ⟨rfl, rfl, rfl⟩ := hq
          have e1 : fl (-1) (g2 (fR f k g) (nI (q + 1)) (-1) 10 - 1) = nI q := nI_pred q
          rw [e1] at hM
          exact bad h _ _ _ _ _ q hR.symm hsk hM
        · rw [if_pos hc3] at hR
          refine jr_aload_n d_MO_read_68 rfl rfl ?_
          refine qr_M0 d_MO_read_69 i_MO_125 hM (Nat.le_of_ble_eq_true rfl) (by decide) (c_generalRow (f := fR f k g) (g := g) rfl hM.1 hn h400 hin) (fun h w x y F' hM hq => ?_)
          obtain ⟨rfl, hS⟩ := hq
          refine jr_goto (tgt := 85) d_MO_read_72 (by decide) ?_
          rw [fR_8] at hM
          cases g with
          | true =>
            rw [if_pos rfl] at hR hS
            obtain ⟨b1, b2⟩ := bdE_K0 hS
            subst b1
            exact bad h _ _ _ _ _ q hR.symm b2 hM
          | false =>
            rw [if_neg (by decide)] at hR hS
            have hsk2 := skb (t := a 12) (show q + 1 ≤ n from hin)
            have hG := grP_g (t := a 12) (n := n) (z := (F, sk (a 12) n (q + 1))) hsk2.2
            rcases hr : grP (a 12) n (F, sk (a 12) n (q + 1)) with e | z
            · rw [hr] at hR hS
              obtain ⟨b1, b2⟩ := bdE_K0 hS
              subst b1
              exact bad h _ _ _ _ _ e hR.symm b2 hM
            · rw [hr] at hR hS
              obtain ⟨s1, s2, p', s3, s4, s5⟩ := hS
              subst s1; subst s2; subst s3
              have hz := hG.1 z hr
              refine jr_goto (tgt := 20) d_MO_read_85 (by decide) ?_
              exact ih (q := z.2) (by have := hz.1; have : sk (a 12) n (q + 1) ≤ z.2 := this; omega) h12 hM ⟨p', rfl, s4, s5⟩ hR
      · rw [if_pos hc2] at hR
        refine jr_aload_n d_MO_read_55 rfl rfl ?_
        refine qr_M0 d_MO_read_56 i_MO_122 hM (Nat.le_of_ble_eq_true rfl) (by decide) (c_materialRow (f := fR f k g) (k := k) rfl h12 hM.1 hn h400 hin) (fun h w x y F' hM hq => ?_)
        obtain ⟨hS, hw⟩ := hq
        refine jr_goto (tgt := 85) d_MO_read_59 (by decide) ?_
        by_cases hk : k = 12
        · rw [if_pos hk] at hR hS
          obtain ⟨b1, b2⟩ := bdE_K0 hS
          subst b1
          rw [e7] at hM
          exact bad h _ _ _ _ _ q hR.symm b2 hM
        · rw [if_neg hk] at hR hS hw
          have hsk2 := skb (t := a 12) (show q + 1 ≤ n from hin)
          have hG := mrP_g (t := a 12) (n := n) (k := k) (z := (F, sk (a 12) n (q + 1))) hsk2.2
          rcases hr : mrP (a 12) n k (F, sk (a 12) n (q + 1)) with e | z
          · rw [hr] at hR hS
            obtain ⟨b1, b2⟩ := bdE_K0 hS
            subst b1
            rw [e7] at hM
            exact bad h _ _ _ _ _ e hR.symm b2 hM
          · rw [hr] at hR hS
            have hw := hw z hr
            subst hw
            rw [fR_7] at hM
            obtain ⟨s1, s2, p', s3, s4, s5⟩ := hS
            subst s1; subst s2; subst s3
            have hz := hG.1 z hr
            refine jr_goto (tgt := 20) d_MO_read_85 (by decide) ?_
            exact ih (q := z.2) (by have := hz.1; have : sk (a 12) n (q + 1) ≤ z.2 := this; omega) (by omega) hM ⟨p', rfl, s4, s5⟩ hR
theorem mo_read2 {P : Outcome → jy_P → Prop} {f : Nat → Int32} {F : Ft} (K : ∀ h, MS h0 h f (at13 (at14 a F) (cpF (a 13) F 559)) → jy_J G 6 m_MO_read 151 [some (.ref 11), some (.int (nI 559))] [] h P) : ∀ p, p ≤ 559 → ∀ h, MS h0 h f (at13 (at14 a F) (cpF (a 13) F p)) → jy_J G 6 m_MO_read 126 [some (.ref 11), some (.int (nI p))] [] h P := by
  refine jl_up 559 _ (fun h hM => ?_) (fun p hp ih h hM => ?_)
  · refine jr_iload_n d_MO_read_126 rfl rfl ?_
    refine jr_sipush (v := 559) d_MO_read_127 (by decide) ?_
    exact jr_icmp_ge (tgt := 151) d_MO_read_130 (by decide) (fun _ => K h hM) (fun q => absurd (by decide) q)
  · refine jr_iload_n d_MO_read_126 rfl rfl ?_
    refine jr_sipush (v := 559) d_MO_read_127 (by decide) ?_
    refine jr_icmp_ge (tgt := 151) d_MO_read_130 (by decide) (fun q => absurd q (nI_ge (b := 559) hp (by decide))) (fun _ => ?_)
    refine jr_aload_n d_MO_read_133 rfl rfl ?_
    refine mr_get d_MO_read_134 f_MO_17 hM rfl ?_
    refine jr_iload_n d_MO_read_137 rfl rfl ?_
    refine jr_aload_n d_MO_read_138 rfl rfl ?_
    refine mr_get d_MO_read_139 f_MO_20 hM rfl ?_
    refine jr_iload_n d_MO_read_142 rfl rfl ?_
    refine mr_ald d_MO_read_143 hM (by decide) rfl (by show p < 559; omega) ?_
    refine mr_ast d_MO_read_144 hM (by decide) rfl (by show p < 559; omega) (fun h hM => ?_)
    refine jr_iinc1 d_MO_read_145 rfl (by decide) ?_
    refine jr_goto (tgt := 126) d_MO_read_148 (by decide) ?_
    rw [nI_1]
    refine ih h ?_
    rw [at13_u, show at13 (at14 a F) (cpF (a 13) F p) 14 p = F p from rfl, cpF_s] at hM
    exact hM
theorem c_MO_read (hM : Mo h0 f a) (hn : f 1 = nI n) (h400 : n ≤ 400) : jy_C G 6 m_MO_read [.ref 11] h0 (rdQ h0 f a n (rdP (a 12) n 401 (a 14) 0 false (sk (a 12) n 0))) := by
  refine jy_C.of [some (.ref 11), none] rfl (Nat.le_of_ble_eq_true rfl) ?_
  have hM := MS.rf hM
  generalize hR : rdP (a 12) n 401 (a 14) 0 false (sk (a 12) n 0) = R
  refine jr_aload_n d_MO_read_0 rfl rfl ?_
  refine jr_iconst (v := 0) d_MO_read_1 (by decide) ?_
  refine mr_put d_MO_read_2 f_MO_110 rfl hM (fun h hM => ?_)
  refine jr_aload_n d_MO_read_5 rfl rfl ?_
  refine jr_iconst (v := 0) d_MO_read_6 (by decide) ?_
  refine mr_putZ d_MO_read_7 f_MO_119 rfl (by decide) hM (fun h hM => ?_)
  refine jr_aload_n d_MO_read_10 rfl rfl ?_
  refine jr_iconst (v := 0) d_MO_read_11 (by decide) ?_
  refine mr_put d_MO_read_12 f_MO_78 rfl hM (fun h hM => ?_)
  refine jr_aload_n d_MO_read_15 rfl rfl ?_
  refine jr_iconst (v := -1) d_MO_read_16 (by decide) ?_
  refine mr_put d_MO_read_17 f_MO_85 rfl hM (fun h hM => ?_)
  have e0 : upd (upd (upd (upd f 7 0) 8 0) 10 0) 11 (-1) = g2 (fR f 0 false) (nI 0) (-1) := rfl
  rw [e0] at hM
  have hM : MS h0 h (g2 (fR f 0 false) (nI 0) (-1)) (at14 a (a 14)) := by rw [at14_self]; exact hM
  refine mo_read1 (R := R) hn h400 (fun h l1 x F k g hE hM => ?_) (fun h l1 x F w7 w8 e hE he hM => ?_) 401 (by omega) (by omega) hM ⟨0, rfl, by omega, rfl⟩ hR
  · subst hE
    refine jr_aload_n d_MO_read_88 rfl rfl ?_
    refine jr_iconst (v := 0) d_MO_read_89 (by decide) ?_
    refine mr_put d_MO_read_90 f_MO_71 rfl hM (fun h hM => ?_)
    refine jr_aload_n d_MO_read_93 rfl rfl ?_
    refine jr_aload_n d_MO_read_94 rfl rfl ?_
    refine mr_get d_MO_read_95 f_MO_85 hM rfl ?_
    refine mr_put d_MO_read_98 f_MO_13 rfl hM (fun h hM => ?_)
    refine jr_aload_n d_MO_read_101 rfl rfl ?_
    refine jr_aload_n d_MO_read_102 rfl rfl ?_
    refine mr_get d_MO_read_103 f_MO_85 hM rfl ?_
    refine jr_if_ge (tgt := 113) d_MO_read_106 (by decide) (fun q => absurd (show (0 : Int32) ≤ -1 from q) (by decide)) (fun _ => ?_)
    refine jr_iconst (v := 1) d_MO_read_109 (by decide) ?_
    refine jr_goto (tgt := 114) d_MO_read_110 (by decide) ?_
    refine jr_iconst (v := 1) d_MO_read_114 (by decide) ?_
    refine jr_iconst (v := 1) d_MO_read_115 (by decide) ?_
    refine mr_call3 d_MO_read_116 i_MO_74 hM (Nat.le_of_ble_eq_true rfl) (by decide) (c_MO_goes hM.1 true true true) (fun h hM => ?_)
    refine jr_if_ne (tgt := 124) d_MO_read_119 (by decide) (fun _ => ?_) (fun q => absurd q (by decide))
    refine jr_iconst (v := 0) d_MO_read_124 (by decide) ?_
    refine jr_istore_n d_MO_read_125 rfl (by decide) ?_
    rw [← at13_self (at14 a F), show at14 a F 13 = cpF (a 13) F 0 from cpF_0.symm] at hM
    refine mo_read2 (a := a) (F := F) (fun h hM => ?_) 0 (by omega) h hM
    refine jr_aload_n d_MO_read_151 rfl rfl ?_
    refine jr_aload_n d_MO_read_152 rfl rfl ?_
    refine mr_get d_MO_read_153 f_MO_110 hM rfl ?_
    refine mr_put d_MO_read_156 f_MO_128 rfl hM (fun h hM => ?_)
    refine jr_aload_n d_MO_read_159 rfl rfl ?_
    refine jr_aload_n d_MO_read_160 rfl rfl ?_
    refine mr_get d_MO_read_161 f_MO_119 hM rfl ?_
    refine mr_putZ d_MO_read_164 f_MO_131 rfl (bI_01 g) hM (fun h hM => ?_)
    refine jr_aload_n d_MO_read_167 rfl rfl ?_
    refine jr_iconst (v := 0) d_MO_read_168 (by decide) ?_
    refine mr_put d_MO_read_169 f_MO_134 rfl hM (fun h hM => ?_)
    refine jr_aload_n d_MO_read_172 rfl rfl ?_
    refine mr_call0 d_MO_read_173 i_MO_137 hM (Nat.le_of_ble_eq_true rfl) (by decide) (c_MO_clear hM.1) (fun h hM => ?_)
    refine jr_aload_n d_MO_read_176 rfl rfl ?_
    refine mr_get d_MO_read_177 f_MO_128 hM rfl ?_
    refine jr_ireturn d_MO_read_180 rfl rfl ?_
    refine ⟨_, _, rfl, hM, rfl, rfl, rfl, rfl, rfl, rfl, rfl, rfl, fun j hj => ?_, fun j hj => ?_, fun B hB => ?_⟩
    · simp only [List.mem_cons, List.not_mem_nil, or_false, not_or] at hj
      obtain ⟨j0, j1, j3, j4, j5, j7, j8, j10, j11, j12, j25, j27⟩ := hj
      simp [upd, g2, fR, j0, j1, j3, j4, j5, j7, j8, j10, j11, j12, j25, j27]
    · show cpF (a 13) F 559 j = F j
      simp [cpF, hj]
    · simp only [List.mem_cons, List.not_mem_nil, or_false, not_or] at hB
      simp [at13, at14, hB.1, hB.2]
  · subst hE
    refine jr_aload_n d_MO_read_88 rfl rfl ?_
    refine jr_iconst (v := 0) d_MO_read_89 (by decide) ?_
    refine mr_put d_MO_read_90 f_MO_71 rfl hM (fun h hM => ?_)
    refine jr_aload_n d_MO_read_93 rfl rfl ?_
    refine jr_aload_n d_MO_read_94 rfl rfl ?_
    refine mr_get d_MO_read_95 f_MO_85 hM rfl ?_
    refine mr_put d_MO_read_98 f_MO_13 rfl hM (fun h hM => ?_)
    refine jr_aload_n d_MO_read_101 rfl rfl ?_
    refine jr_aload_n d_MO_read_102 rfl rfl ?_
    refine mr_get d_MO_read_103 f_MO_85 hM rfl ?_
    refine jr_if_ge (tgt := 113) d_MO_read_106 (by decide) (fun _ => ?_) (fun q => absurd (nI_pos' (by omega)) q)
    refine jr_iconst (v := 0) d_MO_read_113 (by decide) ?_
    refine jr_iconst (v := 1) d_MO_read_114 (by decide) ?_
    refine jr_iconst (v := 1) d_MO_read_115 (by decide) ?_
    refine mr_call3 d_MO_read_116 i_MO_74 hM (Nat.le_of_ble_eq_true rfl) (by decide) (c_MO_goes hM.1 false true true) (fun h hM => ?_)
    refine jr_if_ne (tgt := 124) d_MO_read_119 (by decide) (fun q => absurd rfl q) (fun _ => ?_)
    refine jr_iconst (v := 0) d_MO_read_122 (by decide) ?_
    refine jr_ireturn d_MO_read_123 rfl rfl ?_
    refine ⟨_, _, rfl, hM, he, rfl, rfl, rfl, fun j hj => ?_⟩
    simp only [List.mem_cons, List.not_mem_nil, or_false, not_or] at hj
    obtain ⟨j0, j1, j3, j7, j8, j10, j11⟩ := hj
    simp [upd, g2, j0, j1, j3, j7, j8, j10, j11]
end RE
