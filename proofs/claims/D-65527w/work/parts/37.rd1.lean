/-! the class' reader: signs, numbers -/
def rA (n p : Nat) : Nat × List Value := (1, [.ref 3, .int (nI n), .int (nI p)])
/-- an error: the exception with its place; only the reader's cell has changed, at most c cells are new -/
def rE (h : jy_P) (c e : Nat) : Outcome → jy_P → Prop := fun o h' => ∃ x : Nat, o = .threw x ∧ h'[x]? = some (8, [.int (nI e)]) ∧ St (fun i => i = 2) h h' ∧ h.length ≤ h'.length ∧ h'.length ≤ h.length + c
def rQ (h : jy_P) (c : Nat) (R : Except Nat (Option Value × jy_P)) : Outcome → jy_P → Prop := fun o h' => match R with
  | .ok w => o = .returned w.1 ∧ h' = w.2
  | .error e => rE h c e o h'
section RR
variable {G : jy_G} {d d' : Nat} {M M' : jy_M} {pc : Nat} {L : List (Option Value)} {st : List Value} {h : jy_P} {P : Outcome → jy_P → Prop}
theorem rp_put {idx n p : Nat} {x : Int32} (hd : decode (jy_c M) pc = .ok (.putfield idx, 3)) (hF : jy_F (jy_y M).cls idx 1 2 .int false) (h2 : h[2]? = some (1, [.ref 3, .int (nI n), .int (nI p)])) (kk : jy_J G d M (pc + 3) L st (h.set 2 (1, [.ref 3, .int (nI n), .int x])) P) : jy_J G d M pc L (.int x :: .ref 2 :: st) h P :=
  jr_put hd hF jy_fv_int (by decide) h2 rfl kk
theorem jr_callX {idx n ci A : Nat} {As fs : List Value} {r : Option Value} {h2 : jy_P} (hd : decode (jy_c M) pc = .ok (.invokevirtual idx, 3)) (hI : jy_IV (jy_y M).cls idx M' ci n) (hn : As.length = n) (ho : h[A]? = some (ci, fs)) (hst : (st.map fun v => v.category).sum ≤ 8) (hdd : d' < d) (hC : jy_C G d' M' (.ref A :: As) h (fun o h' => o = .returned r ∧ h' = h2)) (kk : jy_J G d M (pc + 3) L (r.toList ++ st) h2 P) : jy_J G d M pc L (As.reverse ++ .ref A :: st) h P :=
  jr_callV hd hI hn ho hst hdd hC (fun v h' q => by
    obtain ⟨q1, q2⟩ := q
    cases q1
    subst q2
    exact kk) (fun x h' q => by cases q.1)
theorem jr_callR {idx n ci A c : Nat} {As fs : List Value} {R : Except Nat (Option Value × jy_P)} (hd : decode (jy_c M) pc = .ok (.invokevirtual idx, 3)) (hI : jy_IV (jy_y M).cls idx M' ci n) (hn : As.length = n) (ho : h[A]? = some (ci, fs)) (hst : (st.map fun v => v.category).sum ≤ 8) (hdd : d' < d) (hC : jy_C G d' M' (.ref A :: As) h (rQ h c R)) (hout : ∀ q ∈ jy_h M, (decide (q.1 ≤ pc) && decide (pc < q.2.1)) = false) (kk : ∀ w, R = .ok w → jy_J G d M (pc + 3) L (w.1.toList ++ st) w.2 P) (ke : ∀ e, R = .error e → ∀ o h', rE h c e o h' → P o h') : jy_J G d M pc L (As.reverse ++ .ref A :: st) h P := by
  cases R with
  | ok w =>
    exact jr_callV hd hI hn ho hst hdd hC (fun v h' q => by
      obtain ⟨q1, q2⟩ := q
      cases q1
      subst q2
      exact kk w rfl) (fun x h' q => by obtain ⟨q1, q2⟩ := q; cases q1)
  | error e =>
    exact jr_callV hd hI hn ho hst hdd hC (fun v h' q => by obtain ⟨x, q1, -⟩ := q; cases q1) (fun x h' q => jy_E.out hout (ke e rfl _ _ q))
theorem jr_needR {idx n p : Nat} {b : Int32} (hd : decode (jy_c M) pc = .ok (.invokevirtual idx, 3)) (hI : jy_IV (jy_y M).cls idx m_RD_need 1 1) (h2 : h[2]? = some (1, [.ref 3, .int (nI n), .int (nI p)])) (hC : jy_C G 6 m_RD_need [.ref 2, .int b] h (fun o h' => (¬ b = 0 ∧ o = .returned none ∧ h' = h) ∨ (b = 0 ∧ o = .threw h.length ∧ h' = h ++ [(8, [.int (nI p)])]))) (hst : (st.map fun v => v.category).sum ≤ 8) (hdd : 6 < d) (hout : ∀ q ∈ jy_h M, (decide (q.1 ≤ pc) && decide (pc < q.2.1)) = false) (kr : ¬ b = 0 → jy_J G d M (pc + 3) L st h P) (kt : b = 0 → P (.threw h.length) (h ++ [(8, [.int (nI p)])])) : jy_J G d M pc L (.int b :: .ref 2 :: st) h P :=
  jr_callV (As := [.int b]) hd hI rfl h2 hst hdd hC (fun v h' q => by
    rcases q with ⟨q0, q1, q2⟩ | ⟨q0, q1, q2⟩
    · cases q1
      subst q2
      exact kr q0
    · cases q1) (fun x h' q => by
    rcases q with ⟨q0, q1, q2⟩ | ⟨q0, q1, q2⟩
    · cases q1
    · cases q1
      subst q2
      exact jy_E.out hout (kt q0))
end RR
/-- the exception is thrown here -/
theorem rE.here {h0 h : jy_P} {c e : Nat} (hs : St (fun i => i = 2) h0 h) (h1 : h0.length ≤ h.length) (h2 : h.length + 1 ≤ h0.length + c) : rE h0 c e (.threw h.length) (h ++ [(8, [.int (nI e)])]) := ⟨h.length, rfl, ga_n, hs.tr St.app, by simp; omega, by simp; omega⟩
theorem rE.tr {h0 h h' : jy_P} {c c' e : Nat} {o : Outcome} (hs : St (fun i => i = 2) h0 h) (h1 : h0.length ≤ h.length) (h2 : h.length + c ≤ h0.length + c') (q : rE h c e o h') : rE h0 c' e o h' := by
  obtain ⟨x, q1, q2, q3, q4, q5⟩ := q
  exact ⟨x, q1, q2, hs.tr q3, by omega, by omega⟩
/-- the bytes tb of the tape t -/
def TH (t tb : Ft) (n : Nat) : Prop := n ≤ 400 ∧ ∀ j, j < n → tb j = sx (t j) ∧ ∃ k, k < 256 ∧ t j = nI k
theorem sx_and : ∀ k, k < 256 → (sx (nI k)) &&& 255 = nI k := by decide +kernel
theorem sx_eq : ∀ k, k < 256 → ∀ c, c < 128 → (sx (nI k) = nI c ↔ k = c) := by decide +kernel
theorem sx_dg : ∀ k, k < 256 → (decide (48 ≤ sx (nI k)) && decide (sx (nI k) ≤ 57)) = dg (nI k) := by decide +kernel
theorem sx_lt : ∀ k, k < 256 → (decide (97 ≤ sx (nI k)) && decide (sx (nI k) ≤ 122)) = inB (nI k) 97 122 := by decide +kernel
theorem sx_dgv : ∀ k, k < 256 → dg (nI k) = true → sx (nI k) = nI k := by decide +kernel
section RB
variable {G : jy_G} {h : jy_P} {t tb : Ft} {n p : Nat}
theorem hr_lt (hp : p < n) : hr t n p = t p := if_pos hp
theorem tb_32 (hT : TH t tb n) (hp : p < n) : tb p = 32 ↔ hr t n p = 32 := by
  obtain ⟨e, k, hk, hv⟩ := hT.2 p hp
  rw [hr_lt hp, e, hv]
  exact ⟨fun q => by rw [(sx_eq k hk 32 (by decide)).mp q]; rfl, fun q => (sx_eq k hk 32 (by decide)).mpr ((nI_eq (b := 32) (by omega) (by decide)).mp q)⟩
theorem tb_34 (hT : TH t tb n) (hp : p < n) : tb p = 34 ↔ hr t n p = 34 := by
  obtain ⟨e, k, hk, hv⟩ := hT.2 p hp
  rw [hr_lt hp, e, hv]
  exact ⟨fun q => by rw [(sx_eq k hk 34 (by decide)).mp q]; rfl, fun q => (sx_eq k hk 34 (by decide)).mpr ((nI_eq (b := 34) (by omega) (by decide)).mp q)⟩
theorem tb_and (hT : TH t tb n) (hp : p < n) : tb p &&& 255 = hr t n p := by
  obtain ⟨e, k, hk, hv⟩ := hT.2 p hp
  rw [hr_lt hp, e, hv]
  exact sx_and k hk
theorem tb_dg (hT : TH t tb n) (hp : p < n) : (decide (48 ≤ tb p) && decide (tb p ≤ 57)) = dg (hr t n p) := by
  obtain ⟨e, k, hk, hv⟩ := hT.2 p hp
  rw [hr_lt hp, e, hv]
  exact sx_dg k hk
theorem tb_lt (hT : TH t tb n) (hp : p < n) : (decide (97 ≤ tb p) && decide (tb p ≤ 122)) = inB (hr t n p) 97 122 := by
  obtain ⟨e, k, hk, hv⟩ := hT.2 p hp
  rw [hr_lt hp, e, hv]
  exact sx_lt k hk
theorem tb_dgv (hT : TH t tb n) (hd : dg (hr t n p) = true) : tb p = hr t n p := by
  have hp := dg_in hd
  obtain ⟨e, k, hk, hv⟩ := hT.2 p hp
  rw [hr_lt hp] at hd ⊢
  rw [hv] at hd
  rw [e, hv]
  exact sx_dgv k hk hd
theorem tb_ltv (hT : TH t tb n) (hd : inB (hr t n p) 97 122 = true) : tb p = hr t n p := by
  have hp := inB_in (by decide) hd
  obtain ⟨e, k, hk, hv⟩ := hT.2 p hp
  rw [hr_lt hp] at hd ⊢
  rw [e]
  exact sx_in hd
theorem d_RD_see_0 : decode (jy_c m_RD_see) 0 = .ok (.aload_n 0, 1) := by decide +kernel
theorem d_RD_see_1 : decode (jy_c m_RD_see) 1 = .ok (.getfield 15, 3) := by decide +kernel
theorem d_RD_see_4 : decode (jy_c m_RD_see) 4 = .ok (.aload_n 0, 1) := by decide +kernel
theorem d_RD_see_5 : decode (jy_c m_RD_see) 5 = .ok (.getfield 19, 3) := by decide +kernel
theorem d_RD_see_8 : decode (jy_c m_RD_see) 8 = .ok (.if_icmp .ge 30, 3) := by decide +kernel
theorem d_RD_see_11 : decode (jy_c m_RD_see) 11 = .ok (.aload_n 0, 1) := by decide +kernel
theorem d_RD_see_12 : decode (jy_c m_RD_see) 12 = .ok (.getfield 9, 3) := by decide +kernel
theorem d_RD_see_15 : decode (jy_c m_RD_see) 15 = .ok (.aload_n 0, 1) := by decide +kernel
theorem d_RD_see_16 : decode (jy_c m_RD_see) 16 = .ok (.getfield 15, 3) := by decide +kernel
theorem d_RD_see_19 : decode (jy_c m_RD_see) 19 = .ok (.baload, 1) := by decide +kernel
theorem d_RD_see_20 : decode (jy_c m_RD_see) 20 = .ok (.bipush 32, 2) := by decide +kernel
theorem d_RD_see_22 : decode (jy_c m_RD_see) 22 = .ok (.if_icmp .ne 16, 3) := by decide +kernel
theorem d_RD_see_25 : decode (jy_c m_RD_see) 25 = .ok (.aload_n 0, 1) := by decide +kernel
theorem d_RD_see_26 : decode (jy_c m_RD_see) 26 = .ok (.dup, 1) := by decide +kernel
theorem d_RD_see_27 : decode (jy_c m_RD_see) 27 = .ok (.getfield 15, 3) := by decide +kernel
theorem d_RD_see_30 : decode (jy_c m_RD_see) 30 = .ok (.iconst 1, 1) := by decide +kernel
theorem d_RD_see_31 : decode (jy_c m_RD_see) 31 = .ok (.iadd, 1) := by decide +kernel
theorem d_RD_see_32 : decode (jy_c m_RD_see) 32 = .ok (.putfield 15, 3) := by decide +kernel
theorem d_RD_see_35 : decode (jy_c m_RD_see) 35 = .ok (.goto (-35), 3) := by decide +kernel
theorem d_RD_see_38 : decode (jy_c m_RD_see) 38 = .ok (.aload_n 0, 1) := by decide +kernel
theorem d_RD_see_39 : decode (jy_c m_RD_see) 39 = .ok (.getfield 15, 3) := by decide +kernel
theorem d_RD_see_42 : decode (jy_c m_RD_see) 42 = .ok (.aload_n 0, 1) := by decide +kernel
theorem d_RD_see_43 : decode (jy_c m_RD_see) 43 = .ok (.getfield 19, 3) := by decide +kernel
theorem d_RD_see_46 : decode (jy_c m_RD_see) 46 = .ok (.if_icmp .ge 19, 3) := by decide +kernel
theorem d_RD_see_49 : decode (jy_c m_RD_see) 49 = .ok (.aload_n 0, 1) := by decide +kernel
theorem d_RD_see_50 : decode (jy_c m_RD_see) 50 = .ok (.getfield 9, 3) := by decide +kernel
theorem d_RD_see_53 : decode (jy_c m_RD_see) 53 = .ok (.aload_n 0, 1) := by decide +kernel
theorem d_RD_see_54 : decode (jy_c m_RD_see) 54 = .ok (.getfield 15, 3) := by decide +kernel
theorem d_RD_see_57 : decode (jy_c m_RD_see) 57 = .ok (.baload, 1) := by decide +kernel
theorem d_RD_see_58 : decode (jy_c m_RD_see) 58 = .ok (.sipush 255, 3) := by decide +kernel
theorem d_RD_see_61 : decode (jy_c m_RD_see) 61 = .ok (.iand, 1) := by decide +kernel
theorem d_RD_see_62 : decode (jy_c m_RD_see) 62 = .ok (.goto 4, 3) := by decide +kernel
theorem d_RD_see_65 : decode (jy_c m_RD_see) 65 = .ok (.iconst (-1), 1) := by decide +kernel
theorem d_RD_see_66 : decode (jy_c m_RD_see) 66 = .ok (.ireturn, 1) := by decide +kernel
theorem c_RD_see (hT : TH t tb n) : ∀ (k : Nat) {h : jy_P} {p : Nat}, n - p ≤ k → p ≤ n → h[2]? = some (1, [.ref 3, .int (nI n), .int (nI p)]) → h[3]? = some (51, ints 400 tb) → jy_J G 1 m_RD_see 0 [some (.ref 2)] [] h (fun o h' => o = .returned (some (.int (hr t n (sk t n p)))) ∧ h' = h.set 2 (rA n (sk t n p))) := by
  have stop : ∀ {h : jy_P} {p : Nat}, p ≤ n → ¬ hr t n p = 32 → h[2]? = some (1, [.ref 3, .int (nI n), .int (nI p)]) → h[3]? = some (51, ints 400 tb) → jy_J G 1 m_RD_see 38 [some (.ref 2)] [] h (fun o h' => o = .returned (some (.int (hr t n (sk t n p)))) ∧ h' = h.set 2 (rA n (sk t n p))) := by
    intro h p hp h32 h2 h3
    have hn := hT.1
    rw [sk_stop h32]
    have hh : h = h.set 2 (rA n p) := by
      apply List.ext_getElem?
      intro i
      by_cases e : 2 = i
      · subst e; rw [gs_eq h2]; exact h2
      · rw [List.getElem?_set_ne e]
    refine jr_aload_n d_RD_see_38 rfl rfl ?_
    refine jr_get d_RD_see_39 f_RD_15 h2 rfl ?_
    refine jr_aload_n d_RD_see_42 rfl rfl ?_
    refine jr_get d_RD_see_43 f_RD_19 h2 rfl ?_
    refine jr_icmp_ge (tgt := 65) d_RD_see_46 (by decide) (fun hc => ?_) (fun hc => ?_)
    · have : ¬ p < n := fun q => nI_ge q (by omega) hc
      refine jr_iconst (v := -1) d_RD_see_65 (by decide) ?_
      refine jr_ireturn d_RD_see_66 rfl rfl ?_
      exact ⟨by rw [hr, if_neg this], hh⟩
    · have hpn : p < n := by
        rcases Nat.lt_or_ge p n with q | q
        · exact q
        · exact absurd (nI_le q (by omega)) hc
      refine jr_aload_n d_RD_see_49 rfl rfl ?_
      refine jr_get d_RD_see_50 f_RD_9 h2 rfl ?_
      refine jr_aload_n d_RD_see_53 rfl rfl ?_
      refine jr_get d_RD_see_54 f_RD_15 h2 rfl ?_
      refine cr_bald d_RD_see_57 h3 rfl (by omega) (by decide) ?_
      refine jr_sipush (v := 255) d_RD_see_58 (by decide) ?_
      refine jr_iand d_RD_see_61 ?_
      rw [tb_and hT hpn]
      refine jr_goto (tgt := 66) d_RD_see_62 (by decide) ?_
      refine jr_ireturn d_RD_see_66 rfl rfl ?_
      exact ⟨rfl, hh⟩
  intro k
  induction k with
  | zero =>
    intro h p hk hp h2 h3
    have hn := hT.1
    have h32 : ¬ hr t n p = 32 := fun q => by have := hr_32 q; omega
    refine jr_aload_n d_RD_see_0 rfl rfl ?_
    refine jr_get d_RD_see_1 f_RD_15 h2 rfl ?_
    refine jr_aload_n d_RD_see_4 rfl rfl ?_
    refine jr_get d_RD_see_5 f_RD_19 h2 rfl ?_
    exact jr_icmp_ge (tgt := 38) d_RD_see_8 (by decide) (fun _ => stop hp h32 h2 h3) (fun q => absurd (nI_le (a := n) (b := p) (by omega) (by omega)) q)
  | succ k ih =>
    intro h p hk hp h2 h3
    have hn := hT.1
    refine jr_aload_n d_RD_see_0 rfl rfl ?_
    refine jr_get d_RD_see_1 f_RD_15 h2 rfl ?_
    refine jr_aload_n d_RD_see_4 rfl rfl ?_
    refine jr_get d_RD_see_5 f_RD_19 h2 rfl ?_
    refine jr_icmp_ge (tgt := 38) d_RD_see_8 (by decide) (fun hc => ?_) (fun hc => ?_)
    · refine stop hp (fun q => ?_) h2 h3
      exact nI_ge (hr_32 q) (by omega) hc
    · have hpn : p < n := by
        rcases Nat.lt_or_ge p n with q | q
        · exact q
        · exact absurd (nI_le q (by omega)) hc
      refine jr_aload_n d_RD_see_11 rfl rfl ?_
      refine jr_get d_RD_see_12 f_RD_9 h2 rfl ?_
      refine jr_aload_n d_RD_see_15 rfl rfl ?_
      refine jr_get d_RD_see_16 f_RD_15 h2 rfl ?_
      refine cr_bald d_RD_see_19 h3 rfl (by omega) (by decide) ?_
      refine jr_bipush (v := 32) d_RD_see_20 (by decide) ?_
      refine jr_icmp_ne (tgt := 38) d_RD_see_22 (by decide) (fun hc2 => stop hp (fun q => hc2 ((tb_32 hT hpn).mpr q)) h2 h3) (fun hc2 => ?_)
      have h32 := (tb_32 hT hpn).mp hc2
      refine jr_aload_n d_RD_see_25 rfl rfl ?_
      refine jr_dup d_RD_see_26 rfl ?_
      refine jr_get d_RD_see_27 f_RD_15 h2 rfl ?_
      refine jr_iconst (v := 1) d_RD_see_30 (by decide) ?_
      refine jr_iadd d_RD_see_31 ?_
      rw [nI_1]
      refine rp_put d_RD_see_32 f_RD_15 h2 ?_
      refine jr_goto (tgt := 0) d_RD_see_35 (by decide) ?_
      refine (ih (p := p + 1) (by omega) hpn (gs_eq h2) (by rw [List.getElem?_set_ne (by decide)]; exact h3)).mono (fun o h' w => ?_)
      rw [← sk_step h32, List.set_set] at w
      exact w
theorem c_see (hT : TH t tb n) (hp : p ≤ n) (h2 : h[2]? = some (1, [.ref 3, .int (nI n), .int (nI p)])) (h3 : h[3]? = some (51, ints 400 tb)) : jy_C G 1 m_RD_see [.ref 2] h (fun o h' => o = .returned (some (.int (hr t n (sk t n p)))) ∧ h' = h.set 2 (rA n (sk t n p))) :=
  jy_C.of [some (.ref 2)] rfl (Nat.le_of_ble_eq_true rfl) (c_RD_see hT (n - p) (Nat.le_refl _) hp h2 h3)
theorem d_RD_need_0 : decode (jy_c m_RD_need) 0 = .ok (.iload_n 1, 1) := by decide +kernel
theorem d_RD_need_1 : decode (jy_c m_RD_need) 1 = .ok (.ifCond .ne 15, 3) := by decide +kernel
theorem d_RD_need_4 : decode (jy_c m_RD_need) 4 = .ok (.new 22, 3) := by decide +kernel
theorem d_RD_need_7 : decode (jy_c m_RD_need) 7 = .ok (.dup, 1) := by decide +kernel
theorem d_RD_need_8 : decode (jy_c m_RD_need) 8 = .ok (.aload_n 0, 1) := by decide +kernel
theorem d_RD_need_9 : decode (jy_c m_RD_need) 9 = .ok (.getfield 15, 3) := by decide +kernel
theorem d_RD_need_12 : decode (jy_c m_RD_need) 12 = .ok (.invokespecial 24, 3) := by decide +kernel
theorem d_RD_need_15 : decode (jy_c m_RD_need) 15 = .ok (.athrow, 1) := by decide +kernel
theorem d_RD_need_16 : decode (jy_c m_RD_need) 16 = .ok (.return_, 1) := by decide +kernel
theorem c_need (h2 : h[2]? = some (1, [.ref 3, .int (nI n), .int (nI p)])) (hK : h.length < jy_K) (b : Int32) : jy_C G 6 m_RD_need [.ref 2, .int b] h (fun o h' => (¬ b = 0 ∧ o = .returned none ∧ h' = h) ∨ (b = 0 ∧ o = .threw h.length ∧ h' = h ++ [(8, [.int (nI p)])])) := by
  refine jy_C.of [some (.ref 2), some (.int b)] rfl (Nat.le_of_ble_eq_true rfl) ?_
  have hl := len_lt h2
  refine jr_iload_n d_RD_need_0 rfl rfl ?_
  refine jr_if_ne (tgt := 16) d_RD_need_1 (by decide) (fun hc => ?_) (fun hc => ?_)
  · refine jr_return d_RD_need_16 rfl ?_
    exact Or.inl ⟨hc, rfl, rfl⟩
  · refine jr_new d_RD_need_4 n_RD_22 ⟨hK, Or.inl (by decide)⟩ ?_
    have h2' := (St.app (X := fun _ => False) (l := [(13, [.null, .null, .null, .null, .null, .int 0, .int 0])])) _ _ h2 (fun q => q)
    refine jr_dup d_RD_need_7 rfl ?_
    refine jr_aload_n d_RD_need_8 rfl rfl ?_
    refine jr_get d_RD_need_9 f_RD_15 h2' rfl ?_
    refine jr_callI' (As := [.int (nI p)]) d_RD_need_12 i_RD_24 rfl (Nat.le_of_ble_eq_true rfl) (by decide : 5 < 6) (jc_wrong (by decide) ga_n (by omega)) ?_
    rw [app_set]
    refine jr_athrow d_RD_need_15 (jy_E.out (fun _ hq => by cases hq) ?_)
    exact Or.inr ⟨hc, rfl, rfl⟩
theorem d_RD_isDigit_0 : decode (jy_c m_RD_isDigit) 0 = .ok (.aload_n 0, 1) := by decide +kernel
theorem d_RD_isDigit_1 : decode (jy_c m_RD_isDigit) 1 = .ok (.getfield 15, 3) := by decide +kernel
theorem d_RD_isDigit_4 : decode (jy_c m_RD_isDigit) 4 = .ok (.aload_n 0, 1) := by decide +kernel
theorem d_RD_isDigit_5 : decode (jy_c m_RD_isDigit) 5 = .ok (.getfield 19, 3) := by decide +kernel
theorem d_RD_isDigit_8 : decode (jy_c m_RD_isDigit) 8 = .ok (.if_icmp .ge 35, 3) := by decide +kernel
theorem d_RD_isDigit_11 : decode (jy_c m_RD_isDigit) 11 = .ok (.aload_n 0, 1) := by decide +kernel
theorem d_RD_isDigit_12 : decode (jy_c m_RD_isDigit) 12 = .ok (.getfield 9, 3) := by decide +kernel
theorem d_RD_isDigit_15 : decode (jy_c m_RD_isDigit) 15 = .ok (.aload_n 0, 1) := by decide +kernel
theorem d_RD_isDigit_16 : decode (jy_c m_RD_isDigit) 16 = .ok (.getfield 15, 3) := by decide +kernel
theorem d_RD_isDigit_19 : decode (jy_c m_RD_isDigit) 19 = .ok (.baload, 1) := by decide +kernel
theorem d_RD_isDigit_20 : decode (jy_c m_RD_isDigit) 20 = .ok (.bipush 48, 2) := by decide +kernel
theorem d_RD_isDigit_22 : decode (jy_c m_RD_isDigit) 22 = .ok (.if_icmp .lt 21, 3) := by decide +kernel
theorem d_RD_isDigit_25 : decode (jy_c m_RD_isDigit) 25 = .ok (.aload_n 0, 1) := by decide +kernel
theorem d_RD_isDigit_26 : decode (jy_c m_RD_isDigit) 26 = .ok (.getfield 9, 3) := by decide +kernel
theorem d_RD_isDigit_29 : decode (jy_c m_RD_isDigit) 29 = .ok (.aload_n 0, 1) := by decide +kernel
theorem d_RD_isDigit_30 : decode (jy_c m_RD_isDigit) 30 = .ok (.getfield 15, 3) := by decide +kernel
theorem d_RD_isDigit_33 : decode (jy_c m_RD_isDigit) 33 = .ok (.baload, 1) := by decide +kernel
theorem d_RD_isDigit_34 : decode (jy_c m_RD_isDigit) 34 = .ok (.bipush 57, 2) := by decide +kernel
theorem d_RD_isDigit_36 : decode (jy_c m_RD_isDigit) 36 = .ok (.if_icmp .gt 7, 3) := by decide +kernel
theorem d_RD_isDigit_39 : decode (jy_c m_RD_isDigit) 39 = .ok (.iconst 1, 1) := by decide +kernel
theorem d_RD_isDigit_40 : decode (jy_c m_RD_isDigit) 40 = .ok (.goto 4, 3) := by decide +kernel
theorem d_RD_isDigit_43 : decode (jy_c m_RD_isDigit) 43 = .ok (.iconst 0, 1) := by decide +kernel
theorem d_RD_isDigit_44 : decode (jy_c m_RD_isDigit) 44 = .ok (.ireturn, 1) := by decide +kernel
theorem c_digit (hT : TH t tb n) (hp : p ≤ n) (h2 : h[2]? = some (1, [.ref 3, .int (nI n), .int (nI p)])) (h3 : h[3]? = some (51, ints 400 tb)) : jy_C G 1 m_RD_isDigit [.ref 2] h (pP h (some (.int (bI (dg (hr t n p)))))) := by
  refine jy_C.of [some (.ref 2)] rfl (Nat.le_of_ble_eq_true rfl) ?_
  have hn := hT.1
  refine jr_aload_n d_RD_isDigit_0 rfl rfl ?_
  refine jr_get d_RD_isDigit_1 f_RD_15 h2 rfl ?_
  refine jr_aload_n d_RD_isDigit_4 rfl rfl ?_
  refine jr_get d_RD_isDigit_5 f_RD_19 h2 rfl ?_
  refine jr_icmp_ge (tgt := 43) d_RD_isDigit_8 (by decide) (fun hc => ?_) (fun hc => ?_)
  · have : ¬ p < n := fun q => nI_ge q (by omega) hc
    refine jr_iconst (v := 0) d_RD_isDigit_43 (by decide) ?_
    refine jr_ireturn d_RD_isDigit_44 rfl rfl ?_
    exact ⟨by rw [hr, if_neg this]; rfl, rfl⟩
  · have hpn : p < n := by
      rcases Nat.lt_or_ge p n with q | q
      · exact q
      · exact absurd (nI_le q (by omega)) hc
    have e := tb_dg hT hpn
    refine jr_aload_n d_RD_isDigit_11 rfl rfl ?_
    refine jr_get d_RD_isDigit_12 f_RD_9 h2 rfl ?_
    refine jr_aload_n d_RD_isDigit_15 rfl rfl ?_
    refine jr_get d_RD_isDigit_16 f_RD_15 h2 rfl ?_
    refine cr_bald d_RD_isDigit_19 h3 rfl (by omega) (by decide) ?_
    refine jr_bipush (v := 48) d_RD_isDigit_20 (by decide) ?_
    refine jr_icmp_lt (tgt := 43) d_RD_isDigit_22 (by decide) (fun hc2 => ?_) (fun hc2 => ?_)
    · refine jr_iconst (v := 0) d_RD_isDigit_43 (by decide) ?_
      refine jr_ireturn d_RD_isDigit_44 rfl rfl ?_
      rw [decide_eq_false (Int32.not_le.mpr hc2)] at e
      exact ⟨by rw [← e]; rfl, rfl⟩
    · rw [decide_eq_true (Int32.not_lt.mp hc2), Bool.true_and] at e
      refine jr_aload_n d_RD_isDigit_25 rfl rfl ?_
      refine jr_get d_RD_isDigit_26 f_RD_9 h2 rfl ?_
      refine jr_aload_n d_RD_isDigit_29 rfl rfl ?_
      refine jr_get d_RD_isDigit_30 f_RD_15 h2 rfl ?_
      refine cr_bald d_RD_isDigit_33 h3 rfl (by omega) (by decide) ?_
      refine jr_bipush (v := 57) d_RD_isDigit_34 (by decide) ?_
      refine jr_icmp_gt (tgt := 43) d_RD_isDigit_36 (by decide) (fun hc3 => ?_) (fun hc3 => ?_)
      · refine jr_iconst (v := 0) d_RD_isDigit_43 (by decide) ?_
        refine jr_ireturn d_RD_isDigit_44 rfl rfl ?_
        rw [decide_eq_false (Int32.not_le.mpr hc3)] at e
        exact ⟨by rw [← e]; rfl, rfl⟩
      · refine jr_iconst (v := 1) d_RD_isDigit_39 (by decide) ?_
        refine jr_goto (tgt := 44) d_RD_isDigit_40 (by decide) ?_
        refine jr_ireturn d_RD_isDigit_44 rfl rfl ?_
        rw [decide_eq_true (Int32.not_lt.mp hc3)] at e
        exact ⟨by rw [← e]; rfl, rfl⟩
theorem d_RD_sign_0 : decode (jy_c m_RD_sign) 0 = .ok (.aload_n 0, 1) := by decide +kernel
theorem d_RD_sign_1 : decode (jy_c m_RD_sign) 1 = .ok (.aload_n 0, 1) := by decide +kernel
theorem d_RD_sign_2 : decode (jy_c m_RD_sign) 2 = .ok (.invokevirtual 27, 3) := by decide +kernel
theorem d_RD_sign_5 : decode (jy_c m_RD_sign) 5 = .ok (.iload_n 1, 1) := by decide +kernel
theorem d_RD_sign_6 : decode (jy_c m_RD_sign) 6 = .ok (.if_icmp .ne 7, 3) := by decide +kernel
theorem d_RD_sign_9 : decode (jy_c m_RD_sign) 9 = .ok (.iconst 1, 1) := by decide +kernel
theorem d_RD_sign_10 : decode (jy_c m_RD_sign) 10 = .ok (.goto 4, 3) := by decide +kernel
theorem d_RD_sign_13 : decode (jy_c m_RD_sign) 13 = .ok (.iconst 0, 1) := by decide +kernel
theorem d_RD_sign_14 : decode (jy_c m_RD_sign) 14 = .ok (.invokevirtual 31, 3) := by decide +kernel
theorem d_RD_sign_17 : decode (jy_c m_RD_sign) 17 = .ok (.aload_n 0, 1) := by decide +kernel
theorem d_RD_sign_18 : decode (jy_c m_RD_sign) 18 = .ok (.dup, 1) := by decide +kernel
theorem d_RD_sign_19 : decode (jy_c m_RD_sign) 19 = .ok (.getfield 15, 3) := by decide +kernel
theorem d_RD_sign_22 : decode (jy_c m_RD_sign) 22 = .ok (.iconst 1, 1) := by decide +kernel
theorem d_RD_sign_23 : decode (jy_c m_RD_sign) 23 = .ok (.iadd, 1) := by decide +kernel
theorem d_RD_sign_24 : decode (jy_c m_RD_sign) 24 = .ok (.putfield 15, 3) := by decide +kernel
theorem d_RD_sign_27 : decode (jy_c m_RD_sign) 27 = .ok (.return_, 1) := by decide +kernel
theorem c_sign (hT : TH t tb n) (hp : p ≤ n) (h2 : h[2]? = some (1, [.ref 3, .int (nI n), .int (nI p)])) (h3 : h[3]? = some (51, ints 400 tb)) (hK : h.length < jy_K) (c : Int32) : jy_C G 7 m_RD_sign [.ref 2, .int c] h (rQ h 1 (if hr t n (sk t n p) = c then .ok (none, h.set 2 (rA n (sk t n p + 1))) else .error (sk t n p))) := by
  refine jy_C.of [some (.ref 2), some (.int c)] rfl (Nat.le_of_ble_eq_true rfl) ?_
  have s2 : (h.set 2 (rA n (sk t n p)))[2]? = some (1, [.ref 3, .int (nI n), .int (nI (sk t n p))]) := gs_eq h2
  refine jr_aload_n d_RD_sign_0 rfl rfl ?_
  refine jr_aload_n d_RD_sign_1 rfl rfl ?_
  refine jr_callX (As := []) d_RD_sign_2 i_RD_27 rfl h2 (Nat.le_of_ble_eq_true rfl) (by decide) (c_see hT hp h2 h3) ?_
  refine jr_iload_n d_RD_sign_5 rfl rfl ?_
  refine jy_cut2 14 (fun z => z = bI (decide (hr t n (sk t n p) = c))) (fun K => ?_) (fun z hz => ?_)
  · refine jr_icmp_ne (tgt := 13) d_RD_sign_6 (by decide) (fun hc => ?_) (fun hc => ?_)
    · refine jr_iconst (v := 0) d_RD_sign_13 (by decide) ?_
      exact K _ (by rw [decide_eq_false hc]; rfl)
    · refine jr_iconst (v := 1) d_RD_sign_9 (by decide) ?_
      refine jr_goto (tgt := 14) d_RD_sign_10 (by decide) ?_
      exact K _ (by rw [decide_eq_true hc]; rfl)
  subst hz
  refine jr_needR d_RD_sign_14 i_RD_31 s2 (c_need s2 (by simpa using hK) _) (Nat.le_of_ble_eq_true rfl) (by decide) (fun _ hq => by cases hq) (fun hc => ?_) (fun hc => ?_)
  · have e := of_decide_eq_true (bI_ne0.mp hc)
    rw [if_pos e]
    have h2 := s2
    refine jr_aload_n d_RD_sign_17 rfl rfl ?_
    refine jr_dup d_RD_sign_18 rfl ?_
    refine jr_get d_RD_sign_19 f_RD_15 h2 rfl ?_
    refine jr_iconst (v := 1) d_RD_sign_22 (by decide) ?_
    refine jr_iadd d_RD_sign_23 ?_
    rw [nI_1]
    refine rp_put d_RD_sign_24 f_RD_15 h2 ?_
    refine jr_return d_RD_sign_27 rfl ?_
    exact ⟨rfl, by rw [List.set_set]; rfl⟩
  · have e := of_decide_eq_false (bI_eq0.mp hc)
    rw [if_neg e]
    exact rE.here (St.set rfl) (by simp) (by simp)
theorem d_RD_goesOn_0 : decode (jy_c m_RD_goesOn) 0 = .ok (.aload_n 0, 1) := by decide +kernel
theorem d_RD_goesOn_1 : decode (jy_c m_RD_goesOn) 1 = .ok (.invokevirtual 27, 3) := by decide +kernel
theorem d_RD_goesOn_4 : decode (jy_c m_RD_goesOn) 4 = .ok (.iload_n 1, 1) := by decide +kernel
theorem d_RD_goesOn_5 : decode (jy_c m_RD_goesOn) 5 = .ok (.if_icmp .eq 5, 3) := by decide +kernel
theorem d_RD_goesOn_8 : decode (jy_c m_RD_goesOn) 8 = .ok (.iconst 0, 1) := by decide +kernel
theorem d_RD_goesOn_9 : decode (jy_c m_RD_goesOn) 9 = .ok (.ireturn, 1) := by decide +kernel
theorem d_RD_goesOn_10 : decode (jy_c m_RD_goesOn) 10 = .ok (.aload_n 0, 1) := by decide +kernel
theorem d_RD_goesOn_11 : decode (jy_c m_RD_goesOn) 11 = .ok (.dup, 1) := by decide +kernel
theorem d_RD_goesOn_12 : decode (jy_c m_RD_goesOn) 12 = .ok (.getfield 15, 3) := by decide +kernel
theorem d_RD_goesOn_15 : decode (jy_c m_RD_goesOn) 15 = .ok (.iconst 1, 1) := by decide +kernel
theorem d_RD_goesOn_16 : decode (jy_c m_RD_goesOn) 16 = .ok (.iadd, 1) := by decide +kernel
theorem d_RD_goesOn_17 : decode (jy_c m_RD_goesOn) 17 = .ok (.putfield 15, 3) := by decide +kernel
theorem d_RD_goesOn_20 : decode (jy_c m_RD_goesOn) 20 = .ok (.iconst 1, 1) := by decide +kernel
theorem d_RD_goesOn_21 : decode (jy_c m_RD_goesOn) 21 = .ok (.ireturn, 1) := by decide +kernel
theorem c_goesOn (hT : TH t tb n) (hp : p ≤ n) (h2 : h[2]? = some (1, [.ref 3, .int (nI n), .int (nI p)])) (h3 : h[3]? = some (51, ints 400 tb)) (c : Int32) : jy_C G 2 m_RD_goesOn [.ref 2, .int c] h (fun o h' => o = .returned (some (.int (bI (decide (hr t n (sk t n p) = c))))) ∧ h' = h.set 2 (rA n (if hr t n (sk t n p) = c then sk t n p + 1 else sk t n p))) := by
  refine jy_C.of [some (.ref 2), some (.int c)] rfl (Nat.le_of_ble_eq_true rfl) ?_
  have s2 : (h.set 2 (rA n (sk t n p)))[2]? = some (1, [.ref 3, .int (nI n), .int (nI (sk t n p))]) := gs_eq h2
  refine jr_aload_n d_RD_goesOn_0 rfl rfl ?_
  refine jr_callX (As := []) d_RD_goesOn_1 i_RD_27 rfl h2 (Nat.le_of_ble_eq_true rfl) (by decide) (c_see hT hp h2 h3) ?_
  refine jr_iload_n d_RD_goesOn_4 rfl rfl ?_
  refine jr_icmp_eq (tgt := 10) d_RD_goesOn_5 (by decide) (fun hc => ?_) (fun hc => ?_)
  · have h2 := s2
    refine jr_aload_n d_RD_goesOn_10 rfl rfl ?_
    refine jr_dup d_RD_goesOn_11 rfl ?_
    refine jr_get d_RD_goesOn_12 f_RD_15 h2 rfl ?_
    refine jr_iconst (v := 1) d_RD_goesOn_15 (by decide) ?_
    refine jr_iadd d_RD_goesOn_16 ?_
    rw [nI_1]
    refine rp_put d_RD_goesOn_17 f_RD_15 h2 ?_
    refine jr_iconst (v := 1) d_RD_goesOn_20 (by decide) ?_
    refine jr_ireturn d_RD_goesOn_21 rfl rfl ?_
    exact ⟨by rw [decide_eq_true hc]; rfl, by rw [if_pos hc, List.set_set]; rfl⟩
  · refine jr_iconst (v := 0) d_RD_goesOn_8 (by decide) ?_
    refine jr_ireturn d_RD_goesOn_9 rfl rfl ?_
    exact ⟨by rw [decide_eq_false hc]; rfl, by rw [if_neg hc]⟩
end RB
