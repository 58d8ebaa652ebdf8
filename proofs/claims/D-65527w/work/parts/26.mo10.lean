/-! the reference: rows, the whole text -/
theorem ebd_assoc {α β γ : Type} {s : Except Nat α} {k : α → Except Nat β} {l : β → Except Nat γ} : ebd (ebd s k) l = ebd s (fun z => ebd (k z) l) := by cases s <;> rfl
theorem ebd_id {α : Type} {s : Except Nat α} : ebd s (fun z => .ok z) = s := by cases s <;> rfl
theorem S.weak {t : Ft} {n : Nat} {K K' : Int32 → Bool} {s : Except Nat (Ft × Nat)} {x y : Int32} {F : Ft} (hK : ∀ c, K c = true → K' c = true) (h : S t n K s x y F) : S t n K' s x y F := by
  cases s with
  | ok z => exact h
  | error e =>
    obtain ⟨h1, h2 | ⟨h2, p, h3, h4, h5, h6⟩⟩ := h
    · exact ⟨h1, Or.inl h2⟩
    · exact ⟨h1, Or.inr ⟨h2, p, h3, h4, h5, hK _ h6⟩⟩
theorem K0_no {P : Prop} {c : Int32} (h : K0 c = true) : P := by cases h
theorem Kn_dg {lo c : Int32} (h : Kn lo c = true) : dg c = true := by
  unfold Kn at h
  rw [Bool.and_eq_true] at h
  exact h.1
theorem Kn_1 {P : Prop} {c : Int32} (h : Kn 1 c = true) : P := by
  unfold Kn at h
  rw [Bool.and_eq_true] at h
  exact absurd (of_decide_eq_true h.2) (by decide)
theorem dg_ne {c x : Int32} (hx : dg x = false) (h : dg c = true) : ¬ c = x := fun e => by rw [e, hx] at h; cases h
theorem in_ne {lo hi c x : Int32} (hx : inB x lo hi = false) (h : inB c lo hi = true) : ¬ c = x := fun e => by rw [e, hx] at h; cases h
def Kk (k : Nat) : Int32 → Bool := if k = 0 then K0 else dg
theorem d_MO_due_0 : decode (jy_c m_MO_due) 0 = .ok (.aload_n 0, 1) := by decide +kernel
theorem d_MO_due_1 : decode (jy_c m_MO_due) 1 = .ok (.bipush 114, 2) := by decide +kernel
theorem d_MO_due_3 : decode (jy_c m_MO_due) 3 = .ok (.invokevirtual 99, 3) := by decide +kernel
theorem d_MO_due_6 : decode (jy_c m_MO_due) 6 = .ok (.aload_n 0, 1) := by decide +kernel
theorem d_MO_due_7 : decode (jy_c m_MO_due) 7 = .ok (.getfield 20, 3) := by decide +kernel
theorem d_MO_due_10 : decode (jy_c m_MO_due) 10 = .ok (.iload_n 1, 1) := by decide +kernel
theorem d_MO_due_11 : decode (jy_c m_MO_due) 11 = .ok (.iconst 2, 1) := by decide +kernel
theorem d_MO_due_12 : decode (jy_c m_MO_due) 12 = .ok (.iadd, 1) := by decide +kernel
theorem d_MO_due_13 : decode (jy_c m_MO_due) 13 = .ok (.aload_n 0, 1) := by decide +kernel
theorem d_MO_due_14 : decode (jy_c m_MO_due) 14 = .ok (.iconst 0, 1) := by decide +kernel
theorem d_MO_due_15 : decode (jy_c m_MO_due) 15 = .ok (.bipush 9, 2) := by decide +kernel
theorem d_MO_due_17 : decode (jy_c m_MO_due) 17 = .ok (.invokevirtual 102, 3) := by decide +kernel
theorem d_MO_due_20 : decode (jy_c m_MO_due) 20 = .ok (.iastore, 1) := by decide +kernel
theorem d_MO_due_21 : decode (jy_c m_MO_due) 21 = .ok (.aload_n 0, 1) := by decide +kernel
theorem d_MO_due_22 : decode (jy_c m_MO_due) 22 = .ok (.bipush 103, 2) := by decide +kernel
theorem d_MO_due_24 : decode (jy_c m_MO_due) 24 = .ok (.invokevirtual 99, 3) := by decide +kernel
theorem d_MO_due_27 : decode (jy_c m_MO_due) 27 = .ok (.aload_n 0, 1) := by decide +kernel
theorem d_MO_due_28 : decode (jy_c m_MO_due) 28 = .ok (.getfield 20, 3) := by decide +kernel
theorem d_MO_due_31 : decode (jy_c m_MO_due) 31 = .ok (.iload_n 1, 1) := by decide +kernel
theorem d_MO_due_32 : decode (jy_c m_MO_due) 32 = .ok (.iconst 3, 1) := by decide +kernel
theorem d_MO_due_33 : decode (jy_c m_MO_due) 33 = .ok (.iadd, 1) := by decide +kernel
theorem d_MO_due_34 : decode (jy_c m_MO_due) 34 = .ok (.aload_n 0, 1) := by decide +kernel
theorem d_MO_due_35 : decode (jy_c m_MO_due) 35 = .ok (.bipush 97, 2) := by decide +kernel
theorem d_MO_due_37 : decode (jy_c m_MO_due) 37 = .ok (.bipush 104, 2) := by decide +kernel
theorem d_MO_due_39 : decode (jy_c m_MO_due) 39 = .ok (.iconst 4, 1) := by decide +kernel
theorem d_MO_due_40 : decode (jy_c m_MO_due) 40 = .ok (.invokevirtual 106, 3) := by decide +kernel
theorem d_MO_due_43 : decode (jy_c m_MO_due) 43 = .ok (.iastore, 1) := by decide +kernel
theorem d_MO_due_44 : decode (jy_c m_MO_due) 44 = .ok (.aload_n 0, 1) := by decide +kernel
theorem d_MO_due_45 : decode (jy_c m_MO_due) 45 = .ok (.bipush 64, 2) := by decide +kernel
theorem d_MO_due_47 : decode (jy_c m_MO_due) 47 = .ok (.invokevirtual 99, 3) := by decide +kernel
theorem d_MO_due_50 : decode (jy_c m_MO_due) 50 = .ok (.iconst 0, 1) := by decide +kernel
theorem d_MO_due_51 : decode (jy_c m_MO_due) 51 = .ok (.istore_n 2, 1) := by decide +kernel
theorem d_MO_due_52 : decode (jy_c m_MO_due) 52 = .ok (.iload_n 2, 1) := by decide +kernel
theorem d_MO_due_53 : decode (jy_c m_MO_due) 53 = .ok (.iconst 4, 1) := by decide +kernel
theorem d_MO_due_54 : decode (jy_c m_MO_due) 54 = .ok (.if_icmp .ge 37, 3) := by decide +kernel
theorem d_MO_due_57 : decode (jy_c m_MO_due) 57 = .ok (.iload_n 2, 1) := by decide +kernel
theorem d_MO_due_58 : decode (jy_c m_MO_due) 58 = .ok (.ifCond .le 9, 3) := by decide +kernel
theorem d_MO_due_61 : decode (jy_c m_MO_due) 61 = .ok (.aload_n 0, 1) := by decide +kernel
theorem d_MO_due_62 : decode (jy_c m_MO_due) 62 = .ok (.bipush 44, 2) := by decide +kernel
theorem d_MO_due_64 : decode (jy_c m_MO_due) 64 = .ok (.invokevirtual 99, 3) := by decide +kernel
theorem d_MO_due_67 : decode (jy_c m_MO_due) 67 = .ok (.aload_n 0, 1) := by decide +kernel
theorem d_MO_due_68 : decode (jy_c m_MO_due) 68 = .ok (.getfield 20, 3) := by decide +kernel
theorem d_MO_due_71 : decode (jy_c m_MO_due) 71 = .ok (.iload_n 1, 1) := by decide +kernel
theorem d_MO_due_72 : decode (jy_c m_MO_due) 72 = .ok (.iconst 4, 1) := by decide +kernel
theorem d_MO_due_73 : decode (jy_c m_MO_due) 73 = .ok (.iadd, 1) := by decide +kernel
theorem d_MO_due_74 : decode (jy_c m_MO_due) 74 = .ok (.iload_n 2, 1) := by decide +kernel
theorem d_MO_due_75 : decode (jy_c m_MO_due) 75 = .ok (.iadd, 1) := by decide +kernel
theorem d_MO_due_76 : decode (jy_c m_MO_due) 76 = .ok (.aload_n 0, 1) := by decide +kernel
theorem d_MO_due_77 : decode (jy_c m_MO_due) 77 = .ok (.iconst 0, 1) := by decide +kernel
theorem d_MO_due_78 : decode (jy_c m_MO_due) 78 = .ok (.sipush 9999, 3) := by decide +kernel
theorem d_MO_due_81 : decode (jy_c m_MO_due) 81 = .ok (.invokevirtual 102, 3) := by decide +kernel
theorem d_MO_due_84 : decode (jy_c m_MO_due) 84 = .ok (.iastore, 1) := by decide +kernel
theorem d_MO_due_85 : decode (jy_c m_MO_due) 85 = .ok (.iinc 2 1, 3) := by decide +kernel
theorem d_MO_due_88 : decode (jy_c m_MO_due) 88 = .ok (.goto (-36), 3) := by decide +kernel
theorem d_MO_due_91 : decode (jy_c m_MO_due) 91 = .ok (.return_, 1) := by decide +kernel
section DU
variable {G : jy_G} {h0 : jy_P} {f : Nat → Int32} {a : Nat → Nat → Int32} {n : Nat} {M : Nat}
theorem mo_due {s : Except Nat (Ft × Nat)} (hMb : M + 42 < 559) (hn : f 1 = nI n) (h400 : n ≤ 400) : ∀ k, k ≤ 4 → ∀ h x y F, MS h0 h (g2 f x y) (at14 a F) → S (a 12) n (Kk k) (ebd s (fun w => dsP (a 12) n M w k)) x y F → jy_J G 4 m_MO_due 52 [some (.ref 11), some (.int (nI M)), some (.int (nI k))] [] h (qV h0 f a (fun x y F => S (a 12) n dg (ebd s (fun w => dsP (a 12) n M w 4)) x y F)) := by
  refine jl_up 4 _ (fun h x y F hM hS => ?_) (fun k hk ih h x y F hM hS => ?_)
  · refine jr_iload_n d_MO_due_52 rfl rfl ?_
    refine jr_iconst (v := 4) d_MO_due_53 (by decide) ?_
    refine jr_icmp_ge (tgt := 91) d_MO_due_54 (by decide) (fun _ => ?_) (fun q => absurd (by decide) q)
    refine jr_return d_MO_due_91 rfl ?_
    exact ⟨_, _, _, rfl, hM, hS⟩
  · have put : ∀ {s2 : Except Nat (Ft × Nat)} h x y F, MS h0 h (g2 f x y) (at14 a F) → S (a 12) n K0 s2 x y F → ebd s2 (niP (a 12) n 0 9999 (M + 4 + k)) = ebd s (fun w => dsP (a 12) n M w (k + 1)) → jy_J G 4 m_MO_due 67 [some (.ref 11), some (.int (nI M)), some (.int (nI k))] [] h (qV h0 f a (fun x y F => S (a 12) n dg (ebd s (fun w => dsP (a 12) n M w 4)) x y F)) := by
      intro s2 h x y F hM hS he
      have e1 : nI M + 4 + nI k = nI (M + 4 + k) := by rw [show (4 : Int32) = nI 4 from rfl, nI_add, nI_add]
      refine jr_aload_n d_MO_due_67 rfl rfl ?_
      refine mr_get d_MO_due_68 f_MO_20 hM rfl ?_
      refine jr_iload_n d_MO_due_71 rfl rfl ?_
      refine jr_iconst (v := 4) d_MO_due_72 (by decide) ?_
      refine jr_iadd d_MO_due_73 ?_
      refine jr_iload_n d_MO_due_74 rfl rfl ?_
      refine jr_iadd d_MO_due_75 ?_
      refine jr_aload_n d_MO_due_76 rfl rfl ?_
      refine jr_iconst (v := 0) d_MO_due_77 (by decide) ?_
      refine jr_sipush (v := 9999) d_MO_due_78 (by decide) ?_
      refine qr_I2 d_MO_due_81 i_MO_102 hM (Nat.le_of_ble_eq_true rfl) (by decide) (c_numberS hM.1 hn h400 hS) (fun h v x y F hM hQ => ?_)
      refine mr_ast d_MO_due_84 hM (by decide) e1 (by show M + 4 + k < 559; omega) (fun h hM => ?_)
      refine jr_iinc1 d_MO_due_85 rfl (by decide) ?_
      refine jr_goto (tgt := 52) d_MO_due_88 (by decide) ?_
      rw [at14_u] at hM
      rw [nI_1]
      refine ih h x y _ hM ?_
      have := NmS.put (i := M + 4 + k) hQ
      rw [he] at this
      exact this.weak (fun c hc => by
        show (if k + 1 = 0 then K0 else dg) c = true
        rw [if_neg (by omega)]
        exact Kn_dg hc)
    refine jr_iload_n d_MO_due_52 rfl rfl ?_
    refine jr_iconst (v := 4) d_MO_due_53 (by decide) ?_
    refine jr_icmp_ge (tgt := 91) d_MO_due_54 (by decide) (fun q => absurd ((nI_leI (a := 4) (by decide) (by omega)).mp q) (by omega)) (fun _ => ?_)
    refine jr_iload_n d_MO_due_57 rfl rfl ?_
    cases k with
    | zero =>
      refine jr_if_le (tgt := 67) d_MO_due_58 (by decide) (fun _ => ?_) (fun q => absurd (by decide) q)
      refine put h x y F hM hS ?_
      rw [ebd_assoc]
      rfl
    | succ k =>
      refine jr_if_le (tgt := 67) d_MO_due_58 (by decide) (fun q => absurd q (nI_nle (by omega) (by omega))) (fun _ => ?_)
      refine jr_aload_n d_MO_due_61 rfl rfl ?_
      refine jr_bipush (v := 44) d_MO_due_62 (by decide) ?_
      refine qr_V1 d_MO_due_64 i_MO_99 hM (Nat.le_of_ble_eq_true rfl) (by decide) (c_takeS (K := dg) hM.1 hn h400 44 (by decide) (fun v hv => dg_ne (by decide) hv) hS) (fun h x y F hM hS => ?_)
      refine put h x y F hM hS ?_
      rw [ebd_assoc, ebd_assoc]
      rfl
theorem c_dueS {h : jy_P} {x y : Int32} {F : Ft} {s : Except Nat (Ft × Nat)} (hMb : M + 42 < 559) (hM : Mo h (g2 f x y) (at14 a F)) (hn : f 1 = nI n) (h400 : n ≤ 400) (hS : S (a 12) n K0 s x y F) : jy_C G 4 m_MO_due [.ref 11, .int (nI M)] h (qV h f a (fun x y F => S (a 12) n dg (ebd s (duP (a 12) n M)) x y F)) := by
  refine jy_C.of [some (.ref 11), some (.int (nI M)), none] rfl (Nat.le_of_ble_eq_true rfl) ?_
  have hM := MS.rf hM
  refine jr_aload_n d_MO_due_0 rfl rfl ?_
  refine jr_bipush (v := 114) d_MO_due_1 (by decide) ?_
  refine qr_V1 d_MO_due_3 i_MO_99 hM (Nat.le_of_ble_eq_true rfl) (by decide) (c_takeS hM.1 hn h400 114 (by decide) (fun v hv => K0_no hv) hS) (fun h x y F hM hS => ?_)
  refine jr_aload_n d_MO_due_6 rfl rfl ?_
  refine mr_get d_MO_due_7 f_MO_20 hM rfl ?_
  refine jr_iload_n d_MO_due_10 rfl rfl ?_
  refine jr_iconst (v := 2) d_MO_due_11 (by decide) ?_
  refine jr_iadd d_MO_due_12 ?_
  refine jr_aload_n d_MO_due_13 rfl rfl ?_
  refine jr_iconst (v := 0) d_MO_due_14 (by decide) ?_
  refine jr_bipush (v := 9) d_MO_due_15 (by decide) ?_
  refine qr_I2 d_MO_due_17 i_MO_102 hM (Nat.le_of_ble_eq_true rfl) (by decide) (c_numberS hM.1 hn h400 hS) (fun h v x y F hM hQ => ?_)
  refine mr_ast d_MO_due_20 hM (by decide) (nI_add M 2) (by show M + 2 < 559; omega) (fun h hM => ?_)
  rw [at14_u] at hM
  have hS := NmS.put (i := M + 2) hQ
  refine jr_aload_n d_MO_due_21 rfl rfl ?_
  refine jr_bipush (v := 103) d_MO_due_22 (by decide) ?_
  refine qr_V1 d_MO_due_24 i_MO_99 hM (Nat.le_of_ble_eq_true rfl) (by decide) (c_takeS hM.1 hn h400 103 (by decide) (fun v hv => dg_ne (by decide) (Kn_dg hv)) hS) (fun h x y F hM hS => ?_)
  refine jr_aload_n d_MO_due_27 rfl rfl ?_
  refine mr_get d_MO_due_28 f_MO_20 hM rfl ?_
  refine jr_iload_n d_MO_due_31 rfl rfl ?_
  refine jr_iconst (v := 3) d_MO_due_32 (by decide) ?_
  refine jr_iadd d_MO_due_33 ?_
  refine jr_aload_n d_MO_due_34 rfl rfl ?_
  refine jr_bipush (v := 97) d_MO_due_35 (by decide) ?_
  refine jr_bipush (v := 104) d_MO_due_37 (by decide) ?_
  refine jr_iconst (v := 4) d_MO_due_39 (by decide) ?_
  refine qr_I3 d_MO_due_40 i_MO_106 hM (Nat.le_of_ble_eq_true rfl) (by decide) (c_risingS (most := 4) (by decide) (by decide) lo97.1 lo97.2.1 lo97.2.2 hM.1 hn h400 hS) (fun h v x y F hM hQ => ?_)
  refine mr_ast d_MO_due_43 hM (by decide) (nI_add M 3) (by show M + 3 < 559; omega) (fun h hM => ?_)
  rw [at14_u] at hM
  have hS := RsS.put (i := M + 3) hQ
  refine jr_aload_n d_MO_due_44 rfl rfl ?_
  refine jr_bipush (v := 64) d_MO_due_45 (by decide) ?_
  refine qr_V1 d_MO_due_47 i_MO_99 hM (Nat.le_of_ble_eq_true rfl) (by decide) (c_takeS hM.1 hn h400 64 (by decide) (fun v hv => in_ne (by decide) hv) hS) (fun h x y F hM hS => ?_)
  refine jr_iconst (v := 0) d_MO_due_50 (by decide) ?_
  refine jr_istore_n d_MO_due_51 rfl (by decide) ?_
  have key := mo_due (G := G) (s := ebd (ebd (ebd (ebd (ebd s (tzP (a 12) n 114)) (niP (a 12) n 0 9 (M + 2))) (tzP (a 12) n 103)) (riP (a 12) n 97 104 4 (M + 3))) (tzP (a 12) n 64)) hMb hn h400 0 (by omega) h x y F hM (by
    have : ebd (ebd (ebd (ebd (ebd (ebd s (tzP (a 12) n 114)) (niP (a 12) n 0 9 (M + 2))) (tzP (a 12) n 103)) (riP (a 12) n 97 104 4 (M + 3))) (tzP (a 12) n 64)) (fun w => dsP (a 12) n M w 0) = ebd (ebd (ebd (ebd (ebd s (tzP (a 12) n 114)) (niP (a 12) n 0 9 (M + 2))) (tzP (a 12) n 103)) (riP (a 12) n 97 104 4 (M + 3))) (tzP (a 12) n 64) := ebd_id
    rw [this]
    exact hS)
  refine key.mono (fun o h' w => ?_)
  obtain ⟨x, y, F, w1, w2, w3⟩ := w
  refine ⟨x, y, F, w1, w2, ?_⟩
  have e : ebd s (duP (a 12) n M) = ebd (ebd (ebd (ebd (ebd (ebd s (tzP (a 12) n 114)) (niP (a 12) n 0 9 (M + 2))) (tzP (a 12) n 103)) (riP (a 12) n 97 104 4 (M + 3))) (tzP (a 12) n 64)) (fun w => dsP (a 12) n M w 4) := by
    cases s <;> rfl
  rw [e]
  exact w3
end DU
theorem g2_7 {f : Nat → Int32} {x y w : Int32} : upd (g2 f x y) 7 w = g2 (upd f 7 w) x y := by
  funext k
  simp only [g2, upd]
  by_cases h7 : k = 7
  · subst h7; rfl
  · simp [h7]
theorem g2_8 {f : Nat → Int32} {x y w : Int32} : upd (g2 f x y) 8 w = g2 (upd f 8 w) x y := by
  funext k
  simp only [g2, upd]
  by_cases h7 : k = 8
  · subst h7; rfl
  · simp [h7]
theorem wF_n {t : Ft} {n : Nat} {F : Ft} {k p i : Nat} (hi : i ≤ k) : ∀ j, wF t n F k p j i = F i := by
  intro j
  induction j with
  | zero => rfl
  | succ j ih =>
    show upd (wF t n F k p j) (k + 1 + j) (hr t n (p + j)) i = F i
    rw [upd_n (by omega), ih]
theorem wdP_cnt {t : Ft} {n : Nat} {F : Ft} {M q c : Nat} {z : Ft × Nat} (hz : wdP t n F M q = .ok z) (hc : F (M + 9) = nI c) : z.1 (M + 9) = nI (c + 1) := by
  unfold wdP at hz
  split at hz
  · split at hz
    · cases hz
      show wdF t n F M (q + 1) _ (M + 9) = _
      unfold wdF
      rw [upd_s, upd_n (by omega), wF_n (by omega), hc, nI_1]
    · cases hz
  · cases hz
/-- 'wrong' behind the search for a number that is there already -/
def dyF (F : Ft) (v z y0 : Int32) : Nat → Int32
  | 0 => y0
  | j + 1 => if F (43 * j) = v then fl (dyF F v z y0 j) z else dyF F v z y0 j
theorem dyF_p {F : Ft} {v z : Int32} {e : Nat} (he : e < 2 ^ 31) : ∀ j, dyF F v z (nI e) j = nI e := by
  intro j
  induction j with
  | zero => rfl
  | succ j ih =>
    unfold dyF
    split
    · rw [ih, fl_p he]
    · exact ih
theorem dyF_m {F : Ft} {v : Int32} {e : Nat} (he : e < 2 ^ 31) : ∀ j, dyF F v (nI e) (-1) j = if (fd F v j).isSome = true then nI e else -1 := by
  intro j
  induction j with
  | zero => rfl
  | succ j ih =>
    unfold dyF fd
    rw [ih]
    rcases hf : fd F v j with _ | k
    · by_cases e : F (43 * j) = v
      · rw [if_pos e]
        simp [e, fl_m]
      · rw [if_neg e]
        simp [e]
    · by_cases e : F (43 * j) = v
      · rw [if_pos e]
        simp [fl_p he]
      · rw [if_neg e]
theorem d_MO_materialRow_0 : decode (jy_c m_MO_materialRow) 0 = .ok (.aload_n 0, 1) := by decide +kernel
theorem d_MO_materialRow_1 : decode (jy_c m_MO_materialRow) 1 = .ok (.getfield 110, 3) := by decide +kernel
theorem d_MO_materialRow_4 : decode (jy_c m_MO_materialRow) 4 = .ok (.bipush 12, 2) := by decide +kernel
theorem d_MO_materialRow_6 : decode (jy_c m_MO_materialRow) 6 = .ok (.if_icmp .ne 14, 3) := by decide +kernel
theorem d_MO_materialRow_9 : decode (jy_c m_MO_materialRow) 9 = .ok (.aload_n 0, 1) := by decide +kernel
theorem d_MO_materialRow_10 : decode (jy_c m_MO_materialRow) 10 = .ok (.aload_n 0, 1) := by decide +kernel
theorem d_MO_materialRow_11 : decode (jy_c m_MO_materialRow) 11 = .ok (.getfield 78, 3) := by decide +kernel
theorem d_MO_materialRow_14 : decode (jy_c m_MO_materialRow) 14 = .ok (.iconst 1, 1) := by decide +kernel
theorem d_MO_materialRow_15 : decode (jy_c m_MO_materialRow) 15 = .ok (.isub, 1) := by decide +kernel
theorem d_MO_materialRow_16 : decode (jy_c m_MO_materialRow) 16 = .ok (.invokevirtual 91, 3) := by decide +kernel
theorem d_MO_materialRow_19 : decode (jy_c m_MO_materialRow) 19 = .ok (.return_, 1) := by decide +kernel
theorem d_MO_materialRow_20 : decode (jy_c m_MO_materialRow) 20 = .ok (.aload_n 0, 1) := by decide +kernel
theorem d_MO_materialRow_21 : decode (jy_c m_MO_materialRow) 21 = .ok (.getfield 110, 3) := by decide +kernel
theorem d_MO_materialRow_24 : decode (jy_c m_MO_materialRow) 24 = .ok (.bipush 43, 2) := by decide +kernel
theorem d_MO_materialRow_26 : decode (jy_c m_MO_materialRow) 26 = .ok (.imul, 1) := by decide +kernel
theorem d_MO_materialRow_27 : decode (jy_c m_MO_materialRow) 27 = .ok (.istore_n 1, 1) := by decide +kernel
theorem d_MO_materialRow_28 : decode (jy_c m_MO_materialRow) 28 = .ok (.aload_n 0, 1) := by decide +kernel
theorem d_MO_materialRow_29 : decode (jy_c m_MO_materialRow) 29 = .ok (.iconst 1, 1) := by decide +kernel
theorem d_MO_materialRow_30 : decode (jy_c m_MO_materialRow) 30 = .ok (.sipush 9999, 3) := by decide +kernel
theorem d_MO_materialRow_33 : decode (jy_c m_MO_materialRow) 33 = .ok (.invokevirtual 102, 3) := by decide +kernel
theorem d_MO_materialRow_36 : decode (jy_c m_MO_materialRow) 36 = .ok (.istore_n 2, 1) := by decide +kernel
theorem d_MO_materialRow_37 : decode (jy_c m_MO_materialRow) 37 = .ok (.iconst 0, 1) := by decide +kernel
theorem d_MO_materialRow_38 : decode (jy_c m_MO_materialRow) 38 = .ok (.istore_n 3, 1) := by decide +kernel
theorem d_MO_materialRow_39 : decode (jy_c m_MO_materialRow) 39 = .ok (.iload_n 3, 1) := by decide +kernel
theorem d_MO_materialRow_40 : decode (jy_c m_MO_materialRow) 40 = .ok (.aload_n 0, 1) := by decide +kernel
theorem d_MO_materialRow_41 : decode (jy_c m_MO_materialRow) 41 = .ok (.getfield 110, 3) := by decide +kernel
theorem d_MO_materialRow_44 : decode (jy_c m_MO_materialRow) 44 = .ok (.if_icmp .ge 34, 3) := by decide +kernel
theorem d_MO_materialRow_47 : decode (jy_c m_MO_materialRow) 47 = .ok (.aload_n 0, 1) := by decide +kernel
theorem d_MO_materialRow_48 : decode (jy_c m_MO_materialRow) 48 = .ok (.getfield 20, 3) := by decide +kernel
theorem d_MO_materialRow_51 : decode (jy_c m_MO_materialRow) 51 = .ok (.iload_n 3, 1) := by decide +kernel
theorem d_MO_materialRow_52 : decode (jy_c m_MO_materialRow) 52 = .ok (.bipush 43, 2) := by decide +kernel
theorem d_MO_materialRow_54 : decode (jy_c m_MO_materialRow) 54 = .ok (.imul, 1) := by decide +kernel
theorem d_MO_materialRow_55 : decode (jy_c m_MO_materialRow) 55 = .ok (.iconst 0, 1) := by decide +kernel
theorem d_MO_materialRow_56 : decode (jy_c m_MO_materialRow) 56 = .ok (.iadd, 1) := by decide +kernel
theorem d_MO_materialRow_57 : decode (jy_c m_MO_materialRow) 57 = .ok (.iaload, 1) := by decide +kernel
theorem d_MO_materialRow_58 : decode (jy_c m_MO_materialRow) 58 = .ok (.iload_n 2, 1) := by decide +kernel
theorem d_MO_materialRow_59 : decode (jy_c m_MO_materialRow) 59 = .ok (.if_icmp .ne 13, 3) := by decide +kernel
theorem d_MO_materialRow_62 : decode (jy_c m_MO_materialRow) 62 = .ok (.aload_n 0, 1) := by decide +kernel
theorem d_MO_materialRow_63 : decode (jy_c m_MO_materialRow) 63 = .ok (.aload_n 0, 1) := by decide +kernel
theorem d_MO_materialRow_64 : decode (jy_c m_MO_materialRow) 64 = .ok (.getfield 78, 3) := by decide +kernel
theorem d_MO_materialRow_67 : decode (jy_c m_MO_materialRow) 67 = .ok (.iconst 1, 1) := by decide +kernel
theorem d_MO_materialRow_68 : decode (jy_c m_MO_materialRow) 68 = .ok (.isub, 1) := by decide +kernel
theorem d_MO_materialRow_69 : decode (jy_c m_MO_materialRow) 69 = .ok (.invokevirtual 91, 3) := by decide +kernel
theorem d_MO_materialRow_72 : decode (jy_c m_MO_materialRow) 72 = .ok (.iinc 3 1, 3) := by decide +kernel
theorem d_MO_materialRow_75 : decode (jy_c m_MO_materialRow) 75 = .ok (.goto (-36), 3) := by decide +kernel
theorem d_MO_materialRow_78 : decode (jy_c m_MO_materialRow) 78 = .ok (.aload_n 0, 1) := by decide +kernel
theorem d_MO_materialRow_79 : decode (jy_c m_MO_materialRow) 79 = .ok (.getfield 85, 3) := by decide +kernel
theorem d_MO_materialRow_82 : decode (jy_c m_MO_materialRow) 82 = .ok (.ifCond .lt 4, 3) := by decide +kernel
theorem d_MO_materialRow_85 : decode (jy_c m_MO_materialRow) 85 = .ok (.return_, 1) := by decide +kernel
theorem d_MO_materialRow_86 : decode (jy_c m_MO_materialRow) 86 = .ok (.aload_n 0, 1) := by decide +kernel
theorem d_MO_materialRow_87 : decode (jy_c m_MO_materialRow) 87 = .ok (.getfield 20, 3) := by decide +kernel
theorem d_MO_materialRow_90 : decode (jy_c m_MO_materialRow) 90 = .ok (.iload_n 1, 1) := by decide +kernel
theorem d_MO_materialRow_91 : decode (jy_c m_MO_materialRow) 91 = .ok (.iconst 0, 1) := by decide +kernel
theorem d_MO_materialRow_92 : decode (jy_c m_MO_materialRow) 92 = .ok (.iadd, 1) := by decide +kernel
theorem d_MO_materialRow_93 : decode (jy_c m_MO_materialRow) 93 = .ok (.iload_n 2, 1) := by decide +kernel
theorem d_MO_materialRow_94 : decode (jy_c m_MO_materialRow) 94 = .ok (.iastore, 1) := by decide +kernel
theorem d_MO_materialRow_95 : decode (jy_c m_MO_materialRow) 95 = .ok (.aload_n 0, 1) := by decide +kernel
theorem d_MO_materialRow_96 : decode (jy_c m_MO_materialRow) 96 = .ok (.getfield 20, 3) := by decide +kernel
theorem d_MO_materialRow_99 : decode (jy_c m_MO_materialRow) 99 = .ok (.iload_n 1, 1) := by decide +kernel
theorem d_MO_materialRow_100 : decode (jy_c m_MO_materialRow) 100 = .ok (.bipush 9, 2) := by decide +kernel
theorem d_MO_materialRow_102 : decode (jy_c m_MO_materialRow) 102 = .ok (.iadd, 1) := by decide +kernel
theorem d_MO_materialRow_103 : decode (jy_c m_MO_materialRow) 103 = .ok (.iconst 0, 1) := by decide +kernel
theorem d_MO_materialRow_104 : decode (jy_c m_MO_materialRow) 104 = .ok (.iastore, 1) := by decide +kernel
theorem d_MO_materialRow_105 : decode (jy_c m_MO_materialRow) 105 = .ok (.aload_n 0, 1) := by decide +kernel
theorem d_MO_materialRow_106 : decode (jy_c m_MO_materialRow) 106 = .ok (.iload_n 1, 1) := by decide +kernel
theorem d_MO_materialRow_107 : decode (jy_c m_MO_materialRow) 107 = .ok (.invokevirtual 113, 3) := by decide +kernel
theorem d_MO_materialRow_110 : decode (jy_c m_MO_materialRow) 110 = .ok (.aload_n 0, 1) := by decide +kernel
theorem d_MO_materialRow_111 : decode (jy_c m_MO_materialRow) 111 = .ok (.getfield 85, 3) := by decide +kernel
theorem d_MO_materialRow_114 : decode (jy_c m_MO_materialRow) 114 = .ok (.ifCond .ge 33, 3) := by decide +kernel
theorem d_MO_materialRow_117 : decode (jy_c m_MO_materialRow) 117 = .ok (.aload_n 0, 1) := by decide +kernel
theorem d_MO_materialRow_118 : decode (jy_c m_MO_materialRow) 118 = .ok (.getfield 20, 3) := by decide +kernel
theorem d_MO_materialRow_121 : decode (jy_c m_MO_materialRow) 121 = .ok (.iload_n 1, 1) := by decide +kernel
theorem d_MO_materialRow_122 : decode (jy_c m_MO_materialRow) 122 = .ok (.bipush 9, 2) := by decide +kernel
theorem d_MO_materialRow_124 : decode (jy_c m_MO_materialRow) 124 = .ok (.iadd, 1) := by decide +kernel
theorem d_MO_materialRow_125 : decode (jy_c m_MO_materialRow) 125 = .ok (.iaload, 1) := by decide +kernel
theorem d_MO_materialRow_126 : decode (jy_c m_MO_materialRow) 126 = .ok (.iconst 3, 1) := by decide +kernel
theorem d_MO_materialRow_127 : decode (jy_c m_MO_materialRow) 127 = .ok (.if_icmp .ge 20, 3) := by decide +kernel
theorem d_MO_materialRow_130 : decode (jy_c m_MO_materialRow) 130 = .ok (.aload_n 0, 1) := by decide +kernel
theorem d_MO_materialRow_131 : decode (jy_c m_MO_materialRow) 131 = .ok (.invokevirtual 88, 3) := by decide +kernel
theorem d_MO_materialRow_134 : decode (jy_c m_MO_materialRow) 134 = .ok (.bipush 34, 2) := by decide +kernel
theorem d_MO_materialRow_136 : decode (jy_c m_MO_materialRow) 136 = .ok (.if_icmp .ne 11, 3) := by decide +kernel
theorem d_MO_materialRow_139 : decode (jy_c m_MO_materialRow) 139 = .ok (.aload_n 0, 1) := by decide +kernel
theorem d_MO_materialRow_140 : decode (jy_c m_MO_materialRow) 140 = .ok (.iload_n 1, 1) := by decide +kernel
theorem d_MO_materialRow_141 : decode (jy_c m_MO_materialRow) 141 = .ok (.invokevirtual 113, 3) := by decide +kernel
theorem d_MO_materialRow_144 : decode (jy_c m_MO_materialRow) 144 = .ok (.goto (-34), 3) := by decide +kernel
theorem d_MO_materialRow_147 : decode (jy_c m_MO_materialRow) 147 = .ok (.aload_n 0, 1) := by decide +kernel
theorem d_MO_materialRow_148 : decode (jy_c m_MO_materialRow) 148 = .ok (.bipush 99, 2) := by decide +kernel
theorem d_MO_materialRow_150 : decode (jy_c m_MO_materialRow) 150 = .ok (.invokevirtual 99, 3) := by decide +kernel
theorem d_MO_materialRow_153 : decode (jy_c m_MO_materialRow) 153 = .ok (.aload_n 0, 1) := by decide +kernel
theorem d_MO_materialRow_154 : decode (jy_c m_MO_materialRow) 154 = .ok (.getfield 20, 3) := by decide +kernel
theorem d_MO_materialRow_157 : decode (jy_c m_MO_materialRow) 157 = .ok (.iload_n 1, 1) := by decide +kernel
theorem d_MO_materialRow_158 : decode (jy_c m_MO_materialRow) 158 = .ok (.iconst 1, 1) := by decide +kernel
theorem d_MO_materialRow_159 : decode (jy_c m_MO_materialRow) 159 = .ok (.iadd, 1) := by decide +kernel
theorem d_MO_materialRow_160 : decode (jy_c m_MO_materialRow) 160 = .ok (.aload_n 0, 1) := by decide +kernel
theorem d_MO_materialRow_161 : decode (jy_c m_MO_materialRow) 161 = .ok (.iconst 1, 1) := by decide +kernel
theorem d_MO_materialRow_162 : decode (jy_c m_MO_materialRow) 162 = .ok (.bipush 9, 2) := by decide +kernel
theorem d_MO_materialRow_164 : decode (jy_c m_MO_materialRow) 164 = .ok (.invokevirtual 102, 3) := by decide +kernel
theorem d_MO_materialRow_167 : decode (jy_c m_MO_materialRow) 167 = .ok (.iastore, 1) := by decide +kernel
theorem d_MO_materialRow_168 : decode (jy_c m_MO_materialRow) 168 = .ok (.aload_n 0, 1) := by decide +kernel
theorem d_MO_materialRow_169 : decode (jy_c m_MO_materialRow) 169 = .ok (.iload_n 1, 1) := by decide +kernel
theorem d_MO_materialRow_170 : decode (jy_c m_MO_materialRow) 170 = .ok (.invokevirtual 116, 3) := by decide +kernel
theorem d_MO_materialRow_173 : decode (jy_c m_MO_materialRow) 173 = .ok (.aload_n 0, 1) := by decide +kernel
theorem d_MO_materialRow_174 : decode (jy_c m_MO_materialRow) 174 = .ok (.getfield 20, 3) := by decide +kernel
theorem d_MO_materialRow_177 : decode (jy_c m_MO_materialRow) 177 = .ok (.iload_n 1, 1) := by decide +kernel
theorem d_MO_materialRow_178 : decode (jy_c m_MO_materialRow) 178 = .ok (.bipush 8, 2) := by decide +kernel
theorem d_MO_materialRow_180 : decode (jy_c m_MO_materialRow) 180 = .ok (.iadd, 1) := by decide +kernel
theorem d_MO_materialRow_181 : decode (jy_c m_MO_materialRow) 181 = .ok (.iconst 0, 1) := by decide +kernel
theorem d_MO_materialRow_182 : decode (jy_c m_MO_materialRow) 182 = .ok (.iastore, 1) := by decide +kernel
theorem d_MO_materialRow_183 : decode (jy_c m_MO_materialRow) 183 = .ok (.aload_n 0, 1) := by decide +kernel
theorem d_MO_materialRow_184 : decode (jy_c m_MO_materialRow) 184 = .ok (.getfield 85, 3) := by decide +kernel
theorem d_MO_materialRow_187 : decode (jy_c m_MO_materialRow) 187 = .ok (.ifCond .ge 42, 3) := by decide +kernel
theorem d_MO_materialRow_190 : decode (jy_c m_MO_materialRow) 190 = .ok (.aload_n 0, 1) := by decide +kernel
theorem d_MO_materialRow_191 : decode (jy_c m_MO_materialRow) 191 = .ok (.invokevirtual 88, 3) := by decide +kernel
theorem d_MO_materialRow_194 : decode (jy_c m_MO_materialRow) 194 = .ok (.bipush 120, 2) := by decide +kernel
theorem d_MO_materialRow_196 : decode (jy_c m_MO_materialRow) 196 = .ok (.if_icmp .ne 33, 3) := by decide +kernel
theorem d_MO_materialRow_199 : decode (jy_c m_MO_materialRow) 199 = .ok (.aload_n 0, 1) := by decide +kernel
theorem d_MO_materialRow_200 : decode (jy_c m_MO_materialRow) 200 = .ok (.dup, 1) := by decide +kernel
theorem d_MO_materialRow_201 : decode (jy_c m_MO_materialRow) 201 = .ok (.getfield 78, 3) := by decide +kernel
theorem d_MO_materialRow_204 : decode (jy_c m_MO_materialRow) 204 = .ok (.iconst 1, 1) := by decide +kernel
theorem d_MO_materialRow_205 : decode (jy_c m_MO_materialRow) 205 = .ok (.iadd, 1) := by decide +kernel
theorem d_MO_materialRow_206 : decode (jy_c m_MO_materialRow) 206 = .ok (.putfield 78, 3) := by decide +kernel
theorem d_MO_materialRow_209 : decode (jy_c m_MO_materialRow) 209 = .ok (.aload_n 0, 1) := by decide +kernel
theorem d_MO_materialRow_210 : decode (jy_c m_MO_materialRow) 210 = .ok (.getfield 20, 3) := by decide +kernel
theorem d_MO_materialRow_213 : decode (jy_c m_MO_materialRow) 213 = .ok (.iload_n 1, 1) := by decide +kernel
theorem d_MO_materialRow_214 : decode (jy_c m_MO_materialRow) 214 = .ok (.bipush 8, 2) := by decide +kernel
theorem d_MO_materialRow_216 : decode (jy_c m_MO_materialRow) 216 = .ok (.iadd, 1) := by decide +kernel
theorem d_MO_materialRow_217 : decode (jy_c m_MO_materialRow) 217 = .ok (.aload_n 0, 1) := by decide +kernel
theorem d_MO_materialRow_218 : decode (jy_c m_MO_materialRow) 218 = .ok (.bipush 49, 2) := by decide +kernel
theorem d_MO_materialRow_220 : decode (jy_c m_MO_materialRow) 220 = .ok (.bipush 57, 2) := by decide +kernel
theorem d_MO_materialRow_222 : decode (jy_c m_MO_materialRow) 222 = .ok (.iconst 3, 1) := by decide +kernel
theorem d_MO_materialRow_223 : decode (jy_c m_MO_materialRow) 223 = .ok (.invokevirtual 106, 3) := by decide +kernel
theorem d_MO_materialRow_226 : decode (jy_c m_MO_materialRow) 226 = .ok (.iconst 1, 1) := by decide +kernel
theorem d_MO_materialRow_227 : decode (jy_c m_MO_materialRow) 227 = .ok (.ishl, 1) := by decide +kernel
theorem d_MO_materialRow_228 : decode (jy_c m_MO_materialRow) 228 = .ok (.iastore, 1) := by decide +kernel
theorem d_MO_materialRow_229 : decode (jy_c m_MO_materialRow) 229 = .ok (.aload_n 0, 1) := by decide +kernel
theorem d_MO_materialRow_230 : decode (jy_c m_MO_materialRow) 230 = .ok (.bipush 59, 2) := by decide +kernel
theorem d_MO_materialRow_232 : decode (jy_c m_MO_materialRow) 232 = .ok (.invokevirtual 99, 3) := by decide +kernel
theorem d_MO_materialRow_235 : decode (jy_c m_MO_materialRow) 235 = .ok (.aload_n 0, 1) := by decide +kernel
theorem d_MO_materialRow_236 : decode (jy_c m_MO_materialRow) 236 = .ok (.dup, 1) := by decide +kernel
theorem d_MO_materialRow_237 : decode (jy_c m_MO_materialRow) 237 = .ok (.getfield 110, 3) := by decide +kernel
theorem d_MO_materialRow_240 : decode (jy_c m_MO_materialRow) 240 = .ok (.iconst 1, 1) := by decide +kernel
theorem d_MO_materialRow_241 : decode (jy_c m_MO_materialRow) 241 = .ok (.iadd, 1) := by decide +kernel
theorem d_MO_materialRow_242 : decode (jy_c m_MO_materialRow) 242 = .ok (.putfield 110, 3) := by decide +kernel
theorem d_MO_materialRow_245 : decode (jy_c m_MO_materialRow) 245 = .ok (.return_, 1) := by decide +kernel
section MR2
variable {G : jy_G} {h0 : jy_P} {f : Nat → Int32} {a : Nat → Nat → Int32} {n k : Nat}
def qM (h : jy_P) (f : Nat → Int32) (a : Nat → Nat → Int32) (i : Nat) (Q : Int32 → Int32 → Int32 → Ft → Prop) : Outcome → jy_P → Prop := fun o h' => ∃ w x y F, o = .returned none ∧ MS h h' (g2 (upd f i w) x y) (at14 a F) ∧ Q w x y F
theorem mo_mat1 {P : Outcome → jy_P → Prop} {x v y0 : Int32} {F : Ft} {M : Int32} (hk : f 7 = nI k) (h12 : k ≤ 12) (K : ∀ h l3, MS h0 h (g2 f x (dyF F v (x - 1) y0 k)) (at14 a F) → jy_J G 5 m_MO_materialRow 78 [some (.ref 11), some (.int M), some (.int v), l3] [] h P) : ∀ j, j ≤ k → ∀ h, MS h0 h (g2 f x (dyF F v (x - 1) y0 j)) (at14 a F) → jy_J G 5 m_MO_materialRow 39 [some (.ref 11), some (.int M), some (.int v), some (.int (nI j))] [] h P := by
  refine jl_up k _ (fun h hM => ?_) (fun j hj ih h hM => ?_)
  · refine jr_iload_n d_MO_materialRow_39 rfl rfl ?_
    refine jr_aload_n d_MO_materialRow_40 rfl rfl ?_
    refine mr_get d_MO_materialRow_41 f_MO_110 hM rfl ?_
    rw [show g2 f x (dyF F v (x - 1) y0 k) 7 = nI k from hk]
    exact jr_icmp_ge (tgt := 78) d_MO_materialRow_44 (by decide) (fun _ => K h _ hM) (jl_eq (by omega))
  · refine jr_iload_n d_MO_materialRow_39 rfl rfl ?_
    refine jr_aload_n d_MO_materialRow_40 rfl rfl ?_
    refine mr_get d_MO_materialRow_41 f_MO_110 hM rfl ?_
    rw [show g2 f x (dyF F v (x - 1) y0 j) 7 = nI k from hk]
    refine jr_icmp_ge (tgt := 78) d_MO_materialRow_44 (by decide) (jl_lt (by omega) hj) (fun _ => ?_)
    refine jr_aload_n d_MO_materialRow_47 rfl rfl ?_
    refine mr_get d_MO_materialRow_48 f_MO_20 hM rfl ?_
    refine jr_iload_n d_MO_materialRow_51 rfl rfl ?_
    refine jr_bipush (v := 43) d_MO_materialRow_52 (by decide) ?_
    refine jr_imul d_MO_materialRow_54 ?_
    refine jr_iconst (v := 0) d_MO_materialRow_55 (by decide) ?_
    refine jr_iadd d_MO_materialRow_56 ?_
    refine mr_ald d_MO_materialRow_57 hM (by decide) (ix43 j 0 rfl rfl) (by show 43 * j + 0 < 559; omega) ?_
    refine jr_iload_n d_MO_materialRow_58 rfl rfl ?_
    refine jr_icmp_ne (tgt := 72) d_MO_materialRow_59 (by decide) (fun hc => ?_) (fun hc => ?_)
    · have hc : ¬ F (43 * j) = v := hc
      refine jr_iinc1 d_MO_materialRow_72 rfl (by decide) ?_
      refine jr_goto (tgt := 39) d_MO_materialRow_75 (by decide) ?_
      rw [nI_1]
      refine ih h ?_
      have e : dyF F v (x - 1) y0 (j + 1) = dyF F v (x - 1) y0 j := if_neg hc
      rw [e]
      exact hM
    · have hc : F (43 * j) = v := hc
      refine jr_aload_n d_MO_materialRow_62 rfl rfl ?_
      refine jr_aload_n d_MO_materialRow_63 rfl rfl ?_
      refine mr_get d_MO_materialRow_64 f_MO_78 hM rfl ?_
      refine jr_iconst (v := 1) d_MO_materialRow_67 (by decide) ?_
      refine jr_isub d_MO_materialRow_68 ?_
      refine qr_V1 d_MO_materialRow_69 i_MO_91 hM (Nat.le_of_ble_eq_true rfl) (by decide) (c_failS hM.1 _) (fun h x' y' F' hM hq => ?_)
      obtain ⟨q1, q2, q3⟩ := hq
      rw [← q1, ← q2, q3] at hM
      refine jr_iinc1 d_MO_materialRow_72 rfl (by decide) ?_
      refine jr_goto (tgt := 39) d_MO_materialRow_75 (by decide) ?_
      rw [nI_1]
      refine ih h ?_
      have e : dyF F v (x - 1) y0 (j + 1) = fl (dyF F v (x - 1) y0 j) (x - 1) := if_pos hc
      rw [e]
      exact hM
theorem mo_mat2 {P : Outcome → jy_P → Prop} {M : Nat} {l2 l3 : Option Value} (hMb : M + 42 < 559) (hn : f 1 = nI n) (h400 : n ≤ 400) : ∀ (i : Nat), i ≤ 2 → ∀ {s : Except Nat (Ft × Nat)} {h : jy_P} {x y : Int32} {F : Ft}, MS h0 h (g2 f x y) (at14 a F) → S (a 12) n K0 s x y F → (∀ z, s = .ok z → z.1 (M + 9) = nI (3 - i)) → (∀ h x y F, MS h0 h (g2 f x y) (at14 a F) → S (a 12) n K0 (ebd s (nsP (a 12) n M i)) x y F → jy_J G 5 m_MO_materialRow 147 [some (.ref 11), some (.int (nI M)), l2, l3] [] h P) → jy_J G 5 m_MO_materialRow 110 [some (.ref 11), some (.int (nI M)), l2, l3] [] h P := by
  intro i
  induction i with
  | zero =>
    intro _ s h x y F hM hS hc K
    have fin := K h x y F hM (by rw [show (nsP (a 12) n M 0) = (fun z => .ok z) from rfl, ebd_id]; exact hS)
    cases s with
    | error e =>
      obtain ⟨b1, b2⟩ := bdE_K0 hS
      subst b1
      refine jr_aload_n d_MO_materialRow_110 rfl rfl ?_
      refine mr_get d_MO_materialRow_111 f_MO_85 hM rfl ?_
      exact jr_if_ge (tgt := 147) d_MO_materialRow_114 (by decide) (fun _ => fin) (fun q => absurd (nI_pos' (by omega)) q)
    | ok z =>
      have hc := hc z rfl
      obtain ⟨s1, s2, p, s3, s4, s5⟩ := hS
      subst s1; subst s2; subst s3
      refine jr_aload_n d_MO_materialRow_110 rfl rfl ?_
      refine mr_get d_MO_materialRow_111 f_MO_85 hM rfl ?_
      refine jr_if_ge (tgt := 147) d_MO_materialRow_114 (by decide) (fun q => absurd (show (0 : Int32) ≤ -1 from q) (by decide)) (fun _ => ?_)
      refine jr_aload_n d_MO_materialRow_117 rfl rfl ?_
      refine mr_get d_MO_materialRow_118 f_MO_20 hM rfl ?_
      refine jr_iload_n d_MO_materialRow_121 rfl rfl ?_
      refine jr_bipush (v := 9) d_MO_materialRow_122 (by decide) ?_
      refine jr_iadd d_MO_materialRow_124 ?_
      refine mr_ald d_MO_materialRow_125 hM (by decide) (nI_add M 9) (by show M + 9 < 559; omega) ?_
      refine jr_iconst (v := 3) d_MO_materialRow_126 (by decide) ?_
      rw [show at14 a z.1 14 (M + 9) = nI 3 from hc]
      exact jr_icmp_ge (tgt := 147) d_MO_materialRow_127 (by decide) (fun _ => fin) (fun q => absurd (by decide) q)
  | succ i ih =>
    intro hi s h x y F hM hS hc K
    cases s with
    | error e =>
      have hS0 := hS
      obtain ⟨b1, b2⟩ := bdE_K0 hS
      subst b1
      refine jr_aload_n d_MO_materialRow_110 rfl rfl ?_
      refine mr_get d_MO_materialRow_111 f_MO_85 hM rfl ?_
      exact jr_if_ge (tgt := 147) d_MO_materialRow_114 (by decide) (fun _ => K h _ _ F hM hS0) (fun q => absurd (nI_pos' (by omega)) q)
    | ok z =>
      have hc := hc z rfl
      obtain ⟨s1, s2, p, s3, s4, s5⟩ := hS
      subst s1; subst s2; subst s3
      have hsk := skb (t := a 12) s4
      refine jr_aload_n d_MO_materialRow_110 rfl rfl ?_
      refine mr_get d_MO_materialRow_111 f_MO_85 hM rfl ?_
      refine jr_if_ge (tgt := 147) d_MO_materialRow_114 (by decide) (fun q => absurd (show (0 : Int32) ≤ -1 from q) (by decide)) (fun _ => ?_)
      refine jr_aload_n d_MO_materialRow_117 rfl rfl ?_
      refine mr_get d_MO_materialRow_118 f_MO_20 hM rfl ?_
      refine jr_iload_n d_MO_materialRow_121 rfl rfl ?_
      refine jr_bipush (v := 9) d_MO_materialRow_122 (by decide) ?_
      refine jr_iadd d_MO_materialRow_124 ?_
      refine mr_ald d_MO_materialRow_125 hM (by decide) (nI_add M 9) (by show M + 9 < 559; omega) ?_
      refine jr_iconst (v := 3) d_MO_materialRow_126 (by decide) ?_
      rw [show at14 a z.1 14 (M + 9) = nI (3 - (i + 1)) from hc]
      refine jr_icmp_ge (tgt := 147) d_MO_materialRow_127 (by decide) (fun q => absurd ((nI_leI (a := 3) (by decide) (by omega)).mp q) (by omega)) (fun _ => ?_)
      refine jr_aload_n d_MO_materialRow_130 rfl rfl ?_
      refine qr_I0 d_MO_materialRow_131 i_MO_88 hM (Nat.le_of_ble_eq_true rfl) (by decide) (c_seeS hM.1 hn h400 rfl s4) (fun h v x' y' F' hM hq => ?_)
      obtain ⟨rfl, rfl, rfl, rfl⟩ := hq
      rw [s5] at hM ⊢
      have hS : S (a 12) n K0 (.ok z) (nI z.2) (-1) z.1 := ⟨rfl, rfl, z.2, rfl, by omega, by rw [← s5, sk_sk]⟩
      refine jr_bipush (v := 34) d_MO_materialRow_134 (by decide) ?_
      refine jr_icmp_ne (tgt := 147) d_MO_materialRow_136 (by decide) (fun hc2 => ?_) (fun hc2 => ?_)
      · refine K h _ _ _ hM ?_
        rw [ebd_ok]
        conv => arg 4; unfold nsP
        rw [if_neg hc2]
        exact hS
      · refine jr_aload_n d_MO_materialRow_139 rfl rfl ?_
        refine jr_iload_n d_MO_materialRow_140 rfl rfl ?_
        refine qr_V1 d_MO_materialRow_141 i_MO_113 hM (Nat.le_of_ble_eq_true rfl) (by decide) (c_nameS (s := .ok z) hMb hM.1 hn h400 hS (fun z' hz' => ⟨3 - (i + 1), by omega, by cases hz'; exact hc⟩)) (fun h x y F hM hS => ?_)
        refine jr_goto (tgt := 110) d_MO_materialRow_144 (by decide) ?_
        refine ih (by omega) hM hS (fun z' hz' => ?_) (fun h x y F hM hS => ?_)
        · have := wdP_cnt hz' hc
          rw [this]
          congr 1
          omega
        · refine K h x y F hM ?_
          rw [ebd_ok] at hS ⊢
          conv => arg 4; unfold nsP
          rw [if_pos hc2]
          exact hS
theorem mo_mat3 {M : Nat} {s : Except Nat (Ft × Nat)} {l2 l3 : Option Value} (hMb : M + 42 < 559) (hn : f 1 = nI n) (h400 : n ≤ 400) {h : jy_P} {x y : Int32} {F : Ft} (hM : MS h0 h (g2 f x y) (at14 a F)) (hS : S (a 12) n K0 s x y F) :
    jy_J G 5 m_MO_materialRow 147 [some (.ref 11), some (.int (nI M)), l2, l3] [] h (qM h0 f a 7 (fun w x y F => w = f 7 + 1 ∧ S (a 12) n K0 (ebd (ebd (ebd (ebd (ebd s (tzP (a 12) n 99)) (niP (a 12) n 1 9 (M + 1))) (duP (a 12) n M)) (brP (a 12) n M)) (tzP (a 12) n 59)) x y F)) := by
  refine jr_aload_n d_MO_materialRow_147 rfl rfl ?_
  refine jr_bipush (v := 99) d_MO_materialRow_148 (by decide) ?_
  refine qr_V1 d_MO_materialRow_150 i_MO_99 hM (Nat.le_of_ble_eq_true rfl) (by decide) (c_takeS hM.1 hn h400 99 (by decide) (fun v hv => K0_no hv) hS) (fun h x y F hM hS => ?_)
  refine jr_aload_n d_MO_materialRow_153 rfl rfl ?_
  refine mr_get d_MO_materialRow_154 f_MO_20 hM rfl ?_
  refine jr_iload_n d_MO_materialRow_157 rfl rfl ?_
  refine jr_iconst (v := 1) d_MO_materialRow_158 (by decide) ?_
  refine jr_iadd d_MO_materialRow_159 ?_
  refine jr_aload_n d_MO_materialRow_160 rfl rfl ?_
  refine jr_iconst (v := 1) d_MO_materialRow_161 (by decide) ?_
  refine jr_bipush (v := 9) d_MO_materialRow_162 (by decide) ?_
  refine qr_I2 d_MO_materialRow_164 i_MO_102 hM (Nat.le_of_ble_eq_true rfl) (by decide) (c_numberS hM.1 hn h400 hS) (fun h v x y F hM hQ => ?_)
  refine mr_ast d_MO_materialRow_167 hM (by decide) (nI_add M 1) (by show M + 1 < 559; omega) (fun h hM => ?_)
  rw [at14_u] at hM
  have hS := (NmS.put (i := M + 1) hQ).weak (K' := K0) (fun c hc => Kn_1 hc)
  refine jr_aload_n d_MO_materialRow_168 rfl rfl ?_
  refine jr_iload_n d_MO_materialRow_169 rfl rfl ?_
  refine qr_V1 d_MO_materialRow_170 i_MO_116 hM (Nat.le_of_ble_eq_true rfl) (by decide) (c_dueS hMb hM.1 hn h400 hS) (fun h x y F hM hS => ?_)
  generalize ebd (ebd (ebd s (tzP (a 12) n 99)) (niP (a 12) n 1 9 (M + 1))) (duP (a 12) n M) = s1 at hS ⊢
  refine jr_aload_n d_MO_materialRow_173 rfl rfl ?_
  refine mr_get d_MO_materialRow_174 f_MO_20 hM rfl ?_
  refine jr_iload_n d_MO_materialRow_177 rfl rfl ?_
  refine jr_bipush (v := 8) d_MO_materialRow_178 (by decide) ?_
  refine jr_iadd d_MO_materialRow_180 ?_
  refine jr_iconst (v := 0) d_MO_materialRow_181 (by decide) ?_
  refine mr_ast d_MO_materialRow_182 hM (by decide) (nI_add M 8) (by show M + 8 < 559; omega) (fun h hM => ?_)
  rw [at14_u] at hM
  have fin : ∀ h x y F, MS h0 h (g2 f x y) (at14 a F) → S (a 12) n dg (ebd s1 (brP (a 12) n M)) x y F → jy_J G 5 m_MO_materialRow 229 [some (.ref 11), some (.int (nI M)), l2, l3] [] h (qM h0 f a 7 (fun w x y F => w = f 7 + 1 ∧ S (a 12) n K0 (ebd (ebd s1 (brP (a 12) n M)) (tzP (a 12) n 59)) x y F)) := by
    intro h x y F hM hS
    refine jr_aload_n d_MO_materialRow_229 rfl rfl ?_
    refine jr_bipush (v := 59) d_MO_materialRow_230 (by decide) ?_
    refine qr_V1 d_MO_materialRow_232 i_MO_99 hM (Nat.le_of_ble_eq_true rfl) (by decide) (c_takeS (K := dg) hM.1 hn h400 59 (by decide) (fun v hv => dg_ne (by decide) hv) hS) (fun h x y F hM hS => ?_)
    refine jr_aload_n d_MO_materialRow_235 rfl rfl ?_
    refine jr_dup d_MO_materialRow_236 rfl ?_
    refine mr_get d_MO_materialRow_237 f_MO_110 hM rfl ?_
    refine jr_iconst (v := 1) d_MO_materialRow_240 (by decide) ?_
    refine jr_iadd d_MO_materialRow_241 ?_
    refine mr_put d_MO_materialRow_242 f_MO_110 rfl hM (fun h hM => ?_)
    refine jr_return d_MO_materialRow_245 rfl ?_
    rw [g2_7] at hM
    exact ⟨_, x, y, F, rfl, hM, rfl, hS⟩
  have e0 : upd F (M + 8) 0 (M + 8) = 0 := upd_s
  cases s1 with
  | error e =>
    obtain ⟨b1, b2 | ⟨b2, p, b3, b4, b5, b6⟩⟩ := hS
    · subst b2
      refine jr_aload_n d_MO_materialRow_183 rfl rfl ?_
      refine mr_get d_MO_materialRow_184 f_MO_85 hM rfl ?_
      exact jr_if_ge (tgt := 229) d_MO_materialRow_187 (by decide) (fun _ => fin h _ _ _ hM (S_e rfl b1)) (fun q => absurd (nI_pos' (by omega)) q)
    · subst b2; subst b3
      refine jr_aload_n d_MO_materialRow_183 rfl rfl ?_
      refine mr_get d_MO_materialRow_184 f_MO_85 hM rfl ?_
      refine jr_if_ge (tgt := 229) d_MO_materialRow_187 (by decide) (fun q => absurd (show (0 : Int32) ≤ -1 from q) (by decide)) (fun _ => ?_)
      refine jr_aload_n d_MO_materialRow_190 rfl rfl ?_
      refine qr_I0 d_MO_materialRow_191 i_MO_88 hM (Nat.le_of_ble_eq_true rfl) (by decide) (c_seeS hM.1 hn h400 rfl b4) (fun h v x' y' F' hM hq => ?_)
      obtain ⟨rfl, rfl, rfl, rfl⟩ := hq
      rw [b5] at hM ⊢
      refine jr_bipush (v := 120) d_MO_materialRow_194 (by decide) ?_
      refine jr_icmp_ne (tgt := 229) d_MO_materialRow_196 (by decide) (fun _ => ?_) (fun q => absurd q (dg_ne (by decide) b6))
      exact fin h _ _ _ hM ⟨b1, Or.inr ⟨rfl, e, rfl, b1, by rw [← b5, sk_sk], b6⟩⟩
  | ok z =>
    obtain ⟨s1, s2, p, s3, s4, s5⟩ := hS
    subst s1; subst s2; subst s3
    have hsk := skb (t := a 12) s4
    refine jr_aload_n d_MO_materialRow_183 rfl rfl ?_
    refine mr_get d_MO_materialRow_184 f_MO_85 hM rfl ?_
    refine jr_if_ge (tgt := 229) d_MO_materialRow_187 (by decide) (fun q => absurd (show (0 : Int32) ≤ -1 from q) (by decide)) (fun _ => ?_)
    refine jr_aload_n d_MO_materialRow_190 rfl rfl ?_
    refine qr_I0 d_MO_materialRow_191 i_MO_88 hM (Nat.le_of_ble_eq_true rfl) (by decide) (c_seeS hM.1 hn h400 rfl s4) (fun h v x' y' F' hM hq => ?_)
    obtain ⟨rfl, rfl, rfl, rfl⟩ := hq
    rw [s5] at hM ⊢
    refine jr_bipush (v := 120) d_MO_materialRow_194 (by decide) ?_
    refine jr_icmp_ne (tgt := 229) d_MO_materialRow_196 (by decide) (fun hc => ?_) (fun hc => ?_)
    · refine fin h _ _ _ hM ?_
      rw [ebd_ok]
      unfold brP
      rw [if_neg hc]
      exact ⟨rfl, rfl, z.2, rfl, by omega, by rw [← s5, sk_sk]⟩
    · have hin : z.2 < n := hr_in (by rw [show hr (a 12) n z.2 = 120 from hc]; decide)
      refine jr_aload_n d_MO_materialRow_199 rfl rfl ?_
      refine jr_dup d_MO_materialRow_200 rfl ?_
      refine mr_get d_MO_materialRow_201 f_MO_78 hM rfl ?_
      refine jr_iconst (v := 1) d_MO_materialRow_204 (by decide) ?_
      refine jr_iadd d_MO_materialRow_205 ?_
      refine mr_put d_MO_materialRow_206 f_MO_78 rfl hM (fun h hM => ?_)
      have e3 : g2 f (nI z.2) (-1) 10 + 1 = nI (z.2 + 1) := nI_1 _
      rw [e3, g2_10] at hM
      have hS : S (a 12) n K0 (.ok (upd z.1 (M + 8) 0, sk (a 12) n (z.2 + 1))) (nI (z.2 + 1)) (-1) (upd z.1 (M + 8) 0) := ⟨rfl, rfl, z.2 + 1, rfl, hin, rfl⟩
      refine jr_aload_n d_MO_materialRow_209 rfl rfl ?_
      refine mr_get d_MO_materialRow_210 f_MO_20 hM rfl ?_
      refine jr_iload_n d_MO_materialRow_213 rfl rfl ?_
      refine jr_bipush (v := 8) d_MO_materialRow_214 (by decide) ?_
      refine jr_iadd d_MO_materialRow_216 ?_
      refine jr_aload_n d_MO_materialRow_217 rfl rfl ?_
      refine jr_bipush (v := 49) d_MO_materialRow_218 (by decide) ?_
      refine jr_bipush (v := 57) d_MO_materialRow_220 (by decide) ?_
      refine jr_iconst (v := 3) d_MO_materialRow_222 (by decide) ?_
      refine qr_I3 d_MO_materialRow_223 i_MO_106 hM (Nat.le_of_ble_eq_true rfl) (by decide) (c_risingS (most := 3) (by decide) (by decide) lo49.1 lo49.2.1 lo49.2.2 hM.1 hn h400 hS) (fun h v x y F hM hQ => ?_)
      refine jr_iconst (v := 1) d_MO_materialRow_226 (by decide) ?_
      refine jr_ishl d_MO_materialRow_227 ?_
      refine mr_ast d_MO_materialRow_228 hM (by decide) (nI_add M 8) (by show M + 8 < 559; omega) (fun h hM => ?_)
      rw [at14_u] at hM
      refine fin h _ _ _ hM ?_
      obtain ⟨q1, q2⟩ := hQ
      rw [ebd_ok]
      unfold brP
      rw [if_pos hc]
      rcases hq : rsP (a 12) n 49 57 3 (sk (a 12) n (z.2 + 1)) with e | w
      · rw [hq] at q2
        exact S.weak (s := .error e) (K := fun c => inB c 49 57) (fun c hc => by
          have := inB_iff.mp hc
          exact inB_iff.mpr ⟨Int32.le_trans (by decide) this.1, this.2⟩) q2
      · rw [hq] at q2
        obtain ⟨h3, h4, p', h5, h6, h7⟩ := q2
        exact ⟨by rw [q1, h3], h4, p', h5, h6, h7⟩
theorem c_materialRow {q : Nat} {F : Ft} (hk : f 7 = nI k) (h12 : k ≤ 12) (hM : Mo h0 (g2 f (nI (q + 1)) (-1)) (at14 a F)) (hn : f 1 = nI n) (h400 : n ≤ 400) (hq : q + 1 ≤ n) : jy_C G 5 m_MO_materialRow [.ref 11] h0 (qM h0 f a 7 (fun w x y F' => S (a 12) n K0 (if k = 12 then .error q else mrP (a 12) n k (F, sk (a 12) n (q + 1))) x y F' ∧ ∀ z, (if k = 12 then .error q else mrP (a 12) n k (F, sk (a 12) n (q + 1))) = .ok z → w = nI (k + 1))) := by
  refine jy_C.of [some (.ref 11), none, none, none] rfl (Nat.le_of_ble_eq_true rfl) ?_
  have hM := MS.rf hM
  refine jr_aload_n d_MO_materialRow_0 rfl rfl ?_
  refine mr_get d_MO_materialRow_1 f_MO_110 hM rfl ?_
  refine jr_bipush (v := 12) d_MO_materialRow_4 (by decide) ?_
  rw [show g2 f (nI (q + 1)) (-1) 7 = nI k from hk]
  have keep : ∀ {x y : Int32}, g2 f x y = g2 (upd f 7 (f 7)) x y := by intro x y; rw [upd_self]
  refine jr_icmp_ne (tgt := 20) d_MO_materialRow_6 (by decide) (fun hc => ?_) (fun hc => ?_)
  · have hk12 : ¬ k = 12 := fun e => hc (by rw [e]; rfl)
    rw [if_neg hk12]
    refine jr_aload_n d_MO_materialRow_20 rfl rfl ?_
    refine mr_get d_MO_materialRow_21 f_MO_110 hM rfl ?_
    refine jr_bipush (v := 43) d_MO_materialRow_24 (by decide) ?_
    refine jr_imul d_MO_materialRow_26 ?_
    rw [show g2 f (nI (q + 1)) (-1) 7 * 43 = nI (43 * k) from ix43z k hk]
    refine jr_istore_n d_MO_materialRow_27 rfl (by decide) ?_
    refine jr_aload_n d_MO_materialRow_28 rfl rfl ?_
    refine jr_iconst (v := 1) d_MO_materialRow_29 (by decide) ?_
    refine jr_sipush (v := 9999) d_MO_materialRow_30 (by decide) ?_
    refine qr_I2 d_MO_materialRow_33 i_MO_102 hM (Nat.le_of_ble_eq_true rfl) (by decide) (c_MO_number hM.1 hn h400 rfl hq rfl) (fun h v x y F' hM hQ => ?_)
    obtain ⟨hF, hQ⟩ := hQ
    rw [hF] at hM
    refine jr_istore_n d_MO_materialRow_36 rfl (by decide) ?_
    refine jr_iconst (v := 0) d_MO_materialRow_37 (by decide) ?_
    refine jr_istore_n d_MO_materialRow_38 rfl (by decide) ?_
    have err : ∀ (e : Nat) h l3 x F', e ≤ n → mrP (a 12) n k (F, sk (a 12) n (q + 1)) = .error e → MS h0 h (g2 f x (nI e)) (at14 a F') → jy_J G 5 m_MO_materialRow 78 [some (.ref 11), some (.int (nI (43 * k))), some (.int v), l3] [] h (qM h0 f a 7 (fun w x y F' => S (a 12) n K0 (mrP (a 12) n k (F, sk (a 12) n (q + 1))) x y F' ∧ ∀ z, mrP (a 12) n k (F, sk (a 12) n (q + 1)) = .ok z → w = nI (k + 1))) := by
      intro e h l3 x F' he hE hM
      refine jr_aload_n d_MO_materialRow_78 rfl rfl ?_
      refine mr_get d_MO_materialRow_79 f_MO_85 hM rfl ?_
      refine jr_if_lt (tgt := 86) d_MO_materialRow_82 (by decide) (fun q => absurd q (nI_pos (by omega))) (fun _ => ?_)
      refine jr_return d_MO_materialRow_85 rfl ?_
      rw [keep] at hM
      exact ⟨_, _, _, _, rfl, hM, by rw [hE]; exact S_e rfl he, fun z hz => by rw [hE] at hz; cases hz⟩
    rcases hN : nmP (a 12) n 1 9999 (sk (a 12) n (q + 1)) with e | w
    · rw [hN] at hQ
      obtain ⟨b1, b2⟩ := bdE_K0 (show bdE (a 12) n K0 e x y from ⟨hQ.1, hQ.2.elim Or.inl (fun ⟨_, p, _, _, _, w⟩ => Kn_1 w)⟩)
      subst b1
      have hE : mrP (a 12) n k (F, sk (a 12) n (q + 1)) = .error e := by
        unfold mrP mrP1
        rw [hN]
        rfl
      refine mo_mat1 (y0 := nI e) hk h12 (fun h l3 hM => ?_) 0 (Nat.zero_le _) h hM
      rw [dyF_p (by omega)] at hM
      exact err e h l3 _ F b2 hE hM
    · rw [hN] at hQ
      obtain ⟨q1, q2, q3, q4⟩ := hQ
      subst q1; subst q2; subst q3
      have hb := nmP_b hN
      have ew : nI w.2 - 1 = nI (w.2 - 1) := by
        obtain ⟨r, hr⟩ : ∃ r, w.2 = r + 1 := ⟨w.2 - 1, by omega⟩
        rw [hr, nI_pred]; rfl
      refine mo_mat1 (y0 := -1) hk h12 (fun h l3 hM => ?_) 0 (Nat.zero_le _) h hM
      rw [ew, dyF_m (by omega)] at hM
      by_cases hfd : (fd F w.1 k).isSome = true
      · rw [if_pos hfd] at hM
        refine err (w.2 - 1) h l3 _ F (by omega) ?_ hM
        unfold mrP mrP1
        rw [hN, ebd_ok, if_pos hfd]
        rfl
      · rw [if_neg hfd] at hM
        have hE : mrP1 (a 12) n k (F, sk (a 12) n (q + 1)) = .ok (upd (upd F (43 * k) w.1) (43 * k + 9) 0, sk (a 12) n w.2) := by
          unfold mrP1
          rw [hN, ebd_ok, if_neg hfd]
        refine jr_aload_n d_MO_materialRow_78 rfl rfl ?_
        refine mr_get d_MO_materialRow_79 f_MO_85 hM rfl ?_
        refine jr_if_lt (tgt := 86) d_MO_materialRow_82 (by decide) (fun _ => ?_) (fun q => absurd (show (-1 : Int32) < 0 by decide) q)
        refine jr_aload_n d_MO_materialRow_86 rfl rfl ?_
        refine mr_get d_MO_materialRow_87 f_MO_20 hM rfl ?_
        refine jr_iload_n d_MO_materialRow_90 rfl rfl ?_
        refine jr_iconst (v := 0) d_MO_materialRow_91 (by decide) ?_
        refine jr_iadd d_MO_materialRow_92 ?_
        refine jr_iload_n d_MO_materialRow_93 rfl rfl ?_
        refine mr_ast d_MO_materialRow_94 hM (by decide) (nI_add (43 * k) 0) (by show 43 * k + 0 < 559; omega) (fun h hM => ?_)
        refine jr_aload_n d_MO_materialRow_95 rfl rfl ?_
        refine mr_get d_MO_materialRow_96 f_MO_20 hM rfl ?_
        refine jr_iload_n d_MO_materialRow_99 rfl rfl ?_
        refine jr_bipush (v := 9) d_MO_materialRow_100 (by decide) ?_
        refine jr_iadd d_MO_materialRow_102 ?_
        refine jr_iconst (v := 0) d_MO_materialRow_103 (by decide) ?_
        refine mr_ast d_MO_materialRow_104 hM (by decide) (nI_add (43 * k) 9) (by show 43 * k + 9 < 559; omega) (fun h hM => ?_)
        rw [at14_u, at14_u] at hM
        have hS : S (a 12) n K0 (.ok (upd (upd F (43 * k) w.1) (43 * k + 9) 0, sk (a 12) n w.2)) (nI w.2) (-1) (upd (upd F (43 * k) w.1) (43 * k + 9) 0) := ⟨rfl, rfl, w.2, rfl, by omega, rfl⟩
        refine jr_aload_n d_MO_materialRow_105 rfl rfl ?_
        refine jr_iload_n d_MO_materialRow_106 rfl rfl ?_
        refine qr_V1 d_MO_materialRow_107 i_MO_113 hM (Nat.le_of_ble_eq_true rfl) (by decide) (c_nameS (M := 43 * k) (by omega) hM.1 hn h400 hS (fun z' hz' => ⟨0, by omega, by cases hz'; exact upd_s⟩)) (fun h x y F2 hM hS => ?_)
        rw [ebd_ok] at hS
        refine mo_mat2 (M := 43 * k) (by omega) hn h400 2 (by omega) hM hS (fun z hz => wdP_cnt (c := 0) hz upd_s) (fun h x y F2 hM hS => ?_)
        refine (mo_mat3 (M := 43 * k) (by omega) hn h400 hM hS).mono (fun o h' u => ?_)
        obtain ⟨u0, x, y, F3, u1, u2, u3, u4⟩ := u
        have e9 : mrP (a 12) n k (F, sk (a 12) n (q + 1)) = ebd (ebd (ebd (ebd (ebd (ebd (wdP (a 12) n (upd (upd F (43 * k) w.1) (43 * k + 9) 0) (43 * k) (sk (a 12) n w.2)) (nsP (a 12) n (43 * k) 2)) (tzP (a 12) n 99)) (niP (a 12) n 1 9 (43 * k + 1))) (duP (a 12) n (43 * k))) (brP (a 12) n (43 * k))) (tzP (a 12) n 59) := by
          unfold mrP
          rw [hE, ebd_ok]
          unfold mrP2 mrP3
          rw [ebd_assoc, ebd_assoc, ebd_assoc, ebd_assoc]
          simp only [ebd_assoc]
        exact ⟨u0, x, y, F3, u1, u2, by rw [e9]; exact u4, fun z _ => by rw [u3, hk, nI_1]⟩
  · have hk12 : k = 12 := (nI_eq (b := 12) (by omega) (by decide)).mp hc
    rw [if_pos hk12]
    refine jr_aload_n d_MO_materialRow_9 rfl rfl ?_
    refine jr_aload_n d_MO_materialRow_10 rfl rfl ?_
    refine mr_get d_MO_materialRow_11 f_MO_78 hM rfl ?_
    refine jr_iconst (v := 1) d_MO_materialRow_14 (by decide) ?_
    refine jr_isub d_MO_materialRow_15 ?_
    refine qr_V1 d_MO_materialRow_16 i_MO_91 hM (Nat.le_of_ble_eq_true rfl) (by decide) (c_failS hM.1 _) (fun h x' y' F' hM hq2 => ?_)
    obtain ⟨rfl, rfl, rfl⟩ := hq2
    have e1 : fl (-1) (g2 f (nI (q + 1)) (-1) 10 - 1) = nI q := nI_pred q
    rw [e1, keep] at hM
    refine jr_return d_MO_materialRow_19 rfl ?_
    exact ⟨_, _, _, _, rfl, hM, S_e rfl (by omega), (fun z hz => by cases hz)⟩
end MR2
