/-! the class: what only answers -/
def cf (T : Nat) (f : Nat → Int32) : List Value := [.ref 2, .ref T, .int (f 3), .ref 6, .int (f 27), .ref 7, .ref 8, .ref 9, .int (f 12), .int (f 19), .int (f 16), .int (f 17), .int (f 25), .int (f 18), .ref 10]
/-- the parts -/
def PA (h : jy_P) (a : Nat → Nat → Int32) (np : Nat) : Prop := ∃ pv : List Value, h[8]? = some (55, pv) ∧ pv.length = 8 ∧ ∀ k, k < np → ∃ x : Nat, pv[k]? = some (.ref x) ∧ PRep h x (a 15 k) (bI (decide (200 < a 16 k))) (a 13) (iP a k)
/-- the buildings -/
def BA (h : jy_P) (a : Nat → Nat → Int32) (nb : Nat) (fl : Nat → Bool) (bx : Nat → Nat) : Prop := (∃ bv : List Value, h[9]? = some (56, bv) ∧ bv.length = 40 ∧ ∀ k, k < nb → bv[k]? = some (.ref (bx k)) ∧ 26 ≤ bx k ∧ h[bx k]? = some (6, [.int (a 18 k), .int (a 19 k), .int (bI (fl k))])) ∧ ∀ i j, i < nb → j < nb → bx i = bx j → i = j
def opP (h : jy_P) (exc : Nat) (r : Option Value) (Q : jy_P → Prop) : Outcome → jy_P → Prop := fun o h' => (exc = 0 ∧ o = .returned r ∧ Q h') ∨ (¬ exc = 0 ∧ o = .threw h.length ∧ h' = h ++ [(exc, [])])
def ex3 (b1 : Bool) (c1 : Nat) (b2 : Bool) (c2 : Nat) (b3 : Bool) (c3 : Nat) : Nat := if b1 = false then c1 else if b2 = false then c2 else if b3 = false then c3 else 0
theorem opP.ok {h h' : jy_P} {r : Option Value} {Q : jy_P → Prop} {exc : Nat} (he : exc = 0) (hQ : Q h') : opP h exc r Q (.returned r) h' := Or.inl ⟨he, rfl, hQ⟩
theorem opP.ex {h : jy_P} {r : Option Value} {Q : jy_P → Prop} {exc c : Nat} (he : exc = c) (hc : ¬ c = 0) : opP h exc r Q (.threw h.length) (h ++ [(c, [])]) := by
  subst he
  exact Or.inr ⟨hc, rfl, rfl⟩
theorem d_HT_strictness_0 : decode (jy_c m_HT_strictness) 0 = .ok (.iconst 0, 1) := by decide +kernel
theorem d_HT_strictness_1 : decode (jy_c m_HT_strictness) 1 = .ok (.istore_n 1, 1) := by decide +kernel
theorem d_HT_strictness_2 : decode (jy_c m_HT_strictness) 2 = .ok (.iconst 0, 1) := by decide +kernel
theorem d_HT_strictness_3 : decode (jy_c m_HT_strictness) 3 = .ok (.istore_n 2, 1) := by decide +kernel
theorem d_HT_strictness_4 : decode (jy_c m_HT_strictness) 4 = .ok (.iload_n 2, 1) := by decide +kernel
theorem d_HT_strictness_5 : decode (jy_c m_HT_strictness) 5 = .ok (.aload_n 0, 1) := by decide +kernel
theorem d_HT_strictness_6 : decode (jy_c m_HT_strictness) 6 = .ok (.getfield 173, 3) := by decide +kernel
theorem d_HT_strictness_9 : decode (jy_c m_HT_strictness) 9 = .ok (.if_icmp .ge 26, 3) := by decide +kernel
theorem d_HT_strictness_12 : decode (jy_c m_HT_strictness) 12 = .ok (.iload_n 1, 1) := by decide +kernel
theorem d_HT_strictness_13 : decode (jy_c m_HT_strictness) 13 = .ok (.aload_n 0, 1) := by decide +kernel
theorem d_HT_strictness_14 : decode (jy_c m_HT_strictness) 14 = .ok (.getfield 37, 3) := by decide +kernel
theorem d_HT_strictness_17 : decode (jy_c m_HT_strictness) 17 = .ok (.iload_n 2, 1) := by decide +kernel
theorem d_HT_strictness_18 : decode (jy_c m_HT_strictness) 18 = .ok (.aaload, 1) := by decide +kernel
theorem d_HT_strictness_19 : decode (jy_c m_HT_strictness) 19 = .ok (.getfield 183, 3) := by decide +kernel
theorem d_HT_strictness_22 : decode (jy_c m_HT_strictness) 22 = .ok (.getfield 127, 3) := by decide +kernel
theorem d_HT_strictness_25 : decode (jy_c m_HT_strictness) 25 = .ok (.invokestatic 184, 3) := by decide +kernel
theorem d_HT_strictness_28 : decode (jy_c m_HT_strictness) 28 = .ok (.istore_n 1, 1) := by decide +kernel
theorem d_HT_strictness_29 : decode (jy_c m_HT_strictness) 29 = .ok (.iinc 2 1, 3) := by decide +kernel
theorem d_HT_strictness_32 : decode (jy_c m_HT_strictness) 32 = .ok (.goto (-28), 3) := by decide +kernel
theorem d_HT_strictness_35 : decode (jy_c m_HT_strictness) 35 = .ok (.iload_n 1, 1) := by decide +kernel
theorem d_HT_strictness_36 : decode (jy_c m_HT_strictness) 36 = .ok (.ireturn, 1) := by decide +kernel
theorem c_HT_strictness {G : jy_G} {h : jy_P} {T : Nat} {f : Nat → Int32} {a : Nat → Nat → Int32} {np : Nat} (h1 : h[1]? = some (0, cf T f)) (hp : PA h a np) (hn : f 12 = nI np) (h8 : np ≤ 8) : jy_C G 1 m_HT_strictness [.ref 1] h (pP h (some (.int (sS a np)))) := by
  refine jy_C.of [some (.ref 1), none, none] rfl (Nat.le_of_ble_eq_true rfl) ?_
  obtain ⟨pv, v1, v2, v3⟩ := hp
  refine jr_iconst (v := 0) d_HT_strictness_0 (by decide) ?_
  refine jr_istore_n d_HT_strictness_1 rfl (by decide) ?_
  refine jr_iconst (v := 0) d_HT_strictness_2 (by decide) ?_
  refine jr_istore_n d_HT_strictness_3 rfl (by decide) ?_
  have key : ∀ p, p ≤ np → jy_J G 1 m_HT_strictness 4 [some (.ref 1), some (.int (sS a p)), some (.int (nI p))] [] h (pP h (some (.int (sS a np)))) := by
    refine jl_up np _ ?_ (fun p hp ih => ?_)
    · refine jr_iload_n d_HT_strictness_4 rfl rfl ?_
      refine jr_aload_n d_HT_strictness_5 rfl rfl ?_
      refine jr_get d_HT_strictness_6 f_HT_173 h1 rfl ?_
      rw [hn]
      refine jr_icmp_ge (tgt := 35) d_HT_strictness_9 (by decide) (fun _ => ?_) (jl_eq (by omega))
      refine jr_iload_n d_HT_strictness_35 rfl rfl ?_
      refine jr_ireturn d_HT_strictness_36 rfl rfl ?_
      exact ⟨rfl, rfl⟩
    · obtain ⟨x, x1, -, mv, dv, hx, ⟨-, y, -, hd, hy⟩, -⟩ := v3 p hp
      refine jr_iload_n d_HT_strictness_4 rfl rfl ?_
      refine jr_aload_n d_HT_strictness_5 rfl rfl ?_
      refine jr_get d_HT_strictness_6 f_HT_173 h1 rfl ?_
      rw [hn]
      refine jr_icmp_ge (tgt := 35) d_HT_strictness_9 (by decide) (jl_lt (by omega) hp) (fun _ => ?_)
      refine jr_iload_n d_HT_strictness_12 rfl rfl ?_
      refine jr_aload_n d_HT_strictness_13 rfl rfl ?_
      refine jr_get d_HT_strictness_14 f_HT_37 h1 rfl ?_
      refine jr_iload_n d_HT_strictness_17 rfl rfl ?_
      refine cr_aald d_HT_strictness_18 rfl rfl v1 rfl x1 (by omega) ?_
      refine jr_get d_HT_strictness_19 f_HT_183 hx rfl ?_
      refine jr_get d_HT_strictness_22 f_HT_127 hd rfl ?_
      refine jr_max d_HT_strictness_25 o_HT_184 (by decide) (Nat.le_of_ble_eq_true rfl) ?_
      refine jr_istore_n d_HT_strictness_28 rfl (by decide) ?_
      refine jr_iinc1 d_HT_strictness_29 rfl (by decide) ?_
      refine jr_goto (tgt := 4) d_HT_strictness_32 (by decide) ?_
      rw [nI_1]
      exact ih
  exact key 0 (Nat.zero_le _)
theorem d_HT_farthest_0 : decode (jy_c m_HT_farthest) 0 = .ok (.iconst 0, 1) := by decide +kernel
theorem d_HT_farthest_1 : decode (jy_c m_HT_farthest) 1 = .ok (.istore_n 2, 1) := by decide +kernel
theorem d_HT_farthest_2 : decode (jy_c m_HT_farthest) 2 = .ok (.iconst 0, 1) := by decide +kernel
theorem d_HT_farthest_3 : decode (jy_c m_HT_farthest) 3 = .ok (.istore_n 3, 1) := by decide +kernel
theorem d_HT_farthest_4 : decode (jy_c m_HT_farthest) 4 = .ok (.iload_n 3, 1) := by decide +kernel
theorem d_HT_farthest_5 : decode (jy_c m_HT_farthest) 5 = .ok (.aload_n 0, 1) := by decide +kernel
theorem d_HT_farthest_6 : decode (jy_c m_HT_farthest) 6 = .ok (.getfield 173, 3) := by decide +kernel
theorem d_HT_farthest_9 : decode (jy_c m_HT_farthest) 9 = .ok (.if_icmp .ge 36, 3) := by decide +kernel
theorem d_HT_farthest_12 : decode (jy_c m_HT_farthest) 12 = .ok (.iload_n 2, 1) := by decide +kernel
theorem d_HT_farthest_13 : decode (jy_c m_HT_farthest) 13 = .ok (.aload_n 0, 1) := by decide +kernel
theorem d_HT_farthest_14 : decode (jy_c m_HT_farthest) 14 = .ok (.getfield 37, 3) := by decide +kernel
theorem d_HT_farthest_17 : decode (jy_c m_HT_farthest) 17 = .ok (.iload_n 3, 1) := by decide +kernel
theorem d_HT_farthest_18 : decode (jy_c m_HT_farthest) 18 = .ok (.aaload, 1) := by decide +kernel
theorem d_HT_farthest_19 : decode (jy_c m_HT_farthest) 19 = .ok (.getfield 183, 3) := by decide +kernel
theorem d_HT_farthest_22 : decode (jy_c m_HT_farthest) 22 = .ok (.aload_n 0, 1) := by decide +kernel
theorem d_HT_farthest_23 : decode (jy_c m_HT_farthest) 23 = .ok (.getfield 37, 3) := by decide +kernel
theorem d_HT_farthest_26 : decode (jy_c m_HT_farthest) 26 = .ok (.iload_n 3, 1) := by decide +kernel
theorem d_HT_farthest_27 : decode (jy_c m_HT_farthest) 27 = .ok (.aaload, 1) := by decide +kernel
theorem d_HT_farthest_28 : decode (jy_c m_HT_farthest) 28 = .ok (.getfield 187, 3) := by decide +kernel
theorem d_HT_farthest_31 : decode (jy_c m_HT_farthest) 31 = .ok (.iload_n 1, 1) := by decide +kernel
theorem d_HT_farthest_32 : decode (jy_c m_HT_farthest) 32 = .ok (.invokevirtual 190, 3) := by decide +kernel
theorem d_HT_farthest_35 : decode (jy_c m_HT_farthest) 35 = .ok (.invokestatic 184, 3) := by decide +kernel
theorem d_HT_farthest_38 : decode (jy_c m_HT_farthest) 38 = .ok (.istore_n 2, 1) := by decide +kernel
theorem d_HT_farthest_39 : decode (jy_c m_HT_farthest) 39 = .ok (.iinc 3 1, 3) := by decide +kernel
theorem d_HT_farthest_42 : decode (jy_c m_HT_farthest) 42 = .ok (.goto (-38), 3) := by decide +kernel
theorem d_HT_farthest_45 : decode (jy_c m_HT_farthest) 45 = .ok (.iload_n 2, 1) := by decide +kernel
theorem d_HT_farthest_46 : decode (jy_c m_HT_farthest) 46 = .ok (.ireturn, 1) := by decide +kernel
theorem c_HT_farthest {G : jy_G} {h : jy_P} {T : Nat} {f : Nat → Int32} {a : Nat → Nat → Int32} {np : Nat} (h1 : h[1]? = some (0, cf T f)) (hp : PA h a np) (hn : f 12 = nI np) (h8 : np ≤ 8) (nt : Bool) : jy_C G 2 m_HT_farthest [.ref 1, .int (bI nt)] h (pP h (some (.int (dD a (!nt) np)))) := by
  refine jy_C.of [some (.ref 1), some (.int (bI nt)), none, none] rfl (Nat.le_of_ble_eq_true rfl) ?_
  obtain ⟨pv, v1, v2, v3⟩ := hp
  refine jr_iconst (v := 0) d_HT_farthest_0 (by decide) ?_
  refine jr_istore_n d_HT_farthest_1 rfl (by decide) ?_
  refine jr_iconst (v := 0) d_HT_farthest_2 (by decide) ?_
  refine jr_istore_n d_HT_farthest_3 rfl (by decide) ?_
  have key : ∀ p, p ≤ np → jy_J G 2 m_HT_farthest 4 [some (.ref 1), some (.int (bI nt)), some (.int (dD a (!nt) p)), some (.int (nI p))] [] h (pP h (some (.int (dD a (!nt) np)))) := by
    refine jl_up np _ ?_ (fun p hp ih => ?_)
    · refine jr_iload_n d_HT_farthest_4 rfl rfl ?_
      refine jr_aload_n d_HT_farthest_5 rfl rfl ?_
      refine jr_get d_HT_farthest_6 f_HT_173 h1 rfl ?_
      rw [hn]
      refine jr_icmp_ge (tgt := 45) d_HT_farthest_9 (by decide) (fun _ => ?_) (jl_eq (by omega))
      refine jr_iload_n d_HT_farthest_45 rfl rfl ?_
      refine jr_ireturn d_HT_farthest_46 rfl rfl ?_
      exact ⟨rfl, rfl⟩
    · obtain ⟨x, x1, -, mv, dv, hx, hD, -⟩ := v3 p hp
      have hD' := hD
      obtain ⟨-, y, -, hd, hy⟩ := hD'
      refine jr_iload_n d_HT_farthest_4 rfl rfl ?_
      refine jr_aload_n d_HT_farthest_5 rfl rfl ?_
      refine jr_get d_HT_farthest_6 f_HT_173 h1 rfl ?_
      rw [hn]
      refine jr_icmp_ge (tgt := 45) d_HT_farthest_9 (by decide) (jl_lt (by omega) hp) (fun _ => ?_)
      refine jr_iload_n d_HT_farthest_12 rfl rfl ?_
      refine jr_aload_n d_HT_farthest_13 rfl rfl ?_
      refine jr_get d_HT_farthest_14 f_HT_37 h1 rfl ?_
      refine jr_iload_n d_HT_farthest_17 rfl rfl ?_
      refine cr_aald d_HT_farthest_18 rfl rfl v1 rfl x1 (by omega) ?_
      refine jr_get d_HT_farthest_19 f_HT_183 hx rfl ?_
      refine jr_aload_n d_HT_farthest_22 rfl rfl ?_
      refine jr_get d_HT_farthest_23 f_HT_37 h1 rfl ?_
      refine jr_iload_n d_HT_farthest_26 rfl rfl ?_
      refine cr_aald d_HT_farthest_27 rfl rfl v1 rfl x1 (by omega) ?_
      refine jr_get d_HT_farthest_28 f_HT_187 hx rfl ?_
      refine jr_iload_n d_HT_farthest_31 rfl rfl ?_
      refine jr_callVp2 d_HT_farthest_32 i_HT_190 hd (Nat.le_of_ble_eq_true rfl) (by decide) (c_DU_distance hD _ _) ?_
      refine jr_max d_HT_farthest_35 o_HT_184 (by decide) (Nat.le_of_ble_eq_true rfl) ?_
      refine jr_istore_n d_HT_farthest_38 rfl (by decide) ?_
      refine jr_iinc1 d_HT_farthest_39 rfl (by decide) ?_
      refine jr_goto (tgt := 4) d_HT_farthest_42 (by decide) ?_
      rw [nI_1]
      have e : dD a (!nt) (p + 1) = mx (dD a (!nt) p) (a 13 (43 * iP a p + 4 + dcl (decide (200 < a 16 p)) nt)) := by
        show mx (dD a (!nt) p) (cl a p (dcol a (!nt) p)) = _
        unfold cl dcol dcl
        congr 2
        by_cases q : a 16 p ≤ 200
        · rw [if_pos q, decide_eq_false (Int32.not_lt.mpr q)]
          cases nt <;> simp [Nat.add_assoc]
        · rw [if_neg q, decide_eq_true (Int32.not_le.mp q)]
          cases nt <;> simp [Nat.add_assoc]
      rw [e] at ih
      exact ih
  exact key 0 (Nat.zero_le _)
theorem d_HT_pairs_0 : decode (jy_c m_HT_pairs) 0 = .ok (.iconst 0, 1) := by decide +kernel
theorem d_HT_pairs_1 : decode (jy_c m_HT_pairs) 1 = .ok (.istore_n 1, 1) := by decide +kernel
theorem d_HT_pairs_2 : decode (jy_c m_HT_pairs) 2 = .ok (.iconst 0, 1) := by decide +kernel
theorem d_HT_pairs_3 : decode (jy_c m_HT_pairs) 3 = .ok (.istore_n 2, 1) := by decide +kernel
theorem d_HT_pairs_4 : decode (jy_c m_HT_pairs) 4 = .ok (.iload_n 2, 1) := by decide +kernel
theorem d_HT_pairs_5 : decode (jy_c m_HT_pairs) 5 = .ok (.aload_n 0, 1) := by decide +kernel
theorem d_HT_pairs_6 : decode (jy_c m_HT_pairs) 6 = .ok (.getfield 173, 3) := by decide +kernel
theorem d_HT_pairs_9 : decode (jy_c m_HT_pairs) 9 = .ok (.if_icmp .ge 43, 3) := by decide +kernel
theorem d_HT_pairs_12 : decode (jy_c m_HT_pairs) 12 = .ok (.iconst 0, 1) := by decide +kernel
theorem d_HT_pairs_13 : decode (jy_c m_HT_pairs) 13 = .ok (.istore_n 3, 1) := by decide +kernel
theorem d_HT_pairs_14 : decode (jy_c m_HT_pairs) 14 = .ok (.iload_n 3, 1) := by decide +kernel
theorem d_HT_pairs_15 : decode (jy_c m_HT_pairs) 15 = .ok (.iload_n 2, 1) := by decide +kernel
theorem d_HT_pairs_16 : decode (jy_c m_HT_pairs) 16 = .ok (.if_icmp .ge 30, 3) := by decide +kernel
theorem d_HT_pairs_19 : decode (jy_c m_HT_pairs) 19 = .ok (.aload_n 0, 1) := by decide +kernel
theorem d_HT_pairs_20 : decode (jy_c m_HT_pairs) 20 = .ok (.getfield 37, 3) := by decide +kernel
theorem d_HT_pairs_23 : decode (jy_c m_HT_pairs) 23 = .ok (.iload_n 2, 1) := by decide +kernel
theorem d_HT_pairs_24 : decode (jy_c m_HT_pairs) 24 = .ok (.aaload, 1) := by decide +kernel
theorem d_HT_pairs_25 : decode (jy_c m_HT_pairs) 25 = .ok (.aload_n 0, 1) := by decide +kernel
theorem d_HT_pairs_26 : decode (jy_c m_HT_pairs) 26 = .ok (.getfield 37, 3) := by decide +kernel
theorem d_HT_pairs_29 : decode (jy_c m_HT_pairs) 29 = .ok (.iload_n 3, 1) := by decide +kernel
theorem d_HT_pairs_30 : decode (jy_c m_HT_pairs) 30 = .ok (.aaload, 1) := by decide +kernel
theorem d_HT_pairs_31 : decode (jy_c m_HT_pairs) 31 = .ok (.invokevirtual 179, 3) := by decide +kernel
theorem d_HT_pairs_34 : decode (jy_c m_HT_pairs) 34 = .ok (.ifCond .eq 6, 3) := by decide +kernel
theorem d_HT_pairs_37 : decode (jy_c m_HT_pairs) 37 = .ok (.iinc 1 1, 3) := by decide +kernel
theorem d_HT_pairs_40 : decode (jy_c m_HT_pairs) 40 = .ok (.iinc 3 1, 3) := by decide +kernel
theorem d_HT_pairs_43 : decode (jy_c m_HT_pairs) 43 = .ok (.goto (-29), 3) := by decide +kernel
theorem d_HT_pairs_46 : decode (jy_c m_HT_pairs) 46 = .ok (.iinc 2 1, 3) := by decide +kernel
theorem d_HT_pairs_49 : decode (jy_c m_HT_pairs) 49 = .ok (.goto (-45), 3) := by decide +kernel
theorem d_HT_pairs_52 : decode (jy_c m_HT_pairs) 52 = .ok (.iload_n 1, 1) := by decide +kernel
theorem d_HT_pairs_53 : decode (jy_c m_HT_pairs) 53 = .ok (.ireturn, 1) := by decide +kernel
theorem c_HT_pairs {G : jy_G} {h : jy_P} {T : Nat} {f : Nat → Int32} {a : Nat → Nat → Int32} {np : Nat} (h1 : h[1]? = some (0, cf T f)) (hp : PA h a np) (hn : f 12 = nI np) (h8 : np ≤ 8) : jy_C G 4 m_HT_pairs [.ref 1] h (pP h (some (.int (nI (prs a np))))) := by
  refine jy_C.of [some (.ref 1), none, none, none] rfl (Nat.le_of_ble_eq_true rfl) ?_
  obtain ⟨pv, v1, v2, v3⟩ := hp
  refine jr_iconst (v := 0) d_HT_pairs_0 (by decide) ?_
  refine jr_istore_n d_HT_pairs_1 rfl (by decide) ?_
  refine jr_iconst (v := 0) d_HT_pairs_2 (by decide) ?_
  refine jr_istore_n d_HT_pairs_3 rfl (by decide) ?_
  have key : ∀ p, p ≤ np → ∀ l3, jy_J G 4 m_HT_pairs 4 [some (.ref 1), some (.int (nI (prs a p))), some (.int (nI p)), l3] [] h (pP h (some (.int (nI (prs a np))))) := by
    refine jl_up np _ (fun l3 => ?_) (fun p hp ih l3 => ?_)
    · refine jr_iload_n d_HT_pairs_4 rfl rfl ?_
      refine jr_aload_n d_HT_pairs_5 rfl rfl ?_
      refine jr_get d_HT_pairs_6 f_HT_173 h1 rfl ?_
      rw [hn]
      refine jr_icmp_ge (tgt := 52) d_HT_pairs_9 (by decide) (fun _ => ?_) (jl_eq (by omega))
      refine jr_iload_n d_HT_pairs_52 rfl rfl ?_
      refine jr_ireturn d_HT_pairs_53 rfl rfl ?_
      exact ⟨rfl, rfl⟩
    · obtain ⟨x, x1, xP⟩ := v3 p hp
      have xP' := xP
      obtain ⟨-, mv, dv, hx, -⟩ := xP'
      refine jr_iload_n d_HT_pairs_4 rfl rfl ?_
      refine jr_aload_n d_HT_pairs_5 rfl rfl ?_
      refine jr_get d_HT_pairs_6 f_HT_173 h1 rfl ?_
      rw [hn]
      refine jr_icmp_ge (tgt := 52) d_HT_pairs_9 (by decide) (jl_lt (by omega) hp) (fun _ => ?_)
      refine jr_iconst (v := 0) d_HT_pairs_12 (by decide) ?_
      refine jr_istore_n d_HT_pairs_13 rfl (by decide) ?_
      have inner : ∀ q, q ≤ p → jy_J G 4 m_HT_pairs 14 [some (.ref 1), some (.int (nI (prs a p + cnt (fun q => ctr a p q) q))), some (.int (nI p)), some (.int (nI q))] [] h (pP h (some (.int (nI (prs a np))))) := by
        refine jl_up p _ ?_ (fun q hq ihq => ?_)
        · refine jr_iload_n d_HT_pairs_14 rfl rfl ?_
          refine jr_iload_n d_HT_pairs_15 rfl rfl ?_
          refine jr_icmp_ge (tgt := 46) d_HT_pairs_16 (by decide) (fun _ => ?_) (jl_eq (by omega))
          refine jr_iinc1 d_HT_pairs_46 rfl (by decide) ?_
          refine jr_goto (tgt := 4) d_HT_pairs_49 (by decide) ?_
          rw [nI_1]
          exact ih _
        · obtain ⟨y, y1, yP⟩ := v3 q (by omega)
          refine jr_iload_n d_HT_pairs_14 rfl rfl ?_
          refine jr_iload_n d_HT_pairs_15 rfl rfl ?_
          refine jr_icmp_ge (tgt := 46) d_HT_pairs_16 (by decide) (jl_lt (by omega) hq) (fun _ => ?_)
          refine jr_aload_n d_HT_pairs_19 rfl rfl ?_
          refine jr_get d_HT_pairs_20 f_HT_37 h1 rfl ?_
          refine jr_iload_n d_HT_pairs_23 rfl rfl ?_
          refine cr_aald d_HT_pairs_24 rfl rfl v1 rfl x1 (by omega) ?_
          refine jr_aload_n d_HT_pairs_25 rfl rfl ?_
          refine jr_get d_HT_pairs_26 f_HT_37 h1 rfl ?_
          refine jr_iload_n d_HT_pairs_29 rfl rfl ?_
          refine cr_aald d_HT_pairs_30 rfl rfl v1 rfl y1 (by omega) ?_
          refine jr_callVp1 d_HT_pairs_31 i_HT_179 hx (Nat.le_of_ble_eq_true rfl) (by decide) (c_PT_contradicts xP yP) ?_
          refine jr_if_eq (tgt := 40) d_HT_pairs_34 (by decide) (fun hc => ?_) (fun hc => ?_)
          · refine jr_iinc1 d_HT_pairs_40 rfl (by decide) ?_
            refine jr_goto (tgt := 14) d_HT_pairs_43 (by decide) ?_
            rw [nI_1]
            have : cnt (fun q => ctr a p q) (q + 1) = cnt (fun q => ctr a p q) q := by simp [cnt, show ctr a p q = false from bI_eq0.mp hc]
            rw [this] at ihq
            exact ihq
          · refine jr_iinc1 d_HT_pairs_37 rfl (by decide) ?_
            refine jr_iinc1 d_HT_pairs_40 rfl (by decide) ?_
            refine jr_goto (tgt := 14) d_HT_pairs_43 (by decide) ?_
            rw [nI_1, nI_1]
            have : prs a p + cnt (fun q => ctr a p q) (q + 1) = prs a p + cnt (fun q => ctr a p q) q + 1 := by simp [cnt, show ctr a p q = true from bI_ne0.mp hc, Nat.add_assoc]
            rw [this] at ihq
            exact ihq
      exact inner 0 (Nat.zero_le _)
  exact key 0 (Nat.zero_le _) _
theorem sq_toInt {x : Int32} (h1 : -10000 ≤ x.toInt) (h2 : x.toInt ≤ 10000) : (x.toInt64 * x.toInt64).toInt = x.toInt * x.toInt ∧ 0 ≤ x.toInt * x.toInt ∧ x.toInt * x.toInt ≤ 100000000 := by
  have e := Int.natAbs_mul_self' x.toInt
  have b : x.toInt.natAbs ≤ 10000 := by omega
  have c := Nat.mul_le_mul b b
  have c1 : x.toInt * x.toInt ≤ 100000000 := by
    rw [← e]
    have : ((x.toInt.natAbs * x.toInt.natAbs : Nat) : Int) ≤ ((10000 * 10000 : Nat) : Int) := Int.ofNat_le.mpr c
    rw [Int.natCast_mul] at this
    exact this
  have c2 : 0 ≤ x.toInt * x.toInt := by rw [← e]; exact Int.natCast_nonneg _
  refine ⟨?_, c2, c1⟩
  rw [Int64.toInt_mul, Int32.toInt_toInt64]
  exact Int.bmod_eq_of_le (by omega) (by omega)
theorem sq0 {x y : Int32} (h : iPt x y = true) : x.toInt64 * x.toInt64 + y.toInt64 * y.toInt64 = 0 ↔ x = 0 ∧ y = 0 := by
  unfold iPt at h
  rw [Bool.and_eq_true, inB_iff, inB_iff] at h
  obtain ⟨⟨a1, a2⟩, a3, a4⟩ := h
  rw [Int32.le_iff_toInt_le] at a1 a2 a3 a4
  have k1 : (-10000 : Int32).toInt = -10000 := by decide
  have k2 : (10000 : Int32).toInt = 10000 := by decide
  rw [k1] at a1 a3
  rw [k2] at a2 a4
  obtain ⟨b1, b2, b3⟩ := sq_toInt a1 a2
  obtain ⟨c1, c2, c3⟩ := sq_toInt a3 a4
  constructor
  · intro q
    have q1 : (x.toInt64 * x.toInt64 + y.toInt64 * y.toInt64).toInt = 0 := by rw [q]; rfl
    rw [Int64.toInt_add, b1, c1, Int.bmod_eq_of_le (by omega) (by omega)] at q1
    have q2 : x.toInt * x.toInt = 0 := by omega
    have q3 : y.toInt * y.toInt = 0 := by omega
    have q4 : x.toInt = 0 := by rcases Int.mul_eq_zero.mp q2 with w | w <;> exact w
    have q5 : y.toInt = 0 := by rcases Int.mul_eq_zero.mp q3 with w | w <;> exact w
    exact ⟨Int32.toInt_inj.mp q4, Int32.toInt_inj.mp q5⟩
  · rintro ⟨rfl, rfl⟩
    decide
theorem d_HT_isInPlume_0 : decode (jy_c m_HT_isInPlume) 0 = .ok (.aload_n 0, 1) := by decide +kernel
theorem d_HT_isInPlume_1 : decode (jy_c m_HT_isInPlume) 1 = .ok (.getfield 173, 3) := by decide +kernel
theorem d_HT_isInPlume_4 : decode (jy_c m_HT_isInPlume) 4 = .ok (.ifCond .ne 5, 3) := by decide +kernel
theorem d_HT_isInPlume_7 : decode (jy_c m_HT_isInPlume) 7 = .ok (.iconst 0, 1) := by decide +kernel
theorem d_HT_isInPlume_8 : decode (jy_c m_HT_isInPlume) 8 = .ok (.ireturn, 1) := by decide +kernel
theorem d_HT_isInPlume_9 : decode (jy_c m_HT_isInPlume) 9 = .ok (.iload_n 1, 1) := by decide +kernel
theorem d_HT_isInPlume_10 : decode (jy_c m_HT_isInPlume) 10 = .ok (.i2l, 1) := by decide +kernel
theorem d_HT_isInPlume_11 : decode (jy_c m_HT_isInPlume) 11 = .ok (.iload_n 1, 1) := by decide +kernel
theorem d_HT_isInPlume_12 : decode (jy_c m_HT_isInPlume) 12 = .ok (.i2l, 1) := by decide +kernel
theorem d_HT_isInPlume_13 : decode (jy_c m_HT_isInPlume) 13 = .ok (.lmul, 1) := by decide +kernel
theorem d_HT_isInPlume_14 : decode (jy_c m_HT_isInPlume) 14 = .ok (.iload_n 2, 1) := by decide +kernel
theorem d_HT_isInPlume_15 : decode (jy_c m_HT_isInPlume) 15 = .ok (.i2l, 1) := by decide +kernel
theorem d_HT_isInPlume_16 : decode (jy_c m_HT_isInPlume) 16 = .ok (.iload_n 2, 1) := by decide +kernel
theorem d_HT_isInPlume_17 : decode (jy_c m_HT_isInPlume) 17 = .ok (.i2l, 1) := by decide +kernel
theorem d_HT_isInPlume_18 : decode (jy_c m_HT_isInPlume) 18 = .ok (.lmul, 1) := by decide +kernel
theorem d_HT_isInPlume_19 : decode (jy_c m_HT_isInPlume) 19 = .ok (.ladd, 1) := by decide +kernel
theorem d_HT_isInPlume_20 : decode (jy_c m_HT_isInPlume) 20 = .ok (.lstore_n 3, 1) := by decide +kernel
theorem d_HT_isInPlume_21 : decode (jy_c m_HT_isInPlume) 21 = .ok (.aload_n 0, 1) := by decide +kernel
theorem d_HT_isInPlume_22 : decode (jy_c m_HT_isInPlume) 22 = .ok (.aload_n 0, 1) := by decide +kernel
theorem d_HT_isInPlume_23 : decode (jy_c m_HT_isInPlume) 23 = .ok (.getfield 53, 3) := by decide +kernel
theorem d_HT_isInPlume_26 : decode (jy_c m_HT_isInPlume) 26 = .ok (.ifCond .ne 7, 3) := by decide +kernel
theorem d_HT_isInPlume_29 : decode (jy_c m_HT_isInPlume) 29 = .ok (.iconst 1, 1) := by decide +kernel
theorem d_HT_isInPlume_30 : decode (jy_c m_HT_isInPlume) 30 = .ok (.goto 4, 3) := by decide +kernel
theorem d_HT_isInPlume_33 : decode (jy_c m_HT_isInPlume) 33 = .ok (.iconst 0, 1) := by decide +kernel
theorem d_HT_isInPlume_34 : decode (jy_c m_HT_isInPlume) 34 = .ok (.invokevirtual 196, 3) := by decide +kernel
theorem d_HT_isInPlume_37 : decode (jy_c m_HT_isInPlume) 37 = .ok (.i2l, 1) := by decide +kernel
theorem d_HT_isInPlume_38 : decode (jy_c m_HT_isInPlume) 38 = .ok (.lstore 5, 2) := by decide +kernel
theorem d_HT_isInPlume_40 : decode (jy_c m_HT_isInPlume) 40 = .ok (.lload_n 3, 1) := by decide +kernel
theorem d_HT_isInPlume_41 : decode (jy_c m_HT_isInPlume) 41 = .ok (.lconst 0, 1) := by decide +kernel
theorem d_HT_isInPlume_42 : decode (jy_c m_HT_isInPlume) 42 = .ok (.lcmp, 1) := by decide +kernel
theorem d_HT_isInPlume_43 : decode (jy_c m_HT_isInPlume) 43 = .ok (.ifCond .ne 5, 3) := by decide +kernel
theorem d_HT_isInPlume_46 : decode (jy_c m_HT_isInPlume) 46 = .ok (.iconst 1, 1) := by decide +kernel
theorem d_HT_isInPlume_47 : decode (jy_c m_HT_isInPlume) 47 = .ok (.ireturn, 1) := by decide +kernel
theorem d_HT_isInPlume_48 : decode (jy_c m_HT_isInPlume) 48 = .ok (.iload_n 1, 1) := by decide +kernel
theorem d_HT_isInPlume_49 : decode (jy_c m_HT_isInPlume) 49 = .ok (.i2l, 1) := by decide +kernel
theorem d_HT_isInPlume_50 : decode (jy_c m_HT_isInPlume) 50 = .ok (.aload_n 0, 1) := by decide +kernel
theorem d_HT_isInPlume_51 : decode (jy_c m_HT_isInPlume) 51 = .ok (.getfield 47, 3) := by decide +kernel
theorem d_HT_isInPlume_54 : decode (jy_c m_HT_isInPlume) 54 = .ok (.i2l, 1) := by decide +kernel
theorem d_HT_isInPlume_55 : decode (jy_c m_HT_isInPlume) 55 = .ok (.lmul, 1) := by decide +kernel
theorem d_HT_isInPlume_56 : decode (jy_c m_HT_isInPlume) 56 = .ok (.iload_n 2, 1) := by decide +kernel
theorem d_HT_isInPlume_57 : decode (jy_c m_HT_isInPlume) 57 = .ok (.i2l, 1) := by decide +kernel
theorem d_HT_isInPlume_58 : decode (jy_c m_HT_isInPlume) 58 = .ok (.aload_n 0, 1) := by decide +kernel
theorem d_HT_isInPlume_59 : decode (jy_c m_HT_isInPlume) 59 = .ok (.getfield 214, 3) := by decide +kernel
theorem d_HT_isInPlume_62 : decode (jy_c m_HT_isInPlume) 62 = .ok (.i2l, 1) := by decide +kernel
theorem d_HT_isInPlume_63 : decode (jy_c m_HT_isInPlume) 63 = .ok (.lmul, 1) := by decide +kernel
theorem d_HT_isInPlume_64 : decode (jy_c m_HT_isInPlume) 64 = .ok (.ladd, 1) := by decide +kernel
theorem d_HT_isInPlume_65 : decode (jy_c m_HT_isInPlume) 65 = .ok (.lstore 7, 2) := by decide +kernel
theorem d_HT_isInPlume_67 : decode (jy_c m_HT_isInPlume) 67 = .ok (.aload_n 0, 1) := by decide +kernel
theorem d_HT_isInPlume_68 : decode (jy_c m_HT_isInPlume) 68 = .ok (.getfield 47, 3) := by decide +kernel
theorem d_HT_isInPlume_71 : decode (jy_c m_HT_isInPlume) 71 = .ok (.i2l, 1) := by decide +kernel
theorem d_HT_isInPlume_72 : decode (jy_c m_HT_isInPlume) 72 = .ok (.aload_n 0, 1) := by decide +kernel
theorem d_HT_isInPlume_73 : decode (jy_c m_HT_isInPlume) 73 = .ok (.getfield 47, 3) := by decide +kernel
theorem d_HT_isInPlume_76 : decode (jy_c m_HT_isInPlume) 76 = .ok (.i2l, 1) := by decide +kernel
theorem d_HT_isInPlume_77 : decode (jy_c m_HT_isInPlume) 77 = .ok (.lmul, 1) := by decide +kernel
theorem d_HT_isInPlume_78 : decode (jy_c m_HT_isInPlume) 78 = .ok (.aload_n 0, 1) := by decide +kernel
theorem d_HT_isInPlume_79 : decode (jy_c m_HT_isInPlume) 79 = .ok (.getfield 214, 3) := by decide +kernel
theorem d_HT_isInPlume_82 : decode (jy_c m_HT_isInPlume) 82 = .ok (.i2l, 1) := by decide +kernel
theorem d_HT_isInPlume_83 : decode (jy_c m_HT_isInPlume) 83 = .ok (.aload_n 0, 1) := by decide +kernel
theorem d_HT_isInPlume_84 : decode (jy_c m_HT_isInPlume) 84 = .ok (.getfield 214, 3) := by decide +kernel
theorem d_HT_isInPlume_87 : decode (jy_c m_HT_isInPlume) 87 = .ok (.i2l, 1) := by decide +kernel
theorem d_HT_isInPlume_88 : decode (jy_c m_HT_isInPlume) 88 = .ok (.lmul, 1) := by decide +kernel
theorem d_HT_isInPlume_89 : decode (jy_c m_HT_isInPlume) 89 = .ok (.ladd, 1) := by decide +kernel
theorem d_HT_isInPlume_90 : decode (jy_c m_HT_isInPlume) 90 = .ok (.lstore 9, 2) := by decide +kernel
theorem d_HT_isInPlume_92 : decode (jy_c m_HT_isInPlume) 92 = .ok (.lload_n 3, 1) := by decide +kernel
theorem d_HT_isInPlume_93 : decode (jy_c m_HT_isInPlume) 93 = .ok (.lload 5, 2) := by decide +kernel
theorem d_HT_isInPlume_95 : decode (jy_c m_HT_isInPlume) 95 = .ok (.lload 5, 2) := by decide +kernel
theorem d_HT_isInPlume_97 : decode (jy_c m_HT_isInPlume) 97 = .ok (.lmul, 1) := by decide +kernel
theorem d_HT_isInPlume_98 : decode (jy_c m_HT_isInPlume) 98 = .ok (.lcmp, 1) := by decide +kernel
theorem d_HT_isInPlume_99 : decode (jy_c m_HT_isInPlume) 99 = .ok (.ifCond .gt 31, 3) := by decide +kernel
theorem d_HT_isInPlume_102 : decode (jy_c m_HT_isInPlume) 102 = .ok (.lload 7, 2) := by decide +kernel
theorem d_HT_isInPlume_104 : decode (jy_c m_HT_isInPlume) 104 = .ok (.lconst 0, 1) := by decide +kernel
theorem d_HT_isInPlume_105 : decode (jy_c m_HT_isInPlume) 105 = .ok (.lcmp, 1) := by decide +kernel
theorem d_HT_isInPlume_106 : decode (jy_c m_HT_isInPlume) 106 = .ok (.ifCond .le 24, 3) := by decide +kernel
theorem d_HT_isInPlume_109 : decode (jy_c m_HT_isInPlume) 109 = .ok (.ldc2_w 217, 3) := by decide +kernel
theorem d_HT_isInPlume_112 : decode (jy_c m_HT_isInPlume) 112 = .ok (.lload 7, 2) := by decide +kernel
theorem d_HT_isInPlume_114 : decode (jy_c m_HT_isInPlume) 114 = .ok (.lmul, 1) := by decide +kernel
theorem d_HT_isInPlume_115 : decode (jy_c m_HT_isInPlume) 115 = .ok (.lload 7, 2) := by decide +kernel
theorem d_HT_isInPlume_117 : decode (jy_c m_HT_isInPlume) 117 = .ok (.lmul, 1) := by decide +kernel
theorem d_HT_isInPlume_118 : decode (jy_c m_HT_isInPlume) 118 = .ok (.lload_n 3, 1) := by decide +kernel
theorem d_HT_isInPlume_119 : decode (jy_c m_HT_isInPlume) 119 = .ok (.lload 9, 2) := by decide +kernel
theorem d_HT_isInPlume_121 : decode (jy_c m_HT_isInPlume) 121 = .ok (.lmul, 1) := by decide +kernel
theorem d_HT_isInPlume_122 : decode (jy_c m_HT_isInPlume) 122 = .ok (.lcmp, 1) := by decide +kernel
theorem d_HT_isInPlume_123 : decode (jy_c m_HT_isInPlume) 123 = .ok (.ifCond .lt 7, 3) := by decide +kernel
theorem d_HT_isInPlume_126 : decode (jy_c m_HT_isInPlume) 126 = .ok (.iconst 1, 1) := by decide +kernel
theorem d_HT_isInPlume_127 : decode (jy_c m_HT_isInPlume) 127 = .ok (.goto 4, 3) := by decide +kernel
theorem d_HT_isInPlume_130 : decode (jy_c m_HT_isInPlume) 130 = .ok (.iconst 0, 1) := by decide +kernel
theorem d_HT_isInPlume_131 : decode (jy_c m_HT_isInPlume) 131 = .ok (.ireturn, 1) := by decide +kernel
theorem ht_plume {G : jy_G} {h : jy_P} {T : Nat} {f : Nat → Int32} {x y : Int32} {sq far : Int64} (h1 : h[1]? = some (0, cf T f)) : jy_J G 3 m_HT_isInPlume 48 [some (.ref 1), some (.int x), some (.int y), some (.long sq), none, some (.long far), none, none, none, none, none] [] h (pP h (some (.int (bI (decide (sq ≤ far * far) && decide (0 < x.toInt64 * (f 16).toInt64 + y.toInt64 * (f 17).toInt64) && decide (sq * ((f 16).toInt64 * (f 16).toInt64 + (f 17).toInt64 * (f 17).toInt64) ≤ 2 * (x.toInt64 * (f 16).toInt64 + y.toInt64 * (f 17).toInt64) * (x.toInt64 * (f 16).toInt64 + y.toInt64 * (f 17).toInt64))))))) := by
  refine jr_iload_n d_HT_isInPlume_48 rfl rfl ?_
  refine jr_i2l d_HT_isInPlume_49 ?_
  refine jr_aload_n d_HT_isInPlume_50 rfl rfl ?_
  refine jr_get d_HT_isInPlume_51 f_HT_47 h1 rfl ?_
  refine jr_i2l d_HT_isInPlume_54 ?_
  refine jr_lmul d_HT_isInPlume_55 ?_
  refine jr_iload_n d_HT_isInPlume_56 rfl rfl ?_
  refine jr_i2l d_HT_isInPlume_57 ?_
  refine jr_aload_n d_HT_isInPlume_58 rfl rfl ?_
  refine jr_get d_HT_isInPlume_59 f_HT_214 h1 rfl ?_
  refine jr_i2l d_HT_isInPlume_62 ?_
  refine jr_lmul d_HT_isInPlume_63 ?_
  refine jr_ladd d_HT_isInPlume_64 ?_
  generalize x.toInt64 * (f 16).toInt64 + y.toInt64 * (f 17).toInt64 = al
  refine jr_lstore d_HT_isInPlume_65 (by decide) ?_
  refine (?_ : jy_J G 3 m_HT_isInPlume 67 [some (.ref 1), some (.int x), some (.int y), some (.long sq), none, some (.long far), none, some (.long al), none, none, none] [] h _)
  refine jr_aload_n d_HT_isInPlume_67 rfl rfl ?_
  refine jr_get d_HT_isInPlume_68 f_HT_47 h1 rfl ?_
  refine jr_i2l d_HT_isInPlume_71 ?_
  refine jr_aload_n d_HT_isInPlume_72 rfl rfl ?_
  refine jr_get d_HT_isInPlume_73 f_HT_47 h1 rfl ?_
  refine jr_i2l d_HT_isInPlume_76 ?_
  refine jr_lmul d_HT_isInPlume_77 ?_
  refine jr_aload_n d_HT_isInPlume_78 rfl rfl ?_
  refine jr_get d_HT_isInPlume_79 f_HT_214 h1 rfl ?_
  refine jr_i2l d_HT_isInPlume_82 ?_
  refine jr_aload_n d_HT_isInPlume_83 rfl rfl ?_
  refine jr_get d_HT_isInPlume_84 f_HT_214 h1 rfl ?_
  refine jr_i2l d_HT_isInPlume_87 ?_
  refine jr_lmul d_HT_isInPlume_88 ?_
  refine jr_ladd d_HT_isInPlume_89 ?_
  generalize (f 16).toInt64 * (f 16).toInt64 + (f 17).toInt64 * (f 17).toInt64 = wd
  refine jr_lstore d_HT_isInPlume_90 (by decide) ?_
  refine (?_ : jy_J G 3 m_HT_isInPlume 92 [some (.ref 1), some (.int x), some (.int y), some (.long sq), none, some (.long far), none, some (.long al), none, some (.long wd), none] [] h _)
  refine jr_lload_n d_HT_isInPlume_92 rfl rfl ?_
  refine jr_lload d_HT_isInPlume_93 rfl ?_
  refine jr_lload d_HT_isInPlume_95 rfl ?_
  refine jr_lmul d_HT_isInPlume_97 ?_
  refine jr_lcmp d_HT_isInPlume_98 ?_
  refine jr_if_gt (tgt := 130) d_HT_isInPlume_99 (by decide) (fun hc1 => ?_) (fun hc1 => ?_)
  · have e1 := (lg_cmp_gt _ _).mp hc1
    refine jr_iconst (v := 0) d_HT_isInPlume_130 (by decide) ?_
    refine jr_ireturn d_HT_isInPlume_131 rfl rfl ?_
    exact ⟨by rw [decide_eq_false (Int64.not_le.mpr e1)]; rfl, rfl⟩
  · have e1 := Int64.not_lt.mp (fun q => hc1 ((lg_cmp_gt _ _).mpr q))
    refine jr_lload d_HT_isInPlume_102 rfl ?_
    refine jr_lconst (v := 0) d_HT_isInPlume_104 (by decide) ?_
    refine jr_lcmp d_HT_isInPlume_105 ?_
    refine jr_if_le (tgt := 130) d_HT_isInPlume_106 (by decide) (fun hc2 => ?_) (fun hc2 => ?_)
    · have e2 := (lg_cmp_le _ _).mp hc2
      refine jr_iconst (v := 0) d_HT_isInPlume_130 (by decide) ?_
      refine jr_ireturn d_HT_isInPlume_131 rfl rfl ?_
      exact ⟨by rw [decide_eq_false (Int64.not_lt.mpr e2), Bool.and_false]; rfl, rfl⟩
    · have e2 := Int64.not_le.mp (fun q => hc2 ((lg_cmp_le _ _).mpr q))
      refine jr_ldc2 d_HT_isInPlume_109 w_HT_217 ?_
      refine jr_lload d_HT_isInPlume_112 rfl ?_
      refine jr_lmul d_HT_isInPlume_114 ?_
      refine jr_lload d_HT_isInPlume_115 rfl ?_
      refine jr_lmul d_HT_isInPlume_117 ?_
      refine jr_lload_n d_HT_isInPlume_118 rfl rfl ?_
      refine jr_lload d_HT_isInPlume_119 rfl ?_
      refine jr_lmul d_HT_isInPlume_121 ?_
      refine jr_lcmp d_HT_isInPlume_122 ?_
      refine jr_if_lt (tgt := 130) d_HT_isInPlume_123 (by decide) (fun hc3 => ?_) (fun hc3 => ?_)
      · have e3 := (lg_cmp_lt _ _).mp hc3
        refine jr_iconst (v := 0) d_HT_isInPlume_130 (by decide) ?_
        refine jr_ireturn d_HT_isInPlume_131 rfl rfl ?_
        exact ⟨by rw [decide_eq_false (Int64.not_le.mpr e3), Bool.and_false]; rfl, rfl⟩
      · have e3 := Int64.not_lt.mp (fun q => hc3 ((lg_cmp_lt _ _).mpr q))
        refine jr_iconst (v := 1) d_HT_isInPlume_126 (by decide) ?_
        refine jr_goto (tgt := 131) d_HT_isInPlume_127 (by decide) ?_
        refine jr_ireturn d_HT_isInPlume_131 rfl rfl ?_
        exact ⟨by rw [decide_eq_true e1, decide_eq_true e2, decide_eq_true e3]; rfl, rfl⟩
theorem c_HT_isInPlume {G : jy_G} {h : jy_P} {T : Nat} {f : Nat → Int32} {a : Nat → Nat → Int32} {np : Nat} {dy : Bool} (h1 : h[1]? = some (0, cf T f)) (hp : PA h a np) (hn : f 12 = nI np) (h8 : np ≤ 8) (hd : f 18 = bI dy) {x y : Int32} (hxy : iPt x y = true) : jy_C G 3 m_HT_isInPlume [.ref 1, .int x, .int y] h (pP h (some (.int (bI (plm a np dy (f 16) (f 17) x y))))) := by
  refine jy_C.of [some (.ref 1), some (.int x), some (.int y), none, none, none, none, none, none, none, none] rfl (Nat.le_of_ble_eq_true rfl) ?_
  refine jr_aload_n d_HT_isInPlume_0 rfl rfl ?_
  refine jr_get d_HT_isInPlume_1 f_HT_173 h1 rfl ?_
  rw [hn]
  refine jr_if_ne (tgt := 9) d_HT_isInPlume_4 (by decide) (fun hc => ?_) (fun hc => ?_)
  · have hn0 : ¬ np = 0 := fun q => hc (by rw [q]; rfl)
    rw [plm, if_neg hn0]
    have hz := sq0 hxy
    have hA : ∀ far, plA far (f 16) (f 17) x y = (decide (x.toInt64 * x.toInt64 + y.toInt64 * y.toInt64 ≤ far.toInt64 * far.toInt64) && decide (0 < x.toInt64 * (f 16).toInt64 + y.toInt64 * (f 17).toInt64) && decide ((x.toInt64 * x.toInt64 + y.toInt64 * y.toInt64) * ((f 16).toInt64 * (f 16).toInt64 + (f 17).toInt64 * (f 17).toInt64) ≤ 2 * (x.toInt64 * (f 16).toInt64 + y.toInt64 * (f 17).toInt64) * (x.toInt64 * (f 16).toInt64 + y.toInt64 * (f 17).toInt64))) := fun _ => rfl
    rw [hA]
    refine jr_iload_n d_HT_isInPlume_9 rfl rfl ?_
    refine jr_i2l d_HT_isInPlume_10 ?_
    refine jr_iload_n d_HT_isInPlume_11 rfl rfl ?_
    refine jr_i2l d_HT_isInPlume_12 ?_
    refine jr_lmul d_HT_isInPlume_13 ?_
    refine jr_iload_n d_HT_isInPlume_14 rfl rfl ?_
    refine jr_i2l d_HT_isInPlume_15 ?_
    refine jr_iload_n d_HT_isInPlume_16 rfl rfl ?_
    refine jr_i2l d_HT_isInPlume_17 ?_
    refine jr_lmul d_HT_isInPlume_18 ?_
    refine jr_ladd d_HT_isInPlume_19 ?_
    generalize x.toInt64 * x.toInt64 + y.toInt64 * y.toInt64 = sq at hz ⊢
    refine jr_lstore_n d_HT_isInPlume_20 rfl (by decide) ?_
    refine (?_ : jy_J G 3 m_HT_isInPlume 21 [some (.ref 1), some (.int x), some (.int y), some (.long sq), none, none, none, none, none, none, none] [] h _)
    refine jr_aload_n d_HT_isInPlume_21 rfl rfl ?_
    refine jr_aload_n d_HT_isInPlume_22 rfl rfl ?_
    refine jr_get d_HT_isInPlume_23 f_HT_53 h1 rfl ?_
    rw [hd]
    refine jy_cut1 34 (fun z => z = bI (!dy)) (fun K => ?_) (fun z hz => ?_)
    · refine jr_if_ne (tgt := 33) d_HT_isInPlume_26 (by decide) (fun hc => ?_) (fun hc => ?_)
      · refine jr_iconst (v := 0) d_HT_isInPlume_33 (by decide) ?_
        exact K _ (by rw [bI_ne0.mp hc]; rfl)
      · refine jr_iconst (v := 1) d_HT_isInPlume_29 (by decide) ?_
        refine jr_goto (tgt := 34) d_HT_isInPlume_30 (by decide) ?_
        exact K _ (by rw [bI_eq0.mp hc]; rfl)
    rename_i hsq
    subst hz
    refine jr_callVp1 d_HT_isInPlume_34 i_HT_196 h1 (Nat.le_of_ble_eq_true rfl) (by decide) (c_HT_farthest h1 hp hn h8 (!dy)) ?_
    rw [Bool.not_not]
    refine jr_i2l d_HT_isInPlume_37 ?_
    refine jr_lstore d_HT_isInPlume_38 (by decide) ?_
    refine (?_ : jy_J G 3 m_HT_isInPlume 40 [some (.ref 1), some (.int x), some (.int y), some (.long sq), none, some (.long (dD a dy np).toInt64), none, none, none, none, none] [] h _)
    refine jr_lload_n d_HT_isInPlume_40 rfl rfl ?_
    refine jr_lconst (v := 0) d_HT_isInPlume_41 (by decide) ?_
    refine jr_lcmp d_HT_isInPlume_42 ?_
    refine jr_if_ne (tgt := 48) d_HT_isInPlume_43 (by decide) (fun hc2 => ?_) (fun hc2 => ?_)
    · have h00 : ¬ (x = 0 ∧ y = 0) := fun q => hc2 ((lg_cmp_eq _ _).mpr (hsq.mpr q))
      rw [if_neg h00]
      exact ht_plume h1
    · have h00 := hsq.mp ((lg_cmp_eq _ _).mp hc2)
      rw [if_pos h00]
      refine jr_iconst (v := 1) d_HT_isInPlume_46 (by decide) ?_
      refine jr_ireturn d_HT_isInPlume_47 rfl rfl ?_
      exact ⟨rfl, rfl⟩
  · have hn0 : np = 0 := (nI_eq (by omega) (b := 0) (by decide)).mp hc
    refine jr_iconst (v := 0) d_HT_isInPlume_7 (by decide) ?_
    refine jr_ireturn d_HT_isInPlume_8 rfl rfl ?_
    exact ⟨by rw [plm, if_pos hn0]; rfl, rfl⟩
theorem d_HT_in_0 : decode (jy_c m_HT_in) 0 = .ok (.iload_n 1, 1) := by decide +kernel
theorem d_HT_in_1 : decode (jy_c m_HT_in) 1 = .ok (.iload_n 2, 1) := by decide +kernel
theorem d_HT_in_2 : decode (jy_c m_HT_in) 2 = .ok (.invokestatic 204, 3) := by decide +kernel
theorem d_HT_in_5 : decode (jy_c m_HT_in) 5 = .ok (.invokestatic 76, 3) := by decide +kernel
theorem d_HT_in_8 : decode (jy_c m_HT_in) 8 = .ok (.aload_n 0, 1) := by decide +kernel
theorem d_HT_in_9 : decode (jy_c m_HT_in) 9 = .ok (.getfield 173, 3) := by decide +kernel
theorem d_HT_in_12 : decode (jy_c m_HT_in) 12 = .ok (.ifCond .le 7, 3) := by decide +kernel
theorem d_HT_in_15 : decode (jy_c m_HT_in) 15 = .ok (.iconst 1, 1) := by decide +kernel
theorem d_HT_in_16 : decode (jy_c m_HT_in) 16 = .ok (.goto 4, 3) := by decide +kernel
theorem d_HT_in_19 : decode (jy_c m_HT_in) 19 = .ok (.iconst 0, 1) := by decide +kernel
theorem d_HT_in_20 : decode (jy_c m_HT_in) 20 = .ok (.invokestatic 96, 3) := by decide +kernel
theorem d_HT_in_23 : decode (jy_c m_HT_in) 23 = .ok (.aload_n 0, 1) := by decide +kernel
theorem d_HT_in_24 : decode (jy_c m_HT_in) 24 = .ok (.iload_n 1, 1) := by decide +kernel
theorem d_HT_in_25 : decode (jy_c m_HT_in) 25 = .ok (.iload_n 2, 1) := by decide +kernel
theorem d_HT_in_26 : decode (jy_c m_HT_in) 26 = .ok (.invokevirtual 225, 3) := by decide +kernel
theorem d_HT_in_29 : decode (jy_c m_HT_in) 29 = .ok (.ireturn, 1) := by decide +kernel
theorem c_HT_in {G : jy_G} {h : jy_P} {T : Nat} {f : Nat → Int32} {a : Nat → Nat → Int32} {np : Nat} {dy : Bool} (h1 : h[1]? = some (0, cf T f)) (hp : PA h a np) (hn : f 12 = nI np) (h8 : np ≤ 8) (hd : f 18 = bI dy) (hK : h.length < jy_K) (x y : Int32) : jy_C G 13 m_HT_in [.ref 1, .int x, .int y] h (opP h (ex3 (iPt x y) 9 (decide (0 < np)) 11 true 0) (some (.int (bI (plm a np dy (f 16) (f 17) x y)))) (fun h' => h' = h)) := by
  refine jy_C.of [some (.ref 1), some (.int x), some (.int y)] rfl (Nat.le_of_ble_eq_true rfl) ?_
  refine jr_iload_n d_HT_in_0 rfl rfl ?_
  refine jr_iload_n d_HT_in_1 rfl rfl ?_
  refine jr_callSp2 d_HT_in_2 i_HT_204 (Nat.le_of_ble_eq_true rfl) (by decide) (c_HT_isPoint _ _) ?_
  refine jr_guard d_HT_in_5 i_HT_76 (g_within hK) (Nat.le_of_ble_eq_true rfl) (by decide) (fun _ hq => by cases hq) (fun hc => ?_) (fun hc => opP.ex (by rw [bI_eq0.mp hc]; rfl) (by decide))
  have g1 := bI_ne0.mp hc
  refine jr_aload_n d_HT_in_8 rfl rfl ?_
  refine jr_get d_HT_in_9 f_HT_173 h1 rfl ?_
  rw [hn]
  refine jy_cut1 20 (fun z => z = bI (decide (0 < np))) (fun K => ?_) (fun z hz => ?_)
  · refine jr_if_le (tgt := 19) d_HT_in_12 (by decide) (fun hc => ?_) (fun hc => ?_)
    · refine jr_iconst (v := 0) d_HT_in_19 (by decide) ?_
      exact K _ (by rw [(pos_b (by omega)).1 hc]; rfl)
    · refine jr_iconst (v := 1) d_HT_in_15 (by decide) ?_
      refine jr_goto (tgt := 20) d_HT_in_16 (by decide) ?_
      exact K _ (by rw [(pos_b (by omega)).2 hc]; rfl)
  subst hz
  refine jr_guard d_HT_in_20 i_HT_96 (g_must hK) (Nat.le_of_ble_eq_true rfl) (by decide) (fun _ hq => by cases hq) (fun hc => ?_) (fun hc => opP.ex (by rw [g1, bI_eq0.mp hc]; rfl) (by decide))
  have g2 := bI_ne0.mp hc
  refine jr_aload_n d_HT_in_23 rfl rfl ?_
  refine jr_iload_n d_HT_in_24 rfl rfl ?_
  refine jr_iload_n d_HT_in_25 rfl rfl ?_
  refine jr_callVp2 d_HT_in_26 i_HT_225 h1 (Nat.le_of_ble_eq_true rfl) (by decide) (c_HT_isInPlume h1 hp hn h8 hd g1) ?_
  refine jr_ireturn d_HT_in_29 rfl (bI_nar _) ?_
  exact opP.ok (by rw [g1, g2]; rfl) rfl
