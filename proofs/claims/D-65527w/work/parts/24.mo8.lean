/-! the reference: reading. x the place (field 10), y what is wrong (field 11), F the new table (array 14) -/
def g2 (f : Nat → Int32) (x y : Int32) : Nat → Int32 := upd (upd f 10 x) 11 y
theorem g2_10 {f : Nat → Int32} {x y x' : Int32} : upd (g2 f x y) 10 x' = g2 f x' y := by
  funext k
  simp only [g2, upd]
  split
  · rename_i h; subst h; rfl
  · rfl
theorem g2_11 {f : Nat → Int32} {x y y' : Int32} : upd (g2 f x y) 11 y' = g2 f x y' := by
  funext k
  simp only [g2, upd]
  split <;> rfl
theorem g2_self (f : Nat → Int32) : g2 f (f 10) (f 11) = f := by
  unfold g2
  rw [upd_self, upd_self]
def at14 (a : Nat → Nat → Int32) (F : Ft) : Nat → Nat → Int32 := fun B => if B = 14 then F else a B
theorem at14_s {a : Nat → Nat → Int32} {F : Ft} : at14 a F 14 = F := rfl
theorem at14_u {a : Nat → Nat → Int32} {F : Ft} {j : Nat} {x : Int32} : upd2 (at14 a F) 14 j x = at14 a (upd F j x) := by
  funext B
  by_cases h : B = 14
  · subst h; rfl
  · simp [upd2, at14, h]
theorem at14_self (a : Nat → Nat → Int32) : at14 a (a 14) = a := by
  funext B
  by_cases h : B = 14
  · subst h; rfl
  · simp [at14, h]
def qI (h : jy_P) (f : Nat → Int32) (a : Nat → Nat → Int32) (Q : Int32 → Int32 → Int32 → Ft → Prop) : Outcome → jy_P → Prop := fun o h' => ∃ v x y F, o = .returned (some (.int v)) ∧ MS h h' (g2 f x y) (at14 a F) ∧ Q v x y F
def qV (h : jy_P) (f : Nat → Int32) (a : Nat → Nat → Int32) (Q : Int32 → Int32 → Ft → Prop) : Outcome → jy_P → Prop := fun o h' => ∃ x y F, o = .returned none ∧ MS h h' (g2 f x y) (at14 a F) ∧ Q x y F
section QR
variable {G : jy_G} {d d' : Nat} {M M' : jy_M} {pc : Nat} {L : List (Option Value)} {st : List Value} {h0 h : jy_P} {P : Outcome → jy_P → Prop} {f f' f'' : Nat → Int32} {a a' a'' : Nat → Nat → Int32}
theorem qr_I {idx n : Nat} {As : List Value} {Q : Int32 → Int32 → Int32 → Ft → Prop} (hd : decode (jy_c M) pc = .ok (.invokevirtual idx, 3)) (hI : jy_IV (jy_y M).cls idx M' 7 n) (hn : As.length = n) (hM : MS h0 h f'' a'') (hst : (st.map fun v => v.category).sum ≤ 8) (hdd : d' < d) (hC : jy_C G d' M' (.ref 11 :: As) h (qI h f a Q)) (kk : ∀ h1 v x y F, MS h0 h1 (g2 f x y) (at14 a F) → Q v x y F → jy_J G d M (pc + 3) L (.int v :: st) h1 P) : jy_J G d M pc L (As.reverse ++ .ref 11 :: st) h P :=
  jr_callV hd hI hn hM.1.1 hst hdd hC (fun v h' q => by
    obtain ⟨v0, x, y, F, q1, q2, q3⟩ := q
    cases q1
    exact kk h' v0 x y F (hM.tr q2) q3) (fun x h' q => by obtain ⟨v0, x, y, F, q1, q2, q3⟩ := q; cases q1)
theorem qr_V {idx n : Nat} {As : List Value} {Q : Int32 → Int32 → Ft → Prop} (hd : decode (jy_c M) pc = .ok (.invokevirtual idx, 3)) (hI : jy_IV (jy_y M).cls idx M' 7 n) (hn : As.length = n) (hM : MS h0 h f'' a'') (hst : (st.map fun v => v.category).sum ≤ 8) (hdd : d' < d) (hC : jy_C G d' M' (.ref 11 :: As) h (qV h f a Q)) (kk : ∀ h1 x y F, MS h0 h1 (g2 f x y) (at14 a F) → Q x y F → jy_J G d M (pc + 3) L st h1 P) : jy_J G d M pc L (As.reverse ++ .ref 11 :: st) h P :=
  jr_callV hd hI hn hM.1.1 hst hdd hC (fun v h' q => by
    obtain ⟨x, y, F, q1, q2, q3⟩ := q
    cases q1
    exact kk h' x y F (hM.tr q2) q3) (fun x h' q => by obtain ⟨x, y, F, q1, q2, q3⟩ := q; cases q1)
theorem qr_I0 {idx : Nat} {Q : Int32 → Int32 → Int32 → Ft → Prop} (hd : decode (jy_c M) pc = .ok (.invokevirtual idx, 3)) (hI : jy_IV (jy_y M).cls idx M' 7 0) (hM : MS h0 h f'' a'') (hst : (st.map fun v => v.category).sum ≤ 8) (hdd : d' < d) (hC : jy_C G d' M' [.ref 11] h (qI h f a Q)) (kk : ∀ h1 v x y F, MS h0 h1 (g2 f x y) (at14 a F) → Q v x y F → jy_J G d M (pc + 3) L (.int v :: st) h1 P) : jy_J G d M pc L (.ref 11 :: st) h P := qr_I (As := []) hd hI rfl hM hst hdd hC kk
theorem qr_I2 {idx : Nat} {v1 v2 : Value} {Q : Int32 → Int32 → Int32 → Ft → Prop} (hd : decode (jy_c M) pc = .ok (.invokevirtual idx, 3)) (hI : jy_IV (jy_y M).cls idx M' 7 2) (hM : MS h0 h f'' a'') (hst : (st.map fun v => v.category).sum ≤ 8) (hdd : d' < d) (hC : jy_C G d' M' [.ref 11, v1, v2] h (qI h f a Q)) (kk : ∀ h1 v x y F, MS h0 h1 (g2 f x y) (at14 a F) → Q v x y F → jy_J G d M (pc + 3) L (.int v :: st) h1 P) : jy_J G d M pc L (v2 :: v1 :: .ref 11 :: st) h P := qr_I (As := [v1, v2]) hd hI rfl hM hst hdd hC kk
theorem qr_I3 {idx : Nat} {v1 v2 v3 : Value} {Q : Int32 → Int32 → Int32 → Ft → Prop} (hd : decode (jy_c M) pc = .ok (.invokevirtual idx, 3)) (hI : jy_IV (jy_y M).cls idx M' 7 3) (hM : MS h0 h f'' a'') (hst : (st.map fun v => v.category).sum ≤ 8) (hdd : d' < d) (hC : jy_C G d' M' [.ref 11, v1, v2, v3] h (qI h f a Q)) (kk : ∀ h1 v x y F, MS h0 h1 (g2 f x y) (at14 a F) → Q v x y F → jy_J G d M (pc + 3) L (.int v :: st) h1 P) : jy_J G d M pc L (v3 :: v2 :: v1 :: .ref 11 :: st) h P := qr_I (As := [v1, v2, v3]) hd hI rfl hM hst hdd hC kk
theorem qr_V0 {idx : Nat} {Q : Int32 → Int32 → Ft → Prop} (hd : decode (jy_c M) pc = .ok (.invokevirtual idx, 3)) (hI : jy_IV (jy_y M).cls idx M' 7 0) (hM : MS h0 h f'' a'') (hst : (st.map fun v => v.category).sum ≤ 8) (hdd : d' < d) (hC : jy_C G d' M' [.ref 11] h (qV h f a Q)) (kk : ∀ h1 x y F, MS h0 h1 (g2 f x y) (at14 a F) → Q x y F → jy_J G d M (pc + 3) L st h1 P) : jy_J G d M pc L (.ref 11 :: st) h P := qr_V (As := []) hd hI rfl hM hst hdd hC kk
theorem qr_V1 {idx : Nat} {v1 : Value} {Q : Int32 → Int32 → Ft → Prop} (hd : decode (jy_c M) pc = .ok (.invokevirtual idx, 3)) (hI : jy_IV (jy_y M).cls idx M' 7 1) (hM : MS h0 h f'' a'') (hst : (st.map fun v => v.category).sum ≤ 8) (hdd : d' < d) (hC : jy_C G d' M' [.ref 11, v1] h (qV h f a Q)) (kk : ∀ h1 x y F, MS h0 h1 (g2 f x y) (at14 a F) → Q x y F → jy_J G d M (pc + 3) L st h1 P) : jy_J G d M pc L (v1 :: .ref 11 :: st) h P := qr_V (As := [v1]) hd hI rfl hM hst hdd hC kk
end QR
/-- an error that is told, or that the next sign will bring (K: what stands there) -/
def bdE (t : Ft) (n : Nat) (K : Int32 → Bool) (e : Nat) (x y : Int32) : Prop := e ≤ n ∧ (y = nI e ∨ (y = -1 ∧ ∃ p, x = nI p ∧ p ≤ n ∧ sk t n p = e ∧ K (hr t n e) = true))
def K0 : Int32 → Bool := fun _ => false
def S (t : Ft) (n : Nat) (K : Int32 → Bool) (s : Except Nat (Ft × Nat)) (x y : Int32) (F : Ft) : Prop := match s with
  | .ok z => F = z.1 ∧ y = -1 ∧ ∃ p, x = nI p ∧ p ≤ n ∧ sk t n p = z.2
  | .error e => bdE t n K e x y
theorem bdE_K0 {t : Ft} {n e : Nat} {x y : Int32} (h : bdE t n K0 e x y) : y = nI e ∧ e ≤ n := by
  obtain ⟨h1, h2 | ⟨-, p, -, -, -, h3⟩⟩ := h
  · exact ⟨h2, h1⟩
  · cases h3
theorem bdE_of {t : Ft} {n e : Nat} {K : Int32 → Bool} {x y : Int32} (h : y = nI e) (h1 : e ≤ n) : bdE t n K e x y := ⟨h1, Or.inl h⟩
theorem m1_lt : (-1 : Int32) < 0 := by decide
theorem nI_n1 {e : Nat} (h : e < 2 ^ 31) : ¬ nI e = -1 := fun q => nI_pos h (by rw [q]; decide)
section RD
variable {G : jy_G} {h : jy_P} {f : Nat → Int32} {a : Nat → Nat → Int32} {n : Nat} {x y : Int32} {F : Ft}
theorem c_takeS {s : Except Nat (Ft × Nat)} {K : Int32 → Bool} (hM : Mo h (g2 f x y) (at14 a F)) (hn : f 1 = nI n) (h400 : n ≤ 400) (c : Int32) (hc : ¬ c = -1) (hK : ∀ v, K v = true → ¬ v = c) (hS : S (a 12) n K s x y F) : jy_C G 3 m_MO_take [.ref 11, .int c] h (qV h f a (fun x y F => S (a 12) n K0 (ebd s (tzP (a 12) n c)) x y F)) := by
  have go : ∀ p, x = nI p → p ≤ n → y = -1 → jy_C G 3 m_MO_take [.ref 11, .int c] h (qV h f a (fun x' y' F' => F' = F ∧ if hr (a 12) n (sk (a 12) n p) = c then y' = -1 ∧ x' = nI (sk (a 12) n p + 1) else y' = nI (sk (a 12) n p))) := by
    intro p hx hp hy
    refine (c_MO_take hM ⟨hn, h400, hx, hp⟩ (by show y < 0; rw [hy]; decide) c).mono (fun o h' q => ?_)
    obtain ⟨q1, q2⟩ := q
    rw [show at14 a F 12 = a 12 from rfl] at q2
    by_cases e : hr (a 12) n (sk (a 12) n p) = c
    · rw [if_pos e, g2_10] at q2
      exact ⟨_, _, F, q1, q2, rfl, by rw [if_pos e]; exact ⟨hy, rfl⟩⟩
    · rw [if_neg e, g2_10, g2_11] at q2
      exact ⟨_, _, F, q1, q2, rfl, by rw [if_neg e]⟩
  cases s with
  | ok z =>
    obtain ⟨s1, s2, p, s3, s4, s5⟩ := hS
    refine (go p s3 s4 s2).mono (fun o h' q => ?_)
    obtain ⟨x', y', F', q1, q2, q3, q4⟩ := q
    refine ⟨x', y', F', q1, q2, ?_⟩
    rw [s5] at q4
    have b := (skb (t := a 12) s4).2
    rw [s5] at b
    unfold tzP tkP
    by_cases e : hr (a 12) n z.2 = c
    · rw [if_pos e] at q4
      simp only [ebd_ok, if_pos e]
      have : z.2 < n := hr_in (by rw [e]; exact hc)
      exact ⟨q3.trans s1, q4.1, z.2 + 1, q4.2, this, rfl⟩
    · rw [if_neg e] at q4
      simp only [ebd_ok, if_neg e, ebd_er]
      exact bdE_of q4 b
  | error e =>
    obtain ⟨b1, b2 | ⟨b2, p, b3, b4, b5, b6⟩⟩ := hS
    · refine (c_MO_takeW hM (by show ¬ y < 0; rw [b2]; exact nI_pos (by omega)) c).mono (fun o h' q => ?_)
      exact ⟨x, y, F, q.1, q.2, bdE_of b2 b1⟩
    · refine (go p b3 b4 b2).mono (fun o h' q => ?_)
      obtain ⟨x', y', F', q1, q2, q3, q4⟩ := q
      rw [b5, if_neg (hK _ b6)] at q4
      exact ⟨x', y', F', q1, q2, bdE_of q4 b1⟩
theorem c_failS (hM : Mo h (g2 f x y) (at14 a F)) (q : Int32) : jy_C G 1 m_MO_fail [.ref 11, .int q] h (qV h f a (fun x' y' F' => x = x' ∧ F = F' ∧ y' = fl y q)) :=
  (c_MO_fail hM q).mono (fun o h' w => ⟨x, fl y q, F, w.1, (by have := w.2; rw [g2_11] at this; exact this), rfl, rfl, rfl⟩)
theorem c_seeS {p : Nat} (hM : Mo h (g2 f x y) (at14 a F)) (hn : f 1 = nI n) (h400 : n ≤ 400) (hx : x = nI p) (hp : p ≤ n) : jy_C G 2 m_MO_see [.ref 11] h (qI h f a (fun v x' y' F' => v = hr (a 12) n (sk (a 12) n p) ∧ x' = nI (sk (a 12) n p) ∧ y = y' ∧ F = F')) :=
  (c_MO_see hM ⟨hn, h400, hx, hp⟩).mono (fun o h' w => ⟨_, _, _, F, w.1, (by have := w.2; rw [g2_10] at this; exact this), rfl, rfl, rfl, rfl⟩)
end RD
theorem fl_m {q : Int32} : fl (-1) q = q := rfl
theorem fl_p {e : Nat} {q : Int32} (h : e < 2 ^ 31) : fl (nI e) q = nI e := by rw [fl, if_neg (nI_pos h)]
/-- what may stand behind a number: a digit, behind a 0 -/
def Kn (lo : Int32) : Int32 → Bool := fun c => dg c && decide (lo ≤ 0)
/-- what 'number' gives -/
def NmQ (t : Ft) (n : Nat) (lo : Int32) (r : Except Nat (Int32 × Nat)) (v x y : Int32) : Prop := match r with
  | .ok w => v = w.1 ∧ y = -1 ∧ x = nI w.2 ∧ w.2 ≤ n
  | .error e => bdE t n (Kn lo) e x y
theorem d_MO_number_0 : decode (jy_c m_MO_number) 0 = .ok (.aload_n 0, 1) := by decide +kernel
theorem d_MO_number_1 : decode (jy_c m_MO_number) 1 = .ok (.getfield 85, 3) := by decide +kernel
theorem d_MO_number_4 : decode (jy_c m_MO_number) 4 = .ok (.ifCond .lt 5, 3) := by decide +kernel
theorem d_MO_number_7 : decode (jy_c m_MO_number) 7 = .ok (.iload_n 1, 1) := by decide +kernel
theorem d_MO_number_8 : decode (jy_c m_MO_number) 8 = .ok (.ireturn, 1) := by decide +kernel
theorem d_MO_number_9 : decode (jy_c m_MO_number) 9 = .ok (.aload_n 0, 1) := by decide +kernel
theorem d_MO_number_10 : decode (jy_c m_MO_number) 10 = .ok (.invokevirtual 88, 3) := by decide +kernel
theorem d_MO_number_13 : decode (jy_c m_MO_number) 13 = .ok (.pop, 1) := by decide +kernel
theorem d_MO_number_14 : decode (jy_c m_MO_number) 14 = .ok (.aload_n 0, 1) := by decide +kernel
theorem d_MO_number_15 : decode (jy_c m_MO_number) 15 = .ok (.invokevirtual 95, 3) := by decide +kernel
theorem d_MO_number_18 : decode (jy_c m_MO_number) 18 = .ok (.ifCond .ne 11, 3) := by decide +kernel
theorem d_MO_number_21 : decode (jy_c m_MO_number) 21 = .ok (.aload_n 0, 1) := by decide +kernel
theorem d_MO_number_22 : decode (jy_c m_MO_number) 22 = .ok (.aload_n 0, 1) := by decide +kernel
theorem d_MO_number_23 : decode (jy_c m_MO_number) 23 = .ok (.getfield 78, 3) := by decide +kernel
theorem d_MO_number_26 : decode (jy_c m_MO_number) 26 = .ok (.invokevirtual 91, 3) := by decide +kernel
theorem d_MO_number_29 : decode (jy_c m_MO_number) 29 = .ok (.iconst 0, 1) := by decide +kernel
theorem d_MO_number_30 : decode (jy_c m_MO_number) 30 = .ok (.istore_n 3, 1) := by decide +kernel
theorem d_MO_number_31 : decode (jy_c m_MO_number) 31 = .ok (.iconst 0, 1) := by decide +kernel
theorem d_MO_number_32 : decode (jy_c m_MO_number) 32 = .ok (.istore 4, 2) := by decide +kernel
theorem d_MO_number_34 : decode (jy_c m_MO_number) 34 = .ok (.aload_n 0, 1) := by decide +kernel
theorem d_MO_number_35 : decode (jy_c m_MO_number) 35 = .ok (.getfield 85, 3) := by decide +kernel
theorem d_MO_number_38 : decode (jy_c m_MO_number) 38 = .ok (.ifCond .ge 54, 3) := by decide +kernel
theorem d_MO_number_41 : decode (jy_c m_MO_number) 41 = .ok (.aload_n 0, 1) := by decide +kernel
theorem d_MO_number_42 : decode (jy_c m_MO_number) 42 = .ok (.invokevirtual 95, 3) := by decide +kernel
theorem d_MO_number_45 : decode (jy_c m_MO_number) 45 = .ok (.ifCond .eq 47, 3) := by decide +kernel
theorem d_MO_number_48 : decode (jy_c m_MO_number) 48 = .ok (.iload 4, 2) := by decide +kernel
theorem d_MO_number_50 : decode (jy_c m_MO_number) 50 = .ok (.iconst 4, 1) := by decide +kernel
theorem d_MO_number_51 : decode (jy_c m_MO_number) 51 = .ok (.if_icmp .ge 41, 3) := by decide +kernel
theorem d_MO_number_54 : decode (jy_c m_MO_number) 54 = .ok (.iload 4, 2) := by decide +kernel
theorem d_MO_number_56 : decode (jy_c m_MO_number) 56 = .ok (.ifCond .eq 7, 3) := by decide +kernel
theorem d_MO_number_59 : decode (jy_c m_MO_number) 59 = .ok (.iload_n 3, 1) := by decide +kernel
theorem d_MO_number_60 : decode (jy_c m_MO_number) 60 = .ok (.ifCond .le 32, 3) := by decide +kernel
theorem d_MO_number_63 : decode (jy_c m_MO_number) 63 = .ok (.bipush 10, 2) := by decide +kernel
theorem d_MO_number_65 : decode (jy_c m_MO_number) 65 = .ok (.iload_n 3, 1) := by decide +kernel
theorem d_MO_number_66 : decode (jy_c m_MO_number) 66 = .ok (.imul, 1) := by decide +kernel
theorem d_MO_number_67 : decode (jy_c m_MO_number) 67 = .ok (.aload_n 0, 1) := by decide +kernel
theorem d_MO_number_68 : decode (jy_c m_MO_number) 68 = .ok (.invokevirtual 81, 3) := by decide +kernel
theorem d_MO_number_71 : decode (jy_c m_MO_number) 71 = .ok (.iadd, 1) := by decide +kernel
theorem d_MO_number_72 : decode (jy_c m_MO_number) 72 = .ok (.bipush 48, 2) := by decide +kernel
theorem d_MO_number_74 : decode (jy_c m_MO_number) 74 = .ok (.isub, 1) := by decide +kernel
theorem d_MO_number_75 : decode (jy_c m_MO_number) 75 = .ok (.istore_n 3, 1) := by decide +kernel
theorem d_MO_number_76 : decode (jy_c m_MO_number) 76 = .ok (.iinc 4 1, 3) := by decide +kernel
theorem d_MO_number_79 : decode (jy_c m_MO_number) 79 = .ok (.aload_n 0, 1) := by decide +kernel
theorem d_MO_number_80 : decode (jy_c m_MO_number) 80 = .ok (.dup, 1) := by decide +kernel
theorem d_MO_number_81 : decode (jy_c m_MO_number) 81 = .ok (.getfield 78, 3) := by decide +kernel
theorem d_MO_number_84 : decode (jy_c m_MO_number) 84 = .ok (.iconst 1, 1) := by decide +kernel
theorem d_MO_number_85 : decode (jy_c m_MO_number) 85 = .ok (.iadd, 1) := by decide +kernel
theorem d_MO_number_86 : decode (jy_c m_MO_number) 86 = .ok (.putfield 78, 3) := by decide +kernel
theorem d_MO_number_89 : decode (jy_c m_MO_number) 89 = .ok (.goto (-55), 3) := by decide +kernel
theorem d_MO_number_92 : decode (jy_c m_MO_number) 92 = .ok (.iload_n 3, 1) := by decide +kernel
theorem d_MO_number_93 : decode (jy_c m_MO_number) 93 = .ok (.iload_n 1, 1) := by decide +kernel
theorem d_MO_number_94 : decode (jy_c m_MO_number) 94 = .ok (.iload_n 2, 1) := by decide +kernel
theorem d_MO_number_95 : decode (jy_c m_MO_number) 95 = .ok (.invokestatic 67, 3) := by decide +kernel
theorem d_MO_number_98 : decode (jy_c m_MO_number) 98 = .ok (.ifCond .ne 13, 3) := by decide +kernel
theorem d_MO_number_101 : decode (jy_c m_MO_number) 101 = .ok (.aload_n 0, 1) := by decide +kernel
theorem d_MO_number_102 : decode (jy_c m_MO_number) 102 = .ok (.aload_n 0, 1) := by decide +kernel
theorem d_MO_number_103 : decode (jy_c m_MO_number) 103 = .ok (.getfield 78, 3) := by decide +kernel
theorem d_MO_number_106 : decode (jy_c m_MO_number) 106 = .ok (.iconst 1, 1) := by decide +kernel
theorem d_MO_number_107 : decode (jy_c m_MO_number) 107 = .ok (.isub, 1) := by decide +kernel
theorem d_MO_number_108 : decode (jy_c m_MO_number) 108 = .ok (.invokevirtual 91, 3) := by decide +kernel
theorem d_MO_number_111 : decode (jy_c m_MO_number) 111 = .ok (.iload 4, 2) := by decide +kernel
theorem d_MO_number_113 : decode (jy_c m_MO_number) 113 = .ok (.iconst 4, 1) := by decide +kernel
theorem d_MO_number_114 : decode (jy_c m_MO_number) 114 = .ok (.if_icmp .ne 18, 3) := by decide +kernel
theorem d_MO_number_117 : decode (jy_c m_MO_number) 117 = .ok (.aload_n 0, 1) := by decide +kernel
theorem d_MO_number_118 : decode (jy_c m_MO_number) 118 = .ok (.invokevirtual 95, 3) := by decide +kernel
theorem d_MO_number_121 : decode (jy_c m_MO_number) 121 = .ok (.ifCond .eq 11, 3) := by decide +kernel
theorem d_MO_number_124 : decode (jy_c m_MO_number) 124 = .ok (.aload_n 0, 1) := by decide +kernel
theorem d_MO_number_125 : decode (jy_c m_MO_number) 125 = .ok (.aload_n 0, 1) := by decide +kernel
theorem d_MO_number_126 : decode (jy_c m_MO_number) 126 = .ok (.getfield 78, 3) := by decide +kernel
theorem d_MO_number_129 : decode (jy_c m_MO_number) 129 = .ok (.invokevirtual 91, 3) := by decide +kernel
theorem d_MO_number_132 : decode (jy_c m_MO_number) 132 = .ok (.aload_n 0, 1) := by decide +kernel
theorem d_MO_number_133 : decode (jy_c m_MO_number) 133 = .ok (.getfield 85, 3) := by decide +kernel
theorem d_MO_number_136 : decode (jy_c m_MO_number) 136 = .ok (.ifCond .ge 7, 3) := by decide +kernel
theorem d_MO_number_139 : decode (jy_c m_MO_number) 139 = .ok (.iload_n 3, 1) := by decide +kernel
theorem d_MO_number_140 : decode (jy_c m_MO_number) 140 = .ok (.goto 4, 3) := by decide +kernel
theorem d_MO_number_143 : decode (jy_c m_MO_number) 143 = .ok (.iload_n 1, 1) := by decide +kernel
theorem d_MO_number_144 : decode (jy_c m_MO_number) 144 = .ok (.ireturn, 1) := by decide +kernel
section NM
variable {G : jy_G} {h0 : jy_P} {f : Nat → Int32} {a : Nat → Nat → Int32} {n : Nat} {F : Ft} {lo hi : Int32}
/-- from the last checks on; what was wrong before stays -/
theorem mo_numberW {h : jy_P} {x : Int32} {e j : Nat} {v : Int32} (hM : MS h0 h (g2 f x (nI e)) (at14 a F)) (he : e ≤ n) (h400 : n ≤ 400) (hj : j < 4) : jy_J G 3 m_MO_number 92 [some (.ref 11), some (.int lo), some (.int hi), some (.int v), some (.int (nI j))] [] h (qI h0 f a (fun v x' y F' => F' = F ∧ y = nI e)) := by
  refine jr_iload_n d_MO_number_92 rfl rfl ?_
  refine jr_iload_n d_MO_number_93 rfl rfl ?_
  refine jr_iload_n d_MO_number_94 rfl rfl ?_
  refine jr_callSp3 d_MO_number_95 i_MO_67 (Nat.le_of_ble_eq_true rfl) (by decide) (c_MO_within _ _ _) ?_
  have key : ∀ h x, MS h0 h (g2 f x (nI e)) (at14 a F) → jy_J G 3 m_MO_number 111 [some (.ref 11), some (.int lo), some (.int hi), some (.int v), some (.int (nI j))] [] h (qI h0 f a (fun v x' y F' => F' = F ∧ y = nI e)) := by
    intro h x hM
    refine jr_iload d_MO_number_111 rfl ?_
    refine jr_iconst (v := 4) d_MO_number_113 (by decide) ?_
    refine jr_icmp_ne (tgt := 132) d_MO_number_114 (by decide) (fun _ => ?_) (fun hc => absurd ((nI_eq (b := 4) (by omega) (by decide)).mp hc) (by omega))
    refine jr_aload_n d_MO_number_132 rfl rfl ?_
    refine mr_get d_MO_number_133 f_MO_85 hM rfl ?_
    refine jr_if_ge (tgt := 143) d_MO_number_136 (by decide) (fun _ => ?_) (fun hc => absurd (nI_pos' (by omega)) hc)
    refine jr_iload_n d_MO_number_143 rfl rfl ?_
    refine jr_ireturn d_MO_number_144 rfl rfl ?_
    exact ⟨_, _, _, _, rfl, hM, rfl, rfl⟩
  refine jr_if_ne (tgt := 111) d_MO_number_98 (by decide) (fun _ => key h x hM) (fun _ => ?_)
  refine jr_aload_n d_MO_number_101 rfl rfl ?_
  refine jr_aload_n d_MO_number_102 rfl rfl ?_
  refine mr_get d_MO_number_103 f_MO_78 hM rfl ?_
  refine jr_iconst (v := 1) d_MO_number_106 (by decide) ?_
  refine jr_isub d_MO_number_107 ?_
  refine qr_V1 d_MO_number_108 i_MO_91 hM (Nat.le_of_ble_eq_true rfl) (by decide) (c_failS hM.1 _) (fun h x' y' F' hM hq => ?_)
  obtain ⟨rfl, rfl, rfl⟩ := hq
  rw [fl_p (by omega)] at hM
  exact key h _ hM
theorem mo_number1 {q : Nat} (hn : f 1 = nI n) (h400 : n ≤ 400) (hq : dg (hr (a 12) n q) = true) {h : jy_P} {p j : Nat} {v : Int32} (hM : MS h0 h (g2 f (nI p) (-1)) (at14 a F)) (hp : q < p) (hpn : p ≤ n) (hv : (v, p) = nmF (a 12) n 3 (q + 1) (hr (a 12) n q - 48)) (hj : 1 ≤ j ∧ j ≤ 4) (hst : j = 4 ∨ ¬ (dg (hr (a 12) n p) = true ∧ 0 < v)) : jy_J G 3 m_MO_number 92 [some (.ref 11), some (.int lo), some (.int hi), some (.int v), some (.int (nI j))] [] h (qI h0 f a (fun v x y F' => F' = F ∧ NmQ (a 12) n lo (nmP (a 12) n lo hi q) v x y)) := by
  have hN : nmP (a 12) n lo hi q = if inB v lo hi = true then (if dg (hr (a 12) n p) = true then .error p else .ok (v, p)) else .error (p - 1) := by
    unfold nmP
    rw [if_pos hq, ← hv]
  refine jr_iload_n d_MO_number_92 rfl rfl ?_
  refine jr_iload_n d_MO_number_93 rfl rfl ?_
  refine jr_iload_n d_MO_number_94 rfl rfl ?_
  refine jr_callSp3 d_MO_number_95 i_MO_67 (Nat.le_of_ble_eq_true rfl) (by decide) (c_MO_within _ _ _) ?_
  refine jr_if_ne (tgt := 111) d_MO_number_98 (by decide) (fun hc => ?_) (fun hc => ?_)
  · have hin := bI_ne0.mp hc
    rw [hN, if_pos hin]
    have out : (dg (hr (a 12) n p) = true → 0 < v → j = 4 → False) → jy_J G 3 m_MO_number 132 [some (.ref 11), some (.int lo), some (.int hi), some (.int v), some (.int (nI j))] [] h (qI h0 f a (fun v' x y F' => F' = F ∧ NmQ (a 12) n lo (if dg (hr (a 12) n p) = true then .error p else .ok (v, p)) v' x y)) := by
      intro hno
      refine jr_aload_n d_MO_number_132 rfl rfl ?_
      refine mr_get d_MO_number_133 f_MO_85 hM rfl ?_
      refine jr_if_ge (tgt := 143) d_MO_number_136 (by decide) (fun q => absurd (show (0 : Int32) ≤ -1 from q) (by decide)) (fun _ => ?_)
      refine jr_iload_n d_MO_number_139 rfl rfl ?_
      refine jr_goto (tgt := 144) d_MO_number_140 (by decide) ?_
      refine jr_ireturn d_MO_number_144 rfl rfl ?_
      refine ⟨_, _, _, _, rfl, hM, rfl, ?_⟩
      by_cases e : dg (hr (a 12) n p) = true
      · rw [if_pos e]
        have e2 : sk (a 12) n p = p := sk_stop (dg_32 e)
        have e5 : ¬ 0 < v := fun w => by
          rcases hst with q | q
          · exact hno e w q
          · exact q ⟨e, w⟩
        have e6 : Kn lo (hr (a 12) n p) = true := by
          unfold Kn
          rw [e, decide_eq_true (Int32.le_trans (of_decide_eq_true (by
            have := hin
            unfold inB at this
            rw [Bool.and_eq_true] at this
            exact this.1)) (Int32.not_lt.mp e5))]
          rfl
        exact ⟨hpn, Or.inr ⟨rfl, p, rfl, hpn, e2, e6⟩⟩
      · rw [if_neg e]
        exact ⟨rfl, rfl, rfl, hpn⟩
    refine jr_iload d_MO_number_111 rfl ?_
    refine jr_iconst (v := 4) d_MO_number_113 (by decide) ?_
    refine jr_icmp_ne (tgt := 132) d_MO_number_114 (by decide) (fun hc2 => ?_) (fun hc2 => ?_)
    · exact out (fun _ _ q => hc2 (by rw [q]; rfl))
    · refine jr_aload_n d_MO_number_117 rfl rfl ?_
      refine mr_callP0 d_MO_number_118 i_MO_95 hM (Nat.le_of_ble_eq_true rfl) (by decide) (c_MO_isDigit hM.1 ⟨hn, h400, rfl, hpn⟩) ?_
      refine jr_if_eq (tgt := 132) d_MO_number_121 (by decide) (fun hc3 => ?_) (fun hc3 => ?_)
      · have e := bI_eq0.mp hc3
        exact out (fun q => absurd (q.symm.trans e) (by decide))
      · have e : dg (hr (a 12) n p) = true := bI_ne0.mp hc3
        rw [if_pos e]
        refine jr_aload_n d_MO_number_124 rfl rfl ?_
        refine jr_aload_n d_MO_number_125 rfl rfl ?_
        refine mr_get d_MO_number_126 f_MO_78 hM rfl ?_
        refine qr_V1 d_MO_number_129 i_MO_91 hM (Nat.le_of_ble_eq_true rfl) (by decide) (c_failS hM.1 _) (fun h x' y' F' hM hq => ?_)
        obtain ⟨rfl, rfl, rfl⟩ := hq
        have hM : MS h0 h (g2 f (nI p) (nI p)) (at14 a F) := hM
        refine jr_aload_n d_MO_number_132 rfl rfl ?_
        refine mr_get d_MO_number_133 f_MO_85 hM rfl ?_
        refine jr_if_ge (tgt := 143) d_MO_number_136 (by decide) (fun _ => ?_) (fun q => absurd (nI_pos' (by omega)) q)
        refine jr_iload_n d_MO_number_143 rfl rfl ?_
        refine jr_ireturn d_MO_number_144 rfl rfl ?_
        exact ⟨_, _, _, _, rfl, hM, rfl, bdE_of rfl hpn⟩
  · have hin := bI_eq0.mp hc
    rw [hN, if_neg (by rw [hin]; decide)]
    refine jr_aload_n d_MO_number_101 rfl rfl ?_
    refine jr_aload_n d_MO_number_102 rfl rfl ?_
    refine mr_get d_MO_number_103 f_MO_78 hM rfl ?_
    refine jr_iconst (v := 1) d_MO_number_106 (by decide) ?_
    refine jr_isub d_MO_number_107 ?_
    refine qr_V1 d_MO_number_108 i_MO_91 hM (Nat.le_of_ble_eq_true rfl) (by decide) (c_failS hM.1 _) (fun h x' y' F' hM hq => ?_)
    obtain ⟨rfl, rfl, rfl⟩ := hq
    have e1 : fl (-1) (g2 f (nI p) (-1) 10 - 1) = nI (p - 1) := by
      show nI p - 1 = _
      rw [show p = (p - 1) + 1 by omega, nI_pred]
      rfl
    rw [e1] at hM
    have key : ∀ h, MS h0 h (g2 f (nI p) (nI (p - 1))) (at14 a F) → jy_J G 3 m_MO_number 132 [some (.ref 11), some (.int lo), some (.int hi), some (.int v), some (.int (nI j))] [] h (qI h0 f a (fun v' x y F' => F' = F ∧ NmQ (a 12) n lo (.error (p - 1)) v' x y)) := by
      intro h hM
      refine jr_aload_n d_MO_number_132 rfl rfl ?_
      refine mr_get d_MO_number_133 f_MO_85 hM rfl ?_
      refine jr_if_ge (tgt := 143) d_MO_number_136 (by decide) (fun _ => ?_) (fun q => absurd (nI_pos' (by omega)) q)
      refine jr_iload_n d_MO_number_143 rfl rfl ?_
      refine jr_ireturn d_MO_number_144 rfl rfl ?_
      exact ⟨_, _, _, _, rfl, hM, rfl, bdE_of rfl (by omega)⟩
    refine jr_iload d_MO_number_111 rfl ?_
    refine jr_iconst (v := 4) d_MO_number_113 (by decide) ?_
    refine jr_icmp_ne (tgt := 132) d_MO_number_114 (by decide) (fun hc2 => key h hM) (fun hc2 => ?_)
    refine jr_aload_n d_MO_number_117 rfl rfl ?_
    refine mr_callP0 d_MO_number_118 i_MO_95 hM (Nat.le_of_ble_eq_true rfl) (by decide) (c_MO_isDigit hM.1 ⟨hn, h400, rfl, hpn⟩) ?_
    refine jr_if_eq (tgt := 132) d_MO_number_121 (by decide) (fun hc3 => key h hM) (fun hc3 => ?_)
    refine jr_aload_n d_MO_number_124 rfl rfl ?_
    refine jr_aload_n d_MO_number_125 rfl rfl ?_
    refine mr_get d_MO_number_126 f_MO_78 hM rfl ?_
    refine qr_V1 d_MO_number_129 i_MO_91 hM (Nat.le_of_ble_eq_true rfl) (by decide) (c_failS hM.1 _) (fun h x' y' F' hM hq => ?_)
    obtain ⟨rfl, rfl, rfl⟩ := hq
    rw [fl_p (by omega)] at hM
    exact key h hM
theorem mo_number2 {q : Nat} (hn : f 1 = nI n) (h400 : n ≤ 400) (hq : dg (hr (a 12) n q) = true) : ∀ (k : Nat) {h : jy_P} {p : Nat} {v : Int32}, k ≤ 3 → MS h0 h (g2 f (nI p) (-1)) (at14 a F) → q < p → p ≤ n → nmF (a 12) n k p v = nmF (a 12) n 3 (q + 1) (hr (a 12) n q - 48) → jy_J G 3 m_MO_number 34 [some (.ref 11), some (.int lo), some (.int hi), some (.int v), some (.int (nI (4 - k)))] [] h (qI h0 f a (fun v x y F' => F' = F ∧ NmQ (a 12) n lo (nmP (a 12) n lo hi q) v x y)) := by
  intro k
  induction k with
  | zero =>
    intro h p v hk hM hp hpn hv
    have out := mo_number1 (G := G) (lo := lo) (hi := hi) hn h400 hq hM hp hpn hv (j := 4) ⟨by omega, by omega⟩ (Or.inl rfl)
    refine jr_aload_n d_MO_number_34 rfl rfl ?_
    refine mr_get d_MO_number_35 f_MO_85 hM rfl ?_
    refine jr_if_ge (tgt := 92) d_MO_number_38 (by decide) (fun q => absurd (show (0 : Int32) ≤ -1 from q) (by decide)) (fun _ => ?_)
    refine jr_aload_n d_MO_number_41 rfl rfl ?_
    refine mr_callP0 d_MO_number_42 i_MO_95 hM (Nat.le_of_ble_eq_true rfl) (by decide) (c_MO_isDigit hM.1 ⟨hn, h400, rfl, hpn⟩) ?_
    refine jr_if_eq (tgt := 92) d_MO_number_45 (by decide) (fun _ => out) (fun _ => ?_)
    refine jr_iload d_MO_number_48 rfl ?_
    refine jr_iconst (v := 4) d_MO_number_50 (by decide) ?_
    exact jr_icmp_ge (tgt := 92) d_MO_number_51 (by decide) (fun _ => out) (fun q => absurd (by decide) q)
  | succ k ih =>
    intro h p v hk hM hp hpn hv
    have out : ¬ (dg (hr (a 12) n p) = true ∧ 0 < v) → jy_J G 3 m_MO_number 92 [some (.ref 11), some (.int lo), some (.int hi), some (.int v), some (.int (nI (4 - (k + 1))))] [] h (qI h0 f a (fun v x y F' => F' = F ∧ NmQ (a 12) n lo (nmP (a 12) n lo hi q) v x y)) := by
      intro hno
      have e : nmF (a 12) n (k + 1) p v = (v, p) := by unfold nmF; rw [if_neg hno]
      exact mo_number1 hn h400 hq hM hp hpn (e.symm.trans hv) ⟨by omega, by omega⟩ (Or.inr hno)
    refine jr_aload_n d_MO_number_34 rfl rfl ?_
    refine mr_get d_MO_number_35 f_MO_85 hM rfl ?_
    refine jr_if_ge (tgt := 92) d_MO_number_38 (by decide) (fun q => absurd (show (0 : Int32) ≤ -1 from q) (by decide)) (fun _ => ?_)
    refine jr_aload_n d_MO_number_41 rfl rfl ?_
    refine mr_callP0 d_MO_number_42 i_MO_95 hM (Nat.le_of_ble_eq_true rfl) (by decide) (c_MO_isDigit hM.1 ⟨hn, h400, rfl, hpn⟩) ?_
    refine jr_if_eq (tgt := 92) d_MO_number_45 (by decide) (fun hc => out (fun q => absurd (q.1.symm.trans (bI_eq0.mp hc)) (by decide))) (fun hc => ?_)
    have hd : dg (hr (a 12) n p) = true := bI_ne0.mp hc
    refine jr_iload d_MO_number_48 rfl ?_
    refine jr_iconst (v := 4) d_MO_number_50 (by decide) ?_
    refine jr_icmp_ge (tgt := 92) d_MO_number_51 (by decide) (fun q => absurd ((nI_leI (a := 4) (by decide) (by omega)).mp q) (by omega)) (fun _ => ?_)
    refine jr_iload d_MO_number_54 rfl ?_
    refine jr_if_eq (tgt := 63) d_MO_number_56 (by decide) (fun q => absurd q (nI_ne0 (by omega) (by omega))) (fun _ => ?_)
    refine jr_iload_n d_MO_number_59 rfl rfl ?_
    refine jr_if_le (tgt := 92) d_MO_number_60 (by decide) (fun hc => out (fun q => absurd q.2 (Int32.not_lt.mpr hc))) (fun hc => ?_)
    have hv0 : 0 < v := Int32.not_le.mp hc
    have e : nmF (a 12) n (k + 1) p v = nmF (a 12) n k (p + 1) (10 * v + hr (a 12) n p - 48) := by
      conv => lhs; unfold nmF
      rw [if_pos ⟨hd, hv0⟩]
    refine jr_bipush (v := 10) d_MO_number_63 (by decide) ?_
    refine jr_iload_n d_MO_number_65 rfl rfl ?_
    refine jr_imul d_MO_number_66 ?_
    refine jr_aload_n d_MO_number_67 rfl rfl ?_
    refine mr_callP0 d_MO_number_68 i_MO_81 hM (Nat.le_of_ble_eq_true rfl) (by decide) (c_MO_here hM.1 ⟨hn, h400, rfl, hpn⟩) ?_
    refine jr_iadd d_MO_number_71 ?_
    refine jr_bipush (v := 48) d_MO_number_72 (by decide) ?_
    refine jr_isub d_MO_number_74 ?_
    refine jr_istore_n d_MO_number_75 rfl (by decide) ?_
    refine jr_iinc1 d_MO_number_76 rfl (by decide) ?_
    refine jr_aload_n d_MO_number_79 rfl rfl ?_
    refine jr_dup d_MO_number_80 rfl ?_
    refine mr_get d_MO_number_81 f_MO_78 hM rfl ?_
    refine jr_iconst (v := 1) d_MO_number_84 (by decide) ?_
    refine jr_iadd d_MO_number_85 ?_
    refine mr_put d_MO_number_86 f_MO_78 rfl hM (fun h hM => ?_)
    refine jr_goto (tgt := 34) d_MO_number_89 (by decide) ?_
    have e2 : nI (4 - (k + 1)) + 1 = nI (4 - k) := by
      rw [nI_1]
      congr 1
      omega
    rw [e2]
    have e3 : g2 f (nI p) (-1) 10 + 1 = nI (p + 1) := nI_1 p
    rw [e3, g2_10] at hM
    exact ih (by omega) hM (by omega) (dg_in hd) (e.symm.trans hv)
theorem c_MO_number {h : jy_P} {x y : Int32} {p : Nat} (hM : Mo h (g2 f x y) (at14 a F)) (hn : f 1 = nI n) (h400 : n ≤ 400) (hx : x = nI p) (hp : p ≤ n) (hy : y = -1) : jy_C G 3 m_MO_number [.ref 11, .int lo, .int hi] h (qI h f a (fun v x y F' => F' = F ∧ NmQ (a 12) n lo (nmP (a 12) n lo hi (sk (a 12) n p)) v x y)) := by
  refine jy_C.of [some (.ref 11), some (.int lo), some (.int hi), none, none] rfl (Nat.le_of_ble_eq_true rfl) ?_
  subst hx; subst hy
  have hM := MS.rf hM
  have hsk := skb (t := a 12) hp
  refine jr_aload_n d_MO_number_0 rfl rfl ?_
  refine mr_get d_MO_number_1 f_MO_85 hM rfl ?_
  refine jr_if_lt (tgt := 9) d_MO_number_4 (by decide) (fun _ => ?_) (fun q => absurd (show (-1 : Int32) < 0 by decide) q)
  refine jr_aload_n d_MO_number_9 rfl rfl ?_
  refine qr_I0 d_MO_number_10 i_MO_88 hM (Nat.le_of_ble_eq_true rfl) (by decide) (c_seeS hM.1 hn h400 rfl hp) (fun h v x' y' F' hM hq => ?_)
  obtain ⟨rfl, rfl, rfl, rfl⟩ := hq
  refine jr_pop d_MO_number_13 rfl ?_
  refine jr_aload_n d_MO_number_14 rfl rfl ?_
  refine mr_callP0 d_MO_number_15 i_MO_95 hM (Nat.le_of_ble_eq_true rfl) (by decide) (c_MO_isDigit hM.1 ⟨hn, h400, rfl, hsk.2⟩) ?_
  refine jr_if_ne (tgt := 29) d_MO_number_18 (by decide) (fun hc => ?_) (fun hc => ?_)
  · have hd : dg (hr (a 12) n (sk (a 12) n p)) = true := bI_ne0.mp hc
    have hin := dg_in hd
    refine jr_iconst (v := 0) d_MO_number_29 (by decide) ?_
    refine jr_istore_n d_MO_number_30 rfl (by decide) ?_
    refine jr_iconst (v := 0) d_MO_number_31 (by decide) ?_
    refine jr_istore d_MO_number_32 (by decide) ?_
    refine jr_aload_n d_MO_number_34 rfl rfl ?_
    refine mr_get d_MO_number_35 f_MO_85 hM rfl ?_
    refine jr_if_ge (tgt := 92) d_MO_number_38 (by decide) (fun q => absurd (show (0 : Int32) ≤ -1 from q) (by decide)) (fun _ => ?_)
    refine jr_aload_n d_MO_number_41 rfl rfl ?_
    refine mr_callP0 d_MO_number_42 i_MO_95 hM (Nat.le_of_ble_eq_true rfl) (by decide) (c_MO_isDigit hM.1 ⟨hn, h400, rfl, hsk.2⟩) ?_
    refine jr_if_eq (tgt := 92) d_MO_number_45 (by decide) (fun q => absurd (hd.symm.trans (bI_eq0.mp q)) (by decide)) (fun _ => ?_)
    refine jr_iload d_MO_number_48 rfl ?_
    refine jr_iconst (v := 4) d_MO_number_50 (by decide) ?_
    refine jr_icmp_ge (tgt := 92) d_MO_number_51 (by decide) (fun q => absurd q (by decide)) (fun _ => ?_)
    refine jr_iload d_MO_number_54 rfl ?_
    refine jr_if_eq (tgt := 63) d_MO_number_56 (by decide) (fun _ => ?_) (fun q => absurd rfl q)
    refine jr_bipush (v := 10) d_MO_number_63 (by decide) ?_
    refine jr_iload_n d_MO_number_65 rfl rfl ?_
    refine jr_imul d_MO_number_66 ?_
    refine jr_aload_n d_MO_number_67 rfl rfl ?_
    refine mr_callP0 d_MO_number_68 i_MO_81 hM (Nat.le_of_ble_eq_true rfl) (by decide) (c_MO_here hM.1 ⟨hn, h400, rfl, hsk.2⟩) ?_
    refine jr_iadd d_MO_number_71 ?_
    refine jr_bipush (v := 48) d_MO_number_72 (by decide) ?_
    refine jr_isub d_MO_number_74 ?_
    refine jr_istore_n d_MO_number_75 rfl (by decide) ?_
    refine jr_iinc1 d_MO_number_76 rfl (by decide) ?_
    refine jr_aload_n d_MO_number_79 rfl rfl ?_
    refine jr_dup d_MO_number_80 rfl ?_
    refine mr_get d_MO_number_81 f_MO_78 hM rfl ?_
    refine jr_iconst (v := 1) d_MO_number_84 (by decide) ?_
    refine jr_iadd d_MO_number_85 ?_
    refine mr_put d_MO_number_86 f_MO_78 rfl hM (fun h hM => ?_)
    refine jr_goto (tgt := 34) d_MO_number_89 (by decide) ?_
    have e3 : g2 f (nI (sk (a 12) n p)) (-1) 10 + 1 = nI (sk (a 12) n p + 1) := nI_1 _
    rw [e3, g2_10] at hM
    have e4 : ∀ w : Int32, 10 * 0 + w - 48 = w - 48 := fun w => by rw [Int32.mul_zero, Int32.zero_add]
    rw [e4]
    exact mo_number2 hn h400 hd 3 (by omega) hM (by omega) hin rfl
  · have hd := bI_eq0.mp hc
    refine jr_aload_n d_MO_number_21 rfl rfl ?_
    refine jr_aload_n d_MO_number_22 rfl rfl ?_
    refine mr_get d_MO_number_23 f_MO_78 hM rfl ?_
    refine qr_V1 d_MO_number_26 i_MO_91 hM (Nat.le_of_ble_eq_true rfl) (by decide) (c_failS hM.1 _) (fun h x' y' F' hM hq => ?_)
    obtain ⟨rfl, rfl, rfl⟩ := hq
    have hM : MS _ h (g2 f (nI (sk (a 12) n p)) (nI (sk (a 12) n p))) (at14 a F) := hM
    have hN : nmP (a 12) n lo hi (sk (a 12) n p) = .error (sk (a 12) n p) := by
      unfold nmP
      rw [if_neg (by rw [show dg (hr (a 12) n (sk (a 12) n p)) = false from hd]; decide)]
    rw [hN]
    refine jr_iconst (v := 0) d_MO_number_29 (by decide) ?_
    refine jr_istore_n d_MO_number_30 rfl (by decide) ?_
    refine jr_iconst (v := 0) d_MO_number_31 (by decide) ?_
    refine jr_istore d_MO_number_32 (by decide) ?_
    refine jr_aload_n d_MO_number_34 rfl rfl ?_
    refine mr_get d_MO_number_35 f_MO_85 hM rfl ?_
    refine jr_if_ge (tgt := 92) d_MO_number_38 (by decide) (fun _ => ?_) (fun q => absurd (nI_pos' (by omega)) q)
    exact (mo_numberW (j := 0) hM hsk.2 h400 (by omega)).mono (fun o h' w => by
      obtain ⟨v, x, y, F'', w1, w2, w3, w4⟩ := w
      exact ⟨v, x, y, F'', w1, w2, w3, bdE_of w4 hsk.2⟩)
theorem c_MO_numberW {h : jy_P} {x : Int32} {e : Nat} (hM : Mo h (g2 f x (nI e)) (at14 a F)) (he : e < 2 ^ 31) : jy_C G 3 m_MO_number [.ref 11, .int lo, .int hi] h (qI h f a (fun v x y F' => F' = F ∧ y = nI e)) := by
  refine jy_C.of [some (.ref 11), some (.int lo), some (.int hi), none, none] rfl (Nat.le_of_ble_eq_true rfl) ?_
  have hM := MS.rf hM
  refine jr_aload_n d_MO_number_0 rfl rfl ?_
  refine mr_get d_MO_number_1 f_MO_85 hM rfl ?_
  refine jr_if_lt (tgt := 9) d_MO_number_4 (by decide) (fun q => absurd q (nI_pos he)) (fun _ => ?_)
  refine jr_iload_n d_MO_number_7 rfl rfl ?_
  refine jr_ireturn d_MO_number_8 rfl rfl ?_
  exact ⟨_, _, _, _, rfl, hM, rfl, rfl⟩
/-- what 'number' gives, behind what was read -/
def NmS (t : Ft) (n : Nat) (lo hi : Int32) (s : Except Nat (Ft × Nat)) (v x y : Int32) (F : Ft) : Prop := match s with
  | .ok z => F = z.1 ∧ NmQ t n lo (nmP t n lo hi z.2) v x y
  | .error e => y = nI e ∧ e ≤ n
theorem c_numberS {h : jy_P} {x y : Int32} {s : Except Nat (Ft × Nat)} (hM : Mo h (g2 f x y) (at14 a F)) (hn : f 1 = nI n) (h400 : n ≤ 400) (hS : S (a 12) n K0 s x y F) : jy_C G 3 m_MO_number [.ref 11, .int lo, .int hi] h (qI h f a (fun v x y F => NmS (a 12) n lo hi s v x y F)) := by
  cases s with
  | ok z =>
    obtain ⟨s1, s2, p, s3, s4, s5⟩ := hS
    refine (c_MO_number hM hn h400 s3 s4 s2).mono (fun o h' q => ?_)
    obtain ⟨v, x', y', F', q1, q2, q3, q4⟩ := q
    rw [s5] at q4
    exact ⟨v, x', y', F', q1, q2, q3.trans s1, q4⟩
  | error e =>
    obtain ⟨b1, b2⟩ := bdE_K0 hS
    subst b1
    refine (c_MO_numberW hM (by omega)).mono (fun o h' q => ?_)
    obtain ⟨v, x', y', F', q1, q2, q3, q4⟩ := q
    exact ⟨v, x', y', F', q1, q2, q4, b2⟩
theorem NmS.put {t : Ft} {s : Except Nat (Ft × Nat)} {v x y : Int32} {i : Nat} (h : NmS t n lo hi s v x y F) : S t n (Kn lo) (ebd s (niP t n lo hi i)) x y (upd F i v) := by
  cases s with
  | ok z =>
    obtain ⟨h1, h2⟩ := h
    unfold niP
    rw [ebd_ok]
    rcases hq : nmP t n lo hi z.2 with e | w
    · rw [hq] at h2
      exact h2
    · rw [hq] at h2
      obtain ⟨h3, h4, h5, h6⟩ := h2
      exact ⟨by rw [h1, h3], h4, w.2, h5, h6, rfl⟩
  | error e => exact bdE_of h.1 h.2
end NM
