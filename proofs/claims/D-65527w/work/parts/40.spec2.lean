/-! what a text that is right leaves in F -/
theorem ebd_inv {α β : Type} {s : Except Nat α} {k : α → Except Nat β} {z : β} (h : ebd s k = .ok z) : ∃ w, s = .ok w ∧ k w = .ok z := by
  cases s with
  | error e => cases h
  | ok w => exact ⟨w, rfl, h⟩
theorem ebd_inv2 {α β : Type} {s : Except Nat α} {k : α → Except Nat β} {e : Nat} (h : ebd s k = .error e) : s = .error e ∨ ∃ w, s = .ok w ∧ k w = .error e := by
  cases s with
  | error e' => cases h; exact Or.inl rfl
  | ok w => exact Or.inr ⟨w, rfl, h⟩
theorem nmP_in {t : Ft} {n : Nat} {lo hi : Int32} {q : Nat} {w : Int32 × Nat} (h : nmP t n lo hi q = .ok w) : inB w.1 lo hi = true := by
  unfold nmP at h
  split at h
  · split at h
    · rename_i hin
      split at h
      · cases h
      · cases h; exact hin
    · cases h
  · cases h
theorem niP_ok {t : Ft} {n : Nat} {lo hi : Int32} {i : Nat} {z z' : Ft × Nat} (h : niP t n lo hi i z = .ok z') : ∃ w, nmP t n lo hi z.2 = .ok w ∧ z' = (upd z.1 i w.1, sk t n w.2) := by
  obtain ⟨w, h1, h2⟩ := ebd_inv h
  cases h2
  exact ⟨w, h1, rfl⟩
theorem tzP_ok {t : Ft} {n : Nat} {c : Int32} {z z' : Ft × Nat} (h : tzP t n c z = .ok z') : hr t n z.2 = c ∧ z' = (z.1, sk t n (z.2 + 1)) := by
  obtain ⟨q, h1, h2⟩ := ebd_inv h
  cases h2
  unfold tkP at h1
  split at h1
  · rename_i e
    cases h1
    exact ⟨e, rfl⟩
  · cases h1
theorem riP_ok {t : Ft} {n : Nat} {lo hi : Int32} {most i : Nat} {z z' : Ft × Nat} (h : riP t n lo hi most i z = .ok z') : ∃ w, rsP t n lo hi most z.2 = .ok w ∧ z' = (upd z.1 i w.1, w.2) := by
  obtain ⟨w, h1, h2⟩ := ebd_inv h
  cases h2
  exact ⟨w, h1, rfl⟩
theorem wF_in {t : Ft} {n : Nat} {F : Ft} {k p : Nat} : ∀ j i, i < j → wF t n F k p j (k + 1 + i) = hr t n (p + i) := by
  intro j
  induction j with
  | zero => intro i h; omega
  | succ j ih =>
    intro i h
    show upd (wF t n F k p j) (k + 1 + j) (hr t n (p + j)) (k + 1 + i) = _
    by_cases e : i = j
    · subst e; exact upd_s
    · rw [upd_n (by omega)]
      exact ih i (by omega)
theorem wF_out {t : Ft} {n : Nat} {F : Ft} {k p x : Nat} : ∀ j, (x ≤ k ∨ k + 1 + j ≤ x) → wF t n F k p j x = F x := by
  intro j
  induction j with
  | zero => intro _; rfl
  | succ j ih =>
    intro h
    show upd (wF t n F k p j) (k + 1 + j) (hr t n (p + j)) x = _
    rw [upd_n (by omega)]
    exact ih (by omega)
section WD
variable {t : Ft} {n : Nat} {F : Ft} {m p j c : Nat}
theorem wdF_e (hc : F (m + 9) = nI c) (hc2 : c ≤ 2) : wdF t n F m p j = upd (upd (wF t n F (m + 10 + 11 * c) p j) (m + 10 + 11 * c) (nI j)) (m + 9) (nI (c + 1)) := by
  unfold wdF
  rw [hc, nI_clamp (by omega), upd_n (by omega), wF_n (by omega), hc, nI_1]
theorem wdF_len (hc : F (m + 9) = nI c) (hc2 : c ≤ 2) : wdF t n F m p j (m + 10 + 11 * c) = nI j := by
  rw [wdF_e hc hc2, upd_n (by omega), upd_s]
theorem wdF_let (hc : F (m + 9) = nI c) (hc2 : c ≤ 2) {i : Nat} (hi : i < j) : wdF t n F m p j (m + 10 + 11 * c + 1 + i) = hr t n (p + i) := by
  rw [wdF_e hc hc2, upd_n (by omega), upd_n (by omega), wF_in j i hi]
theorem wdF_n (hc : F (m + 9) = nI c) (hc2 : c ≤ 2) {x : Nat} (h9 : x ≠ m + 9) (hx : x < m + 10 + 11 * c ∨ m + 10 + 11 * c + 1 + j ≤ x) : wdF t n F m p j x = F x := by
  rw [wdF_e hc hc2, upd_n h9, upd_n (by omega), wF_out j (by omega)]
end WD
theorem wdP_ok {t : Ft} {n : Nat} {F : Ft} {m q : Nat} {z : Ft × Nat} (h : wdP t n F m q = .ok z) : ∃ j, j = ltN t n 10 (q + 1) ∧ hr t n q = 34 ∧ 0 < j ∧ j ≤ 10 ∧ hr t n (q + 1 + j) = 34 ∧ z = (wdF t n F m (q + 1) j, sk t n (q + 1 + j + 1)) := by
  unfold wdP at h
  split at h
  · rename_i e
    have h1 : q < n := hr_in (by rw [e]; decide)
    have h2 := ltN_b (t := t) (n := n) 10 (q + 1) (by omega)
    split at h
    · rename_i e2
      cases h
      exact ⟨_, rfl, e, e2.1, h2.2, e2.2, rfl⟩
    · cases h
  · cases h
/-- c names of row k are there -/
def NI (F : Ft) (k c : Nat) : Prop := F (43 * k + 9) = nI c ∧ ∀ i, i < c → ∃ l, F (43 * k + 10 + 11 * i) = nI l ∧ 1 ≤ l ∧ l ≤ 10
theorem wdP_NI {t : Ft} {n : Nat} {F : Ft} {k q c : Nat} {z : Ft × Nat} (h : wdP t n F (43 * k) q = .ok z) (hc : c ≤ 2) (hN : NI F k c) : NI z.1 k (c + 1) ∧ ∀ x, ¬ (43 * k + 9 ≤ x ∧ x < 43 * k + 43) → z.1 x = F x := by
  obtain ⟨j, -, -, j1, j2, -, rfl⟩ := wdP_ok h
  obtain ⟨n1, n2⟩ := hN
  refine ⟨⟨?_, fun i hi => ?_⟩, fun x hx => wdF_n n1 hc (by omega) (by omega)⟩
  · show wdF t n F (43 * k) (q + 1) j (43 * k + 9) = _
    rw [wdF_e n1 hc, upd_s]
  · by_cases e : i = c
    · subst e
      exact ⟨j, wdF_len n1 hc, j1, j2⟩
    · obtain ⟨l, l1, l2, l3⟩ := n2 i (by omega)
      exact ⟨l, (wdF_n n1 hc (by omega) (by omega)).trans l1, l2, l3⟩
theorem nsP_NI {t : Ft} {n k : Nat} : ∀ (i : Nat) {z z' : Ft × Nat} {c : Nat}, nsP t n (43 * k) i z = .ok z' → c + i ≤ 3 → NI z.1 k c → ∃ c', c ≤ c' ∧ c' ≤ 3 ∧ NI z'.1 k c' ∧ ∀ x, ¬ (43 * k + 9 ≤ x ∧ x < 43 * k + 43) → z'.1 x = z.1 x := by
  intro i
  induction i with
  | zero =>
    intro z z' c h hc hN
    cases h
    exact ⟨c, Nat.le_refl _, by omega, hN, fun _ _ => rfl⟩
  | succ i ih =>
    intro z z' c h hc hN
    unfold nsP at h
    split at h
    · obtain ⟨w, h1, h2⟩ := ebd_inv h
      obtain ⟨n1, n2⟩ := wdP_NI h1 (by omega) hN
      obtain ⟨c', a1, a2, a3, a4⟩ := ih h2 (c := c + 1) (by omega) n1
      exact ⟨c', by omega, a2, a3, fun x hx => (a4 x hx).trans (n2 x hx)⟩
    · cases h
      exact ⟨c, Nat.le_refl _, by omega, hN, fun _ _ => rfl⟩
theorem duP1_ch {t : Ft} {n m : Nat} {z z' : Ft × Nat} (h : duP1 t n m z = .ok z') : ∀ x, ¬ (m + 2 ≤ x ∧ x ≤ m + 3) → z'.1 x = z.1 x := by
  obtain ⟨z3, h3, h4⟩ := ebd_inv h
  obtain ⟨z2, h1, h2⟩ := ebd_inv h3
  obtain ⟨z1, g1, g2⟩ := ebd_inv h1
  obtain ⟨-, rfl⟩ := tzP_ok g1
  obtain ⟨w, -, rfl⟩ := niP_ok g2
  obtain ⟨-, rfl⟩ := tzP_ok h2
  obtain ⟨w2, -, rfl⟩ := riP_ok h4
  intro x hx
  show upd (upd z.1 (m + 2) w.1) (m + 3) w2.1 x = z.1 x
  rw [upd_n (by omega), upd_n (by omega)]
theorem dsP_ch {t : Ft} {n m : Nat} {z : Ft × Nat} : ∀ (k : Nat) {z' : Ft × Nat}, dsP t n m z k = .ok z' → ∀ x, ¬ (m + 4 ≤ x ∧ x < m + 4 + k) → z'.1 x = z.1 x := by
  intro k
  induction k with
  | zero => intro z' h x _; cases h; rfl
  | succ k ih =>
    intro z' h x hx
    obtain ⟨w, h1, h2⟩ := ebd_inv h
    have i1 := ih h1 x (by omega)
    split at h2
    · obtain ⟨v, -, rfl⟩ := niP_ok h2
      show upd w.1 (m + 4 + k) v.1 x = _
      rw [upd_n (by omega)]
      exact i1
    · obtain ⟨w2, h3, h4⟩ := ebd_inv h2
      obtain ⟨-, rfl⟩ := tzP_ok h3
      obtain ⟨v, -, rfl⟩ := niP_ok h4
      show upd w.1 (m + 4 + k) v.1 x = _
      rw [upd_n (by omega)]
      exact i1
theorem dsP_er {t : Ft} {n m : Nat} {z : Ft × Nat} {k e : Nat} (h : dsP t n m z k = .error e) : ∀ k', k ≤ k' → dsP t n m z k' = .error e := by
  intro k'
  induction k' with
  | zero => intro q; have : k = 0 := by omega
            subst this; exact h
  | succ k' ih =>
    intro q
    by_cases c : k = k' + 1
    · subst c; exact h
    · show ebd (dsP t n m z k') _ = _
      rw [ih (by omega)]
      rfl
theorem duP_ch {t : Ft} {n m : Nat} {z z' : Ft × Nat} (h : duP t n m z = .ok z') : ∀ x, ¬ (m + 2 ≤ x ∧ x ≤ m + 7) → z'.1 x = z.1 x := by
  obtain ⟨z2, h1, h2⟩ := ebd_inv h
  obtain ⟨z1, g1, g2⟩ := ebd_inv h1
  obtain ⟨-, rfl⟩ := tzP_ok g2
  intro x hx
  exact (dsP_ch 4 h2 x (by omega)).trans (duP1_ch g1 x (by omega))
theorem brP_ch {t : Ft} {n m : Nat} {z z' : Ft × Nat} (h : brP t n m z = .ok z') : ∀ x, x ≠ m + 8 → z'.1 x = z.1 x := by
  unfold brP at h
  intro x hx
  split at h
  · obtain ⟨w, h1, h2⟩ := ebd_inv h
    cases h2
    show upd (upd z.1 (m + 8) 0) (m + 8) _ x = z.1 x
    rw [upd_n hx, upd_n hx]
  · cases h
    exact upd_n hx
theorem fd_none {R : Ft} {x : Int32} : ∀ {m : Nat}, fd R x m = none → ∀ j, j < m → R (43 * j) ≠ x := by
  intro m
  induction m with
  | zero => intro _ j h; omega
  | succ m ih =>
    intro h j hj
    unfold fd at h
    split at h
    · cases h
    · rename_i h0
      split at h
      · cases h
      · rename_i h1
        by_cases e : j = m
        · subst e; exact h1
        · exact ih h0 j (by omega)
theorem mrP1_ok {t : Ft} {n k : Nat} {z z' : Ft × Nat} (h : mrP1 t n k z = .ok z') : ∃ w, nmP t n 1 9999 z.2 = .ok w ∧ fd z.1 w.1 k = none ∧ z' = (upd (upd z.1 (43 * k) w.1) (43 * k + 9) 0, sk t n w.2) := by
  obtain ⟨w, h1, h2⟩ := ebd_inv h
  split at h2
  · cases h2
  · rename_i hf
    cases h2
    refine ⟨w, h1, ?_, rfl⟩
    cases hq : fd z.1 w.1 k with
    | none => rfl
    | some j => rw [hq] at hf; exact absurd rfl hf
theorem NI.ch {F F' : Ft} {k c : Nat} (h : NI F k c) (hc : c ≤ 3) (e : ∀ x, 43 * k + 9 ≤ x → x < 43 * k + 43 → F' x = F x) : NI F' k c := by
  obtain ⟨h1, h2⟩ := h
  refine ⟨by rw [e _ (by omega) (by omega)]; exact h1, fun i hi => ?_⟩
  obtain ⟨l, l1, l2, l3⟩ := h2 i hi
  exact ⟨l, by rw [e _ (by omega) (by omega)]; exact l1, l2, l3⟩
theorem NI.rOk {F : Ft} {k c : Nat} (h : NI F k c) (h1 : 1 ≤ c) (h3 : c ≤ 3) {v : Nat} (hv : F (43 * k) = nI v) (v1 : 1 ≤ v) (v2 : v ≤ 9999) : rOk F k := by
  obtain ⟨a1, a2⟩ := h
  have e1 : nu F k = v := by unfold nu; rw [hv, nI_clamp (by omega)]
  have e2 : my F k = c := by unfold my; rw [a1, nI_clamp (by omega)]
  refine ⟨by rw [e1]; exact hv, by omega, by omega, by rw [e2]; exact a1, by omega, by omega, fun i hi => ?_⟩
  obtain ⟨l, l1, l2, l3⟩ := a2 i (by omega)
  have e3 : ln F k i = l := by unfold ln; rw [l1, nI_clamp (by omega)]
  exact ⟨by rw [e3]; exact l1, by omega, by omega⟩
theorem mrP_spec {t : Ft} {n k : Nat} {z z' : Ft × Nat} (h : mrP t n k z = .ok z') : (∀ x, ¬ (43 * k ≤ x ∧ x < 43 * k + 43) → z'.1 x = z.1 x) ∧ rOk z'.1 k ∧ ∀ j, j < k → z.1 (43 * j) ≠ z'.1 (43 * k) := by
  obtain ⟨z3, h3, h4⟩ := ebd_inv h
  obtain ⟨-, rfl⟩ := tzP_ok h4
  obtain ⟨z2, h2, h5⟩ := ebd_inv h3
  obtain ⟨z1, h1, h6⟩ := ebd_inv h2
  obtain ⟨w, w1, w2, rfl⟩ := mrP1_ok h1
  have win := inB_iff.mp (nmP_in w1)
  obtain ⟨v, v9, hv⟩ := nI_of2 (n := 9999) (by decide) (Int32.not_lt.mpr (Int32.le_trans (by decide) win.1)) win.2
  have v1 : 1 ≤ v := by
    have := win.1
    rw [hv] at this
    exact (nI_leI (a := 1) (by decide) (by omega)).mp this
  obtain ⟨y1, y2, y3⟩ := ebd_inv h6
  obtain ⟨c1, c2⟩ := wdP_NI (c := 0) y2 (by omega) ⟨upd_s, fun i hi => by omega⟩
  obtain ⟨c', d1, d2, d3, d4⟩ := nsP_NI 2 (c := 1) y3 (by omega) c1
  obtain ⟨z6, h7, h8⟩ := ebd_inv h5
  obtain ⟨z5, h9, h10⟩ := ebd_inv h7
  obtain ⟨z4, h11, h12⟩ := ebd_inv h9
  obtain ⟨-, rfl⟩ := tzP_ok h11
  obtain ⟨u, -, rfl⟩ := niP_ok h12
  have e1 := brP_ch h8
  have e2 := duP_ch h10
  have ch : ∀ x, ¬ (43 * k + 1 ≤ x ∧ x ≤ 43 * k + 8) → z3.1 x = z2.1 x := by
    intro x hx
    rw [e1 x (by omega), e2 x (by omega)]
    exact upd_n (by omega)
  have e43 : z3.1 (43 * k) = nI v := by
    rw [ch _ (by omega), d4 _ (by omega), c2 _ (by omega)]
    show upd (upd z.1 (43 * k) w.1) (43 * k + 9) 0 (43 * k) = nI v
    rw [upd_n (by omega), upd_s, hv]
  refine ⟨fun x hx => ?_, (d3.ch d2 (fun x _ _ => ch x (by omega))).rOk (by omega) d2 e43 v1 v9, fun j hj => ?_⟩
  · show z3.1 x = z.1 x
    rw [ch _ (by omega), d4 _ (by omega), c2 _ (by omega)]
    show upd (upd z.1 (43 * k) w.1) (43 * k + 9) 0 x = z.1 x
    rw [upd_n (by omega), upd_n (by omega)]
  · show z.1 (43 * j) ≠ z3.1 (43 * k)
    rw [e43, ← hv]
    exact fd_none w2 j hj
theorem grP_spec {t : Ft} {n : Nat} {z z' : Ft × Nat} (h : grP t n z = .ok z') : (∀ x, ¬ (516 ≤ x ∧ x < 559) → z'.1 x = z.1 x) ∧ z'.1 517 = 0 ∧ z'.1 524 = 0 ∧ z'.1 525 = 0 := by
  obtain ⟨z3, h3, h4⟩ := ebd_inv h
  obtain ⟨-, rfl⟩ := tzP_ok h4
  have e := duP_ch h3
  refine ⟨fun x hx => ?_, ?_, ?_, ?_⟩
  · show z3.1 x = z.1 x
    rw [e x (by omega)]
    show grF z.1 x = z.1 x
    unfold grF
    rw [upd_n (by omega), upd_n (by omega), upd_n (by omega), upd_n (by omega)]
  · show z3.1 517 = 0
    rw [e 517 (by omega)]; rfl
  · show z3.1 524 = 0
    rw [e 524 (by omega)]; rfl
  · show z3.1 525 = 0
    rw [e 525 (by omega)]; rfl
theorem rOk_ch {F F' : Ft} {k : Nat} (h : rOk F k) (e : ∀ x, 43 * k ≤ x → x < 43 * k + 43 → F' x = F x) : rOk F' k := by
  obtain ⟨r1, r2, r3, r4, r5, r6, r7⟩ := h
  have e1 : nu F' k = nu F k := by unfold nu; rw [e _ (by omega) (by omega)]
  have e2 : my F' k = my F k := by unfold my; rw [e _ (by omega) (by omega)]
  refine ⟨by rw [e _ (by omega) (by omega), e1]; exact r1, by omega, by omega, by rw [e _ (by omega) (by omega), e2]; exact r4, by omega, by omega, fun i hi => ?_⟩
  obtain ⟨n1, n2, n3⟩ := r7 i (by omega)
  have e3 : ln F' k i = ln F k i := by unfold ln; rw [e _ (by omega) (by omega)]
  exact ⟨by rw [e _ (by omega) (by omega), e3]; exact n1, by omega, by omega⟩
/-- a table that was read: F, m rows, g -/
def FT (F : Ft) (m : Nat) (g : Bool) : Prop := m ≤ 12 ∧ tOk F m ∧ (∀ j k, j < m → k < m → nu F j = nu F k → j = k) ∧ (g = true → F 517 = 0 ∧ F 524 = 0 ∧ F 525 = 0)
theorem FT.row {t : Ft} {n k : Nat} {g : Bool} {z z' : Ft × Nat} (h : mrP t n k z = .ok z') (hF : FT z.1 k g) (hk : k ≠ 12) : FT z'.1 (k + 1) g := by
  obtain ⟨f1, f2, f3, f4⟩ := hF
  obtain ⟨c1, c2, c3⟩ := mrP_spec h
  have old : ∀ j, j < k → rOk z'.1 j ∧ nu z'.1 j = nu z.1 j := fun j hj => ⟨rOk_ch (f2 j hj) (fun x _ _ => c1 x (by omega)), by unfold nu; rw [c1 _ (by omega)]⟩
  have ne : ∀ j, j < k → nu z'.1 j ≠ nu z'.1 k := by
    intro j hj e
    have h1 := (old j hj).1.1
    rw [e, ← c2.1, c1 _ (by omega)] at h1
    exact c3 j hj h1
  refine ⟨by omega, fun j hj => ?_, fun i j hi hj e => ?_, fun hg => ?_⟩
  · by_cases e : j = k
    · subst e; exact c2
    · exact (old j (by omega)).1
  · by_cases ei : i = k
    · by_cases ej : j = k
      · omega
      · subst ei
        exact absurd e.symm (ne j (by omega))
    · by_cases ej : j = k
      · subst ej
        exact absurd e (ne i (by omega))
      · rw [(old i (by omega)).2, (old j (by omega)).2] at e
        exact f3 i j (by omega) (by omega) e
  · obtain ⟨a1, a2, a3⟩ := f4 hg
    rw [c1 _ (by omega), c1 _ (by omega), c1 _ (by omega)]
    exact ⟨a1, a2, a3⟩
theorem FT.gen {t : Ft} {n k : Nat} {g : Bool} {z z' : Ft × Nat} (h : grP t n z = .ok z') (hF : FT z.1 k g) : FT z'.1 k true := by
  obtain ⟨f1, f2, f3, f4⟩ := hF
  obtain ⟨c1, c2⟩ := grP_spec h
  have old : ∀ j, j < k → rOk z'.1 j ∧ nu z'.1 j = nu z.1 j := fun j hj => ⟨rOk_ch (f2 j hj) (fun x _ _ => c1 x (by omega)), by unfold nu; rw [c1 _ (by omega)]⟩
  exact ⟨f1, fun j hj => (old j hj).1, fun i j hi hj e => f3 i j hi hj (by rw [(old i hi).2, (old j hj).2] at e; exact e), fun _ => c2⟩
theorem rdP_FT {t : Ft} {n : Nat} : ∀ (i : Nat) {F : Ft} {k : Nat} {g : Bool} {q : Nat} {z : Ft × Nat × Bool}, FT F k g → rdP t n i F k g q = .ok z → FT z.1 z.2.1 z.2.2 := by
  intro i
  induction i with
  | zero => intro F k g q z _ h; cases h
  | succ i ih =>
    intro F k g q z hF h
    unfold rdP at h
    split at h
    · cases h; exact hF
    · split at h
      · split at h
        · cases h
        · rename_i hk
          obtain ⟨w, h1, h2⟩ := ebd_inv h
          exact ih (FT.row h1 hF hk) h2
      · split at h
        · split at h
          · cases h
          · obtain ⟨w, h1, h2⟩ := ebd_inv h
            exact ih (FT.gen h1 hF) h2
        · cases h
