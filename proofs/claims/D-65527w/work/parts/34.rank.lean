/-! the plain law of 'near': the n-th by distance and number, looked for in two ways -/
theorem cnt_imp {g g' : Nat → Bool} : ∀ {n : Nat}, (∀ p, p < n → g p = true → g' p = true) → cnt g n ≤ cnt g' n := by
  intro n
  induction n with
  | zero => intro _; exact Nat.le_refl _
  | succ n ih =>
    intro h
    have h1 := ih (fun p hp => h p (by omega))
    have h2 := h n (by omega)
    show cnt g n + (if g n then 1 else 0) ≤ cnt g' n + (if g' n then 1 else 0)
    by_cases e : g n = true
    · rw [if_pos e, if_pos (h2 e)]; omega
    · rw [if_neg e]; omega
theorem cnt_one {g g' : Nat → Bool} {l : Nat} : ∀ {n : Nat}, l < n → g l = false → g' l = true → (∀ p, p < n → p ≠ l → g p = g' p) → cnt g' n = cnt g n + 1 := by
  intro n
  induction n with
  | zero => intro h; omega
  | succ n ih =>
    intro hl h1 h2 h3
    show cnt g' n + (if g' n then 1 else 0) = cnt g n + (if g n then 1 else 0) + 1
    by_cases e : l = n
    · subst e
      rw [cnt_congr (g := g') (g' := g) (fun p hp => (h3 p (by omega) (by omega)).symm), h1, h2]
      rfl
    · rw [ih (by omega) h1 h2 (fun p hp => h3 p (by omega)), h3 n (by omega) (fun q => e q.symm)]
      omega
theorem cnt_zero {g : Nat → Bool} : ∀ {n : Nat}, (∀ p, p < n → g p = false) → cnt g n = 0 := by
  intro n
  induction n with
  | zero => intro _; rfl
  | succ n ih =>
    intro h
    show cnt g n + (if g n then 1 else 0) = 0
    rw [ih (fun p hp => h p (by omega)), h n (by omega)]
    rfl
def rk (a : Nat → Nat → Int32) (s m k : Nat) : Nat := cnt (fun j => decide (ky a s j < ky a s k)) m
theorem fol_spec {a : Nat → Nat → Int32} {s : Nat} {o : Option Nat} : ∀ m, (fol a s o m = none → ∀ k, k < m → bh a s o k = false) ∧ ∀ b, fol a s o m = some b → bh a s o b = true ∧ ∀ k, k < m → bh a s o k = true → ky a s b ≤ ky a s k := by
  intro m
  induction m with
  | zero => exact ⟨(fun _ k hk => by omega), (fun b h => by cases h)⟩
  | succ m ih =>
    obtain ⟨i1, i2⟩ := ih
    unfold fol
    by_cases c : (bh a s o m && nw a s (fol a s o m) m) = true
    · rw [if_pos c]
      rw [Bool.and_eq_true] at c
      refine ⟨(fun h => by cases h), fun b h => ?_⟩
      cases h
      refine ⟨c.1, fun k hk hb => ?_⟩
      by_cases e : k = m
      · subst e; exact Nat.le_refl _
      · rcases hf : fol a s o m with _ | b
        · have := i1 hf k (by omega)
          rw [this] at hb
          cases hb
        · have h2 := (i2 b hf).2 k (by omega) hb
          rw [hf] at c
          have h3 : ky a s m < ky a s b := of_decide_eq_true c.2
          omega
    · rw [if_neg c]
      refine ⟨fun h k hk => ?_, fun b h => ?_⟩
      · by_cases e : k = m
        · subst e
          rw [h] at c
          cases hb : bh a s o k with
          | false => rfl
          | true => rw [hb] at c; exact absurd rfl c
        · exact i1 h k (by omega)
      · refine ⟨(i2 b h).1, fun k hk hb => ?_⟩
        by_cases e : k = m
        · subst e
          rw [h, hb] at c
          have : ¬ ky a s k < ky a s b := fun q => c (by rw [Bool.true_and]; exact decide_eq_true q)
          omega
        · exact (i2 b h).2 k (by omega) hb
theorem ky_inj {a : Nat → Nat → Int32} {s m : Nat} (hR : tOk (a 13) m) (hD : ∀ j k, j < m → k < m → nu (a 13) j = nu (a 13) k → j = k) {j k : Nat} (hj : j < m) (hk : k < m) (e : ky a s j = ky a s k) : j = k := by
  have h1 := hR j hj
  have h2 := hR k hk
  refine hD j k hj hk ?_
  have a1 := h1.2.2.1
  have a2 := h2.2.2.1
  unfold ky at e
  omega
theorem rk_inj {a : Nat → Nat → Int32} {s m : Nat} (hR : tOk (a 13) m) (hD : ∀ j k, j < m → k < m → nu (a 13) j = nu (a 13) k → j = k) {j k : Nat} (hj : j < m) (hk : k < m) (e : rk a s m j = rk a s m k) : j = k := by
  have lt : ∀ j k, j < m → k < m → ky a s j < ky a s k → rk a s m j < rk a s m k := by
    intro j k hj hk h
    have h1 : cnt (fun i => decide (ky a s i < ky a s j) || decide (i = j)) m = rk a s m j + 1 := by
      refine cnt_one hj ?_ ?_ (fun p hp hn => ?_)
      · exact decide_eq_false (by omega)
      · simp
      · simp [hn]
    have h2 : cnt (fun i => decide (ky a s i < ky a s j) || decide (i = j)) m ≤ rk a s m k := by
      refine cnt_imp (fun p hp q => ?_)
      rw [Bool.or_eq_true] at q
      refine decide_eq_true ?_
      rcases q with q | q
      · have := of_decide_eq_true q; omega
      · have := of_decide_eq_true q; subst this; exact h
    omega
  refine ky_inj hR hD hj hk (s := s) ?_
  rcases Nat.lt_trichotomy (ky a s j) (ky a s k) with h | h | h
  · have := lt j k hj hk h; omega
  · exact h
  · have := lt k j hk hj h; omega
theorem nrI_rk {a : Nat → Nat → Int32} {s m : Nat} (hR : tOk (a 13) m) (hD : ∀ j k, j < m → k < m → nu (a 13) j = nu (a 13) k → j = k) : ∀ n, (∀ k, nrI a s m n = some k → rk a s m k = n) ∧ (nrI a s m n = none → ∀ k, k < m → rk a s m k < n) := by
  intro n
  induction n with
  | zero =>
    obtain ⟨f1, f2⟩ := fol_spec (a := a) (s := s) (o := none) m
    refine ⟨fun k h => ?_, fun h k hk => ?_⟩
    · have := (f2 k h).2
      refine cnt_zero (fun p hp => decide_eq_false ?_)
      have := this p hp rfl
      omega
    · have := f1 h k hk
      cases this
  | succ n ih =>
    obtain ⟨i1, i2⟩ := ih
    rcases hq : nrI a s m n with _ | l
    · refine ⟨fun k h => ?_, fun h k hk => ?_⟩
      · rw [nrI, hq] at h
        cases h
      · have := i2 hq k hk
        omega
    · have hl := nrI_lt hq
      have hrl := i1 l hq
      have e : nrI a s m (n + 1) = fol a s (some l) m := by rw [nrI, hq]
      obtain ⟨f1, f2⟩ := fol_spec (a := a) (s := s) (o := some l) m
      rw [e]
      refine ⟨fun k h => ?_, fun h k hk => ?_⟩
      · obtain ⟨g1, g2⟩ := f2 k h
        have hkm := fol_lt _ _ h
        have g1 : ky a s l < ky a s k := of_decide_eq_true g1
        show cnt (fun j => decide (ky a s j < ky a s k)) m = n + 1
        rw [← hrl]
        refine cnt_one hl ?_ ?_ (fun p hp hn => ?_)
        · exact decide_eq_false (by omega)
        · exact decide_eq_true g1
        · by_cases c : ky a s p < ky a s l
          · rw [decide_eq_true c, decide_eq_true (by omega)]
          · have c2 : ky a s l < ky a s p := by
              rcases Nat.lt_or_ge (ky a s l) (ky a s p) with q | q
              · exact q
              · exact absurd (ky_inj (s := s) hR hD hp hl (by omega)) hn
            have := g2 p hp (decide_eq_true c2)
            rw [decide_eq_false c, decide_eq_false (by omega)]
      · have := f1 h k hk
        have : ¬ ky a s l < ky a s k := of_decide_eq_false this
        have : rk a s m k ≤ rk a s m l := cnt_imp (fun p hp q => decide_eq_true (by have := of_decide_eq_true q; omega))
        omega
theorem lev_congr {u u' v v' : Nat → Int32} : ∀ i j, (∀ p, p < i → u p = u' p) → (∀ p, p < j → v p = v' p) → lev u v i j = lev u' v' i j := by
  intro i
  induction i with
  | zero => intro j _ _; simp [lev]
  | succ i ih =>
    intro j
    induction j with
    | zero => intro _ _; simp [lev]
    | succ j ih2 =>
      intro h1 h2
      rw [lev, lev, ih j (fun p hp => h1 p (by omega)) (fun p hp => h2 p (by omega)), ih (j + 1) (fun p hp => h1 p (by omega)) h2, ih2 h1 (fun p hp => h2 p (by omega)), h1 i (by omega), h2 j (by omega)]
