/-! THE TEXT'S GRAMMAR, as one plain function for both sides: t the signs, n how many, q the place (blanks passed), F the numbers of the new table (43 a row). An error is its place. -/
abbrev Ft : Type := Nat → Int32
def ebd {α β : Type} (s : Except Nat α) (k : α → Except Nat β) : Except Nat β := match s with
  | .ok x => k x
  | .error e => .error e
theorem ebd_ok {α β : Type} {x : α} {k : α → Except Nat β} : ebd (.ok x) k = k x := rfl
theorem ebd_er {α β : Type} {e : Nat} {k : α → Except Nat β} : ebd (.error e) k = .error e := rfl
def tkP (t : Ft) (n : Nat) (c : Int32) (q : Nat) : Except Nat Nat := if hr t n q = c then .ok (sk t n (q + 1)) else .error q
def nmF (t : Ft) (n : Nat) : Nat → Nat → Int32 → Int32 × Nat
  | 0, q, v => (v, q)
  | k + 1, q, v => if dg (hr t n q) = true ∧ 0 < v then nmF t n k (q + 1) (10 * v + hr t n q - 48) else (v, q)
def nmP (t : Ft) (n : Nat) (lo hi : Int32) (q : Nat) : Except Nat (Int32 × Nat) :=
  if dg (hr t n q) = true then
    (if inB (nmF t n 3 (q + 1) (hr t n q - 48)).1 lo hi = true then
      (if dg (hr t n (nmF t n 3 (q + 1) (hr t n q - 48)).2) = true then .error (nmF t n 3 (q + 1) (hr t n q - 48)).2 else .ok (nmF t n 3 (q + 1) (hr t n q - 48)))
    else .error ((nmF t n 3 (q + 1) (hr t n q - 48)).2 - 1))
  else .error q
def rsF (t : Ft) (n : Nat) (lo hi : Int32) : Nat → Nat → Int32 → Int32 → Int32 × Nat
  | 0, q, b, _ => (b, q)
  | k + 1, q, b, l => if l < hr t n q ∧ hr t n q ≤ hi then rsF t n lo hi k (sk t n (q + 1)) (b ||| (1 <<< ((hr t n q - lo) &&& 31))) (hr t n q) else (b, q)
def rsP (t : Ft) (n : Nat) (lo hi : Int32) (most q : Nat) : Except Nat (Int32 × Nat) :=
  if inB (hr t n q) lo hi = true then
    (if inB (hr t n (rsF t n lo hi most q 0 (lo - 1)).2) lo hi = true then .error (rsF t n lo hi most q 0 (lo - 1)).2 else .ok (rsF t n lo hi most q 0 (lo - 1)))
  else .error q
def ltN (t : Ft) (n : Nat) : Nat → Nat → Nat
  | 0, _ => 0
  | k + 1, p => if inB (hr t n p) 97 122 = true then ltN t n k (p + 1) + 1 else 0
def wF (t : Ft) (n : Nat) (F : Ft) (k p : Nat) : Nat → Ft
  | 0 => F
  | i + 1 => upd (wF t n F k p i) (k + 1 + i) (hr t n (p + i))
def wdF (t : Ft) (n : Nat) (F : Ft) (m p j : Nat) : Ft :=
  upd (upd (wF t n F (m + 10 + 11 * (F (m + 9)).toNatClampNeg) p j) (m + 10 + 11 * (F (m + 9)).toNatClampNeg) (nI j)) (m + 9) ((upd (wF t n F (m + 10 + 11 * (F (m + 9)).toNatClampNeg) p j) (m + 10 + 11 * (F (m + 9)).toNatClampNeg) (nI j)) (m + 9) + 1)
def wdP (t : Ft) (n : Nat) (F : Ft) (m q : Nat) : Except Nat (Ft × Nat) :=
  if hr t n q = 34 then
    (if 0 < ltN t n 10 (q + 1) ∧ hr t n (q + 1 + ltN t n 10 (q + 1)) = 34 then .ok (wdF t n F m (q + 1) (ltN t n 10 (q + 1)), sk t n (q + 1 + ltN t n 10 (q + 1) + 1)) else .error (q + 1 + ltN t n 10 (q + 1)))
  else .error q
/-- a number into F, at i -/
def niP (t : Ft) (n : Nat) (lo hi : Int32) (i : Nat) (z : Ft × Nat) : Except Nat (Ft × Nat) := ebd (nmP t n lo hi z.2) (fun w => .ok (upd z.1 i w.1, sk t n w.2))
def tzP (t : Ft) (n : Nat) (c : Int32) (z : Ft × Nat) : Except Nat (Ft × Nat) := ebd (tkP t n c z.2) (fun q => .ok (z.1, q))
def riP (t : Ft) (n : Nat) (lo hi : Int32) (most i : Nat) (z : Ft × Nat) : Except Nat (Ft × Nat) := ebd (rsP t n lo hi most z.2) (fun w => .ok (upd z.1 i w.1, w.2))
/-- the distances, k of them -/
def dsP (t : Ft) (n m : Nat) (z : Ft × Nat) : Nat → Except Nat (Ft × Nat)
  | 0 => .ok z
  | k + 1 => ebd (dsP t n m z k) (fun w => if k = 0 then niP t n 0 9999 (m + 4 + k) w else ebd (tzP t n 44 w) (niP t n 0 9999 (m + 4 + k)))
def duP1 (t : Ft) (n m : Nat) (z : Ft × Nat) : Except Nat (Ft × Nat) := ebd (ebd (ebd (tzP t n 114 z) (niP t n 0 9 (m + 2))) (tzP t n 103)) (riP t n 97 104 4 (m + 3))
def duP (t : Ft) (n m : Nat) (z : Ft × Nat) : Except Nat (Ft × Nat) := ebd (ebd (duP1 t n m z) (tzP t n 64)) (fun w => dsP t n m w 4)
/-- further names, at most k -/
def nsP (t : Ft) (n m : Nat) : Nat → Ft × Nat → Except Nat (Ft × Nat)
  | 0, z => .ok z
  | k + 1, z => if hr t n z.2 = 34 then ebd (wdP t n z.1 m z.2) (nsP t n m k) else .ok z
def brP (t : Ft) (n m : Nat) (z : Ft × Nat) : Except Nat (Ft × Nat) :=
  if hr t n z.2 = 120 then ebd (rsP t n 49 57 3 (sk t n (z.2 + 1))) (fun w => .ok (upd (upd z.1 (m + 8) 0) (m + 8) (w.1 <<< (1 &&& 31)), w.2)) else .ok (upd z.1 (m + 8) 0, z.2)
/-- a material's row, behind its 'm' -/
def mrP1 (t : Ft) (n k : Nat) (z : Ft × Nat) : Except Nat (Ft × Nat) := ebd (nmP t n 1 9999 z.2) (fun w => if (fd z.1 w.1 k).isSome = true then .error (w.2 - 1) else .ok (upd (upd z.1 (43 * k) w.1) (43 * k + 9) 0, sk t n w.2))
def mrP2 (t : Ft) (n k : Nat) (z : Ft × Nat) : Except Nat (Ft × Nat) := ebd (wdP t n z.1 (43 * k) z.2) (nsP t n (43 * k) 2)
def mrP3 (t : Ft) (n k : Nat) (z : Ft × Nat) : Except Nat (Ft × Nat) := ebd (ebd (ebd (tzP t n 99 z) (niP t n 1 9 (43 * k + 1))) (duP t n (43 * k))) (brP t n (43 * k))
def mrP (t : Ft) (n k : Nat) (z : Ft × Nat) : Except Nat (Ft × Nat) := ebd (ebd (ebd (mrP1 t n k z) (mrP2 t n k)) (mrP3 t n k)) (tzP t n 59)
def grF (F : Ft) : Ft := upd (upd (upd (upd F 516 0) 517 0) 524 0) 525 0
def grP (t : Ft) (n : Nat) (z : Ft × Nat) : Except Nat (Ft × Nat) := ebd (duP t n 516 (grF z.1, z.2)) (tzP t n 59)
/-- the whole text: F, how many rows, whether a general one, place -/
def rdP (t : Ft) (n : Nat) : Nat → Ft → Nat → Bool → Nat → Except Nat (Ft × Nat × Bool)
  | 0, _, _, _, q => .error q
  | i + 1, F, k, g, q =>
    if hr t n q < 0 then .ok (F, k, g)
    else if hr t n q = 109 then (if k = 12 then .error q else ebd (mrP t n k (F, sk t n (q + 1))) (fun z => rdP t n i z.1 (k + 1) g z.2))
    else if hr t n q = 122 then (if g = true then .error q else ebd (grP t n (F, sk t n (q + 1))) (fun z => rdP t n i z.1 k true z.2))
    else .error q
/-! places only grow, and stay on the tape -/
theorem hr_in {t : Ft} {n q : Nat} (h : hr t n q ≠ -1) : q < n := by
  unfold hr at h
  split at h
  · assumption
  · exact absurd rfl h
theorem dg_in {t : Ft} {n q : Nat} (h : dg (hr t n q) = true) : q < n := hr_in (fun e => by rw [e] at h; exact absurd h (by decide))
theorem dg_32 {x : Int32} (h : dg x = true) : ¬ x = 32 := fun e => by rw [e] at h; exact absurd h (by decide)
theorem skb {t : Ft} {n q : Nat} (h : q ≤ n) : q ≤ sk t n q ∧ sk t n q ≤ n := ⟨sk_ge (n - q) q (Nat.le_refl _), sk_le (n - q) q (Nat.le_refl _) h⟩
theorem sk_sk {t : Ft} {n q : Nat} : sk t n (sk t n q) = sk t n q := sk_stop (sk_n32 (n - q) q (Nat.le_refl _))
theorem nmF_b {t : Ft} {n : Nat} : ∀ k q v, q ≤ n → q ≤ (nmF t n k q v).2 ∧ (nmF t n k q v).2 ≤ n := by
  intro k
  induction k with
  | zero => intro q v h; exact ⟨Nat.le_refl _, h⟩
  | succ k ih =>
    intro q v h
    unfold nmF
    split
    · rename_i hc
      have h1 := dg_in hc.1
      have := ih (q + 1) (10 * v + hr t n q - 48) (by omega)
      omega
    · exact ⟨Nat.le_refl _, h⟩
theorem nmP_b {t : Ft} {n : Nat} {lo hi : Int32} {q : Nat} {w : Int32 × Nat} (h : nmP t n lo hi q = .ok w) : q < w.2 ∧ w.2 ≤ n := by
  unfold nmP at h
  split at h
  · rename_i hc
    have := nmF_b (t := t) (n := n) 3 (q + 1) (hr t n q - 48) (by have := dg_in hc; omega)
    split at h
    · split at h
      · cases h
      · cases h; omega
    · cases h
  · cases h
theorem nmP_e {t : Ft} {n : Nat} {lo hi : Int32} {q e : Nat} (hq : q ≤ n) (h : nmP t n lo hi q = .error e) : e ≤ n := by
  unfold nmP at h
  split at h
  · rename_i hc
    have := nmF_b (t := t) (n := n) 3 (q + 1) (hr t n q - 48) (by have := dg_in hc; omega)
    split at h
    · split at h
      · cases h; omega
      · cases h
    · cases h; omega
  · cases h; omega
theorem inB_in {t : Ft} {n q : Nat} {lo hi : Int32} (hlo : -1 < lo) (h : inB (hr t n q) lo hi = true) : q < n := hr_in (fun e => by
  rw [e] at h
  unfold inB at h
  rw [Bool.and_eq_true] at h
  exact absurd (of_decide_eq_true h.1) (Int32.not_le.mpr hlo))
theorem rsF_b {t : Ft} {n : Nat} {lo hi : Int32} : ∀ k q b l, -1 ≤ l → q ≤ n → q ≤ (rsF t n lo hi k q b l).2 ∧ (rsF t n lo hi k q b l).2 ≤ n := by
  intro k
  induction k with
  | zero => intro q b l _ h; exact ⟨Nat.le_refl _, h⟩
  | succ k ih =>
    intro q b l hl h
    unfold rsF
    split
    · rename_i hc
      have h1 : q < n := hr_in (fun e => by rw [e] at hc; exact absurd (Int32.lt_of_lt_of_le hc.1 hl) (Int32.lt_irrefl))
      have h2 := skb (t := t) (n := n) (q := q + 1) (by omega)
      have := ih (sk t n (q + 1)) (b ||| (1 <<< ((hr t n q - lo) &&& 31))) (hr t n q) (Int32.le_of_lt (Int32.lt_of_le_of_lt hl hc.1)) (by omega)
      omega
    · exact ⟨Nat.le_refl _, h⟩
theorem rsP_b {t : Ft} {n : Nat} {lo hi : Int32} {most q : Nat} {w : Int32 × Nat} (hl : -1 ≤ lo - 1) (hq : q ≤ n) (h : rsP t n lo hi most q = .ok w) : q ≤ w.2 ∧ w.2 ≤ n := by
  unfold rsP at h
  split at h
  · have := rsF_b (t := t) (n := n) (lo := lo) (hi := hi) most q 0 (lo - 1) hl hq
    split at h
    · cases h
    · cases h; exact this
  · cases h
theorem rsP_e {t : Ft} {n : Nat} {lo hi : Int32} {most q e : Nat} (hl : -1 ≤ lo - 1) (hq : q ≤ n) (h : rsP t n lo hi most q = .error e) : e ≤ n := by
  unfold rsP at h
  split at h
  · have := rsF_b (t := t) (n := n) (lo := lo) (hi := hi) most q 0 (lo - 1) hl hq
    split at h
    · cases h; exact this.2
    · cases h
  · cases h; exact hq
theorem tkP_b {t : Ft} {n : Nat} {c : Int32} {q r : Nat} (hc : ¬ c = -1) (h : tkP t n c q = .ok r) : q < r ∧ r ≤ n := by
  unfold tkP at h
  split at h
  · rename_i e
    have h1 : q < n := hr_in (by rw [e]; exact hc)
    cases h
    have := skb (t := t) (n := n) (q := q + 1) (by omega)
    omega
  · cases h
theorem tkP_e {t : Ft} {n : Nat} {c : Int32} {q e : Nat} (hq : q ≤ n) (h : tkP t n c q = .error e) : e ≤ n := by
  unfold tkP at h
  split at h
  · cases h
  · cases h; exact hq
theorem ltN_b {t : Ft} {n : Nat} : ∀ k p, p ≤ n → p + ltN t n k p ≤ n ∧ ltN t n k p ≤ k := by
  intro k
  induction k with
  | zero => intro p h; exact ⟨h, Nat.le_refl _⟩
  | succ k ih =>
    intro p h
    unfold ltN
    split
    · rename_i hc
      have h1 := inB_in (by decide) hc
      have := ih (p + 1) (by omega)
      omega
    · exact ⟨h, by omega⟩
theorem wdP_b {t : Ft} {n : Nat} {F : Ft} {m q : Nat} {w : Ft × Nat} (h : wdP t n F m q = .ok w) : q < w.2 ∧ w.2 ≤ n := by
  unfold wdP at h
  split at h
  · rename_i e
    have h1 : q < n := hr_in (by rw [e]; decide)
    split at h
    · rename_i e2
      have h2 : q + 1 + ltN t n 10 (q + 1) < n := hr_in (by rw [e2.2]; decide)
      have h3 := skb (t := t) (n := n) (q := q + 1 + ltN t n 10 (q + 1) + 1) (by omega)
      cases h
      show q < sk t n (q + 1 + ltN t n 10 (q + 1) + 1) ∧ sk t n (q + 1 + ltN t n 10 (q + 1) + 1) ≤ n
      omega
    · cases h
  · cases h
theorem wdP_e {t : Ft} {n : Nat} {F : Ft} {m q e : Nat} (hq : q ≤ n) (h : wdP t n F m q = .error e) : e ≤ n := by
  unfold wdP at h
  split at h
  · rename_i e1
    have h1 : q < n := hr_in (by rw [e1]; decide)
    have h2 := ltN_b (t := t) (n := n) 10 (q + 1) (by omega)
    split at h
    · cases h
    · cases h; omega
  · cases h; exact hq
/-- a step that goes on along the tape -/
def Gw (n : Nat) (z : Ft × Nat) (s : Except Nat (Ft × Nat)) : Prop := (∀ w, s = .ok w → z.2 ≤ w.2 ∧ w.2 ≤ n) ∧ ∀ e, s = .error e → e ≤ n
theorem Gw.ok {n : Nat} {z : Ft × Nat} {w : Ft × Nat} (h : z.2 ≤ w.2 ∧ w.2 ≤ n) : Gw n z (.ok w) := ⟨(fun _ e => by cases e; exact h), (fun _ e => by cases e)⟩
theorem Gw.er {n : Nat} {z : Ft × Nat} {e : Nat} (h : e ≤ n) : Gw n z (.error e) := ⟨(fun _ q => by cases q), (fun _ q => by cases q; exact h)⟩
theorem Gw.bd {n : Nat} {z : Ft × Nat} {s : Except Nat (Ft × Nat)} {k : Ft × Nat → Except Nat (Ft × Nat)} (h1 : Gw n z s) (h2 : ∀ w, w.2 ≤ n → Gw n w (k w)) : Gw n z (ebd s k) := by
  cases s with
  | error e => exact Gw.er (h1.2 e rfl)
  | ok w =>
    have b := h1.1 w rfl
    have c := h2 w b.2
    exact ⟨(fun w' q => by have := c.1 w' q; omega), fun e q => c.2 e q⟩
theorem tzP_g {t : Ft} {n : Nat} {c : Int32} (hc : ¬ c = -1) {z : Ft × Nat} (hz : z.2 ≤ n) : Gw n z (tzP t n c z) := by
  unfold tzP
  rcases h : tkP t n c z.2 with e | q
  · exact Gw.er (tkP_e hz h)
  · have := tkP_b hc h
    exact Gw.ok ⟨by show z.2 ≤ q; omega, this.2⟩
theorem niP_g {t : Ft} {n : Nat} {lo hi : Int32} {i : Nat} {z : Ft × Nat} (hz : z.2 ≤ n) : Gw n z (niP t n lo hi i z) := by
  unfold niP
  rcases h : nmP t n lo hi z.2 with e | w
  · exact Gw.er (nmP_e hz h)
  · have := nmP_b h
    have := skb (t := t) (n := n) (q := w.2) (by omega)
    exact Gw.ok ⟨by show z.2 ≤ sk t n w.2; omega, this.2⟩
theorem riP_g {t : Ft} {n : Nat} {lo hi : Int32} {most i : Nat} (hl : -1 ≤ lo - 1) {z : Ft × Nat} (hz : z.2 ≤ n) : Gw n z (riP t n lo hi most i z) := by
  unfold riP
  rcases h : rsP t n lo hi most z.2 with e | w
  · exact Gw.er (rsP_e hl hz h)
  · exact Gw.ok (rsP_b hl hz h)
theorem wdP_g {t : Ft} {n : Nat} {m : Nat} {z : Ft × Nat} (hz : z.2 ≤ n) : Gw n z (wdP t n z.1 m z.2) :=
  ⟨(fun w q => by have := wdP_b q; omega), fun e q => wdP_e hz q⟩
theorem dsP_g {t : Ft} {n m : Nat} {z : Ft × Nat} (hz : z.2 ≤ n) : ∀ k, Gw n z (dsP t n m z k) := by
  intro k
  induction k with
  | zero => exact Gw.ok ⟨Nat.le_refl _, hz⟩
  | succ k ih =>
    refine Gw.bd ih (fun w hw => ?_)
    split
    · exact niP_g hw
    · exact Gw.bd (tzP_g (by decide) hw) (fun w hw => niP_g hw)
theorem duP1_g {t : Ft} {n m : Nat} {z : Ft × Nat} (hz : z.2 ≤ n) : Gw n z (duP1 t n m z) :=
  Gw.bd (Gw.bd (Gw.bd (tzP_g (by decide) hz) (fun w hw => niP_g hw)) (fun w hw => tzP_g (by decide) hw)) (fun w hw => riP_g (by decide) hw)
theorem duP_g {t : Ft} {n m : Nat} {z : Ft × Nat} (hz : z.2 ≤ n) : Gw n z (duP t n m z) :=
  Gw.bd (Gw.bd (duP1_g hz) (fun w hw => tzP_g (by decide) hw)) (fun w hw => dsP_g hw 4)
theorem nsP_g {t : Ft} {n m : Nat} : ∀ k {z : Ft × Nat}, z.2 ≤ n → Gw n z (nsP t n m k z) := by
  intro k
  induction k with
  | zero => intro z hz; exact Gw.ok ⟨Nat.le_refl _, hz⟩
  | succ k ih =>
    intro z hz
    unfold nsP
    split
    · exact Gw.bd (wdP_g hz) (fun w hw => ih hw)
    · exact Gw.ok ⟨Nat.le_refl _, hz⟩
theorem brP_g {t : Ft} {n m : Nat} {z : Ft × Nat} (hz : z.2 ≤ n) : Gw n z (brP t n m z) := by
  unfold brP
  split
  · rename_i e
    have h1 : z.2 < n := hr_in (by rw [e]; decide)
    have h2 := skb (t := t) (n := n) (q := z.2 + 1) (by omega)
    rcases h : rsP t n 49 57 3 (sk t n (z.2 + 1)) with e | w
    · exact Gw.er (rsP_e (by decide) h2.2 h)
    · have := rsP_b (by decide) h2.2 h
      exact Gw.ok ⟨by show z.2 ≤ w.2; omega, this.2⟩
  · exact Gw.ok ⟨Nat.le_refl _, hz⟩
theorem mrP1_g {t : Ft} {n k : Nat} {z : Ft × Nat} (hz : z.2 ≤ n) : Gw n z (mrP1 t n k z) := by
  unfold mrP1
  rcases h : nmP t n 1 9999 z.2 with e | w
  · exact Gw.er (nmP_e hz h)
  · have h1 := nmP_b h
    rw [ebd_ok]
    split
    · exact Gw.er (by omega)
    · have := skb (t := t) (n := n) (q := w.2) (by omega)
      exact Gw.ok ⟨by show z.2 ≤ sk t n w.2; omega, this.2⟩
theorem mrP_g {t : Ft} {n k : Nat} {z : Ft × Nat} (hz : z.2 ≤ n) : Gw n z (mrP t n k z) :=
  Gw.bd (Gw.bd (Gw.bd (mrP1_g hz) (fun w hw => Gw.bd (wdP_g hw) (fun w hw => nsP_g 2 hw))) (fun w hw => Gw.bd (Gw.bd (Gw.bd (tzP_g (by decide) hw) (fun w hw => niP_g hw)) (fun w hw => duP_g hw)) (fun w hw => brP_g hw))) (fun w hw => tzP_g (by decide) hw)
theorem grP_g {t : Ft} {n : Nat} {z : Ft × Nat} (hz : z.2 ≤ n) : Gw n z (grP t n z) :=
  Gw.bd (z := z) (duP_g (z := (grF z.1, z.2)) hz) (fun w hw => tzP_g (by decide) hw)
