/-! the class: its state as a whole -/
def sx (v : Int32) : Int32 := v.toInt8.toInt32
def St (X : Nat → Prop) (h h' : jy_P) : Prop := ∀ i c, h[i]? = some c → ¬ X i → h'[i]? = some c
theorem St.rf {X : Nat → Prop} {h : jy_P} : St X h h := fun _ _ q _ => q
theorem St.tr {X : Nat → Prop} {h h1 h2 : jy_P} (p : St X h h1) (q : St X h1 h2) : St X h h2 := fun i c w n => q i c (p i c w n) n
theorem St.set {X : Nat → Prop} {h : jy_P} {i : Nat} {c : Nat × List Value} (hi : X i) : St X h (h.set i c) := fun j _ w n => by
  rw [List.getElem?_set_ne (fun e => n (by rw [← e]; exact hi))]
  exact w
theorem St.app {X : Nat → Prop} {h l : jy_P} : St X h (h ++ l) := fun i c w _ => by
  rw [List.getElem?_append_left (List.getElem?_eq_some_iff.mp w).1]
  exact w
theorem St.weak {X Y : Nat → Prop} {h h' : jy_P} (q : St X h h') (hXY : ∀ i, X i → Y i) : St Y h h' := fun i c w n => q i c w (fun z => n (hXY i z))
theorem gs_eq {h : jy_P} {i : Nat} {c0 c : Nat × List Value} (w : h[i]? = some c0) : (h.set i c)[i]? = some c := List.getElem?_set_self (List.getElem?_eq_some_iff.mp w).1
theorem ga_n {h : jy_P} {c : Nat × List Value} : (h ++ [c])[h.length]? = some c := by simp
theorem app_set {h : jy_P} {c c' : Nat × List Value} : (h ++ [c]).set h.length c' = h ++ [c'] := by simp
def Kt (h h' : jy_P) : Prop := ∀ i c, h[i]? = some c → (i = 4 ∨ i = 5 ∨ 26 ≤ i) → c.1 ≠ 6 → h'[i]? = some c
theorem Kt.kq {h h' : jy_P} (q : Kt h h') : Kq h h' := fun i c w n t => q i c w (Or.inr (Or.inr n)) (by omega)
theorem St.kt {X : Nat → Prop} {h h' : jy_P} (q : St X h h') (hX : ∀ i, X i → ¬ (i = 4 ∨ i = 5 ∨ 26 ≤ i)) : Kt h h' := fun i c w n _ => q i c w (fun z => hX i z n)
theorem TRep.kt {h h' : jy_P} {T : Nat} {R : Ft} {m : Nat} {g : Bool} (hT4 : T = 4 ∨ 26 ≤ T) (q : TRep h T R m g) (hk : Kt h h') : TRep h' T R m g := by
  obtain ⟨ma, gv, mv, t1, t2, t3, t4, t5, t6⟩ := q
  refine ⟨ma, gv, mv, hk _ _ t1 (by omega) (by simp), t2, hk _ _ t3 (by omega) (by simp), t4, fun k hk2 => ?_, t6.kq hk.kq⟩
  obtain ⟨x, dv, x1, x2, x3⟩ := t5 k hk2
  exact ⟨x, dv, x1, x2.kq hk.kq, x3.kq hk.kq⟩
theorem PA.kt {h h' : jy_P} {a : Nat → Nat → Int32} {np : Nat} (q : PA h a np) (hk : Kt h h') (h8 : ∀ c, h[8]? = some c → h'[8]? = some c) : PA h' a np := by
  obtain ⟨pv, v1, v2, v3⟩ := q
  refine ⟨pv, h8 _ v1, v2, fun k hk2 => ?_⟩
  obtain ⟨x, x1, x2⟩ := v3 k hk2
  exact ⟨x, x1, x2.kq hk.kq⟩
theorem BA.st {h h' : jy_P} {a : Nat → Nat → Int32} {nb : Nat} {fl : Nat → Bool} {bx : Nat → Nat} (q : BA h a nb fl bx) (hk : ∀ i c, h[i]? = some c → (i = 9 ∨ 26 ≤ i) → h'[i]? = some c) : BA h' a nb fl bx := by
  obtain ⟨⟨bv, v1, v2, v3⟩, inj⟩ := q
  refine ⟨⟨bv, hk _ _ v1 (by omega), v2, fun k hk2 => ?_⟩, inj⟩
  obtain ⟨x1, x2, x3⟩ := v3 k hk2
  exact ⟨x1, x2, hk _ _ x3 (Or.inr x2)⟩
/-- the class' object stands for the reference's state (f, a): T its table, m rows, g a general one, np parts, nb buildings (at bx, fl: fresh), t signs, s letters -/
def Comp (h : jy_P) (f : Nat → Int32) (a : Nat → Nat → Int32) (T m : Nat) (g : Bool) (np nb : Nat) (fl : Nat → Bool) (bx : Nat → Nat) (t s : Nat) : Prop :=
  h[1]? = some (0, cf T f) ∧ (∃ at_ : Int32, h[2]? = some (1, [.ref 3, .int (f 1), .int at_])) ∧ (∃ tb : Ft, h[3]? = some (51, ints 400 tb) ∧ (∀ j, j < t → tb j = sx (a 12 j)) ∧ ∀ j, ∃ w : Int32, tb j = sx w) ∧ (T = 4 ∨ 26 ≤ T) ∧ TRep h T (a 13) m g ∧ (∃ wb : Ft, h[6]? = some (51, ints 8 wb) ∧ ∀ j, j < s → wb j = a 23 j) ∧ (∃ rw : Ft, h[7]? = some (50, ints 11 rw)) ∧ PA h a np ∧ BA h a nb fl bx ∧ h[10]? = some (50, ints 5 (a 22))
theorem Comp.frame {h h' : jy_P} {f : Nat → Int32} {a : Nat → Nat → Int32} {T m : Nat} {g : Bool} {np nb : Nat} {fl : Nat → Bool} {bx : Nat → Nat} {t s : Nat} (q : Comp h f a T m g np nb fl bx t s) (hk : ∀ i c, h[i]? = some c → (i ≤ 10 ∨ 26 ≤ i) → h'[i]? = some c) : Comp h' f a T m g np nb fl bx t s := by
  obtain ⟨c1, ⟨at_, c2⟩, ⟨tb, c3, c3'⟩, c4, c5, ⟨wb, c6, c6'⟩, ⟨rw_, c7⟩, c8, c9, c10⟩ := q
  have kt : Kt h h' := fun i c w n _ => hk i c w (by omega)
  exact ⟨hk _ _ c1 (by omega), ⟨at_, hk _ _ c2 (by omega)⟩, ⟨tb, hk _ _ c3 (by omega), c3'⟩, c4, c5.kt c4 kt, ⟨wb, hk _ _ c6 (by omega), c6'⟩, ⟨rw_, hk _ _ c7 (by omega)⟩, c8.kt kt (fun c w => hk _ _ w (by omega)), c9.st (fun i c w n => hk i c w (by omega)), hk _ _ c10 (by omega)⟩
theorem Comp.congr {h : jy_P} {f f' : Nat → Int32} {a a' : Nat → Nat → Int32} {T m : Nat} {g : Bool} {np nb : Nat} {fl : Nat → Bool} {bx : Nat → Nat} {t s : Nat} (q : Comp h f a T m g np nb fl bx t s) (hf : ∀ k, k ∈ [1, 3, 12, 16, 17, 18, 19, 25, 27] → f' k = f k) (ha : ∀ B, B ∈ [12, 13, 15, 16, 17, 18, 19, 22, 23] → a' B = a B) : Comp h f' a' T m g np nb fl bx t s := by
  have e1 : cf T f' = cf T f := by
    unfold cf
    rw [hf 3 (by decide), hf 27 (by decide), hf 12 (by decide), hf 19 (by decide), hf 16 (by decide), hf 17 (by decide), hf 25 (by decide), hf 18 (by decide)]
  have e2 : ∀ k, iP a' k = iP a k := fun k => by unfold iP; rw [ha 17 (by decide)]
  unfold Comp PA BA at q ⊢
  rw [e1, hf 1 (by decide), ha 12 (by decide), ha 13 (by decide), ha 23 (by decide), ha 22 (by decide), ha 15 (by decide), ha 16 (by decide), ha 18 (by decide), ha 19 (by decide)]
  simp only [e2]
  exact q
/-- what else is kept, and how much is new -/
def Fx (h h' : jy_P) : Prop := (∀ i c, h[i]? = some c → (i = 0 ∨ (11 ≤ i ∧ i ≤ 25)) → h'[i]? = some c) ∧ h.length ≤ h'.length ∧ h'.length ≤ h.length + 300
theorem Fx.rf {h : jy_P} : Fx h h := ⟨fun _ _ q _ => q, by omega, by omega⟩
theorem St.fx {X : Nat → Prop} {h h' : jy_P} (q : St X h h') (hX : ∀ i, X i → ¬ (i = 0 ∨ (11 ≤ i ∧ i ≤ 25))) (h1 : h.length ≤ h'.length) (h2 : h'.length ≤ h.length + 300) : Fx h h' := ⟨fun i c w n => q i c w (fun z => hX i z n), h1, h2⟩
section HP
variable {G : jy_G} {d d' : Nat} {M M' : jy_M} {pc : Nat} {L : List (Option Value)} {st : List Value} {h : jy_P} {P : Outcome → jy_P → Prop}
theorem hp_put {idx k i T : Nat} {x : Int32} {f : Nat → Int32} (hd : decode (jy_c M) pc = .ok (.putfield idx, 3)) (hF : jy_F (jy_y M).cls idx 0 k .int false) (hs : (cf T f).set k (.int x) = cf T (upd f i x)) (h1 : h[1]? = some (0, cf T f)) (kk : ∀ h', h' = h.set 1 (0, cf T (upd f i x)) → h'[1]? = some (0, cf T (upd f i x)) → jy_J G d M (pc + 3) L st h' P) : jy_J G d M pc L (.int x :: .ref 1 :: st) h P :=
  jr_put hd hF jy_fv_int (by decide) h1 rfl (by rw [hs]; exact kk _ rfl (gs_eq h1))
theorem hpz_put {idx k i T : Nat} {x : Int32} {f : Nat → Int32} (hd : decode (jy_c M) pc = .ok (.putfield idx, 3)) (hF : jy_F (jy_y M).cls idx 0 k .boolean false) (hs : (cf T f).set k (.int x) = cf T (upd f i x)) (hx : x = 0 ∨ x = 1) (h1 : h[1]? = some (0, cf T f)) (kk : ∀ h', h' = h.set 1 (0, cf T (upd f i x)) → h'[1]? = some (0, cf T (upd f i x)) → jy_J G d M (pc + 3) L st h' P) : jy_J G d M pc L (.int x :: .ref 1 :: st) h P :=
  jr_put hd hF (jy_fv_bool hx) (by decide) h1 rfl (by rw [hs]; exact kk _ rfl (gs_eq h1))
end HP
section CO
variable {G : jy_G} {h h0 : jy_P} {f : Nat → Int32} {a : Nat → Nat → Int32} {T m : Nat} {g : Bool} {np nb : Nat} {fl : Nat → Bool} {bx : Nat → Nat} {t s : Nat}
/-- only fields of the object itself have changed -/
theorem Comp.own {h' : jy_P} {f' : Nat → Int32} (q : Comp h f a T m g np nb fl bx t s) (h1 : h'[1]? = some (0, cf T f')) (hs : St (fun i => i = 1) h h') (hf : f' 1 = f 1) : Comp h' f' a T m g np nb fl bx t s := by
  obtain ⟨c1, ⟨at_, c2⟩, ⟨tb, c3, c3'⟩, c4, c5, ⟨wb, c6, c6'⟩, ⟨rw_, c7⟩, c8, c9, c10⟩ := q
  have kt : Kt h h' := hs.kt (fun i e => by omega)
  exact ⟨h1, ⟨at_, by rw [hf]; exact hs _ _ c2 (by decide)⟩, ⟨tb, hs _ _ c3 (by decide), c3'⟩, c4, c5.kt c4 kt, ⟨wb, hs _ _ c6 (by decide), c6'⟩, ⟨rw_, hs _ _ c7 (by decide)⟩, c8.kt kt (fun c w => hs _ _ w (by decide)), c9.st (fun i c w n => hs i c w (by omega)), hs _ _ c10 (by decide)⟩
theorem Comp.np_le {np' : Nat} (q : Comp h f a T m g np nb fl bx t s) (hle : np' ≤ np) : Comp h f a T m g np' nb fl bx t s := by
  obtain ⟨c1, c2, c3, c4, c5, c6, c7, ⟨pv, v1, v2, v3⟩, c9, c10⟩ := q
  exact ⟨c1, c2, c3, c4, c5, c6, c7, ⟨pv, v1, v2, fun k hk => v3 k (by omega)⟩, c9, c10⟩
theorem d_HT_clear_0 : decode (jy_c m_HT_clear) 0 = .ok (.aload_n 0, 1) := by decide +kernel
theorem d_HT_clear_1 : decode (jy_c m_HT_clear) 1 = .ok (.iconst 0, 1) := by decide +kernel
theorem d_HT_clear_2 : decode (jy_c m_HT_clear) 2 = .ok (.putfield 173, 3) := by decide +kernel
theorem d_HT_clear_5 : decode (jy_c m_HT_clear) 5 = .ok (.aload_n 0, 1) := by decide +kernel
theorem d_HT_clear_6 : decode (jy_c m_HT_clear) 6 = .ok (.iconst 1, 1) := by decide +kernel
theorem d_HT_clear_7 : decode (jy_c m_HT_clear) 7 = .ok (.putfield 50, 3) := by decide +kernel
theorem d_HT_clear_10 : decode (jy_c m_HT_clear) 10 = .ok (.return_, 1) := by decide +kernel
theorem c_HT_clear (hC : Comp h0 f a T m g np nb fl bx t s) : jy_C G 1 m_HT_clear [.ref 1] h0 (fun o h' => o = .returned none ∧ Comp h' (upd (upd f 12 0) 25 1) a T m g 0 nb fl bx t s ∧ St (fun i => i = 1) h0 h' ∧ h'.length = h0.length) := by
  refine jy_C.of [some (.ref 1)] rfl (Nat.le_of_ble_eq_true rfl) ?_
  have h1 := hC.1
  refine jr_aload_n d_HT_clear_0 rfl rfl ?_
  refine jr_iconst (v := 0) d_HT_clear_1 (by decide) ?_
  refine hp_put d_HT_clear_2 f_HT_173 (i := 12) rfl h1 (fun h hE2 h1 => ?_)
  refine jr_aload_n d_HT_clear_5 rfl rfl ?_
  refine jr_iconst (v := 1) d_HT_clear_6 (by decide) ?_
  refine hp_put d_HT_clear_7 f_HT_50 (i := 25) rfl h1 (fun h hE7 h1 => ?_)
  refine jr_return d_HT_clear_10 rfl ?_
  have hs : St (fun i => i = 1) h0 h := by rw [hE7, hE2]; exact (St.set (X := fun i => i = 1) rfl).tr (St.set rfl)
  refine ⟨rfl, (hC.np_le (Nat.zero_le _)).own h1 hs rfl, hs, by rw [hE7, hE2]; simp⟩
theorem d_HT_mark_0 : decode (jy_c m_HT_mark) 0 = .ok (.iload_n 1, 1) := by decide +kernel
theorem d_HT_mark_1 : decode (jy_c m_HT_mark) 1 = .ok (.iconst 0, 1) := by decide +kernel
theorem d_HT_mark_2 : decode (jy_c m_HT_mark) 2 = .ok (.iconst 4, 1) := by decide +kernel
theorem d_HT_mark_3 : decode (jy_c m_HT_mark) 3 = .ok (.invokestatic 72, 3) := by decide +kernel
theorem d_HT_mark_6 : decode (jy_c m_HT_mark) 6 = .ok (.invokestatic 108, 3) := by decide +kernel
theorem d_HT_mark_9 : decode (jy_c m_HT_mark) 9 = .ok (.iload_n 2, 1) := by decide +kernel
theorem d_HT_mark_10 : decode (jy_c m_HT_mark) 10 = .ok (.ifCond .lt 7, 3) := by decide +kernel
theorem d_HT_mark_13 : decode (jy_c m_HT_mark) 13 = .ok (.iconst 1, 1) := by decide +kernel
theorem d_HT_mark_14 : decode (jy_c m_HT_mark) 14 = .ok (.goto 4, 3) := by decide +kernel
theorem d_HT_mark_17 : decode (jy_c m_HT_mark) 17 = .ok (.iconst 0, 1) := by decide +kernel
theorem d_HT_mark_18 : decode (jy_c m_HT_mark) 18 = .ok (.invokestatic 76, 3) := by decide +kernel
theorem d_HT_mark_21 : decode (jy_c m_HT_mark) 21 = .ok (.aload_n 0, 1) := by decide +kernel
theorem d_HT_mark_22 : decode (jy_c m_HT_mark) 22 = .ok (.getfield 57, 3) := by decide +kernel
theorem d_HT_mark_25 : decode (jy_c m_HT_mark) 25 = .ok (.iload_n 1, 1) := by decide +kernel
theorem d_HT_mark_26 : decode (jy_c m_HT_mark) 26 = .ok (.iload_n 2, 1) := by decide +kernel
theorem d_HT_mark_27 : decode (jy_c m_HT_mark) 27 = .ok (.iastore, 1) := by decide +kernel
theorem d_HT_mark_28 : decode (jy_c m_HT_mark) 28 = .ok (.return_, 1) := by decide +kernel
theorem c_HT_mark (hC : Comp h f a T m g np nb fl bx t s) (hK : h.length < jy_K) (k v : Int32) : jy_C G 13 m_HT_mark [.ref 1, .int k, .int v] h (opP h (ex3 (inB k 0 4) 12 (decide (0 ≤ v)) 9 true 0) none (fun h' => Comp h' f (upd2 a 22 k.toNatClampNeg v) T m g np nb fl bx t s ∧ Fx h h')) := by
  refine jy_C.of [some (.ref 1), some (.int k), some (.int v)] rfl (Nat.le_of_ble_eq_true rfl) ?_
  have h1 := hC.1
  refine jr_iload_n d_HT_mark_0 rfl rfl ?_
  refine jr_iconst (v := 0) d_HT_mark_1 (by decide) ?_
  refine jr_iconst (v := 4) d_HT_mark_2 (by decide) ?_
  refine jr_callSp3 d_HT_mark_3 i_HT_72 (Nat.le_of_ble_eq_true rfl) (by decide) (c_HT_isIn _ _ _) ?_
  refine jr_guard d_HT_mark_6 i_HT_108 (g_known hK) (Nat.le_of_ble_eq_true rfl) (by decide) (fun _ hq => by cases hq) (fun hc => ?_) (fun hc => opP.ex (by rw [bI_eq0.mp hc]; rfl) (by decide))
  have g1 := bI_ne0.mp hc
  refine jr_iload_n d_HT_mark_9 rfl rfl ?_
  refine jy_cut1 18 (fun z => z = bI (decide (0 ≤ v))) (fun K => ?_) (fun z hz => ?_)
  · refine jr_if_lt (tgt := 17) d_HT_mark_10 (by decide) (fun hc => ?_) (fun hc => ?_)
    · refine jr_iconst (v := 0) d_HT_mark_17 (by decide) ?_
      exact K _ (by rw [decide_eq_false (Int32.not_le.mpr hc)]; rfl)
    · refine jr_iconst (v := 1) d_HT_mark_13 (by decide) ?_
      refine jr_goto (tgt := 18) d_HT_mark_14 (by decide) ?_
      exact K _ (by rw [decide_eq_true (Int32.not_lt.mp hc)]; rfl)
  subst hz
  refine jr_guard d_HT_mark_18 i_HT_76 (g_within hK) (Nat.le_of_ble_eq_true rfl) (by decide) (fun _ hq => by cases hq) (fun hc => ?_) (fun hc => opP.ex (by rw [g1, bI_eq0.mp hc]; rfl) (by decide))
  have g2 := bI_ne0.mp hc
  obtain ⟨j, hj, rfl⟩ := inB_04 (c := 4) (by decide) g1
  rw [nI_clamp (by omega)]
  obtain ⟨c1, ⟨at_, c2⟩, ⟨tb, c3, c3'⟩, c4, c5, ⟨wb, c6, c6'⟩, ⟨rw_, c7⟩, c8, c9, c10⟩ := hC
  refine jr_aload_n d_HT_mark_21 rfl rfl ?_
  refine jr_get d_HT_mark_22 f_HT_57 h1 rfl ?_
  refine jr_iload_n d_HT_mark_25 rfl rfl ?_
  refine jr_iload_n d_HT_mark_26 rfl rfl ?_
  refine cr_iast d_HT_mark_27 (by decide) c10 rfl (by omega) (by decide) ?_
  refine jr_return d_HT_mark_28 rfl ?_
  have hs : St (fun i => i = 10) h (h.set 10 (50, ints 5 (upd (a 22) j v))) := St.set rfl
  have kt : Kt h (h.set 10 (50, ints 5 (upd (a 22) j v))) := hs.kt (fun i e => by omega)
  refine opP.ok (by rw [g1, g2]; rfl) ⟨⟨hs _ _ c1 (by decide), ⟨at_, hs _ _ c2 (by decide)⟩, ⟨tb, hs _ _ c3 (by decide), c3'⟩, c4, c5.kt c4 kt, ⟨wb, hs _ _ c6 (by decide), c6'⟩, ⟨rw_, hs _ _ c7 (by decide)⟩, c8.kt kt (fun c w => hs _ _ w (by decide)), c9.st (fun i c w n => hs i c w (by omega)), gs_eq c10⟩, hs.fx (fun i e => by omega) (by simp) (by simp)⟩
theorem d_HT_step_0 : decode (jy_c m_HT_step) 0 = .ok (.iload_n 1, 1) := by decide +kernel
theorem d_HT_step_1 : decode (jy_c m_HT_step) 1 = .ok (.iconst 1, 1) := by decide +kernel
theorem d_HT_step_2 : decode (jy_c m_HT_step) 2 = .ok (.bipush 6, 2) := by decide +kernel
theorem d_HT_step_4 : decode (jy_c m_HT_step) 4 = .ok (.invokestatic 72, 3) := by decide +kernel
theorem d_HT_step_7 : decode (jy_c m_HT_step) 7 = .ok (.invokestatic 76, 3) := by decide +kernel
theorem d_HT_step_10 : decode (jy_c m_HT_step) 10 = .ok (.aload_n 0, 1) := by decide +kernel
theorem d_HT_step_11 : decode (jy_c m_HT_step) 11 = .ok (.getfield 173, 3) := by decide +kernel
theorem d_HT_step_14 : decode (jy_c m_HT_step) 14 = .ok (.ifCond .le 15, 3) := by decide +kernel
theorem d_HT_step_17 : decode (jy_c m_HT_step) 17 = .ok (.iload_n 1, 1) := by decide +kernel
theorem d_HT_step_18 : decode (jy_c m_HT_step) 18 = .ok (.aload_n 0, 1) := by decide +kernel
theorem d_HT_step_19 : decode (jy_c m_HT_step) 19 = .ok (.getfield 50, 3) := by decide +kernel
theorem d_HT_step_22 : decode (jy_c m_HT_step) 22 = .ok (.if_icmp .ne 7, 3) := by decide +kernel
theorem d_HT_step_25 : decode (jy_c m_HT_step) 25 = .ok (.iconst 1, 1) := by decide +kernel
theorem d_HT_step_26 : decode (jy_c m_HT_step) 26 = .ok (.goto 4, 3) := by decide +kernel
theorem d_HT_step_29 : decode (jy_c m_HT_step) 29 = .ok (.iconst 0, 1) := by decide +kernel
theorem d_HT_step_30 : decode (jy_c m_HT_step) 30 = .ok (.invokestatic 96, 3) := by decide +kernel
theorem d_HT_step_33 : decode (jy_c m_HT_step) 33 = .ok (.aload_n 0, 1) := by decide +kernel
theorem d_HT_step_34 : decode (jy_c m_HT_step) 34 = .ok (.invokevirtual 193, 3) := by decide +kernel
theorem d_HT_step_37 : decode (jy_c m_HT_step) 37 = .ok (.iconst 5, 1) := by decide +kernel
theorem d_HT_step_38 : decode (jy_c m_HT_step) 38 = .ok (.if_icmp .ge 7, 3) := by decide +kernel
theorem d_HT_step_41 : decode (jy_c m_HT_step) 41 = .ok (.iconst 3, 1) := by decide +kernel
theorem d_HT_step_42 : decode (jy_c m_HT_step) 42 = .ok (.goto 5, 3) := by decide +kernel
theorem d_HT_step_45 : decode (jy_c m_HT_step) 45 = .ok (.bipush 6, 2) := by decide +kernel
theorem d_HT_step_47 : decode (jy_c m_HT_step) 47 = .ok (.istore_n 2, 1) := by decide +kernel
theorem d_HT_step_48 : decode (jy_c m_HT_step) 48 = .ok (.aload_n 0, 1) := by decide +kernel
theorem d_HT_step_49 : decode (jy_c m_HT_step) 49 = .ok (.iload_n 1, 1) := by decide +kernel
theorem d_HT_step_50 : decode (jy_c m_HT_step) 50 = .ok (.iload_n 2, 1) := by decide +kernel
theorem d_HT_step_51 : decode (jy_c m_HT_step) 51 = .ok (.if_icmp .lt 7, 3) := by decide +kernel
theorem d_HT_step_54 : decode (jy_c m_HT_step) 54 = .ok (.iconst 1, 1) := by decide +kernel
theorem d_HT_step_55 : decode (jy_c m_HT_step) 55 = .ok (.goto 6, 3) := by decide +kernel
theorem d_HT_step_58 : decode (jy_c m_HT_step) 58 = .ok (.iload_n 1, 1) := by decide +kernel
theorem d_HT_step_59 : decode (jy_c m_HT_step) 59 = .ok (.iconst 1, 1) := by decide +kernel
theorem d_HT_step_60 : decode (jy_c m_HT_step) 60 = .ok (.iadd, 1) := by decide +kernel
theorem d_HT_step_61 : decode (jy_c m_HT_step) 61 = .ok (.putfield 50, 3) := by decide +kernel
theorem d_HT_step_64 : decode (jy_c m_HT_step) 64 = .ok (.aload_n 0, 1) := by decide +kernel
theorem d_HT_step_65 : decode (jy_c m_HT_step) 65 = .ok (.getfield 50, 3) := by decide +kernel
theorem d_HT_step_68 : decode (jy_c m_HT_step) 68 = .ok (.ireturn, 1) := by decide +kernel
theorem c_HT_step (hC : Comp h0 f a T m g np nb fl bx t s) (hn : f 12 = nI np) (h8 : np ≤ 8) (hK : h0.length < jy_K) (hnx : ¬ (if sS a np < 5 then 3 else 6) < f 25) (i : Int32) : jy_C G 13 m_HT_step [.ref 1, .int i] h0 (opP h0 (ex3 (inB i 1 6) 9 (spB f np i) 11 true 0) (some (.int (spV a np i))) (fun h' => Comp h' (upd f 25 (spV a np i)) a T m g np nb fl bx t s ∧ Fx h0 h')) := by
  refine jy_C.of [some (.ref 1), some (.int i), none] rfl (Nat.le_of_ble_eq_true rfl) ?_
  have h1 := hC.1
  have hp := hC.2.2.2.2.2.2.2.1
  refine jr_iload_n d_HT_step_0 rfl rfl ?_
  refine jr_iconst (v := 1) d_HT_step_1 (by decide) ?_
  refine jr_bipush (v := 6) d_HT_step_2 (by decide) ?_
  refine jr_callSp3 d_HT_step_4 i_HT_72 (Nat.le_of_ble_eq_true rfl) (by decide) (c_HT_isIn _ _ _) ?_
  refine jr_guard d_HT_step_7 i_HT_76 (g_within hK) (Nat.le_of_ble_eq_true rfl) (by decide) (fun _ hq => by cases hq) (fun hc => ?_) (fun hc => opP.ex (by rw [bI_eq0.mp hc]; rfl) (by decide))
  have g1 := bI_ne0.mp hc
  refine jr_aload_n d_HT_step_10 rfl rfl ?_
  refine jr_get d_HT_step_11 f_HT_173 h1 rfl ?_
  rw [hn]
  refine jy_cut1 30 (fun z => z = bI (spB f np i)) (fun K => ?_) (fun z hz => ?_)
  · refine jr_if_le (tgt := 29) d_HT_step_14 (by decide) (fun hc => ?_) (fun hc => ?_)
    · refine jr_iconst (v := 0) d_HT_step_29 (by decide) ?_
      exact K _ (by rw [spB, (pos_b (by omega)).1 hc]; rfl)
    · refine jr_iload_n d_HT_step_17 rfl rfl ?_
      refine jr_aload_n d_HT_step_18 rfl rfl ?_
      refine jr_get d_HT_step_19 f_HT_50 h1 rfl ?_
      refine jr_icmp_ne (tgt := 29) d_HT_step_22 (by decide) (fun hc2 => ?_) (fun hc2 => ?_)
      · refine jr_iconst (v := 0) d_HT_step_29 (by decide) ?_
        exact K _ (by rw [spB, decide_eq_false hc2, Bool.and_false]; rfl)
      · refine jr_iconst (v := 1) d_HT_step_25 (by decide) ?_
        refine jr_goto (tgt := 30) d_HT_step_26 (by decide) ?_
        exact K _ (by rw [spB, (pos_b (by omega)).2 hc, decide_eq_true hc2]; rfl)
  subst hz
  refine jr_guard d_HT_step_30 i_HT_96 (g_must hK) (Nat.le_of_ble_eq_true rfl) (by decide) (fun _ hq => by cases hq) (fun hc => ?_) (fun hc => opP.ex (by rw [g1, bI_eq0.mp hc]; rfl) (by decide))
  have g2 := bI_ne0.mp hc
  have hi : i = f 25 := by
    have := g2
    rw [spB, Bool.and_eq_true] at this
    exact of_decide_eq_true this.2
  refine jr_aload_n d_HT_step_33 rfl rfl ?_
  refine jr_callVp0 d_HT_step_34 i_HT_193 h1 (Nat.le_of_ble_eq_true rfl) (by decide) (c_HT_strictness h1 hp hn h8) ?_
  refine jr_iconst (v := 5) d_HT_step_37 (by decide) ?_
  refine jy_cut2 47 (fun z => z = (if sS a np < 5 then 3 else 6)) (fun K => ?_) (fun z hz => ?_)
  · refine jr_icmp_ge (tgt := 45) d_HT_step_38 (by decide) (fun hc => ?_) (fun hc => ?_)
    · refine jr_bipush (v := 6) d_HT_step_45 (by decide) ?_
      exact K _ (by rw [if_neg (Int32.not_lt.mpr hc)])
    · refine jr_iconst (v := 3) d_HT_step_41 (by decide) ?_
      refine jr_goto (tgt := 47) d_HT_step_42 (by decide) ?_
      exact K _ (by rw [if_pos (Int32.not_le.mp hc)])
  subst hz
  refine jr_istore_n d_HT_step_47 rfl (by decide) ?_
  refine jr_aload_n d_HT_step_48 rfl rfl ?_
  refine jr_iload_n d_HT_step_49 rfl rfl ?_
  refine jr_iload_n d_HT_step_50 rfl rfl ?_
  refine jy_cut2 61 (fun z => z = spV a np i) (fun K => ?_) (fun z hz => ?_)
  · refine jr_icmp_lt (tgt := 58) d_HT_step_51 (by decide) (fun hc => ?_) (fun hc => ?_)
    · refine jr_iload_n d_HT_step_58 rfl rfl ?_
      refine jr_iconst (v := 1) d_HT_step_59 (by decide) ?_
      refine jr_iadd d_HT_step_60 ?_
      exact K _ (by rw [spV, if_neg (fun e => absurd hc (by rw [← e]; exact Int32.lt_irrefl))])
    · have e : i = (if sS a np < 5 then 3 else 6) := Int32.le_antisymm (by rw [hi]; exact Int32.not_lt.mp hnx) (Int32.not_lt.mp hc)
      refine jr_iconst (v := 1) d_HT_step_54 (by decide) ?_
      refine jr_goto (tgt := 61) d_HT_step_55 (by decide) ?_
      exact K _ (by rw [spV, if_pos e])
  subst hz
  refine hp_put d_HT_step_61 f_HT_50 (i := 25) rfl h1 (fun h hE61 h1 => ?_)
  refine jr_aload_n d_HT_step_64 rfl rfl ?_
  refine jr_get d_HT_step_65 f_HT_50 h1 rfl ?_
  rw [show upd f 25 (spV a np i) 25 = spV a np i from upd_s]
  refine jr_ireturn d_HT_step_68 rfl rfl ?_
  have hs : St (fun i => i = 1) h0 h := by rw [hE61]; exact St.set rfl
  exact opP.ok (by rw [g1, g2]; rfl) ⟨hC.own h1 hs rfl, hs.fx (fun i e => by omega) (by rw [hE61]; simp) (by rw [hE61]; simp)⟩
end CO
