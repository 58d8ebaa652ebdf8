/-! rows on the heap -/
theorem jy_a_inj {G : jy_G} (hb : G.2.2.1 < G.2.1.size) {i j : Nat} (h : jy_a G i = jy_a G j) : i = j := by
  cases i <;> cases j <;> simp only [jy_a] at h <;> omega
theorem jy_a_ge {G : jy_G} {i : Nat} (h : 0 < i) : G.2.1.size ≤ jy_a G i := by
  cases i with
  | zero => omega
  | succ i => exact Nat.le_add_right _ _
theorem jy_H.set {G : jy_G} {h : jy_P} {H H' : Heap} {i : Nat} {c0 c : Nat × List Value} {x : Cell} (hH : jy_H G h H) (hb : G.2.2.1 < G.2.1.size) (hi : h[i]? = some c0) (h0 : 0 < i) (e : H'[jy_a G i]? = some x) (z : H'.size = H.size) (o : ∀ q, q ≠ jy_a G i → H'[q]? = H[q]?) (hx : jy_cell G c x) : jy_H G (h.set i c) H' := by
  obtain ⟨g1, g2, g3, g4⟩ := hH
  refine ⟨by simpa using g1, by rw [List.length_set, z]; exact g2, fun a ha => ?_, fun j cj hj => ?_⟩
  · have := jy_a_ge (G := G) h0
    rw [o a (by omega)]
    exact g3 a ha
  · by_cases hij : i = j
    · subst hij
      have hl := (List.getElem?_eq_some_iff.mp hi).1
      rw [List.getElem?_set_self hl] at hj
      cases hj
      exact ⟨x, e, hx⟩
    · rw [List.getElem?_set_ne hij] at hj
      obtain ⟨y, hy1, hy2⟩ := g4 j cj hj
      exact ⟨y, by rw [o _ (fun q => hij (jy_a_inj hb q).symm)]; exact hy1, hy2⟩
theorem jy_a_new {G : jy_G} {h : jy_P} {H : Heap} (hH : jy_H G h H) : jy_a G h.length = H.size := by
  obtain ⟨g1, g2, -⟩ := hH
  cases hl : h.length with
  | zero => omega
  | succ n =>
    show G.2.1.size + n = H.size
    omega
theorem jy_H.push {G : jy_G} {h : jy_P} {H H' : Heap} {c : Nat × List Value} {x : Cell} (hH : jy_H G h H) (e : H'[H.size]? = some x) (z : H'.size = H.size + 1) (o : ∀ q, q < H.size → H'[q]? = H[q]?) (hx : jy_cell G c x) : jy_H G (h ++ [c]) H' := by
  have hn := jy_a_new hH
  obtain ⟨g1, g2, g3, g4⟩ := hH
  refine ⟨by simp, by rw [List.length_append, z]; simp; omega, fun a ha => ?_, fun j cj hj => ?_⟩
  · rw [o a (by omega)]
    exact g3 a ha
  · by_cases hl : j < h.length
    · rw [List.getElem?_append_left hl] at hj
      obtain ⟨y, hy1, hy2⟩ := g4 j cj hj
      exact ⟨y, by rw [o _ (Array.getElem?_eq_some_iff.mp hy1).1]; exact hy1, hy2⟩
    · rw [List.getElem?_append_right (by omega)] at hj
      have hz : j - h.length < 1 := (List.getElem?_eq_some_iff.mp hj).1
      have hj0 : j = h.length := by omega
      subst hj0
      rw [Nat.sub_self] at hj
      cases hj
      exact ⟨x, by rw [hn]; exact e, hx⟩
/-! a class's facts, a link's facts -/
def jy_CF (ci : Nat) (r : vw_C) (ty : Nat → FieldType) : Prop := classes[ci]? = some r ∧ ci < 50 ∧ (∀ w ∈ u_ws r.1 r.2.1 r.2.2, w ∈ lw_tbl ∧ w.onTables = true ∧ jy_ok w = true) ∧ (∀ k, k < r.2.2 → parseFieldDescriptor (r.2.1 k).2.2.1 = some (ty k)) ∧ (∀ a, a < r.2.2 → ∀ b, b < r.2.2 → a ≠ b → (r.2.1 a).2.1 ≠ (r.2.1 b).2.1)
def jy_FL (own : String) (idx : Nat) (r : vw_C) (k : Nat) : Prop := Cond.fieldLink own idx (r.2.1 k).1 (r.2.1 k).2.1 (r.2.1 k).2.2.1 ∈ lw_tbl ∨ ∃ host : String, Cond.fieldLinkNest own idx (r.2.1 k).1 (r.2.1 k).2.1 (r.2.1 k).2.2.1 host ∈ lw_tbl
/-- the entry idx of the class own is the field k of the class number ci, of type t, final or not, declared in the class of that name -/
def jy_F (own : String) (idx ci k : Nat) (t : FieldType) (fin : Bool) : Prop := ∃ (r : vw_C) (ty : Nat → FieldType), jy_CF ci r ty ∧ k < r.2.2 ∧ jy_FL own idx r k ∧ ty k = t ∧ (r.2.1 k).2.2.2 = fin ∧ (r.2.1 k).1 = r.1
def jy_fv (t : FieldType) (v : Value) : Prop := narrow t v = v ∧ fits t v = true
theorem jy_fv.tr {G : jy_G} {t : FieldType} {v : Value} (h : jy_fv t v) : jy_fv t (jy_v G v) := by
  obtain ⟨h1, h2⟩ := h
  cases v <;> first | exact ⟨h1, h2⟩ | (refine ⟨?_, ?_⟩ <;> cases t <;> simp_all [jy_v, narrow, fits])
theorem jy_fv_int {x : Int32} : jy_fv .int (.int x) := ⟨rfl, rfl⟩
theorem jy_fv_ref {n : String} {x : Nat} : jy_fv (.object n) (.ref x) := ⟨rfl, rfl⟩
theorem jy_fv_arr {t : FieldType} {x : Nat} : jy_fv (.array t) (.ref x) := ⟨rfl, rfl⟩
theorem jy_fv_null {n : String} : jy_fv (.object n) .null := ⟨rfl, rfl⟩
theorem jy_fv_bool {x : Int32} (h : x = 0 ∨ x = 1) : jy_fv .boolean (.int x) := by
  rcases h with rfl | rfl
  · exact ⟨by decide, by decide⟩
  · exact ⟨by decide, by decide⟩
section JH
variable {G : jy_G} {d : Nat} {M : jy_M} {pc : Nat} {L : List (Option Value)} {st : List Value} {h : jy_P} {P : Outcome → jy_P → Prop}
theorem jy_apart {s : State} {args : Array Value} {r : vw_C} {ty : Nat → FieldType} {ci : Nat} (hT : jy_T G s) (hC : jy_CF ci r ty) : (∀ w ∈ u_ws r.1 r.2.1 r.2.2, w.before args s = true) ∧ ∀ x y, x < r.2.2 → y < r.2.2 → x ≠ y → G.2.2.2.2.1 ci x ≠ G.2.2.2.2.1 ci y := by
  obtain ⟨c1, c2, c3, c4, c5⟩ := hC
  have hts : ∀ w ∈ u_ws r.1 r.2.1 r.2.2, w.before args s = true := fun w hw => hT.word (c3 w hw).1 (c3 w hw).2.1 (c3 w hw).2.2 args
  refine ⟨hts, fun x y hx hy hne => ?_⟩
  obtain ⟨hS, -⟩ := hT.2.1 ci r c1
  obtain ⟨_, _, _, fa, hia, ea⟩ := hS x hx
  obtain ⟨_, _, _, fb, hib, eb⟩ := hS y hy
  rw [← ea, ← eb]
  refine u_apart (u_lays hts (fun w hw => hw) hx) (u_lays hts (fun w hw => hw) hy) hia hib ?_
  rw [(State.fieldFound?_type hia (c4 x hx)).1, (State.fieldFound?_type hib (c4 y hy)).1]
  exact c5 x hx y hy hne
theorem jy_obj {H : Heap} {a ci : Nat} {fs : List Value} {r : vw_C} {ty : Nat → FieldType} (hH : jy_H G h H) (ho : h[a]? = some (ci, fs)) (hC : jy_CF ci r ty) : ∃ x : Cell, H[jy_a G a]? = some x ∧ x.vm = .none ∧ x.cls = G.2.2.2.1 ci ∧ fs.length = r.2.2 ∧ (∀ (k : Nat) (v : Value), fs[k]? = some v → x.slots[G.2.2.2.2.1 ci k]? = some (jy_v G v)) ∧ (x.monitor.owner = none ∧ x.monitor.count = 0) := by
  obtain ⟨x, h1, h2⟩ := hH.2.2.2 a _ ho
  rcases h2 with ⟨-, h3, h4, r', h5, h6, hm, h7⟩ | ⟨h3, -⟩
  · cases h5.symm.trans hC.1
    exact ⟨x, h1, h3, h4, h6, h7, hm⟩
  · have := hC.2.1
    simp only at h3
    omega
theorem jr_get {idx ci k a : Nat} {fs : List Value} {v : Value} {t : FieldType} {fin : Bool} (hd : decode (jy_c M) pc = .ok (.getfield idx, 3)) (hF : jy_F (jy_y M).cls idx ci k t fin) (ho : h[a]? = some (ci, fs)) (hv : fs[k]? = some v)
    (kk : jy_J G d M (pc + 3) L (v :: st) h P) : jy_J G d M pc L (.ref a :: st) h P := by
  intro h0 p e R s m args below meth c H locs ls hX hH hL hl h1 h2
  have hT := hX.2.2.2.2.2.2.2.2.1
  have hown := findClass_of_methodNamed hX.2.2.2.2.2.1
  obtain ⟨r, ty, hC, hk, hl2, -⟩ := hF
  obtain ⟨x, q1, q2, q3, q4, q5, qm⟩ := jy_obj hH ho hC
  obtain ⟨hS, hfc, kC, hkC, hkind⟩ := hT.2.1 ci r hC.1
  obtain ⟨cf, kf, fi, f, hi, hsl⟩ := hS k hk
  obtain ⟨hts, -⟩ := jy_apart (args := args) hT hC
  have hst := (u_facts hfc hkC (u_lays hts (fun w hw => hw) hk) hi).1
  have hslot : x.slots[f.slot]? = some (jy_v G v) := by rw [hsl]; exact q5 k v hv
  rcases hl2 with hl2 | ⟨host, hl2⟩
  · exact W.getf hX.1 hX.2.1 hown (hT.word hl2 rfl rfl args) hi hst q1 (by rw [q2]; exact fun z => by cases z) hslot rfl rfl hd (kk h0 p e R s m args below meth c H locs ls hX hH hL hl h1 h2)
  · exact va_Wgetf hX.1 hX.2.1 hown (hT.word hl2 rfl rfl args) hi hst q1 (by rw [q2]; exact fun z => by cases z) hslot rfl rfl hd (kk h0 p e R s m args below meth c H locs ls hX hH hL hl h1 h2)
theorem jy_cell_put {x : Cell} {ci k : Nat} {fs : List Value} {v : Value} {r : vw_C} {ty : Nat → FieldType} (hC : jy_CF ci r ty) (hap : ∀ a b, a < r.2.2 → b < r.2.2 → a ≠ b → G.2.2.2.2.1 ci a ≠ G.2.2.2.2.1 ci b) (hk : k < r.2.2) (q2 : x.vm = .none) (q3 : x.cls = G.2.2.2.1 ci) (q4 : fs.length = r.2.2) (q5 : ∀ (k : Nat) (v : Value), fs[k]? = some v → x.slots[G.2.2.2.2.1 ci k]? = some (jy_v G v)) (qm : x.monitor.owner = none ∧ x.monitor.count = 0) :
    jy_cell G (ci, fs.set k v) (x.setSlot (G.2.2.2.2.1 ci k) (jy_v G v)) := by
  have hlt : k < fs.length := by omega
  refine Or.inl ⟨hC.2.1, q2, q3, r, hC.1, by simpa using q4, qm, fun j w hj => ?_⟩
  by_cases hjk : j = k
  · subst hjk
    rw [List.getElem?_set_self hlt] at hj
    cases hj
    have hz := (Array.getElem?_eq_some_iff.mp (q5 j _ (List.getElem?_eq_getElem hlt))).1
    simp [Cell.setSlot, Array.getElem?_setIfInBounds, hz]
  · rw [List.getElem?_set_ne (Ne.symm hjk)] at hj
    have hjl : j < r.2.2 := by rw [← q4]; exact (List.getElem?_eq_some_iff.mp hj).1
    rw [slot_ne _ _ (hap k j hk hjl (Ne.symm hjk))]
    exact q5 j w hj
theorem jr_put {idx ci k a : Nat} {fs : List Value} {v : Value} {t : FieldType} {h' : jy_P} (hd : decode (jy_c M) pc = .ok (.putfield idx, 3)) (hF : jy_F (jy_y M).cls idx ci k t false) (hv : jy_fv t v) (ha : 0 < a) (ho : h[a]? = some (ci, fs)) (hh : h.set a (ci, fs.set k v) = h')
    (kk : jy_J G d M (pc + 3) L st h' P) : jy_J G d M pc L (v :: .ref a :: st) h P := by
  subst hh
  intro h0 p e R s m args below meth c H locs ls hX hH hL hl h1 h2
  have hT := hX.2.2.2.2.2.2.2.2.1
  have hown := findClass_of_methodNamed hX.2.2.2.2.2.1
  obtain ⟨r, ty, hC, hk, hl2, hty, hfin, -⟩ := hF
  obtain ⟨x, q1, q2, q3, q4, q5, qm⟩ := jy_obj hH ho hC
  obtain ⟨hS, hfc, kC, hkC, hkind⟩ := hT.2.1 ci r hC.1
  obtain ⟨cf, kf, fi, f, hi, hsl⟩ := hS k hk
  obtain ⟨hts, hap⟩ := jy_apart (args := args) hT hC
  have hlay := hts _ (u_in_lay hk)
  unfold u_lay at hlay
  rw [if_neg (by rw [hfin]; decide)] at hlay
  have hst := (u_facts hfc hkC (u_lays hts (fun w hw => hw) hk) hi).1
  have hvt : jy_fv t (jy_v G v) := hv.tr
  have h6 := u_store hfc hkC hkind hlay hi ((hC.2.2.2.1 k hk).trans (by rw [hty])) hvt.1 hvt.2
  have hlt : f.slot < x.slots.size := by rw [hsl]; exact (Array.getElem?_eq_some_iff.mp (q5 k _ (List.getElem?_eq_getElem (by omega)))).1
  have fin : ∀ H' : Heap, H'[jy_a G a]? = some (x.setSlot f.slot (jy_v G v)) → H'.size = H.size → (∀ q, q ≠ jy_a G a → H'[q]? = H[q]?) → W p G.1 e R s m args below meth c H' (locs ++ [⟨jy_a G a, f.slot⟩]) (h.length - h0.length) (jy_cap h.length - jy_cap h0.length) (jy_Q G below s h0 P) (F0 m (pc + 3) ls (st.map (jy_v G))) := by
    intro H' e1 e2 e3
    rw [hsl] at e1
    have hH' := hH.set hT.2.2.2.1 ho ha e1 e2 e3 (jy_cell_put hC hap hk q2 q3 q4 q5 qm)
    have := kk h0 p e R s m args below meth c H' (locs ++ [⟨jy_a G a, f.slot⟩]) ls hX hH' hL (t_lc hl (jy_a_ge ha)) (by simpa using h1) (by simpa using h2)
    simpa using this
  rcases hl2 with hl2 | ⟨host, hl2⟩
  · exact W.putK hX.1 hX.2.1 (f := f) ⟨hown, hT.word hl2 rfl rfl args, ⟨_, _, _, hi⟩, hst⟩ (by rw [q3]; exact h6) q1 q2 hlt rfl rfl hd fin
  · exact va_WputK hX.1 hX.2.1 (f := f) hown (hT.word hl2 rfl rfl args) hi hst (by rw [q3]; exact h6) q1 q2 hlt rfl rfl hd fin
/-- a final field, in the class's own constructor -/
theorem jr_putF {idx ci k a : Nat} {fs : List Value} {v : Value} {t : FieldType} {h' : jy_P} (hd : decode (jy_c M) pc = .ok (.putfield idx, 3)) (hF : jy_F (jy_y M).cls idx ci k t true) (hn : (jy_y M).name = "<init>") (hc : (classes[ci]?).map (fun r => r.1) = some (jy_y M).cls) (hv : jy_fv t v) (ha : 0 < a) (ho : h[a]? = some (ci, fs)) (hh : h.set a (ci, fs.set k v) = h')
    (kk : jy_J G d M (pc + 3) L st h' P) : jy_J G d M pc L (v :: .ref a :: st) h P := by
  subst hh
  intro h0 p e R s m args below meth c H locs ls hX hH hL hl h1 h2
  have hT := hX.2.2.2.2.2.2.2.2.1
  have hown := findClass_of_methodNamed hX.2.2.2.2.2.1
  have hin2 : meth.name = "<init>" := ((name_of_methodNamed hX.2.2.2.2.2.1 hX.2.2.2.2.2.2.1).1).trans hn
  obtain ⟨r, ty, hC, hk, hl2, hty, hfin, hdec⟩ := hF
  obtain ⟨x, q1, q2, q3, q4, q5, qm⟩ := jy_obj hH ho hC
  obtain ⟨hS, hfc, kC, hkC, hkind⟩ := hT.2.1 ci r hC.1
  obtain ⟨cf, kf, fi, f, hi, hsl⟩ := hS k hk
  obtain ⟨hts, hap⟩ := jy_apart (args := args) hT hC
  have hlay := hts _ (u_in_lay hk)
  unfold u_lay at hlay
  rw [if_pos hfin] at hlay
  have hst := (u_facts hfc hkC (u_lays hts (fun w hw => hw) hk) hi).1
  have hro : r.1 = (jy_y M).cls := by rw [hC.1] at hc; exact Option.some.inj hc
  have hcf : m.cls = cf := by
    obtain ⟨_, _, c', _, _, _, -, -, hf', -, -, -, hown2, -⟩ := Cond.laysFinal_spec hlay
    have e1 : c' = cf := by have := hi.symm.trans hf'; simp at this; exact this.1.symm
    rw [hdec, hro] at hown2
    rw [← e1]; exact Option.some.inj (hown.symm.trans hown2)
  have hvt : jy_fv t (jy_v G v) := hv.tr
  have h6 := u_fits hfc hkC hkind (Or.inr hlay) hi ((hC.2.2.2.1 k hk).trans (by rw [hty])) hvt.1 hvt.2
  have hlt : f.slot < x.slots.size := by rw [hsl]; exact (Array.getElem?_eq_some_iff.mp (q5 k _ (List.getElem?_eq_getElem (by omega)))).1
  have fin : ∀ H' : Heap, H'[jy_a G a]? = some (x.setSlot f.slot (jy_v G v)) → H'.size = H.size → (∀ q, q ≠ jy_a G a → H'[q]? = H[q]?) → W p G.1 e R s m args below meth c H' (locs ++ [⟨jy_a G a, f.slot⟩]) (h.length - h0.length) (jy_cap h.length - jy_cap h0.length) (jy_Q G below s h0 P) (F0 m (pc + 3) ls (st.map (jy_v G))) := by
    intro H' e1 e2 e3
    rw [hsl] at e1
    have hH' := hH.set hT.2.2.2.1 ho ha e1 e2 e3 (jy_cell_put hC hap hk q2 q3 q4 q5 qm)
    have := kk h0 p e R s m args below meth c H' (locs ++ [⟨jy_a G a, f.slot⟩]) ls hX hH' hL (t_lc hl (jy_a_ge ha)) (by simpa using h1) (by simpa using h2)
    simpa using this
  rcases hl2 with hl2 | ⟨host, hl2⟩
  · exact W.putFinK hX.1 hX.2.1 hown (hT.word hl2 rfl rfl args) hi hst hcf hin2 (by rw [q3]; exact h6) q1 q2 hlt rfl rfl hd fin
  · refine va_Wputf hX.1 hX.2.1 hown (hT.word hl2 rfl rfl args) hi hst (Or.inr ⟨hcf, hin2⟩) q1 (by rw [q2]; exact fun z => by cases z) hlt h6.1 (by rw [q2, q3]; exact h6.2) rfl rfl hd ?_
    have hla := (Array.getElem?_eq_some_iff.mp q1).1
    exact fin _ (by simp [Array.getElem?_setIfInBounds, hla]) (by simp) (fun q hq => by simp [Array.getElem?_setIfInBounds, Ne.symm hq])
end JH
