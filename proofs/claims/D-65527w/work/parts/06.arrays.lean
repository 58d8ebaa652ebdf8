/-! rows: arrays, new cells, ends -/
theorem jy_asg (vm : Vm) (c : ClassId) : vm.assignable c c = true := by
  show vm.assignableAux (255 + 1) c c = true
  rw [Vm.assignableAux]
  simp
theorem jy_arr {G : jy_G} {s : State} {h : jy_P} {H : Heap} {a t : Nat} {vs : List Value} {ty : FieldType} (hT : jy_T G s) (hH : jy_H G h H) (ho : h[a]? = some (t, vs)) (ht : jy_ty t = some ty) : ∃ x : Cell, H[jy_a G a]? = some x ∧ x.vm ≠ .unknown ∧ (∀ k, x.vm ≠ .statics k) ∧ x.cls = G.2.2.2.2.2 t ∧ x.slots = (vs.map (jy_v G)).toArray ∧ s.isArrayOf x ty ∧ 50 ≤ t := by
  obtain ⟨x, h1, h2⟩ := hH.2.2.2 a _ ho
  have h50 : 50 ≤ t := by
    rcases Nat.lt_or_ge t 50 with q | q
    · exfalso
      unfold jy_ty at ht
      split at ht <;> first | omega | cases ht
    · exact q
  rcases h2 with ⟨h3, -⟩ | ⟨-, h3, h4, h5, h6⟩
  · simp only at h3
    omega
  · obtain ⟨k, comp, k1, k2, -⟩ := hT.2.2.1 t ty ht
    exact ⟨x, h1, h3, h4, h5, h6, ⟨h4, k, by rw [h5]; exact k1, comp, k2⟩, h50⟩
theorem jy_arr_in {G : jy_G} {vs : List Value} {x : Cell} {i : Int32} (h6 : x.slots = (vs.map (jy_v G)).toArray) (hi : ¬ i < 0) (hn : i.toNatClampNeg < vs.length) : ¬ (i < 0 ∨ x.slots.size ≤ i.toNatClampNeg) := by
  rw [h6]
  simp only [List.size_toArray, List.length_map]
  intro q
  rcases q with q | q
  · exact hi q
  · omega
theorem jy_arr_at {G : jy_G} {vs : List Value} {x : Cell} {i : Nat} {v : Value} (h6 : x.slots = (vs.map (jy_v G)).toArray) (hv : vs[i]? = some v) : x.slots[i]? = some (jy_v G v) := by
  rw [h6]
  simp [hv]
theorem jy_arr_set {G : jy_G} {vs : List Value} {x : Cell} {i t : Nat} {v : Value} (h50 : 50 ≤ t) (h3 : x.vm ≠ .unknown) (h4 : ∀ k, x.vm ≠ .statics k) (h5 : x.cls = G.2.2.2.2.2 t) (h6 : x.slots = (vs.map (jy_v G)).toArray) : jy_cell G (t, vs.set i v) (x.setSlot i (jy_v G v)) := by
  refine Or.inr ⟨h50, h3, h4, h5, ?_⟩
  show x.slots.setIfInBounds i (jy_v G v) = _
  rw [h6]
  simp [List.map_set]
section JA
variable {G : jy_G} {d : Nat} {M : jy_M} {pc : Nat} {L : List (Option Value)} {st : List Value} {h : jy_P} {P : Outcome → jy_P → Prop}
theorem jr_alen {a t : Nat} {vs : List Value} {ty : FieldType} {n : Int32} (hd : decode (jy_c M) pc = .ok (.arraylength, 1)) (ht : jy_ty t = some ty) (ho : h[a]? = some (t, vs)) (hn : Int32.ofNat vs.length = n) (k : jy_J G d M (pc + 1) L (.int n :: st) h P) : jy_J G d M pc L (.ref a :: st) h P := by
  intro h0 p e R s m args below meth c H locs ls hX hH hL hl h1 h2
  obtain ⟨x, q1, q2, q3, q4, q5, q6, q7⟩ := jy_arr hX.2.2.2.2.2.2.2.2.1 hH ho ht
  exact W.alen hX.1 hX.2.1 q1 q6 (by rw [q5, ← hn]; simp) rfl rfl hd (k h0 p e R s m args below meth c H locs ls hX hH hL hl h1 h2)
theorem jr_iald {a t : Nat} {vs : List Value} {i : Int32} {v : Value} (hd : decode (jy_c M) pc = .ok (.iaload, 1)) (ht : jy_ty t = some .int) (ho : h[a]? = some (t, vs)) (hi : ¬ i < 0) (hv : vs[i.toNatClampNeg]? = some v) (k : jy_J G d M (pc + 1) L (v :: st) h P) : jy_J G d M pc L (.int i :: .ref a :: st) h P := by
  intro h0 p e R s m args below meth c H locs ls hX hH hL hl h1 h2
  obtain ⟨x, q1, q2, q3, q4, q5, q6, q7⟩ := jy_arr hX.2.2.2.2.2.2.2.2.1 hH ho ht
  exact W.iald hX.1 hX.2.1 q1 q6 q2 (jy_arr_in q5 hi (List.getElem?_eq_some_iff.mp hv).1) (jy_arr_at q5 hv) rfl rfl hd (k h0 p e R s m args below meth c H locs ls hX hH hL hl h1 h2)
theorem jr_lald {a : Nat} {vs : List Value} {i : Int32} {v : Value} (hd : decode (jy_c M) pc = .ok (.laload, 1)) (ho : h[a]? = some (53, vs)) (hi : ¬ i < 0) (hv : vs[i.toNatClampNeg]? = some v) (k : jy_J G d M (pc + 1) L (v :: st) h P) : jy_J G d M pc L (.int i :: .ref a :: st) h P := by
  intro h0 p e R s m args below meth c H locs ls hX hH hL hl h1 h2
  obtain ⟨x, q1, q2, q3, q4, q5, q6, q7⟩ := jy_arr hX.2.2.2.2.2.2.2.2.1 hH ho rfl
  exact W.lald hX.1 hX.2.1 q1 q6 q2 (jy_arr_in q5 hi (List.getElem?_eq_some_iff.mp hv).1) (jy_arr_at q5 hv) rfl rfl hd (k h0 p e R s m args below meth c H locs ls hX hH hL hl h1 h2)
theorem jr_bald {a : Nat} {vs : List Value} {i : Int32} {v : Value} (hd : decode (jy_c M) pc = .ok (.baload, 1)) (ho : h[a]? = some (51, vs)) (hi : ¬ i < 0) (hv : vs[i.toNatClampNeg]? = some v) (k : jy_J G d M (pc + 1) L (v :: st) h P) : jy_J G d M pc L (.int i :: .ref a :: st) h P := by
  intro h0 p e R s m args below meth c H locs ls hX hH hL hl h1 h2
  obtain ⟨x, q1, q2, q3, q4, q5, q6, q7⟩ := jy_arr hX.2.2.2.2.2.2.2.2.1 hH ho rfl
  exact W.bald hX.1 hX.2.1 q1 q6 q2 (jy_arr_in q5 hi (List.getElem?_eq_some_iff.mp hv).1) (jy_arr_at q5 hv) rfl rfl hd (k h0 p e R s m args below meth c H locs ls hX hH hL hl h1 h2)
theorem jr_zald {a : Nat} {vs : List Value} {i : Int32} {v : Value} (hd : decode (jy_c M) pc = .ok (.baload, 1)) (ho : h[a]? = some (52, vs)) (hi : ¬ i < 0) (hv : vs[i.toNatClampNeg]? = some v) (k : jy_J G d M (pc + 1) L (v :: st) h P) : jy_J G d M pc L (.int i :: .ref a :: st) h P := by
  intro h0 p e R s m args below meth c H locs ls hX hH hL hl h1 h2
  obtain ⟨x, q1, q2, q3, q4, q5, q6, q7⟩ := jy_arr hX.2.2.2.2.2.2.2.2.1 hH ho rfl
  exact W.zald hX.1 hX.2.1 q1 q6 q2 (jy_arr_in q5 hi (List.getElem?_eq_some_iff.mp hv).1) (jy_arr_at q5 hv) rfl rfl hd (k h0 p e R s m args below meth c H locs ls hX hH hL hl h1 h2)
theorem jr_aald {a t : Nat} {vs : List Value} {i : Int32} {v : Value} {ty : FieldType} (hd : decode (jy_c M) pc = .ok (.aaload, 1)) (ht : jy_ty t = some ty) (hr : ty.isReference = true) (ho : h[a]? = some (t, vs)) (hi : ¬ i < 0) (hv : vs[i.toNatClampNeg]? = some v) (k : jy_J G d M (pc + 1) L (v :: st) h P) : jy_J G d M pc L (.int i :: .ref a :: st) h P := by
  intro h0 p e R s m args below meth c H locs ls hX hH hL hl h1 h2
  obtain ⟨x, q1, q2, q3, q4, q5, q6, q7⟩ := jy_arr hX.2.2.2.2.2.2.2.2.1 hH ho ht
  exact W.aald hX.1 hX.2.1 q1 q6 hr q2 (jy_arr_in q5 hi (List.getElem?_eq_some_iff.mp hv).1) (jy_arr_at q5 hv) rfl rfl hd (k h0 p e R s m args below meth c H locs ls hX hH hL hl h1 h2)
theorem jy_stored {t a i : Nat} {vs : List Value} {v : Value} {x : Cell} {H H' : Heap} {h0 : jy_P} {p : Program} {e : Env} {R : Room} {s : State} {m : MethodId} {args : Array Value} {below : List Frame} {meth : Method} {c : Code} {locs : List Loc} {ls : Array Slot} {pc' : Nat} {st' : List Value}
    (hX : jy_X G d M h0 p R s m meth c) (hH : jy_H G h H) (hL : jy_L G ls (jy_l M) L) (hl : ∀ q ∈ locs, G.2.1.size ≤ q.base) (h1 : h0.length ≤ h.length) (h2 : h.length ≤ jy_K) (ha : 0 < a) (ho : h[a]? = some (t, vs)) (h50 : 50 ≤ t) (q2 : x.vm ≠ .unknown) (q3 : ∀ k, x.vm ≠ .statics k) (q4 : x.cls = G.2.2.2.2.2 t) (q5 : x.slots = (vs.map (jy_v G)).toArray)
    (k : jy_J G d M pc' L st' (h.set a (t, vs.set i v)) P) (e1 : H'[jy_a G a]? = some (x.setSlot i (jy_v G v))) (e2 : H'.size = H.size) (e3 : ∀ q, q ≠ jy_a G a → H'[q]? = H[q]?) :
    W p G.1 e R s m args below meth c H' (locs ++ [⟨jy_a G a, i⟩]) (h.length - h0.length) (jy_cap h.length - jy_cap h0.length) (jy_Q G below s h0 P) (F0 m pc' ls (st'.map (jy_v G))) := by
  have hT := hX.2.2.2.2.2.2.2.2.1
  have hH' := hH.set hT.2.2.2.1 ho ha e1 e2 e3 (jy_arr_set h50 q2 q3 q4 q5)
  have := k h0 p e R s m args below meth c H' (locs ++ [⟨jy_a G a, i⟩]) ls hX hH' hL (t_lc hl (jy_a_ge ha)) (by simpa using h1) (by simpa using h2)
  simpa using this
theorem jr_iast {a : Nat} {vs : List Value} {i x : Int32} {h' : jy_P} (hd : decode (jy_c M) pc = .ok (.iastore, 1)) (ha : 0 < a) (ho : h[a]? = some (50, vs)) (hi : ¬ i < 0) (hn : i.toNatClampNeg < vs.length) (hh : h.set a (50, vs.set i.toNatClampNeg (.int x)) = h') (k : jy_J G d M (pc + 1) L st h' P) : jy_J G d M pc L (.int x :: .int i :: .ref a :: st) h P := by
  subst hh
  intro h0 p e R s m args below meth c H locs ls hX hH hL hl h1 h2
  obtain ⟨y, q1, q2, q3, q4, q5, q6, q7⟩ := jy_arr hX.2.2.2.2.2.2.2.2.1 hH ho rfl
  exact W.iast hX.1 hX.2.1 q1 q6 q2 (jy_arr_in q5 hi hn) rfl rfl hd (fun H' e1 e2 e3 => jy_stored hX hH hL hl h1 h2 ha ho q7 q2 q3 q4 q5 k e1 e2 e3)
theorem jr_last {a : Nat} {vs : List Value} {i : Int32} {x : Int64} {h' : jy_P} (hd : decode (jy_c M) pc = .ok (.lastore, 1)) (ha : 0 < a) (ho : h[a]? = some (53, vs)) (hi : ¬ i < 0) (hn : i.toNatClampNeg < vs.length) (hh : h.set a (53, vs.set i.toNatClampNeg (.long x)) = h') (k : jy_J G d M (pc + 1) L st h' P) : jy_J G d M pc L (.long x :: .int i :: .ref a :: st) h P := by
  subst hh
  intro h0 p e R s m args below meth c H locs ls hX hH hL hl h1 h2
  obtain ⟨y, q1, q2, q3, q4, q5, q6, q7⟩ := jy_arr hX.2.2.2.2.2.2.2.2.1 hH ho rfl
  exact W.last hX.1 hX.2.1 q1 q6 q2 (jy_arr_in q5 hi hn) rfl rfl hd (fun H' e1 e2 e3 => jy_stored hX hH hL hl h1 h2 ha ho q7 q2 q3 q4 q5 k e1 e2 e3)
theorem jr_bast {a : Nat} {vs : List Value} {i x : Int32} {h' : jy_P} (hd : decode (jy_c M) pc = .ok (.bastore, 1)) (ha : 0 < a) (ho : h[a]? = some (51, vs)) (hi : ¬ i < 0) (hn : i.toNatClampNeg < vs.length) (hh : h.set a (51, vs.set i.toNatClampNeg (.int x.toInt8.toInt32)) = h') (k : jy_J G d M (pc + 1) L st h' P) : jy_J G d M pc L (.int x :: .int i :: .ref a :: st) h P := by
  subst hh
  intro h0 p e R s m args below meth c H locs ls hX hH hL hl h1 h2
  obtain ⟨y, q1, q2, q3, q4, q5, q6, q7⟩ := jy_arr hX.2.2.2.2.2.2.2.2.1 hH ho rfl
  exact W.bast hX.1 hX.2.1 q1 q6 q2 (jy_arr_in q5 hi hn) rfl rfl hd (fun H' e1 e2 e3 => jy_stored hX hH hL hl h1 h2 ha ho q7 q2 q3 q4 q5 k e1 e2 e3)
theorem jr_zast {a : Nat} {vs : List Value} {i x : Int32} {h' : jy_P} (hd : decode (jy_c M) pc = .ok (.bastore, 1)) (ha : 0 < a) (ho : h[a]? = some (52, vs)) (hi : ¬ i < 0) (hn : i.toNatClampNeg < vs.length) (hh : h.set a (52, vs.set i.toNatClampNeg (.int (x &&& 1))) = h') (k : jy_J G d M (pc + 1) L st h' P) : jy_J G d M pc L (.int x :: .int i :: .ref a :: st) h P := by
  subst hh
  intro h0 p e R s m args below meth c H locs ls hX hH hL hl h1 h2
  obtain ⟨y, q1, q2, q3, q4, q5, q6, q7⟩ := jy_arr hX.2.2.2.2.2.2.2.2.1 hH ho rfl
  exact W.zast hX.1 hX.2.1 q1 q6 q2 (jy_arr_in q5 hi hn) rfl rfl hd (fun H' e1 e2 e3 => jy_stored hX hH hL hl h1 h2 ha ho q7 q2 q3 q4 q5 k e1 e2 e3)
/-- which cells an array of references takes -/
def jy_el : Nat → Nat → Bool
  | 54, 3 => true
  | 55, 5 => true
  | 56, 6 => true
  | 57, 51 => true
  | _, _ => false
theorem jr_aast {a t b tb : Nat} {vs bs : List Value} {i : Int32} {h' : jy_P} (hd : decode (jy_c M) pc = .ok (.aastore, 1)) (ha : 0 < a) (ho : h[a]? = some (t, vs)) (hb : h[b]? = some (tb, bs)) (hel : jy_el t tb = true) (hi : ¬ i < 0) (hn : i.toNatClampNeg < vs.length) (hh : h.set a (t, vs.set i.toNatClampNeg (.ref b)) = h') (k : jy_J G d M (pc + 1) L st h' P) : jy_J G d M pc L (.ref b :: .int i :: .ref a :: st) h P := by
  subst hh
  intro h0 p e R s m args below meth c H locs ls hX hH hL hl h1 h2
  have hT := hX.2.2.2.2.2.2.2.2.1
  obtain ⟨z, z1, z2⟩ := hH.2.2.2 b _ hb
  have key : ∃ (ty : FieldType) (cn : String), jy_ty t = some ty ∧ jy_cn t = some cn ∧ ty.isReference = true ∧ s.vm.findClass cn = some z.cls ∧ ∀ q, z.vm ≠ .statics q := by
    have hcls : ∀ (ci : Nat) (r : vw_C), tb = ci → classes[ci]? = some r → ci < 50 → s.vm.findClass r.1 = some z.cls ∧ ∀ q, z.vm ≠ .statics q := by
      intro ci r e1 e2 e3
      subst e1
      rcases z2 with ⟨-, w1, w2, -⟩ | ⟨w1, -⟩
      · exact ⟨by rw [w2]; exact (hT.2.1 _ r e2).2.1, fun q => by rw [w1]; exact fun z => by cases z⟩
      · simp only at w1
        omega
    unfold jy_el at hel
    split at hel
    · obtain ⟨w1, w2⟩ := hcls 3 _ rfl rfl (by decide)
      exact ⟨_, _, rfl, rfl, rfl, w1, w2⟩
    · obtain ⟨w1, w2⟩ := hcls 5 _ rfl rfl (by decide)
      exact ⟨_, _, rfl, rfl, rfl, w1, w2⟩
    · obtain ⟨w1, w2⟩ := hcls 6 _ rfl rfl (by decide)
      exact ⟨_, _, rfl, rfl, rfl, w1, w2⟩
    · rcases z2 with ⟨w1, -⟩ | ⟨-, -, w3, w4, -⟩
      · simp only at w1
        omega
      · obtain ⟨_, _, -, -, w5, -⟩ := hT.2.2.1 51 .byte rfl
        exact ⟨_, _, rfl, rfl, rfl, by rw [w4]; exact w5 (by decide), w3⟩
    · cases hel
  obtain ⟨ty, cn, k1, k2, k3, k4, k5⟩ := key
  obtain ⟨y, q1, q2, q3, q4, q5, q6, q7⟩ := jy_arr hT hH ho k1
  obtain ⟨ka, comp, a1, a2, -, a4⟩ := hT.2.2.1 t ty k1
  obtain ⟨a5, kc, a6⟩ := a4 cn k2
  cases a5.symm.trans k4
  have hsz : i.toNatClampNeg < y.slots.size := by rw [q5]; simpa using hn
  exact W.aast hX.1 hX.2.1 q1 q3 q2 (by rw [q4]; exact a1) a2 k3 a6 ⟨hi, hsz⟩ z1 k5 a6 (jy_asg _ _) rfl rfl hd (fun H' e1 e2 e3 => jy_stored (v := .ref b) hX hH hL hl h1 h2 ha ho q7 q2 q3 q4 q5 k e1 e2 e3)
/-! new cells -/
/-- 'new' of the entry idx of the class own: the class number ci, n slots, tracked fields fs -/
def jy_N (own : String) (idx ci n : Nat) (fs : List Value) : Prop := ∃ (r : vw_C) (ty : Nat → FieldType), jy_CF ci r ty ∧ Cond.classLink own idx r.1 ∈ lw_tbl ∧ Cond.instantiable r.1 n ∈ lw_tbl ∧ Cond.initialized r.1 ∈ lw_tbl ∧ fs.length = r.2.2 ∧ (∀ k, k < r.2.2 → fs[k]? = some (defaultValue (ty k))) ∧ ∀ v ∈ fs, ∀ q, v ≠ .ref q
theorem jy_v_noref {v : Value} (h : ∀ q, v ≠ .ref q) : jy_v G v = v := by
  cases v <;> first | rfl | exact absurd rfl (h _)
theorem jr_new {idx ci n : Nat} {fs : List Value} (hd : decode (jy_c M) pc = .ok (.new idx, 3)) (hN : jy_N (jy_y M).cls idx ci n fs) (hf : jy_fit n h.length) (k : jy_J G d M (pc + 3) L (.ref h.length :: st) (h ++ [(ci, fs)]) P) : jy_J G d M pc L st h P := by
  intro h0 p e R s m args below meth c H locs ls hX hH hL hl h1 h2
  obtain ⟨hx, hb, -, -, -, hnm, -, -, hT, -, -, hRc, hRs, -⟩ := id hX
  have hown := findClass_of_methodNamed hnm
  obtain ⟨r, ty, hC, n1, n2, n3, n4, n5, n6⟩ := hN
  have hcap := hf.cap
  have hcm := jy_cap_mono h1
  have hcK := jy_cap_mono (show h.length + 1 ≤ jy_K from hf.1)
  have hKn := hT.2.1 ci r hC.1
  refine W.newc hx hb hown (hT.word n1 rfl rfl args) (hT.word n2 rfl rfl args) (hT.word n3 rfl rfl args) rfl hd (by have := hf.1; omega) (by omega) (fun cC kC g1 g2 g3 g4 => ?_)
  have hcc : cC = G.2.2.2.1 ci := Option.some.inj (g1.symm.trans hKn.2.1)
  subst hcc
  obtain ⟨hts, -⟩ := jy_apart (args := args) hT hC
  have hborn := u_born (H := H.push { cls := G.2.2.2.1 ci, slots := kC.instanceTypes.map defaultValue, vm := .none }) (o := H.size) ty hts (fun w hw => hw) hKn g2 (by simp [blank]) hC.2.2.2.1
  obtain ⟨x, b1, b2, b3, b4⟩ := hborn
  have hH' : jy_H G (h ++ [(ci, fs)]) (H.push { cls := G.2.2.2.1 ci, slots := kC.instanceTypes.map defaultValue, vm := .none }) := by
    refine hH.push (x := x) b1 (by simp) (fun q hq => by rw [Array.getElem?_push, if_neg (Nat.ne_of_lt hq)]) (Or.inl ⟨hC.2.1, b3, b2, r, hC.1, n4, by
      have hx0 : x = { cls := G.2.2.2.1 ci, slots := kC.instanceTypes.map defaultValue, vm := .none } := by simpa using b1.symm
      rw [hx0]
      exact ⟨rfl, rfl⟩, fun j v hj => ?_⟩)
    have hjl : j < r.2.2 := by rw [← n4]; exact (List.getElem?_eq_some_iff.mp hj).1
    have e1 := n5 j hjl
    rw [show fs[j]? = some v from hj] at e1
    rw [jy_v_noref (n6 v (List.mem_of_getElem? hj)), b4 j hjl, Option.some.inj e1]
  have hres := k h0 p e R s m args below meth c _ locs ls hX hH' hL hl (by simp; omega) (by simp; exact hf.1)
  have e1 : (h ++ [(ci, fs)]).length = h.length + 1 := by simp
  rw [e1] at hres
  have e2 : F0 m (pc + 3) ls ((Value.ref h.length :: st).map (jy_v G)) = { F0 m pc ls (st.map (jy_v G)) with pc := pc + 3, stack := Value.ref H.size :: st.map (jy_v G) } := by
    show F0 m (pc + 3) ls (Value.ref (jy_a G h.length) :: st.map (jy_v G)) = _
    rw [jy_a_new hH]
  rw [e2] at hres
  exact W.widen (by omega) (by omega) hres
/-- an array of numbers -/
theorem jr_newa {atype : ArrayType} {t : Nat} {ty : FieldType} {n : Int32} {N : Nat} {v : Value} (hd : decode (jy_c M) pc = .ok (.newarray atype, 2)) (ht : jy_ty t = some ty) (h58 : t < 58) (hty : newarray.typeOf atype = ty) (hv : defaultValue ty = v) (hr : ∀ q, v ≠ .ref q) (hw : Cond.arrayClass ty ∈ lw_tbl) (hn : ¬ n < 0) (hN : n.toNatClampNeg = N) (hf : jy_fit N h.length) (h6 : N ≤ 600) (k : jy_J G d M (pc + 2) L (.ref h.length :: st) (h ++ [(t, List.replicate N v)]) P) : jy_J G d M pc L (.int n :: st) h P := by
  subst hty; subst hN; subst hv
  intro h0 p e R s m args below meth c H locs ls hX hH hL hl h1 h2
  obtain ⟨hx, hb, -, -, -, hnm, -, -, hT, -, -, hRc, hRs, -⟩ := id hX
  have hcap := hf.cap
  have hcm := jy_cap_mono h1
  have hcK := jy_cap_mono (show h.length + 1 ≤ jy_K from hf.1)
  have hwb : (Cond.arrayClass (newarray.typeOf atype)).before args s = true := hT.1 _ hw rfl
  have hbytes : n.toNatClampNeg * componentBytes (newarray.typeOf atype) ≤ 536870912 := by
    have hc8 : componentBytes (newarray.typeOf atype) ≤ 8 := by cases atype <;> decide
    have := Nat.mul_le_mul h6 hc8
    omega
  refine W.newa hx hb hwb rfl hd rfl hn hbytes (by have := hf.1; omega) (by omega) (fun cA kA comp g1 g2 g3 => ?_)
  obtain ⟨k0, comp0, a1, a2, a3, -⟩ := hT.2.2.1 t _ ht
  have hcc : cA = G.2.2.2.2.2 t := Option.some.inj (g1.symm.trans (a3 h58))
  subst hcc
  have h50 : 50 ≤ t := by
    rcases Nat.lt_or_ge t 50 with q | q
    · exfalso
      unfold jy_ty at ht
      split at ht <;> first | omega | cases ht
    · exact q
  have hH' : jy_H G (h ++ [(t, List.replicate n.toNatClampNeg (defaultValue (newarray.typeOf atype)))]) (H.push { cls := G.2.2.2.2.2 t, slots := Array.replicate n.toNatClampNeg (defaultValue (newarray.typeOf atype)), vm := .none }) := by
    refine hH.push (x := { cls := G.2.2.2.2.2 t, slots := Array.replicate n.toNatClampNeg (defaultValue (newarray.typeOf atype)), vm := .none }) (by simp) (by simp) (fun q hq => by rw [Array.getElem?_push, if_neg (Nat.ne_of_lt hq)]) (Or.inr ⟨h50, (fun z => by cases z), (fun _ z => by cases z), rfl, ?_⟩)
    simp [jy_v_noref hr]
  have hres := k h0 p e R s m args below meth c _ locs ls hX hH' hL hl (by simp; omega) (by simp; exact hf.1)
  have e1 : (h ++ [(t, List.replicate n.toNatClampNeg (defaultValue (newarray.typeOf atype)))]).length = h.length + 1 := by simp
  rw [e1] at hres
  have e2 : F0 m (pc + 2) ls ((Value.ref h.length :: st).map (jy_v G)) = F0 m (pc + 2) ls (Value.ref H.size :: st.map (jy_v G)) := by
    show F0 m (pc + 2) ls (Value.ref (jy_a G h.length) :: st.map (jy_v G)) = _
    rw [jy_a_new hH]
  rw [e2] at hres
  exact W.widen (by omega) (by omega) hres
/-- an array of references to objects of the class cn, or to arrays of bytes -/
theorem jr_anew {idx t : Nat} {cn : String} {n : Int32} {N : Nat} (hd : decode (jy_c M) pc = .ok (.anewarray idx, 3)) (ht : jy_ty t = some (.object cn)) (h58 : t < 58) (hw : Cond.classLink (jy_y M).cls idx cn ∈ lw_tbl) (hw2 : Cond.arrayOver (.object cn) ∈ lw_tbl) (hn : ¬ n < 0) (hN : n.toNatClampNeg = N) (hf : jy_fit N h.length) (h6 : N ≤ 600) (k : jy_J G d M (pc + 3) L (.ref h.length :: st) (h ++ [(t, List.replicate N .null)]) P) : jy_J G d M pc L (.int n :: st) h P := by
  subst hN
  intro h0 p e R s m args below meth c H locs ls hX hH hL hl h1 h2
  obtain ⟨hx, hb, -, -, -, hnm, -, -, hT, -, -, hRc, hRs, -⟩ := id hX
  have hown := findClass_of_methodNamed hnm
  have hcap := hf.cap
  have hcm := jy_cap_mono h1
  have hcK := jy_cap_mono (show h.length + 1 ≤ jy_K from hf.1)
  have hov : (Cond.arrayOver (.object cn)).before args s = true := hT.1 _ hw2 rfl
  refine W.anew hx hb hown (hT.word hw rfl rfl args) hov rfl hd rfl hn (by omega) (by have := hf.1; omega) (by omega) (fun cA kA comp g1 g2 g3 g4 => ?_)
  obtain ⟨k0, comp0, a1, a2, a3, -⟩ := hT.2.2.1 t _ ht
  have hcc : cA = G.2.2.2.2.2 t := Option.some.inj (g1.symm.trans (a3 h58))
  subst hcc
  have h50 : 50 ≤ t := by
    rcases Nat.lt_or_ge t 50 with q | q
    · exfalso
      unfold jy_ty at ht
      split at ht <;> first | omega | cases ht
    · exact q
  have hH' : jy_H G (h ++ [(t, List.replicate n.toNatClampNeg .null)]) (H.push { cls := G.2.2.2.2.2 t, slots := Array.replicate n.toNatClampNeg .null, vm := .none }) := by
    refine hH.push (x := { cls := G.2.2.2.2.2 t, slots := Array.replicate n.toNatClampNeg .null, vm := .none }) (by simp) (by simp) (fun q hq => by rw [Array.getElem?_push, if_neg (Nat.ne_of_lt hq)]) (Or.inr ⟨h50, (fun z => by cases z), (fun _ z => by cases z), rfl, ?_⟩)
    simp [jy_v]
  have hres := k h0 p e R s m args below meth c _ locs ls hX hH' hL hl (by simp; omega) (by simp; exact hf.1)
  have e1 : (h ++ [(t, List.replicate n.toNatClampNeg Value.null)]).length = h.length + 1 := by simp
  rw [e1] at hres
  have e2 : F0 m (pc + 3) ls ((Value.ref h.length :: st).map (jy_v G)) = F0 m (pc + 3) ls (Value.ref H.size :: st.map (jy_v G)) := by
    show F0 m (pc + 3) ls (Value.ref (jy_a G h.length) :: st.map (jy_v G)) = _
    rw [jy_a_new hH]
  rw [e2] at hres
  exact W.widen (by omega) (by omega) hres
/-- an array of references to arrays -/
theorem jr_anewA {idx t : Nat} {ce : FieldType} {n : Int32} {N : Nat} (hd : decode (jy_c M) pc = .ok (.anewarray idx, 3)) (ht : jy_ty t = some (.array ce)) (h58 : t < 58) (hw : Cond.classLink (jy_y M).cls idx (FieldType.array ce).toString ∈ lw_tbl) (hw2 : Cond.arrayOver (.array ce) ∈ lw_tbl) (hn : ¬ n < 0) (hN : n.toNatClampNeg = N) (hf : jy_fit N h.length) (h6 : N ≤ 600) (k : jy_J G d M (pc + 3) L (.ref h.length :: st) (h ++ [(t, List.replicate N .null)]) P) : jy_J G d M pc L (.int n :: st) h P := by
  subst hN
  intro h0 p e R s m args below meth c H locs ls hX hH hL hl h1 h2
  obtain ⟨hx, hb, -, -, -, hnm, -, -, hT, -, -, hRc, hRs, -⟩ := id hX
  have hown := findClass_of_methodNamed hnm
  have hcap := hf.cap
  have hcm := jy_cap_mono h1
  have hcK := jy_cap_mono (show h.length + 1 ≤ jy_K from hf.1)
  have hov : (Cond.arrayOver (.array ce)).before args s = true := hT.1 _ hw2 rfl
  refine W.anewA hx hb hown (hT.word hw rfl rfl args) hov rfl hd rfl hn (by omega) (by have := hf.1; omega) (by omega) (fun cA kA comp g1 g2 g3 g4 => ?_)
  obtain ⟨k0, comp0, a1, a2, a3, -⟩ := hT.2.2.1 t _ ht
  have hcc : cA = G.2.2.2.2.2 t := Option.some.inj (g1.symm.trans (a3 h58))
  subst hcc
  have h50 : 50 ≤ t := by
    rcases Nat.lt_or_ge t 50 with q | q
    · exfalso
      unfold jy_ty at ht
      split at ht <;> first | omega | cases ht
    · exact q
  have hH' : jy_H G (h ++ [(t, List.replicate n.toNatClampNeg .null)]) (H.push { cls := G.2.2.2.2.2 t, slots := Array.replicate n.toNatClampNeg .null, vm := .none }) := by
    refine hH.push (x := { cls := G.2.2.2.2.2 t, slots := Array.replicate n.toNatClampNeg .null, vm := .none }) (by simp) (by simp) (fun q hq => by rw [Array.getElem?_push, if_neg (Nat.ne_of_lt hq)]) (Or.inr ⟨h50, (fun z => by cases z), (fun _ z => by cases z), rfl, ?_⟩)
    simp [jy_v]
  have hres := k h0 p e R s m args below meth c _ locs ls hX hH' hL hl (by simp; omega) (by simp; exact hf.1)
  have e1 : (h ++ [(t, List.replicate n.toNatClampNeg Value.null)]).length = h.length + 1 := by simp
  rw [e1] at hres
  have e2 : F0 m (pc + 3) ls ((Value.ref h.length :: st).map (jy_v G)) = F0 m (pc + 3) ls (Value.ref H.size :: st.map (jy_v G)) := by
    show F0 m (pc + 3) ls (Value.ref (jy_a G h.length) :: st.map (jy_v G)) = _
    rw [jy_a_new hH]
  rw [e2] at hres
  exact W.widen (by omega) (by omega) hres
end JA
