/-! the class' reader: read -/
section RY
variable {G : jy_G} {h0 : jy_P} {t tb : Ft} {n : Nat}
theorem c_RD_read {at_ : Int32} (F : Ft) (hT : TH t tb n) (hby : ∀ j, ∃ w : Int32, tb j = sx w) (h2 : h0[2]? = some (1, [.ref 3, .int (nI n), .int at_])) (h3 : h0[3]? = some (51, ints 400 tb)) (h26 : 26 ≤ h0.length) (hK : h0.length + 200 < jy_K) : jy_C G 10 m_RD_read [.ref 2] h0 (rX h0.length h0 140 (rdP t n 401 F 0 false (sk t n 0)) (readQ (n := n) h0.length h0 h0.length)) := by
  refine jy_C.of [some (.ref 2), none, none] rfl (Nat.le_of_ble_eq_true rfl) ?_
  have hn := hT.1
  refine jr_new d_RD_read_0 n_RD_70 ⟨by omega, Or.inl (by decide)⟩ ?_
  refine jr_dup d_RD_read_3 rfl ?_
  refine jr_callI' (As := []) d_RD_read_4 i_RD_114 rfl (Nat.le_of_ble_eq_true rfl) (by decide : 2 < 10) (c_TB_init (by omega) (by simp; omega) ga_n) ?_
  have e0 : ((h0 ++ [(2, [Value.null, .int 0, .null])]) ++ [(54, List.replicate 12 Value.null)]).set h0.length (2, [.ref (h0 ++ [(2, [Value.null, .int 0, .null])]).length, .int 0, .null]) = h0 ++ [(2, [Value.ref (h0.length + 1), .int 0, .null]), (54, List.replicate 12 Value.null)] := by simp
  rw [e0]
  refine jr_astore_n d_RD_read_7 rfl (by decide) ?_
  refine jr_aload_n d_RD_read_8 rfl rfl ?_
  refine jr_iconst (v := 0) d_RD_read_9 (by decide) ?_
  have o : ∀ i cc, h0[i]? = some cc → (h0 ++ [(2, [Value.ref (h0.length + 1), .int 0, .null]), (54, List.replicate 12 Value.null)])[i]? = some cc := fun i cc w => by rw [List.getElem?_append_left (len_lt w)]; exact w
  refine jr_put d_RD_read_10 f_RD_15 jy_fv_int (by decide) (o _ _ h2) rfl ?_
  have hl : (h0 ++ [(2, [Value.ref (h0.length + 1), .int 0, .null]), (54, List.replicate 12 Value.null)]).length = h0.length + 2 := by simp
  have hT0 : (h0 ++ [(2, [Value.ref (h0.length + 1), .int 0, .null]), (54, List.replicate 12 Value.null)])[h0.length]? = some (2, [.ref (h0.length + 1), .int 0, .null]) := by simp
  have hM0 : (h0 ++ [(2, [Value.ref (h0.length + 1), .int 0, .null]), (54, List.replicate 12 Value.null)])[h0.length + 1]? = some (54, List.replicate 12 .null) := by simp
  refine rd_read (N := h0.length) hT hby h3 h26 rfl hK 401 (p := 0) (k := 0) (F := F) (g := false) (by omega) (by omega) (gs_eq (o _ _ h2)) (St.app.tr (St.set (Or.inl rfl))) (by rw [List.length_set, hl]; omega) (by rw [List.length_set, hl]; omega) ?_ ⟨by omega, fun j hj => by omega, fun i j hi => by omega, fun q => by cases q⟩ rfl
  refine ⟨h0.length + 1, .null, List.replicate 12 .null, Nat.le_refl _, by omega, ?_, ?_, by simp, fun j hj => by omega, Or.inr ⟨rfl, rfl⟩⟩
  · rw [List.getElem?_set_ne (by omega)]; exact hT0
  · rw [List.getElem?_set_ne (by omega)]; exact hM0
end RY
