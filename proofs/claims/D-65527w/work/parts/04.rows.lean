/-! rows: an instruction each (printed by gen/rows.py) -/
section JR
variable {G : jy_G} {d : Nat} {M : jy_M} {pc : Nat} {L : List (Option Value)} {st : List Value} {h : jy_P} {P : Outcome → jy_P → Prop}
theorem jr_iconst {n : Int} {v : Int32} (hd : decode (jy_c M) pc = .ok (.iconst n, 1)) (hv : Int32.ofInt n = v) (k : jy_J G d M (pc + 1) L (.int v :: st) h P) : jy_J G d M pc L (st) h P := by
  intro h0 p e R s m args below meth c H locs ls hX hH hL hl h1 h2
  exact lv_iconst hX.1 hX.2.1 hd hv (k h0 p e R s m args below meth c H locs ls hX hH hL hl h1 h2)
theorem jr_bipush {n : Int} {v : Int32} (hd : decode (jy_c M) pc = .ok (.bipush n, 2)) (hv : (Int8.ofInt n).toInt32 = v) (k : jy_J G d M (pc + 2) L (.int v :: st) h P) : jy_J G d M pc L (st) h P := by
  intro h0 p e R s m args below meth c H locs ls hX hH hL hl h1 h2
  exact lv_bipush hX.1 hX.2.1 hd hv (k h0 p e R s m args below meth c H locs ls hX hH hL hl h1 h2)
theorem jr_sipush {n : Int} {v : Int32} (hd : decode (jy_c M) pc = .ok (.sipush n, 3)) (hv : (Int16.ofInt n).toInt32 = v) (k : jy_J G d M (pc + 3) L (.int v :: st) h P) : jy_J G d M pc L (st) h P := by
  intro h0 p e R s m args below meth c H locs ls hX hH hL hl h1 h2
  exact lv_sipush hX.1 hX.2.1 hd hv (k h0 p e R s m args below meth c H locs ls hX hH hL hl h1 h2)
theorem jr_lconst {n : Fin 2} {v : Int64} (hd : decode (jy_c M) pc = .ok (.lconst n, 1)) (hv : Int64.ofNat (n : Nat) = v) (k : jy_J G d M (pc + 1) L (.long v :: st) h P) : jy_J G d M pc L (st) h P := by
  intro h0 p e R s m args below meth c H locs ls hX hH hL hl h1 h2
  exact lv_lconst hX.1 hX.2.1 hd hv (k h0 p e R s m args below meth c H locs ls hX hH hL hl h1 h2)
theorem jr_null  (hd : decode (jy_c M) pc = .ok (.aconst_null, 1))  (k : jy_J G d M (pc + 1) L (.null :: st) h P) : jy_J G d M pc L (st) h P := by
  intro h0 p e R s m args below meth c H locs ls hX hH hL hl h1 h2
  exact lv_null hX.1 hX.2.1 hd  (k h0 p e R s m args below meth c H locs ls hX hH hL hl h1 h2)
theorem jr_iload_n {k : Fin 4} {i : Nat} {x : Int32} (hd : decode (jy_c M) pc = .ok (.iload_n k, 1)) (hi : (k : Nat) = i) (hv : L[i]? = some (some (.int x))) (k : jy_J G d M (pc + 1) L (.int x :: st) h P) : jy_J G d M pc L (st) h P := by
  intro h0 p e R s m args below meth c H locs ls hX hH hL hl h1 h2
  exact lv_iload_n hX.1 hX.2.1 hd hi (hL.2.2 i _ hv) (k h0 p e R s m args below meth c H locs ls hX hH hL hl h1 h2)
theorem jr_iload {i : Nat} {x : Int32} (hd : decode (jy_c M) pc = .ok (.iload i, 2)) (hv : L[i]? = some (some (.int x))) (k : jy_J G d M (pc + 2) L (.int x :: st) h P) : jy_J G d M pc L (st) h P := by
  intro h0 p e R s m args below meth c H locs ls hX hH hL hl h1 h2
  exact lv_iload hX.1 hX.2.1 hd (hL.2.2 i _ hv) (k h0 p e R s m args below meth c H locs ls hX hH hL hl h1 h2)
theorem jr_lload_n {k : Fin 4} {i : Nat} {x : Int64} (hd : decode (jy_c M) pc = .ok (.lload_n k, 1)) (hi : (k : Nat) = i) (hv : L[i]? = some (some (.long x))) (k : jy_J G d M (pc + 1) L (.long x :: st) h P) : jy_J G d M pc L (st) h P := by
  intro h0 p e R s m args below meth c H locs ls hX hH hL hl h1 h2
  exact lv_lload_n hX.1 hX.2.1 hd hi (hL.2.2 i _ hv) (k h0 p e R s m args below meth c H locs ls hX hH hL hl h1 h2)
theorem jr_lload {i : Nat} {x : Int64} (hd : decode (jy_c M) pc = .ok (.lload i, 2)) (hv : L[i]? = some (some (.long x))) (k : jy_J G d M (pc + 2) L (.long x :: st) h P) : jy_J G d M pc L (st) h P := by
  intro h0 p e R s m args below meth c H locs ls hX hH hL hl h1 h2
  exact lv_lload hX.1 hX.2.1 hd (hL.2.2 i _ hv) (k h0 p e R s m args below meth c H locs ls hX hH hL hl h1 h2)
theorem jr_aload_n {k : Fin 4} {i : Nat} {x : Nat} (hd : decode (jy_c M) pc = .ok (.aload_n k, 1)) (hi : (k : Nat) = i) (hv : L[i]? = some (some (.ref x))) (k : jy_J G d M (pc + 1) L (.ref x :: st) h P) : jy_J G d M pc L (st) h P := by
  intro h0 p e R s m args below meth c H locs ls hX hH hL hl h1 h2
  exact lv_aload_n hX.1 hX.2.1 hd hi (hL.2.2 i _ hv) (k h0 p e R s m args below meth c H locs ls hX hH hL hl h1 h2)
theorem jr_aload {i : Nat} {x : Nat} (hd : decode (jy_c M) pc = .ok (.aload i, 2)) (hv : L[i]? = some (some (.ref x))) (k : jy_J G d M (pc + 2) L (.ref x :: st) h P) : jy_J G d M pc L (st) h P := by
  intro h0 p e R s m args below meth c H locs ls hX hH hL hl h1 h2
  exact lv_aload hX.1 hX.2.1 hd (hL.2.2 i _ hv) (k h0 p e R s m args below meth c H locs ls hX hH hL hl h1 h2)
theorem jr_aload_nN {k : Fin 4} {i : Nat} (hd : decode (jy_c M) pc = .ok (.aload_n k, 1)) (hi : (k : Nat) = i) (hv : L[i]? = some (some .null)) (k : jy_J G d M (pc + 1) L (.null :: st) h P) : jy_J G d M pc L (st) h P := by
  intro h0 p e R s m args below meth c H locs ls hX hH hL hl h1 h2
  exact lv_aload_nN hX.1 hX.2.1 hd hi (hL.2.2 i _ hv) (k h0 p e R s m args below meth c H locs ls hX hH hL hl h1 h2)
theorem jr_aloadN {i : Nat} (hd : decode (jy_c M) pc = .ok (.aload i, 2)) (hv : L[i]? = some (some .null)) (k : jy_J G d M (pc + 2) L (.null :: st) h P) : jy_J G d M pc L (st) h P := by
  intro h0 p e R s m args below meth c H locs ls hX hH hL hl h1 h2
  exact lv_aloadN hX.1 hX.2.1 hd (hL.2.2 i _ hv) (k h0 p e R s m args below meth c H locs ls hX hH hL hl h1 h2)
theorem jr_iadd {x y : Int32} (hd : decode (jy_c M) pc = .ok (.iadd, 1))  (k : jy_J G d M (pc + 1) L (.int (x + y) :: st) h P) : jy_J G d M pc L (.int y :: .int x :: st) h P := by
  intro h0 p e R s m args below meth c H locs ls hX hH hL hl h1 h2
  exact lv_iadd hX.1 hX.2.1 hd  (k h0 p e R s m args below meth c H locs ls hX hH hL hl h1 h2)
theorem jr_isub {x y : Int32} (hd : decode (jy_c M) pc = .ok (.isub, 1))  (k : jy_J G d M (pc + 1) L (.int (x - y) :: st) h P) : jy_J G d M pc L (.int y :: .int x :: st) h P := by
  intro h0 p e R s m args below meth c H locs ls hX hH hL hl h1 h2
  exact lv_isub hX.1 hX.2.1 hd  (k h0 p e R s m args below meth c H locs ls hX hH hL hl h1 h2)
theorem jr_imul {x y : Int32} (hd : decode (jy_c M) pc = .ok (.imul, 1))  (k : jy_J G d M (pc + 1) L (.int (x * y) :: st) h P) : jy_J G d M pc L (.int y :: .int x :: st) h P := by
  intro h0 p e R s m args below meth c H locs ls hX hH hL hl h1 h2
  exact lv_imul hX.1 hX.2.1 hd  (k h0 p e R s m args below meth c H locs ls hX hH hL hl h1 h2)
theorem jr_iand {x y : Int32} (hd : decode (jy_c M) pc = .ok (.iand, 1))  (k : jy_J G d M (pc + 1) L (.int (x &&& y) :: st) h P) : jy_J G d M pc L (.int y :: .int x :: st) h P := by
  intro h0 p e R s m args below meth c H locs ls hX hH hL hl h1 h2
  exact lv_iand hX.1 hX.2.1 hd  (k h0 p e R s m args below meth c H locs ls hX hH hL hl h1 h2)
theorem jr_ior {x y : Int32} (hd : decode (jy_c M) pc = .ok (.ior, 1))  (k : jy_J G d M (pc + 1) L (.int (x ||| y) :: st) h P) : jy_J G d M pc L (.int y :: .int x :: st) h P := by
  intro h0 p e R s m args below meth c H locs ls hX hH hL hl h1 h2
  exact lv_ior hX.1 hX.2.1 hd  (k h0 p e R s m args below meth c H locs ls hX hH hL hl h1 h2)
theorem jr_ishl {x y : Int32} (hd : decode (jy_c M) pc = .ok (.ishl, 1))  (k : jy_J G d M (pc + 1) L (.int (x <<< (y &&& 31)) :: st) h P) : jy_J G d M pc L (.int y :: .int x :: st) h P := by
  intro h0 p e R s m args below meth c H locs ls hX hH hL hl h1 h2
  exact lv_ishl hX.1 hX.2.1 hd  (k h0 p e R s m args below meth c H locs ls hX hH hL hl h1 h2)
theorem jr_ishr {x y : Int32} (hd : decode (jy_c M) pc = .ok (.ishr, 1))  (k : jy_J G d M (pc + 1) L (.int (x >>> (y &&& 31)) :: st) h P) : jy_J G d M pc L (.int y :: .int x :: st) h P := by
  intro h0 p e R s m args below meth c H locs ls hX hH hL hl h1 h2
  exact lv_ishr hX.1 hX.2.1 hd  (k h0 p e R s m args below meth c H locs ls hX hH hL hl h1 h2)
theorem jr_ladd {x y : Int64} (hd : decode (jy_c M) pc = .ok (.ladd, 1))  (k : jy_J G d M (pc + 1) L (.long (x + y) :: st) h P) : jy_J G d M pc L (.long y :: .long x :: st) h P := by
  intro h0 p e R s m args below meth c H locs ls hX hH hL hl h1 h2
  exact lv_ladd hX.1 hX.2.1 hd  (k h0 p e R s m args below meth c H locs ls hX hH hL hl h1 h2)
theorem jr_lmul {x y : Int64} (hd : decode (jy_c M) pc = .ok (.lmul, 1))  (k : jy_J G d M (pc + 1) L (.long (x * y) :: st) h P) : jy_J G d M pc L (.long y :: .long x :: st) h P := by
  intro h0 p e R s m args below meth c H locs ls hX hH hL hl h1 h2
  exact lv_lmul hX.1 hX.2.1 hd  (k h0 p e R s m args below meth c H locs ls hX hH hL hl h1 h2)
theorem jr_land {x y : Int64} (hd : decode (jy_c M) pc = .ok (.land, 1))  (k : jy_J G d M (pc + 1) L (.long (x &&& y) :: st) h P) : jy_J G d M pc L (.long y :: .long x :: st) h P := by
  intro h0 p e R s m args below meth c H locs ls hX hH hL hl h1 h2
  exact lv_land hX.1 hX.2.1 hd  (k h0 p e R s m args below meth c H locs ls hX hH hL hl h1 h2)
theorem jr_lor {x y : Int64} (hd : decode (jy_c M) pc = .ok (.lor, 1))  (k : jy_J G d M (pc + 1) L (.long (x ||| y) :: st) h P) : jy_J G d M pc L (.long y :: .long x :: st) h P := by
  intro h0 p e R s m args below meth c H locs ls hX hH hL hl h1 h2
  exact lv_lor hX.1 hX.2.1 hd  (k h0 p e R s m args below meth c H locs ls hX hH hL hl h1 h2)
theorem jr_lcmp {x y : Int64} (hd : decode (jy_c M) pc = .ok (.lcmp, 1))  (k : jy_J G d M (pc + 1) L (.int (lg_cmp x y) :: st) h P) : jy_J G d M pc L (.long y :: .long x :: st) h P := by
  intro h0 p e R s m args below meth c H locs ls hX hH hL hl h1 h2
  exact W.lcmp hX.1 hX.2.1 hd  (k h0 p e R s m args below meth c H locs ls hX hH hL hl h1 h2)
theorem jr_i2l {x : Int32} (hd : decode (jy_c M) pc = .ok (.i2l, 1))  (k : jy_J G d M (pc + 1) L (.long x.toInt64 :: st) h P) : jy_J G d M pc L (.int x :: st) h P := by
  intro h0 p e R s m args below meth c H locs ls hX hH hL hl h1 h2
  exact lv_i2l hX.1 hX.2.1 hd rfl (k h0 p e R s m args below meth c H locs ls hX hH hL hl h1 h2)
theorem jr_l2i {x : Int64} (hd : decode (jy_c M) pc = .ok (.l2i, 1))  (k : jy_J G d M (pc + 1) L (.int x.toInt32 :: st) h P) : jy_J G d M pc L (.long x :: st) h P := by
  intro h0 p e R s m args below meth c H locs ls hX hH hL hl h1 h2
  exact lv_l2i hX.1 hX.2.1 hd rfl (k h0 p e R s m args below meth c H locs ls hX hH hL hl h1 h2)
theorem jr_i2b {x : Int32} (hd : decode (jy_c M) pc = .ok (.i2b, 1))  (k : jy_J G d M (pc + 1) L (.int x.toInt8.toInt32 :: st) h P) : jy_J G d M pc L (.int x :: st) h P := by
  intro h0 p e R s m args below meth c H locs ls hX hH hL hl h1 h2
  exact lv_i2b hX.1 hX.2.1 hd rfl (k h0 p e R s m args below meth c H locs ls hX hH hL hl h1 h2)
theorem jr_lshl {x : Int64} {y : Int32} (hd : decode (jy_c M) pc = .ok (.lshl, 1))  (k : jy_J G d M (pc + 1) L (.long (x <<< (y.toInt64 &&& 63)) :: st) h P) : jy_J G d M pc L (.int y :: .long x :: st) h P := by
  intro h0 p e R s m args below meth c H locs ls hX hH hL hl h1 h2
  exact lv_lshl hX.1 hX.2.1 hd rfl (k h0 p e R s m args below meth c H locs ls hX hH hL hl h1 h2)
theorem jr_lshr {x : Int64} {y : Int32} (hd : decode (jy_c M) pc = .ok (.lshr, 1))  (k : jy_J G d M (pc + 1) L (.long (x >>> (y.toInt64 &&& 63)) :: st) h P) : jy_J G d M pc L (.int y :: .long x :: st) h P := by
  intro h0 p e R s m args below meth c H locs ls hX hH hL hl h1 h2
  exact lv_lshr hX.1 hX.2.1 hd rfl (k h0 p e R s m args below meth c H locs ls hX hH hL hl h1 h2)
theorem jr_dup {va : Value} (hd : decode (jy_c M) pc = .ok (.dup, 1)) (ha : va.category = 1) (k : jy_J G d M (pc + 1) L (va :: va :: st) h P) : jy_J G d M pc L (va :: st) h P := by
  intro h0 p e R s m args below meth c H locs ls hX hH hL hl h1 h2
  exact lv_dup hX.1 hX.2.1 hd (by rw [jy_v_cat]; exact ha) (k h0 p e R s m args below meth c H locs ls hX hH hL hl h1 h2)
theorem jr_pop {va : Value} (hd : decode (jy_c M) pc = .ok (.pop, 1)) (ha : va.category = 1) (k : jy_J G d M (pc + 1) L (st) h P) : jy_J G d M pc L (va :: st) h P := by
  intro h0 p e R s m args below meth c H locs ls hX hH hL hl h1 h2
  exact lv_pop hX.1 hX.2.1 hd (by rw [jy_v_cat]; exact ha) (k h0 p e R s m args below meth c H locs ls hX hH hL hl h1 h2)
theorem jr_dup_x1 {va vb : Value} (hd : decode (jy_c M) pc = .ok (.dup_x1, 1)) (ha : va.category = 1) (hb : vb.category = 1) (k : jy_J G d M (pc + 1) L (va :: vb :: va :: st) h P) : jy_J G d M pc L (va :: vb :: st) h P := by
  intro h0 p e R s m args below meth c H locs ls hX hH hL hl h1 h2
  exact lv_dup_x1 hX.1 hX.2.1 hd (by rw [jy_v_cat]; exact ha) (by rw [jy_v_cat]; exact hb) (k h0 p e R s m args below meth c H locs ls hX hH hL hl h1 h2)
theorem jr_dup2 {va vb : Value} (hd : decode (jy_c M) pc = .ok (.dup2, 1)) (ha : va.category = 1) (hb : vb.category = 1) (k : jy_J G d M (pc + 1) L (va :: vb :: va :: vb :: st) h P) : jy_J G d M pc L (va :: vb :: st) h P := by
  intro h0 p e R s m args below meth c H locs ls hX hH hL hl h1 h2
  exact lv_dup2_11 hX.1 hX.2.1 hd (by rw [jy_v_cat]; exact ha) (by rw [jy_v_cat]; exact hb) (k h0 p e R s m args below meth c H locs ls hX hH hL hl h1 h2)
theorem jr_if_eq {x : Int32} {off : Int} {tgt : Nat} (hd : decode (jy_c M) pc = .ok (.ifCond .eq off, 3)) (ht : (pc : Int) + off = (tgt : Int)) (kt : x = 0 → jy_J G d M tgt L st h P) (kf : ¬ x = 0 → jy_J G d M (pc + 3) L st h P) : jy_J G d M pc L (.int x :: st) h P := by
  intro h0 p e R s m args below meth c H locs ls hX hH hL hl h1 h2
  exact lv_if_eq hX.1 hX.2.1 hd ht (fun q => (kt q h0 p e R s m args below meth c H locs ls hX hH hL hl h1 h2)) (fun q => (kf q h0 p e R s m args below meth c H locs ls hX hH hL hl h1 h2))
theorem jr_icmp_eq {x y : Int32} {off : Int} {tgt : Nat} (hd : decode (jy_c M) pc = .ok (.if_icmp .eq off, 3)) (ht : (pc : Int) + off = (tgt : Int)) (kt : x = y → jy_J G d M tgt L st h P) (kf : ¬ x = y → jy_J G d M (pc + 3) L st h P) : jy_J G d M pc L (.int y :: .int x :: st) h P := by
  intro h0 p e R s m args below meth c H locs ls hX hH hL hl h1 h2
  exact lv_icmp_eq hX.1 hX.2.1 hd ht (fun q => (kt q h0 p e R s m args below meth c H locs ls hX hH hL hl h1 h2)) (fun q => (kf q h0 p e R s m args below meth c H locs ls hX hH hL hl h1 h2))
theorem jr_if_ne {x : Int32} {off : Int} {tgt : Nat} (hd : decode (jy_c M) pc = .ok (.ifCond .ne off, 3)) (ht : (pc : Int) + off = (tgt : Int)) (kt : ¬ x = 0 → jy_J G d M tgt L st h P) (kf : x = 0 → jy_J G d M (pc + 3) L st h P) : jy_J G d M pc L (.int x :: st) h P := by
  intro h0 p e R s m args below meth c H locs ls hX hH hL hl h1 h2
  exact lv_if_ne hX.1 hX.2.1 hd ht (fun q => (kt q h0 p e R s m args below meth c H locs ls hX hH hL hl h1 h2)) (fun q => (kf q h0 p e R s m args below meth c H locs ls hX hH hL hl h1 h2))
theorem jr_icmp_ne {x y : Int32} {off : Int} {tgt : Nat} (hd : decode (jy_c M) pc = .ok (.if_icmp .ne off, 3)) (ht : (pc : Int) + off = (tgt : Int)) (kt : ¬ x = y → jy_J G d M tgt L st h P) (kf : x = y → jy_J G d M (pc + 3) L st h P) : jy_J G d M pc L (.int y :: .int x :: st) h P := by
  intro h0 p e R s m args below meth c H locs ls hX hH hL hl h1 h2
  exact lv_icmp_ne hX.1 hX.2.1 hd ht (fun q => (kt q h0 p e R s m args below meth c H locs ls hX hH hL hl h1 h2)) (fun q => (kf q h0 p e R s m args below meth c H locs ls hX hH hL hl h1 h2))
theorem jr_if_lt {x : Int32} {off : Int} {tgt : Nat} (hd : decode (jy_c M) pc = .ok (.ifCond .lt off, 3)) (ht : (pc : Int) + off = (tgt : Int)) (kt : x < 0 → jy_J G d M tgt L st h P) (kf : ¬ x < 0 → jy_J G d M (pc + 3) L st h P) : jy_J G d M pc L (.int x :: st) h P := by
  intro h0 p e R s m args below meth c H locs ls hX hH hL hl h1 h2
  exact lv_if_lt hX.1 hX.2.1 hd ht (fun q => (kt q h0 p e R s m args below meth c H locs ls hX hH hL hl h1 h2)) (fun q => (kf q h0 p e R s m args below meth c H locs ls hX hH hL hl h1 h2))
theorem jr_icmp_lt {x y : Int32} {off : Int} {tgt : Nat} (hd : decode (jy_c M) pc = .ok (.if_icmp .lt off, 3)) (ht : (pc : Int) + off = (tgt : Int)) (kt : x < y → jy_J G d M tgt L st h P) (kf : ¬ x < y → jy_J G d M (pc + 3) L st h P) : jy_J G d M pc L (.int y :: .int x :: st) h P := by
  intro h0 p e R s m args below meth c H locs ls hX hH hL hl h1 h2
  exact lv_icmp_lt hX.1 hX.2.1 hd ht (fun q => (kt q h0 p e R s m args below meth c H locs ls hX hH hL hl h1 h2)) (fun q => (kf q h0 p e R s m args below meth c H locs ls hX hH hL hl h1 h2))
theorem jr_if_ge {x : Int32} {off : Int} {tgt : Nat} (hd : decode (jy_c M) pc = .ok (.ifCond .ge off, 3)) (ht : (pc : Int) + off = (tgt : Int)) (kt : 0 ≤ x → jy_J G d M tgt L st h P) (kf : ¬ 0 ≤ x → jy_J G d M (pc + 3) L st h P) : jy_J G d M pc L (.int x :: st) h P := by
  intro h0 p e R s m args below meth c H locs ls hX hH hL hl h1 h2
  exact lv_if_ge hX.1 hX.2.1 hd ht (fun q => (kt q h0 p e R s m args below meth c H locs ls hX hH hL hl h1 h2)) (fun q => (kf q h0 p e R s m args below meth c H locs ls hX hH hL hl h1 h2))
theorem jr_icmp_ge {x y : Int32} {off : Int} {tgt : Nat} (hd : decode (jy_c M) pc = .ok (.if_icmp .ge off, 3)) (ht : (pc : Int) + off = (tgt : Int)) (kt : y ≤ x → jy_J G d M tgt L st h P) (kf : ¬ y ≤ x → jy_J G d M (pc + 3) L st h P) : jy_J G d M pc L (.int y :: .int x :: st) h P := by
  intro h0 p e R s m args below meth c H locs ls hX hH hL hl h1 h2
  exact lv_icmp_ge hX.1 hX.2.1 hd ht (fun q => (kt q h0 p e R s m args below meth c H locs ls hX hH hL hl h1 h2)) (fun q => (kf q h0 p e R s m args below meth c H locs ls hX hH hL hl h1 h2))
theorem jr_if_gt {x : Int32} {off : Int} {tgt : Nat} (hd : decode (jy_c M) pc = .ok (.ifCond .gt off, 3)) (ht : (pc : Int) + off = (tgt : Int)) (kt : 0 < x → jy_J G d M tgt L st h P) (kf : ¬ 0 < x → jy_J G d M (pc + 3) L st h P) : jy_J G d M pc L (.int x :: st) h P := by
  intro h0 p e R s m args below meth c H locs ls hX hH hL hl h1 h2
  exact lv_if_gt hX.1 hX.2.1 hd ht (fun q => (kt q h0 p e R s m args below meth c H locs ls hX hH hL hl h1 h2)) (fun q => (kf q h0 p e R s m args below meth c H locs ls hX hH hL hl h1 h2))
theorem jr_icmp_gt {x y : Int32} {off : Int} {tgt : Nat} (hd : decode (jy_c M) pc = .ok (.if_icmp .gt off, 3)) (ht : (pc : Int) + off = (tgt : Int)) (kt : y < x → jy_J G d M tgt L st h P) (kf : ¬ y < x → jy_J G d M (pc + 3) L st h P) : jy_J G d M pc L (.int y :: .int x :: st) h P := by
  intro h0 p e R s m args below meth c H locs ls hX hH hL hl h1 h2
  exact lv_icmp_gt hX.1 hX.2.1 hd ht (fun q => (kt q h0 p e R s m args below meth c H locs ls hX hH hL hl h1 h2)) (fun q => (kf q h0 p e R s m args below meth c H locs ls hX hH hL hl h1 h2))
theorem jr_if_le {x : Int32} {off : Int} {tgt : Nat} (hd : decode (jy_c M) pc = .ok (.ifCond .le off, 3)) (ht : (pc : Int) + off = (tgt : Int)) (kt : x ≤ 0 → jy_J G d M tgt L st h P) (kf : ¬ x ≤ 0 → jy_J G d M (pc + 3) L st h P) : jy_J G d M pc L (.int x :: st) h P := by
  intro h0 p e R s m args below meth c H locs ls hX hH hL hl h1 h2
  exact lv_if_le hX.1 hX.2.1 hd ht (fun q => (kt q h0 p e R s m args below meth c H locs ls hX hH hL hl h1 h2)) (fun q => (kf q h0 p e R s m args below meth c H locs ls hX hH hL hl h1 h2))
theorem jr_icmp_le {x y : Int32} {off : Int} {tgt : Nat} (hd : decode (jy_c M) pc = .ok (.if_icmp .le off, 3)) (ht : (pc : Int) + off = (tgt : Int)) (kt : x ≤ y → jy_J G d M tgt L st h P) (kf : ¬ x ≤ y → jy_J G d M (pc + 3) L st h P) : jy_J G d M pc L (.int y :: .int x :: st) h P := by
  intro h0 p e R s m args below meth c H locs ls hX hH hL hl h1 h2
  exact lv_icmp_le hX.1 hX.2.1 hd ht (fun q => (kt q h0 p e R s m args below meth c H locs ls hX hH hL hl h1 h2)) (fun q => (kf q h0 p e R s m args below meth c H locs ls hX hH hL hl h1 h2))
theorem jr_goto {off : Int} {tgt : Nat} (hd : decode (jy_c M) pc = .ok (.goto off, 3)) (ht : (pc : Int) + off = (tgt : Int)) (k : jy_J G d M tgt L st h P) : jy_J G d M pc L st h P := by
  intro h0 p e R s m args below meth c H locs ls hX hH hL hl h1 h2
  exact lv_goto hX.1 hX.2.1 hd ht (k h0 p e R s m args below meth c H locs ls hX hH hL hl h1 h2)
theorem jr_ifnull {x : Nat} {off : Int} (hd : decode (jy_c M) pc = .ok (.ifnull off, 3)) (k : jy_J G d M (pc + 3) L st h P) : jy_J G d M pc L (.ref x :: st) h P := by
  intro h0 p e R s m args below meth c H locs ls hX hH hL hl h1 h2
  exact lv_ifnull hX.1 hX.2.1 hd (k h0 p e R s m args below meth c H locs ls hX hH hL hl h1 h2)
theorem jr_ifnullN {off : Int} {tgt : Nat} (hd : decode (jy_c M) pc = .ok (.ifnull off, 3)) (ht : (pc : Int) + off = (tgt : Int)) (k : jy_J G d M tgt L st h P) : jy_J G d M pc L (.null :: st) h P := by
  intro h0 p e R s m args below meth c H locs ls hX hH hL hl h1 h2
  exact lv_ifnullN hX.1 hX.2.1 hd ht (k h0 p e R s m args below meth c H locs ls hX hH hL hl h1 h2)
theorem jr_ifnonnull {x : Nat} {off : Int} {tgt : Nat} (hd : decode (jy_c M) pc = .ok (.ifnonnull off, 3)) (ht : (pc : Int) + off = (tgt : Int)) (k : jy_J G d M tgt L st h P) : jy_J G d M pc L (.ref x :: st) h P := by
  intro h0 p e R s m args below meth c H locs ls hX hH hL hl h1 h2
  exact lv_ifnonnull hX.1 hX.2.1 hd ht (k h0 p e R s m args below meth c H locs ls hX hH hL hl h1 h2)
theorem jr_ifnonnullN {off : Int} (hd : decode (jy_c M) pc = .ok (.ifnonnull off, 3)) (k : jy_J G d M (pc + 3) L st h P) : jy_J G d M pc L (.null :: st) h P := by
  intro h0 p e R s m args below meth c H locs ls hX hH hL hl h1 h2
  exact lv_ifnonnullN hX.1 hX.2.1 hd (k h0 p e R s m args below meth c H locs ls hX hH hL hl h1 h2)
theorem jr_istore_n {k0 : Fin 4} {i : Nat} {x : Int32} (hd : decode (jy_c M) pc = .ok (.istore_n k0, 1)) (hi : (k0 : Nat) = i) (hn : i < jy_l M) (k : jy_J G d M (pc + 1) (jy_st L i (.int x)) st h P) : jy_J G d M pc L (.int x :: st) h P := by
  intro h0 p e R s m args below meth c H locs ls hX hH hL hl h1 h2
  exact lv_istore_n hX.1 hX.2.1 hd hi hL.has hn rfl (fun ls hl2 => k h0 p e R s m args below meth c H locs ls hX hH (jy_L.st (v := .int x) hl2) hl h1 h2)
theorem jr_istore {i : Nat} {x : Int32} (hd : decode (jy_c M) pc = .ok (.istore i, 2))  (hn : i < jy_l M) (k : jy_J G d M (pc + 2) (jy_st L i (.int x)) st h P) : jy_J G d M pc L (.int x :: st) h P := by
  intro h0 p e R s m args below meth c H locs ls hX hH hL hl h1 h2
  exact lv_istore hX.1 hX.2.1 hd  hL.has hn rfl (fun ls hl2 => k h0 p e R s m args below meth c H locs ls hX hH (jy_L.st (v := .int x) hl2) hl h1 h2)
theorem jr_lstore_n {k0 : Fin 4} {i : Nat} {x : Int64} (hd : decode (jy_c M) pc = .ok (.lstore_n k0, 1)) (hi : (k0 : Nat) = i) (hn : i + 1 < jy_l M) (k : jy_J G d M (pc + 1) (jy_st2 L i (.long x)) st h P) : jy_J G d M pc L (.long x :: st) h P := by
  intro h0 p e R s m args below meth c H locs ls hX hH hL hl h1 h2
  exact lv_lstore_n hX.1 hX.2.1 hd hi hL.has hn rfl (fun ls hl2 => k h0 p e R s m args below meth c H locs ls hX hH (jy_L.st2 (v := .long x) hl2) hl h1 h2)
theorem jr_lstore {i : Nat} {x : Int64} (hd : decode (jy_c M) pc = .ok (.lstore i, 2))  (hn : i + 1 < jy_l M) (k : jy_J G d M (pc + 2) (jy_st2 L i (.long x)) st h P) : jy_J G d M pc L (.long x :: st) h P := by
  intro h0 p e R s m args below meth c H locs ls hX hH hL hl h1 h2
  exact lv_lstore hX.1 hX.2.1 hd  hL.has hn rfl (fun ls hl2 => k h0 p e R s m args below meth c H locs ls hX hH (jy_L.st2 (v := .long x) hl2) hl h1 h2)
theorem jr_astore_n {k0 : Fin 4} {i : Nat} {x : Nat} (hd : decode (jy_c M) pc = .ok (.astore_n k0, 1)) (hi : (k0 : Nat) = i) (hn : i < jy_l M) (k : jy_J G d M (pc + 1) (jy_st L i (.ref x)) st h P) : jy_J G d M pc L (.ref x :: st) h P := by
  intro h0 p e R s m args below meth c H locs ls hX hH hL hl h1 h2
  exact lv_astore_n hX.1 hX.2.1 hd hi hL.has hn rfl (fun ls hl2 => k h0 p e R s m args below meth c H locs ls hX hH (jy_L.st (v := .ref x) hl2) hl h1 h2)
theorem jr_astore {i : Nat} {x : Nat} (hd : decode (jy_c M) pc = .ok (.astore i, 2))  (hn : i < jy_l M) (k : jy_J G d M (pc + 2) (jy_st L i (.ref x)) st h P) : jy_J G d M pc L (.ref x :: st) h P := by
  intro h0 p e R s m args below meth c H locs ls hX hH hL hl h1 h2
  exact lv_astore hX.1 hX.2.1 hd  hL.has hn rfl (fun ls hl2 => k h0 p e R s m args below meth c H locs ls hX hH (jy_L.st (v := .ref x) hl2) hl h1 h2)
theorem jr_astore_nN {k0 : Fin 4} {i : Nat} (hd : decode (jy_c M) pc = .ok (.astore_n k0, 1)) (hi : (k0 : Nat) = i) (hn : i < jy_l M) (k : jy_J G d M (pc + 1) (jy_st L i (.null)) st h P) : jy_J G d M pc L (.null :: st) h P := by
  intro h0 p e R s m args below meth c H locs ls hX hH hL hl h1 h2
  exact lv_astore_nN hX.1 hX.2.1 hd hi hL.has hn rfl (fun ls hl2 => k h0 p e R s m args below meth c H locs ls hX hH (jy_L.st (v := .null) hl2) hl h1 h2)
theorem jr_astoreN {i : Nat} (hd : decode (jy_c M) pc = .ok (.astore i, 2))  (hn : i < jy_l M) (k : jy_J G d M (pc + 2) (jy_st L i (.null)) st h P) : jy_J G d M pc L (.null :: st) h P := by
  intro h0 p e R s m args below meth c H locs ls hX hH hL hl h1 h2
  exact lv_astoreN hX.1 hX.2.1 hd  hL.has hn rfl (fun ls hl2 => k h0 p e R s m args below meth c H locs ls hX hH (jy_L.st (v := .null) hl2) hl h1 h2)
theorem jr_iinc {i : Nat} {n : Int} {x v : Int32} (hd : decode (jy_c M) pc = .ok (.iinc i n, 3)) (hx : L[i]? = some (some (.int x))) (hv : x + Int32.ofInt n = v) (hn : i < jy_l M) (k : jy_J G d M (pc + 3) (jy_st L i (.int v)) st h P) : jy_J G d M pc L st h P := by
  intro h0 p e R s m args below meth c H locs ls hX hH hL hl h1 h2
  obtain ⟨j, hj⟩ := List.getElem?_of_mem (jy_as_mem (G := G) hx)
  exact lv_iinc hX.1 hX.2.1 hd hL.has hj hv hn rfl (fun ls hl2 => k h0 p e R s m args below meth c H locs ls hX hH (jy_L.st (v := .int v) hl2) hl h1 h2)
theorem jr_ldc {idx : Nat} {v : Int32} (hd : decode (jy_c M) pc = .ok (.ldc idx, 2)) (hw : Cond.constant (jy_y M).cls idx v ∈ lw_tbl) (k : jy_J G d M (pc + 2) L (.int v :: st) h P) : jy_J G d M pc L st h P := by
  intro h0 p e R s m args below meth c H locs ls hX hH hL hl h1 h2
  have hT := hX.2.2.2.2.2.2.2.2.1
  exact lv_ldc hX.1 hX.2.1 (findClass_of_methodNamed hX.2.2.2.2.2.1) (hT.word hw rfl rfl args) hd (k h0 p e R s m args below meth c H locs ls hX hH hL hl h1 h2)
theorem jr_ldc2 {idx : Nat} {v : Int64} (hd : decode (jy_c M) pc = .ok (.ldc2_w idx, 3)) (hw : Cond.constantLong (jy_y M).cls idx v ∈ lw_tbl) (k : jy_J G d M (pc + 3) L (.long v :: st) h P) : jy_J G d M pc L st h P := by
  intro h0 p e R s m args below meth c H locs ls hX hH hL hl h1 h2
  have hT := hX.2.2.2.2.2.2.2.2.1
  exact lv_ldc2 hX.1 hX.2.1 (findClass_of_methodNamed hX.2.2.2.2.2.1) (hT.word hw rfl rfl args) hd (k h0 p e R s m args below meth c H locs ls hX hH hL hl h1 h2)
theorem jr_tableIn {dflt lo hi : Int} {offs : Array Int} {len : Nat} {x : Int32} {off : Int} {tgt : Nat} (hd : decode (jy_c M) pc = .ok (.tableswitch dflt lo hi offs, len)) (q1 : ¬ x.toInt < lo) (q2 : ¬ hi < x.toInt) (ho : offs[(x.toInt - lo).toNat]? = some off) (ht : (pc : Int) + off = (tgt : Int)) (k : jy_J G d M tgt L st h P) : jy_J G d M pc L (.int x :: st) h P := by
  intro h0 p e R s m args below meth c H locs ls hX hH hL hl h1 h2
  exact lv_tableIn hX.1 hX.2.1 hd q1 q2 ho ht (k h0 p e R s m args below meth c H locs ls hX hH hL hl h1 h2)
theorem jr_tableOut {dflt lo hi : Int} {offs : Array Int} {len : Nat} {x : Int32} {tgt : Nat} (hd : decode (jy_c M) pc = .ok (.tableswitch dflt lo hi offs, len)) (q1 : x.toInt < lo ∨ hi < x.toInt) (ht : (pc : Int) + dflt = (tgt : Int)) (k : jy_J G d M tgt L st h P) : jy_J G d M pc L (.int x :: st) h P := by
  intro h0 p e R s m args below meth c H locs ls hX hH hL hl h1 h2
  exact lv_tableOut hX.1 hX.2.1 hd q1 ht (k h0 p e R s m args below meth c H locs ls hX hH hL hl h1 h2)
end JR
