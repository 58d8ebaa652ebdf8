/-! the class' reader: the whole text -/
theorem d_RD_read_0 : decode (jy_c m_RD_read) 0 = .ok (.new 70, 3) := by decide +kernel
theorem d_RD_read_3 : decode (jy_c m_RD_read) 3 = .ok (.dup, 1) := by decide +kernel
theorem d_RD_read_4 : decode (jy_c m_RD_read) 4 = .ok (.invokespecial 114, 3) := by decide +kernel
theorem d_RD_read_7 : decode (jy_c m_RD_read) 7 = .ok (.astore_n 1, 1) := by decide +kernel
theorem d_RD_read_8 : decode (jy_c m_RD_read) 8 = .ok (.aload_n 0, 1) := by decide +kernel
theorem d_RD_read_9 : decode (jy_c m_RD_read) 9 = .ok (.iconst 0, 1) := by decide +kernel
theorem d_RD_read_10 : decode (jy_c m_RD_read) 10 = .ok (.putfield 15, 3) := by decide +kernel
theorem d_RD_read_13 : decode (jy_c m_RD_read) 13 = .ok (.aload_n 0, 1) := by decide +kernel
theorem d_RD_read_14 : decode (jy_c m_RD_read) 14 = .ok (.invokevirtual 27, 3) := by decide +kernel
theorem d_RD_read_17 : decode (jy_c m_RD_read) 17 = .ok (.iconst (-1), 1) := by decide +kernel
theorem d_RD_read_18 : decode (jy_c m_RD_read) 18 = .ok (.if_icmp .eq 94, 3) := by decide +kernel
theorem d_RD_read_21 : decode (jy_c m_RD_read) 21 = .ok (.aload_n 0, 1) := by decide +kernel
theorem d_RD_read_22 : decode (jy_c m_RD_read) 22 = .ok (.invokevirtual 27, 3) := by decide +kernel
theorem d_RD_read_25 : decode (jy_c m_RD_read) 25 = .ok (.istore_n 2, 1) := by decide +kernel
theorem d_RD_read_26 : decode (jy_c m_RD_read) 26 = .ok (.aload_n 0, 1) := by decide +kernel
theorem d_RD_read_27 : decode (jy_c m_RD_read) 27 = .ok (.iload_n 2, 1) := by decide +kernel
theorem d_RD_read_28 : decode (jy_c m_RD_read) 28 = .ok (.bipush 109, 2) := by decide +kernel
theorem d_RD_read_30 : decode (jy_c m_RD_read) 30 = .ok (.if_icmp .ne 12, 3) := by decide +kernel
theorem d_RD_read_33 : decode (jy_c m_RD_read) 33 = .ok (.aload_n 1, 1) := by decide +kernel
theorem d_RD_read_34 : decode (jy_c m_RD_read) 34 = .ok (.getfield 113, 3) := by decide +kernel
theorem d_RD_read_37 : decode (jy_c m_RD_read) 37 = .ok (.bipush 12, 2) := by decide +kernel
theorem d_RD_read_39 : decode (jy_c m_RD_read) 39 = .ok (.if_icmp .lt 16, 3) := by decide +kernel
theorem d_RD_read_42 : decode (jy_c m_RD_read) 42 = .ok (.iload_n 2, 1) := by decide +kernel
theorem d_RD_read_43 : decode (jy_c m_RD_read) 43 = .ok (.bipush 122, 2) := by decide +kernel
theorem d_RD_read_45 : decode (jy_c m_RD_read) 45 = .ok (.if_icmp .ne 14, 3) := by decide +kernel
theorem d_RD_read_48 : decode (jy_c m_RD_read) 48 = .ok (.aload_n 1, 1) := by decide +kernel
theorem d_RD_read_49 : decode (jy_c m_RD_read) 49 = .ok (.getfield 115, 3) := by decide +kernel
theorem d_RD_read_52 : decode (jy_c m_RD_read) 52 = .ok (.ifnonnull 7, 3) := by decide +kernel
theorem d_RD_read_55 : decode (jy_c m_RD_read) 55 = .ok (.iconst 1, 1) := by decide +kernel
theorem d_RD_read_56 : decode (jy_c m_RD_read) 56 = .ok (.goto 4, 3) := by decide +kernel
theorem d_RD_read_59 : decode (jy_c m_RD_read) 59 = .ok (.iconst 0, 1) := by decide +kernel
theorem d_RD_read_60 : decode (jy_c m_RD_read) 60 = .ok (.invokevirtual 31, 3) := by decide +kernel
theorem d_RD_read_63 : decode (jy_c m_RD_read) 63 = .ok (.aload_n 0, 1) := by decide +kernel
theorem d_RD_read_64 : decode (jy_c m_RD_read) 64 = .ok (.dup, 1) := by decide +kernel
theorem d_RD_read_65 : decode (jy_c m_RD_read) 65 = .ok (.getfield 15, 3) := by decide +kernel
theorem d_RD_read_68 : decode (jy_c m_RD_read) 68 = .ok (.iconst 1, 1) := by decide +kernel
theorem d_RD_read_69 : decode (jy_c m_RD_read) 69 = .ok (.iadd, 1) := by decide +kernel
theorem d_RD_read_70 : decode (jy_c m_RD_read) 70 = .ok (.putfield 15, 3) := by decide +kernel
theorem d_RD_read_73 : decode (jy_c m_RD_read) 73 = .ok (.iload_n 2, 1) := by decide +kernel
theorem d_RD_read_74 : decode (jy_c m_RD_read) 74 = .ok (.bipush 109, 2) := by decide +kernel
theorem d_RD_read_76 : decode (jy_c m_RD_read) 76 = .ok (.if_icmp .ne 11, 3) := by decide +kernel
theorem d_RD_read_79 : decode (jy_c m_RD_read) 79 = .ok (.aload_n 0, 1) := by decide +kernel
theorem d_RD_read_80 : decode (jy_c m_RD_read) 80 = .ok (.aload_n 1, 1) := by decide +kernel
theorem d_RD_read_81 : decode (jy_c m_RD_read) 81 = .ok (.invokevirtual 118, 3) := by decide +kernel
theorem d_RD_read_84 : decode (jy_c m_RD_read) 84 = .ok (.goto 19, 3) := by decide +kernel
theorem d_RD_read_87 : decode (jy_c m_RD_read) 87 = .ok (.aload_n 1, 1) := by decide +kernel
theorem d_RD_read_88 : decode (jy_c m_RD_read) 88 = .ok (.aload_n 0, 1) := by decide +kernel
theorem d_RD_read_89 : decode (jy_c m_RD_read) 89 = .ok (.invokevirtual 92, 3) := by decide +kernel
theorem d_RD_read_92 : decode (jy_c m_RD_read) 92 = .ok (.putfield 115, 3) := by decide +kernel
theorem d_RD_read_95 : decode (jy_c m_RD_read) 95 = .ok (.aload_n 0, 1) := by decide +kernel
theorem d_RD_read_96 : decode (jy_c m_RD_read) 96 = .ok (.aload_n 1, 1) := by decide +kernel
theorem d_RD_read_97 : decode (jy_c m_RD_read) 97 = .ok (.getfield 115, 3) := by decide +kernel
theorem d_RD_read_100 : decode (jy_c m_RD_read) 100 = .ok (.invokevirtual 99, 3) := by decide +kernel
theorem d_RD_read_103 : decode (jy_c m_RD_read) 103 = .ok (.aload_n 0, 1) := by decide +kernel
theorem d_RD_read_104 : decode (jy_c m_RD_read) 104 = .ok (.bipush 59, 2) := by decide +kernel
theorem d_RD_read_106 : decode (jy_c m_RD_read) 106 = .ok (.invokevirtual 39, 3) := by decide +kernel
theorem d_RD_read_109 : decode (jy_c m_RD_read) 109 = .ok (.goto (-96), 3) := by decide +kernel
theorem d_RD_read_112 : decode (jy_c m_RD_read) 112 = .ok (.aload_n 1, 1) := by decide +kernel
theorem d_RD_read_113 : decode (jy_c m_RD_read) 113 = .ok (.areturn, 1) := by decide +kernel
section RX
variable {G : jy_G} {h0 : jy_P} {t tb : Ft} {n T N : Nat}
def readQ (N : Nat) (h0 : jy_P) (T : Nat) : Ft × Nat × Bool → Option Value → jy_P → Prop := fun z v h' => v = some (.ref T) ∧ (∃ p', h'[2]? = some (rA n p')) ∧ TC N h' T z.1 z.2.1 z.2.2 ∧ St (fun i => i = 2 ∨ N ≤ i) h0 h' ∧ h0.length ≤ h'.length ∧ h'.length ≤ h0.length + 130
theorem hr_neg {q : Nat} (hT : TH t tb n) : hr t n q < 0 ↔ hr t n q = -1 := by
  constructor
  · intro h
    unfold hr at h ⊢
    split at h
    · rename_i hq
      obtain ⟨-, k, hk, e⟩ := hT.2 q hq
      rw [e] at h
      exact absurd h (nI_pos (by omega))
    · rename_i hq
      rw [if_neg hq]
  · intro h
    rw [h]; decide
theorem matR_g {k : Nat} {z : Ft × Nat} (hz : z.2 ≤ n) : Gw n z (matR t n k z) :=
  Gw.bd (Gw.bd (mrP1_g hz) (fun w hw => Gw.bd (wdP_g hw) (fun w hw => nsP_g 2 hw))) (fun w hw => Gw.bd (Gw.bd (Gw.bd (tzP_g (by decide) hw) (fun w hw => niP_g hw)) (fun w hw => duP_g hw)) (fun w hw => brP_g hw))
theorem mrP_mat {k : Nat} {z : Ft × Nat} : mrP t n k z = ebd (matR t n k z) (tzP t n 59) := rfl
theorem rd_read {R : Except Nat (Ft × Nat × Bool)} (hT : TH t tb n) (hby : ∀ j, ∃ w : Int32, tb j = sx w) (h3 : h0[3]? = some (51, ints 400 tb)) (h26 : 26 ≤ N) (hN : h0.length = N) (hK : N + 200 < jy_K) :
    ∀ (i : Nat) {h : jy_P} {p k : Nat} {F : Ft} {g : Bool} {l2 : Option Value}, p ≤ n → n < sk t n p + i → h[2]? = some (rA n p) → St (fun i => i = 2 ∨ N ≤ i) h0 h → N ≤ h.length → h.length ≤ N + 2 + 9 * k + (if g then 9 else 0) → TC N h T F k g → FT F k g → rdP t n i F k g (sk t n p) = R →
    jy_J G 10 m_RD_read 13 [some (.ref 2), some (.ref T), l2] [] h (rX N h0 140 R (readQ (n := n) N h0 T)) := by
  intro i
  induction i with
  | zero =>
    intro h p k F g l2 hp hi
    have := (skb (t := t) hp).2
    omega
  | succ i ih =>
    intro h p k F g l2 hp hi h2 hs hl1 hl2 hTC hF hR
    have hsk := skb (t := t) hp
    have hg9 : (if g then 9 else 0) ≤ 9 := by split <;> omega
    have h12 := hF.1
    have g3 := hs _ _ h3 (by omega)
    rw [rdP] at hR
    refine jr_aload_n d_RD_read_13 rfl rfl ?_
    refine jr_callX (As := []) d_RD_read_14 i_RD_27 rfl h2 (Nat.le_of_ble_eq_true rfl) (by decide) (c_see hT hp h2 g3) ?_
    have s2 := rA_get (n := n) (q := sk t n p) h2
    have s3 := rA_3 (n := n) (q := sk t n p) g3
    have hTC0 := hTC.st (h' := h.set 2 (rA n (sk t n p))) h26 (St.set (Or.inl rfl))
    have hs0 := hs.tr (St.set (X := fun i => i = 2 ∨ N ≤ i) (i := 2) (c := rA n (sk t n p)) (Or.inl rfl))
    have hl0 : (h.set 2 (rA n (sk t n p))).length = h.length := by simp
    refine jr_iconst (v := -1) d_RD_read_17 (by decide) ?_
    refine jr_icmp_eq (tgt := 112) d_RD_read_18 (by decide) (fun hc => ?_) (fun hc => ?_)
    · rw [if_pos ((hr_neg hT).mpr hc)] at hR
      refine jr_aload_n d_RD_read_112 rfl rfl ?_
      refine jr_areturn d_RD_read_113 rfl (Or.inl ⟨_, rfl⟩) (Or.inr ⟨_, rfl⟩) ?_
      subst hR
      exact ⟨_, rfl, rfl, ⟨_, s2⟩, hTC0, hs0, by omega, by omega⟩
    · rw [if_neg (fun q => hc ((hr_neg hT).mp q))] at hR
      have hin : sk t n p < n := hr_in hc
      have hsk2 := skb (t := t) (show sk t n p + 1 ≤ n from hin)
      refine jr_aload_n d_RD_read_21 rfl rfl ?_
      refine jr_callX (As := []) d_RD_read_22 i_RD_27 rfl s2 (Nat.le_of_ble_eq_true rfl) (by decide) (c_see hT hsk.2 s2 s3) ?_
      rw [sk_sk, List.set_set]
      generalize h.set 2 (rA n (sk t n p)) = ha at s2 s3 hTC0 hs0 hl0 ⊢
      have hTC1 := hTC0
      obtain ⟨ma, gv, mv, t1, t2, t3, t4, t5, t6, t7⟩ := hTC1
      refine jr_istore_n d_RD_read_25 rfl (by decide) ?_
      refine jr_aload_n d_RD_read_26 rfl rfl ?_
      refine jr_iload_n d_RD_read_27 rfl rfl ?_
      refine jr_bipush (v := 109) d_RD_read_28 (by decide) ?_
      refine jy_cut2 60 (fun z => z = bI (decide ((hr t n (sk t n p) = 109 ∧ k < 12) ∨ (hr t n (sk t n p) = 122 ∧ g = false)))) (fun K => ?_) (fun z hz => ?_)
      · have second : ¬ (hr t n (sk t n p) = 109 ∧ k < 12) → jy_J G 10 m_RD_read 42 [some (.ref 2), some (.ref T), some (.int (hr t n (sk t n p)))] [.ref 2] ha (rX N h0 140 R (readQ (n := n) N h0 T)) := by
          intro hno
          refine jr_iload_n d_RD_read_42 rfl rfl ?_
          refine jr_bipush (v := 122) d_RD_read_43 (by decide) ?_
          refine jr_icmp_ne (tgt := 59) d_RD_read_45 (by decide) (fun hc2 => ?_) (fun hc2 => ?_)
          · refine jr_iconst (v := 0) d_RD_read_59 (by decide) ?_
            exact K _ (by rw [decide_eq_false (fun q => q.elim hno (fun w => hc2 w.1))]; rfl)
          · refine jr_aload_n d_RD_read_48 rfl rfl ?_
            refine jr_get d_RD_read_49 f_RD_115 t3 rfl ?_
            rcases t7 with ⟨rfl, x, rfl, -⟩ | ⟨rfl, rfl⟩
            · refine jr_ifnonnull d_RD_read_52 (tgt := 59) (by decide) ?_
              refine jr_iconst (v := 0) d_RD_read_59 (by decide) ?_
              exact K _ (by rw [decide_eq_false (fun q => q.elim hno (fun w => by cases w.2))]; rfl)
            · refine jr_ifnonnullN d_RD_read_52 ?_
              refine jr_iconst (v := 1) d_RD_read_55 (by decide) ?_
              refine jr_goto (tgt := 60) d_RD_read_56 (by decide) ?_
              exact K _ (by rw [decide_eq_true (Or.inr ⟨hc2, rfl⟩)]; rfl)
        refine jr_icmp_ne (tgt := 42) d_RD_read_30 (by decide) (fun hc2 => second (fun q => hc2 q.1)) (fun hc2 => ?_)
        refine jr_aload_n d_RD_read_33 rfl rfl ?_
        refine jr_get d_RD_read_34 f_RD_113 t3 rfl ?_
        refine jr_bipush (v := 12) d_RD_read_37 (by decide) ?_
        refine jr_icmp_lt (tgt := 55) d_RD_read_39 (by decide) (fun hc3 => ?_) (fun hc3 => second (fun q => hc3 (nI_lt (b := 12) q.2 (by decide))))
        have hk12 : k < 12 := (nI_ltI (b := 12) (by omega) (by decide)).mp hc3
        refine jr_iconst (v := 1) d_RD_read_55 (by decide) ?_
        refine jr_goto (tgt := 60) d_RD_read_56 (by decide) ?_
        exact K _ (by rw [decide_eq_true (Or.inl ⟨hc2, hk12⟩)]; rfl)
      subst hz
      refine jr_needR d_RD_read_60 i_RD_31 s2 (c_need s2 (by omega) _) (Nat.le_of_ble_eq_true rfl) (by decide) (fun _ hq => by cases hq) (fun hcn => ?_) (fun hcn => ?_)
      rotate_left
      · have hno := of_decide_eq_false (bI_eq0.mp hcn)
        have hE : R = .error (sk t n p) := by
          rw [← hR]
          by_cases c1 : hr t n (sk t n p) = 109
          · rw [if_pos c1]
            have : k = 12 := by
              rcases Nat.lt_or_ge k 12 with q | q
              · exact absurd (Or.inl ⟨c1, q⟩) hno
              · omega
            rw [if_pos this]
          · rw [if_neg c1]
            by_cases c2 : hr t n (sk t n p) = 122
            · rw [if_pos c2]
              have : g = true := by
                cases g with
                | true => rfl
                | false => exact absurd (Or.inr ⟨c2, rfl⟩) hno
              rw [if_pos this]
            · rw [if_neg c2]
        rw [hE]
        exact (rE.here (c := 1) St.rf (by omega) (by omega)).rN hs0 (by omega) (by omega)
      have hyes := of_decide_eq_true (bI_ne0.mp hcn)
      refine jr_aload_n d_RD_read_63 rfl rfl ?_
      refine jr_dup d_RD_read_64 rfl ?_
      refine jr_get d_RD_read_65 f_RD_15 s2 rfl ?_
      refine jr_iconst (v := 1) d_RD_read_68 (by decide) ?_
      refine jr_iadd d_RD_read_69 ?_
      rw [nI_1]
      refine rp_put d_RD_read_70 f_RD_15 s2 ?_
      have u2 : (ha.set 2 (1, [.ref 3, .int (nI n), .int (nI (sk t n p + 1))]))[2]? = some (1, [.ref 3, .int (nI n), .int (nI (sk t n p + 1))]) := gs_eq s2
      have u3 : (ha.set 2 (1, [.ref 3, .int (nI n), .int (nI (sk t n p + 1))]))[3]? = some (51, ints 400 tb) := by rw [List.getElem?_set_ne (by decide)]; exact s3
      have hTC2 := hTC0.st (h' := ha.set 2 (1, [.ref 3, .int (nI n), .int (nI (sk t n p + 1))])) h26 (St.set (Or.inl rfl))
      have hs2 := hs0.tr (St.set (X := fun i => i = 2 ∨ N ≤ i) (i := 2) (c := (1, [.ref 3, .int (nI n), .int (nI (sk t n p + 1))])) (Or.inl rfl))
      have hlb : (ha.set 2 (1, [.ref 3, .int (nI n), .int (nI (sk t n p + 1))])).length = h.length := by simp [hl0]
      generalize ha.set 2 (1, [.ref 3, .int (nI n), .int (nI (sk t n p + 1))]) = hb at u2 u3 hTC2 hs2 hlb ⊢
      -- the ';' and back
      have semi : ∀ (h : jy_P) (p' k' : Nat) (g' : Bool) (z : Ft × Nat) (l2 : Option Value), p' ≤ n → sk t n p' = z.2 → sk t n p < z.2 → h[2]? = some (rA n p') → St (fun i => i = 2 ∨ N ≤ i) h0 h → N ≤ h.length → h.length ≤ N + 2 + 9 * k' + (if g' then 9 else 0) → k' ≤ 12 → TC N h T z.1 k' g' → (∀ z', tzP t n 59 z = .ok z' → FT z'.1 k' g') → ebd (tzP t n 59 z) (fun z' => rdP t n i z'.1 k' g' z'.2) = R → jy_J G 10 m_RD_read 103 [some (.ref 2), some (.ref T), l2] [] h (rX N h0 140 R (readQ (n := n) N h0 T)) := by
        intro h p' k' g' z l2 hp' hsp hlt h2 hs hl1 hl2 hk12 hTC hFT hR
        have hg9 : (if g' then 9 else 0) ≤ 9 := by split <;> omega
        have g3 := hs _ _ h3 (by omega)
        refine jr_aload_n d_RD_read_103 rfl rfl ?_
        refine jr_bipush (v := 59) d_RD_read_104 (by decide) ?_
        refine jr_callR (As := [.int 59]) d_RD_read_106 i_RD_39 rfl h2 (Nat.le_of_ble_eq_true rfl) (by decide) (c_sign hT hp' h2 g3 (by omega) 59) (fun _ hq => by cases hq) (fun w hw => ?_) (fun e he o h' q => ?_)
        · by_cases c : hr t n (sk t n p') = 59
          · rw [if_pos c] at hw
            cases hw
            have in2 : sk t n p' < n := hr_in (by rw [c]; decide)
            have hz : tzP t n 59 z = .ok (z.1, sk t n (sk t n p' + 1)) := by
              unfold tzP tkP
              rw [← hsp, if_pos c]; rfl
            rw [hz, ebd_ok] at hR
            have hb := (skb (t := t) (show sk t n p' + 1 ≤ n from in2)).1
            refine jr_goto (tgt := 13) d_RD_read_109 (by decide) ?_
            exact ih (p := sk t n p' + 1) (k := k') (g := g') (F := z.1) in2 (by omega) (gs_eq h2) (hs.tr (St.set (Or.inl rfl))) (by simpa using hl1) (by simpa using hl2) (hTC.st h26 (St.set (Or.inl rfl))) (hFT (z.1, sk t n (sk t n p' + 1)) hz) hR
          · rw [if_neg c] at hw; cases hw
        · have hz : tzP t n 59 z = .error e := by
            unfold tzP tkP
            rw [← hsp]
            by_cases c : hr t n (sk t n p') = 59
            · rw [if_pos c] at he; cases he
            · rw [if_neg c] at he; cases he
              rw [if_neg c]; rfl
          rw [hz, ebd_er] at hR
          subst hR
          exact q.rN hs (by omega) (by omega)
      have hl13 : h.length ≤ N + 2 + 9 * 12 + 9 := by omega
      refine jr_iload_n d_RD_read_73 rfl rfl ?_
      refine jr_bipush (v := 109) d_RD_read_74 (by decide) ?_
      refine jr_icmp_ne (tgt := 87) d_RD_read_76 (by decide) (fun hc1 => ?_) (fun hc1 => ?_)
      rotate_left
      · have hk12 : k < 12 := by
          rcases hyes with w | w
          · exact w.2
          · rw [hc1] at w; exact absurd w.1 (by decide)
        rw [if_pos hc1, if_neg (by omega), mrP_mat, ebd_assoc] at hR
        refine jr_aload_n d_RD_read_79 rfl rfl ?_
        refine jr_aload_n d_RD_read_80 rfl rfl ?_
        refine jr_callQ (As := [.ref T]) d_RD_read_81 i_RD_118 rfl u2 (Nat.le_of_ble_eq_true rfl) (by decide) (c_material hT hby hin u2 u3 h26 (by omega) (by omega) hTC2 hF hk12) (fun _ hq => by cases hq) (fun z vv h' hz hq => ?_) (fun e he o h' q => ?_)
        · obtain ⟨rfl, p', m1, m2, m3, m4, m5, m6, m7⟩ := hq
          have zb := (matR_g (t := t) (k := k) (z := (F, sk t n (sk t n p + 1))) hsk2.2).1 z hz
          have zb1 : sk t n (sk t n p + 1) ≤ z.2 := zb.1
          refine jr_goto (tgt := 103) d_RD_read_84 (by decide) ?_
          refine semi h' p' (k + 1) g z _ m1 m2 (by omega) m3 (hs2.tr m5) (by omega) (by omega) (by omega) m4 (fun z' hz' => ?_) ?_
          · refine FT.row (t := t) (n := n) (z := (F, sk t n (sk t n p + 1))) ?_ hF (by omega)
            rw [mrP_mat, hz, ebd_ok]
            exact hz'
          · rw [hz, ebd_ok] at hR
            exact hR
        · rw [he, ebd_er] at hR
          subst hR
          exact q.tr hs2 (by omega) (by omega)
      · have hgz : hr t n (sk t n p) = 122 ∧ g = false := by
          rcases hyes with w | w
          · exact absurd w.1 hc1
          · exact w
        obtain ⟨c122, rfl⟩ := hgz
        have hl2' : h.length ≤ N + 2 + 9 * k := by simpa using hl2
        rw [if_neg hc1, if_pos c122, if_neg (by decide)] at hR
        have hR' : ebd (ebd (ebd (duP1 t n 516 (grF F, sk t n (sk t n p + 1))) (fun w => ebd (tzP t n 64 w) (fun w => dsP t n 516 w 4))) (tzP t n 59)) (fun z => rdP t n i z.1 k true z.2) = R := by
          rw [← hR]
          unfold grP duP
          simp only [ebd_assoc]
        obtain ⟨ma, gv, mv, t1, t2, t3, t4, t5, t6, t7⟩ := hTC2
        have gvn : gv = .null := by
          rcases t7 with ⟨w, -⟩ | w
          · cases w
          · exact w.2
        subst gvn
        refine jr_aload_n d_RD_read_87 rfl rfl ?_
        refine jr_aload_n d_RD_read_88 rfl rfl ?_
        refine jr_callQ (As := []) d_RD_read_89 i_RD_92 rfl u2 (Nat.le_of_ble_eq_true rfl) (by decide) (c_due (F := grF F) (m := 516) hT hin u2 u3 (by omega)) (fun _ hq => by cases hq) (fun z vv h' hz hq => ?_) (fun e he o h' q => ?_)
        rotate_left
        · rw [he] at hR'
          have hR' : Except.error e = R := hR'
          subst hR'
          exact (q.base (N' := N) (c' := 3) (by omega) (by omega)).tr hs2 (by omega) (by omega)
        obtain ⟨rfl, rfl⟩ := hq
        rw [hz, ebd_ok] at hR'
        have zb := (duP1_g (t := t) (m := 516) (z := (grF F, sk t n (sk t n p + 1))) hsk2.2).1 z hz
        have zb1 : sk t n (sk t n p + 1) ≤ z.2 := zb.1
        have zsk : sk t n z.2 = z.2 := by
          obtain ⟨z3, g3, g4⟩ := ebd_inv hz
          obtain ⟨w, w1, rfl⟩ := riP_ok g4
          obtain ⟨z4, g5, g6⟩ := ebd_inv g3
          obtain ⟨-, rfl⟩ := tzP_ok g6
          exact rsP_sk sk_sk w1
        have od : ∀ i cc, hb[i]? = some cc → i ≠ 2 → ((hD hb (z.1 (516 + 2)) (z.1 (516 + 3)) (fun _ => 0)).set 2 (rA n z.2))[i]? = some cc := fun i cc w ne => by
          rw [List.getElem?_set_ne (fun e => ne e.symm)]
          exact hD_old w
        have dd0 : ((hD hb (z.1 (516 + 2)) (z.1 (516 + 3)) (fun _ => 0)).set 2 (rA n z.2))[hb.length]? = some (4, [.int (z.1 (516 + 2)), .int (z.1 (516 + 3)), .ref (hb.length + 1)]) := by rw [List.getElem?_set_ne (by omega)]; exact hD_0
        have dd1 : ((hD hb (z.1 (516 + 2)) (z.1 (516 + 3)) (fun _ => 0)).set 2 (rA n z.2))[hb.length + 1]? = some (50, ints 4 (fun _ => 0)) := by rw [List.getElem?_set_ne (by omega)]; exact hD_1
        have dd2 : ((hD hb (z.1 (516 + 2)) (z.1 (516 + 3)) (fun _ => 0)).set 2 (rA n z.2))[2]? = some (1, [.ref 3, .int (nI n), .int (nI z.2)]) := gs_eq (hD_old u2)
        have dl : ((hD hb (z.1 (516 + 2)) (z.1 (516 + 3)) (fun _ => 0)).set 2 (rA n z.2)).length = hb.length + 2 := by simp [hD_len]
        have ds : St (fun i => i = 2 ∨ N ≤ i) h0 ((hD hb (z.1 (516 + 2)) (z.1 (516 + 3)) (fun _ => 0)).set 2 (rA n z.2)) := (hs2.tr hD_st).tr (St.set (Or.inl rfl))
        generalize (hD hb (z.1 (516 + 2)) (z.1 (516 + 3)) (fun _ => 0)).set 2 (rA n z.2) = hd at od dd0 dd1 dd2 dl ds ⊢
        have tl := len_lt t3
        have ml := len_lt t4
        have hTm : T ≠ ma := fun e => by rw [e, t4] at t3; cases t3
        have e3 := od _ _ t3 (by omega)
        refine jr_put d_RD_read_92 f_RD_115 jy_fv_ref (by omega) e3 rfl ?_
        rw [show ([Value.ref ma, .int (nI k), .null].set 2 (.ref hb.length)) = [.ref ma, .int (nI k), .ref hb.length] from rfl]
        have f3 : (hd.set T (2, [.ref ma, .int (nI k), .ref hb.length]))[T]? = some (2, [.ref ma, .int (nI k), .ref hb.length]) := gs_eq e3
        have fo : ∀ i cc, hd[i]? = some cc → i ≠ T → (hd.set T (2, [.ref ma, .int (nI k), .ref hb.length]))[i]? = some cc := fun i cc w ne => by
          rw [List.getElem?_set_ne (fun e => ne e.symm)]; exact w
        have f0 := fo _ _ dd0 (by omega)
        have f1 := fo _ _ dd1 (by omega)
        have f2 := fo _ _ dd2 (by omega)
        have fs := ds.tr (St.set (X := fun i => i = 2 ∨ N ≤ i) (i := T) (c := (2, [.ref ma, .int (nI k), .ref hb.length])) (Or.inr t1))
        have fl : (hd.set T (2, [.ref ma, .int (nI k), .ref hb.length])).length = hb.length + 2 := by simp [dl]
        refine jr_aload_n d_RD_read_95 rfl rfl ?_
        refine jr_aload_n d_RD_read_96 rfl rfl ?_
        refine jr_get d_RD_read_97 f_RD_115 f3 rfl ?_
        generalize hd.set T (2, [.ref ma, .int (nI k), .ref hb.length]) = he at f3 fo f0 f1 f2 fs fl ⊢
        refine jr_callQ (As := [.ref hb.length]) d_RD_read_100 i_RD_99 rfl f2 (Nat.le_of_ble_eq_true rfl) (by decide) (c_dist (F := z.1) (m := 516) (N := N) hT zb.2 f2 (fs _ _ h3 (by omega)) f0 f1 (by omega) (by omega) (by omega)) (fun _ hq => by cases hq) (fun z5 vv h' hz5 hq => ?_) (fun e he2 o h' q => ?_)
        rotate_left
        · rw [zsk] at he2
          have he2 : ebd (tzP t n 64 z) (fun w => dsP t n 516 w 4) = .error e := he2
          rw [he2] at hR'
          have hR' : Except.error e = R := hR'
          subst hR'
          exact q.tr fs (by omega) (by omega)
        obtain ⟨rfl, p5, p5n, s5, rfl⟩ := hq
        rw [zsk] at hz5
        have hz5 : ebd (tzP t n 64 z) (fun w => dsP t n 516 w 4) = .ok z5 := hz5
        rw [hz5, ebd_ok] at hR'
        have zb5 := (Gw.bd (tzP_g (t := t) (n := n) (c := 64) (by decide) (z := z) zb.2) (fun w hw => dsP_g (m := 516) hw 4)).1 z5 hz5
        have ch5 : ∀ x, ¬ (516 + 4 ≤ x ∧ x < 516 + 4 + 4) → z5.1 x = z.1 x := by
          obtain ⟨zz, g1, g2⟩ := ebd_inv hz5
          obtain ⟨-, rfl⟩ := tzP_ok g1
          have g3 : dsP t n 516 (z.1, sk t n (z.2 + 1)) 4 = .ok z5 := g2
          intro x hx
          have g4 := dsP_ch 4 g3 x hx
          exact g4
        have chF : ∀ x, x < 516 → z5.1 x = F x := fun x hx => by
          rw [ch5 x (by omega), duP1_ch hz x (by omega)]
          show grF F x = F x
          unfold grF
          rw [upd_n (by omega), upd_n (by omega), upd_n (by omega), upd_n (by omega)]
        have kq : Kq hb ((he.set (hb.length + 1) (50, ints 4 (fun j => z5.1 (516 + 4 + j)))).set 2 (rA n p5)) := fun i cc w n26 tg => by
          have := len_lt w
          rw [List.getElem?_set_ne (by omega), List.getElem?_set_ne (by omega)]
          exact fo _ _ (od _ _ w (by omega)) (fun e => by subst e; rw [t3] at w; cases w; simp at tg)
        refine semi _ p5 k true z5 _ p5n s5 (by omega) (gs_eq (c0 := (1, [.ref 3, .int (nI n), .int (nI z.2)])) (by rw [List.getElem?_set_ne (by omega)]; exact f2)) ((fs.tr (St.set (Or.inr (by omega)))).tr (St.set (Or.inl rfl))) (by rw [List.length_set, List.length_set, fl]; omega) (by rw [List.length_set, List.length_set, fl, if_pos rfl]; omega) h12 ?_ (fun z' hz' => ?_) hR'
        · refine ⟨ma, .ref hb.length, mv, t1, t2, ?_, ?_, t5, fun j hj => ?_, Or.inl ⟨rfl, hb.length, rfl, by omega, hb.length + 1, by omega, ?_, ?_⟩⟩
          · rw [List.getElem?_set_ne (by omega), List.getElem?_set_ne (by omega)]; exact f3
          · rw [List.getElem?_set_ne (by omega), List.getElem?_set_ne (by omega)]; exact fo _ _ (od _ _ t4 (by omega)) (fun e => hTm e.symm)
          · obtain ⟨x, dx, x1, x2, x3⟩ := t6 j hj
            exact ⟨x, dx, x1, (x2.ch (hF.2.1 j hj) (fun y y1 y2 => chF y (by omega))).kq kq, (x3.ch (fun y y1 y2 => chF y (by omega))).kq kq⟩
          · rw [List.getElem?_set_ne (by omega), List.getElem?_set_ne (by omega)]
            show _ = some ((4, [Value.int (z5.1 (516 + 2)), Value.int (z5.1 (516 + 3)), Value.ref (hb.length + 1)]) : Nat × List Value)
            rw [ch5 _ (by omega), ch5 _ (by omega)]
            exact f0
          · rw [List.getElem?_set_ne (by omega)]
            exact gs_eq f1
        · refine FT.gen (t := t) (n := n) (z := (F, sk t n (sk t n p + 1))) ?_ hF
          unfold grP duP
          have hz0 : duP1 t n 516 (grF F, sk t n (sk t n p + 1)) = .ok z := hz
          show ebd (ebd (ebd (duP1 t n 516 (grF F, sk t n (sk t n p + 1))) (tzP t n 64)) (fun w => dsP t n 516 w 4)) (tzP t n 59) = .ok z'
          rw [hz0, ebd_ok, hz5, ebd_ok]
          exact hz'
end RX
