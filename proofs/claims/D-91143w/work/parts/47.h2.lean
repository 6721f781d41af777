/-! the house: takesGrants, goes, flow -/
set_option maxRecDepth 100000
set_option maxHeartbeats 4000000 in
theorem h_takesGrants {G : GG} (d : Nat) {t : Nat → Option (Nat × Nat)} {J : Nat → Nat → Int64} {P : Nat → Nat → Value} {n sl : Nat} {I : Nat → Nat → Int32} (hS : SH t P) {f : Nat} (hf : FlT t P f) {σ : Sg} {y : Lay} (hσ : SgOK σ) (hP : HP t I P σ y) : CA G d M4_takesGrants [.ref f] (t, I, J, P, n, sl) (fun o h' => o = .inl none ∧ ∃ I', h' = (t, I', J, P, n, sl) ∧ (∀ b, b ≠ f + 1 → I' b = I b) ∧ ∀ p, p < 10 → I' (f + 1) p = nI (if p < s_np σ then s_gr σ p else 0)) := by
  refine CA.w ?_
  show RA _ _ M4_takesGrants 0 [.ref f, U0] [] _ _
  have hnp := hσ.1
  have h108 := hf.2.2.2.2.2.2.2.2.1
  have h112 := hf.2.2.2.2.2.2.2.2.2
  have hL : ∀ p, p ≤ 10 → ∀ I9, (∀ b, b ≠ f + 1 → I9 b = I b) → (∀ q, q < p → I9 (f + 1) q = nI (if q < s_np σ then s_gr σ q else 0)) → RA G d M4_takesGrants 2 [.ref f, .int (nI p)] [] (t, I9, J, P, n, sl) (fun o h' => o = .inl none ∧ ∃ I', h' = (t, I', J, P, n, sl) ∧ (∀ b, b ≠ f + 1 → I' b = I b) ∧ ∀ p, p < 10 → I' (f + 1) p = nI (if p < s_np σ then s_gr σ p else 0)) := by
    refine up_ind ?_
    intro p hp_ ih I9 hF hg
    have hP9 : HP t I9 P σ y := hP.fr (by rw [hF 100 (by omega)]) (fun b hb => hF b (by omega))
    by_cases h10 : p = 10
    · refine x_iload_n d4_takesGrants_2 rfl ?_
      refine x_bipush (v := nI 10) d4_takesGrants_3 (by decide) ?_
      refine x_icmp_geN 42 d4_takesGrants_5 (by decide) (by omega) (by omega) (fun b5 => ?_) (fun b5 => absurd b5 (by omega))
      exact x_return d4_takesGrants_42 ⟨rfl, I9, rfl, hF, fun q hq => hg q (by omega)⟩
    by_cases hp : p < s_np σ
    · refine x_iload_n d4_takesGrants_2 rfl ?_
      refine x_bipush (v := nI 10) d4_takesGrants_3 (by decide) ?_
      refine x_icmp_geN 42 d4_takesGrants_5 (by decide) (by omega) (by omega) (fun b5 => absurd b5 (by omega)) (fun b5 => ?_)
      refine x_aload_n d4_takesGrants_8 rfl ?_
      refine x_getP d4_takesGrants_9 f4_9 hf.1 hf.2.2.1 ?_
      refine x_iload_n d4_takesGrants_12 rfl ?_
      refine x_aload_n d4_takesGrants_13 rfl ?_
      refine x_getP d4_takesGrants_14 f4_21 hf.1 hf.2.1 ?_
      refine x_iload_n d4_takesGrants_17 rfl ?_
      refine x_aald5N d4_takesGrants_18 (hS.T rfl) (by omega) (hP.at_ hp) ?_
      refine x_ifnonnull 26 d4_takesGrants_19 (by decide) (by have := hP.ge hp; omega) ?_
      refine x_aload_n d4_takesGrants_26 rfl ?_
      refine x_getP d4_takesGrants_27 f4_21 hf.1 hf.2.1 ?_
      refine x_iload_n d4_takesGrants_30 rfl ?_
      refine x_aald5N d4_takesGrants_31 (hS.T rfl) (by omega) (hP.at_ hp) ?_
      refine x_getI d4_takesGrants_32 f4_58 (hP9.ty hp) ?_
      refine x_top (congrArg Value.int (show I9 (y.1 p) 0 = nI (s_gr σ p) from (hP9.gr hp))) ?_
      refine x_iastN d4_takesGrants_35 hf.2.2.2.1 (by omega) (fun I1 hI1 => ?_) (ha := (by omega))
      refine x_iincN (c := 1) d4_takesGrants_36 rfl (by decide) ?_
      refine x_goto 2 d4_takesGrants_39 (by decide) ?_
      exact ih (by omega) I1 (fun b hb => by rw [hI1, u2_row _ _ _ hb]; exact hF b hb) (fun q hq => by
        rw [hI1, u2_at]
        by_cases e : q = p
        · rw [if_pos e, e, if_pos hp]
        · rw [if_neg e]; exact hg q (by omega))
    have hnp_ : s_np σ ≤ p := by omega
    refine x_iload_n d4_takesGrants_2 rfl ?_
    refine x_bipush (v := nI 10) d4_takesGrants_3 (by decide) ?_
    refine x_icmp_geN 42 d4_takesGrants_5 (by decide) (by omega) (by omega) (fun b5 => absurd b5 (by omega)) (fun b5 => ?_)
    refine x_aload_n d4_takesGrants_8 rfl ?_
    refine x_getP d4_takesGrants_9 f4_9 hf.1 hf.2.2.1 ?_
    refine x_iload_n d4_takesGrants_12 rfl ?_
    refine x_aload_n d4_takesGrants_13 rfl ?_
    refine x_getP d4_takesGrants_14 f4_21 hf.1 hf.2.1 ?_
    refine x_iload_n d4_takesGrants_17 rfl ?_
    refine x_aald5N d4_takesGrants_18 (hS.T rfl) (by omega) (hP.2.1 p (by omega) hnp_) ?_
    refine x_ifnonnullN d4_takesGrants_19 ?_
    refine x_iconst (v := nI 0) d4_takesGrants_22 (by decide) ?_
    refine x_goto 35 d4_takesGrants_23 (by decide) ?_
    refine x_iastN d4_takesGrants_35 hf.2.2.2.1 (by omega) (fun I1 hI1 => ?_) (ha := (by omega))
    refine x_iincN (c := 1) d4_takesGrants_36 rfl (by decide) ?_
    refine x_goto 2 d4_takesGrants_39 (by decide) ?_
    exact ih (by omega) I1 (fun b hb => by rw [hI1, u2_row _ _ _ hb]; exact hF b hb) (fun q hq => by
      rw [hI1, u2_at]
      by_cases e : q = p
      · rw [if_pos e, e, if_neg (by omega)]
      · rw [if_neg e]; exact hg q (by omega))
  refine x_iconst (v := nI 0) d4_takesGrants_0 (by decide) ?_
  refine x_istore_n d4_takesGrants_1 ?_
  exact hL 0 (Nat.zero_le _) I (fun _ _ => rfl) (fun q hq => absurd hq (Nat.not_lt_zero _))
theorem one_bit {q : Nat} (h : (1 : Nat).testBit q = true) : q = 0 := by
  have h1 : (2 ^ 0 : Nat).testBit q = true := h
  rw [p2_bit, decide_eq_true_iff] at h1
  exact h1.symm
set_option maxHeartbeats 8000000 in
theorem h_goes {G : GG} (d : Nat) {t : Nat → Option (Nat × Nat)} {J : Nat → Nat → Int64} {P : Nat → Nat → Value} {n sl : Nat} {I : Nat → Nat → Int32} (hS : SH t P) {f : Nat} (hf : FlT t P f) {σ : Sg} {y : Lay} (hσ : SgOK σ) (hP : HP t I P σ y) {g : Nat → Nat} (hg : ∀ p, p < s_np σ → I (f + 1) p = nI (g p) ∧ g p < 65536) (hB : n ≤ 601124) (hSl : sl ≤ 7293033) : CA G (d + 3) M4_goes [.ref f, .int (nI (s_np σ))] (t, I, J, P, n, sl) (fun o h' => o = .inl none ∧ ∃ I', h' = (t, I', J, P, n, sl) ∧ FlG f I I' ∧ FlR I' f (fin7 (sGr σ g))) := by
  refine CA.w ?_
  show RA _ _ M4_goes 0 [.ref f, .int (nI (s_np σ)), U0, U0, U0] [] _ _
  have hnp := hσ.1
  have hσ' : SgOK (sGr σ g) := hσ.gr' (fun p hp => (hg p hp).2)
  have h108 := hf.2.2.2.2.2.2.2.2.1
  have h112 := hf.2.2.2.2.2.2.2.2.2
  have hz : ∀ I2 a, FlG f I I2 → I2 f 5 = nI (s_np σ) → I2 f 4 = nI a → a < 65536 → (∀ q, a.testBit q = true → Asked (sGr σ g) q) → (0 < s_np σ → a.testBit 0 = true) → ∀ v3 v4, RA G (d + 3) M4_goes 20 [.ref f, .int (nI (s_np σ)), .int (nI 0), v3, v4] [] (t, I2, J, P, n, sl) (fun o h' => o = .inl none ∧ ∃ I', h' = (t, I', J, P, n, sl) ∧ FlG f I I' ∧ FlR I' f (fin7 (sGr σ g))) := by
    intro I2 a hB2 h5 h4 ha haA ha0 v3 v4
    have hP2 := hB2.hp hf hP
    have hg2 : ∀ p, p < s_np σ → I2 (f + 1) p = nI (g p) ∧ g p < 65536 := fun p hp => by rw [hB2.1 (f + 1) (by omega) (by omega) (by omega)]; exact hg p hp
    have hwh : ∀ (h : Nat → Nat) I9, FlF f I2 I9 → FlR I9 f h → HG (sGr σ g) h → (0 < s_np σ → (h 106).testBit 0 = true) → ∀ v3 v4, RA G (d + 3) M4_goes 62 [.ref f, .int (nI (s_np σ)), .int (nI 1), v3, v4] [] (t, I9, J, P, n, sl) (fun o h' => o = .inl none ∧ ∃ I', h' = (t, I', J, P, n, sl) ∧ FlG f I I' ∧ FlR I' f (fin7 (sGr σ g))) := by
      have hpl : ∀ h0 : Nat → Nat, (∀ z, mu7 z < mu7 h0 → ∀ I9, FlF f I2 I9 → FlR I9 f z → HG (sGr σ g) z → (0 < s_np σ → (z 106).testBit 0 = true) → ∀ v3 v4, RA G (d + 3) M4_goes 62 [.ref f, .int (nI (s_np σ)), .int (nI 1), v3, v4] [] (t, I9, J, P, n, sl) (fun o h' => o = .inl none ∧ ∃ I', h' = (t, I', J, P, n, sl) ∧ FlG f I I' ∧ FlR I' f (fin7 (sGr σ g)))) → ∀ p, p ≤ s_np σ → ∀ (h : Nat → Nat) I9 m, FlF f I2 I9 → FlR I9 f h → GL (sGr σ g) h0 h m (p) 0 → ∀ v4, RA G (d + 3) M4_goes 70 [.ref f, .int (nI (s_np σ)), .int (nI m), .int (nI p), v4] [] (t, I9, J, P, n, sl) (fun o h' => o = .inl none ∧ ∃ I', h' = (t, I', J, P, n, sl) ∧ FlG f I I' ∧ FlR I' f (fin7 (sGr σ g))) := by
        intro h0 hnext
        refine up_ind ?_
        intro p hp_ ih h I9 m hF9 hr hL v4
        have hkl : ∀ p, p < s_np σ → (p < s_np σ → ∀ (h : Nat → Nat) I9 m, FlF f I2 I9 → FlR I9 f h → GL (sGr σ g) h0 h m (p + 1) 0 → ∀ v4, RA G (d + 3) M4_goes 70 [.ref f, .int (nI (s_np σ)), .int (nI m), .int (nI (p + 1)), v4] [] (t, I9, J, P, n, sl) (fun o h' => o = .inl none ∧ ∃ I', h' = (t, I', J, P, n, sl) ∧ FlG f I I' ∧ FlR I' f (fin7 (sGr σ g)))) → ∀ k, k ≤ s_ln σ p → ∀ (h : Nat → Nat) I9 m, FlF f I2 I9 → FlR I9 f h → GL (sGr σ g) h0 h m p k → (h 106).testBit p = true → RA G (d + 3) M4_goes 95 [.ref f, .int (nI (s_np σ)), .int (nI m), .int (nI p), .int (nI k)] [] (t, I9, J, P, n, sl) (fun o h' => o = .inl none ∧ ∃ I', h' = (t, I', J, P, n, sl) ∧ FlG f I I' ∧ FlR I' f (fin7 (sGr σ g))) := by
          clear ih hF9 hr hL I9 h m
          intro p hp ihp
          have hln := hσ.ln hp
          refine up_ind ?_
          intro k hk_ ih h I9 m hF9 hr hL hA
          have hm1 := hL.1
          have hP9 := hF9.hp hf hP2
          have hg9 : ∀ p, p < s_np σ → I9 (f + 1) p = nI (g p) ∧ g p < 65536 := fun p hp => by rw [hF9.1 (f + 1) (by omega) (by omega) (by omega)]; exact hg2 p hp
          refine x_iload d4_goes_95 rfl ?_
          refine x_aload_n d4_goes_97 rfl ?_
          refine x_getP d4_goes_98 f4_21 hf.1 hf.2.1 ?_
          refine x_iload_n d4_goes_101 rfl ?_
          refine x_aald5N d4_goes_102 (hS.T rfl) (by omega) (hP9.at_ hp) ?_
          refine x_getI d4_goes_103 f4_45 (hP9.ty hp) ?_
          refine x_top (congrArg Value.int (show I9 (y.1 p) 1 = nI (s_ln σ p) from (hP9.ln hp))) ?_
          have hln_ := hσ.ln hp
          refine x_icmp_geN 135 d4_goes_106 (by decide) (by omega) (by omega) (fun b106 => ?_) (fun b106 => ?_)
          · refine x_iincN (c := 1) d4_goes_135 rfl (by decide) ?_
            refine x_goto 70 d4_goes_138 (by decide) ?_
            have hke : k = s_ln σ p := by omega
            exact ihp hp h I9 m hF9 hr (hL.next (fun _ => hke)) _
          · have hk : k < s_ln σ p := b106
            refine x_iload_n d4_goes_109 rfl ?_
            refine x_aload_n d4_goes_110 rfl ?_
            refine x_getP d4_goes_111 f4_21 hf.1 hf.2.1 ?_
            refine x_iload_n d4_goes_114 rfl ?_
            refine x_aald5N d4_goes_115 (hS.T rfl) (by omega) (hP9.at_ hp) ?_
            refine x_getP d4_goes_116 f4_48 (hP9.ty hp) (hP9.pl hp) ?_
            refine x_iload d4_goes_119 rfl ?_
            refine x_aald6N d4_goes_121 (hP9.tl hp) (by omega) (hP9.lp hp hk) ?_
            refine x_aload_n d4_goes_122 rfl ?_
            refine x_iload_n d4_goes_123 rfl ?_
            rcases (by have := (hσ.row hp hk).1; omega : s_kk σ (12 * p + k) = 0 ∨ s_kk σ (12 * p + k) = 1 ∨ s_kk σ (12 * p + k) = 2 ∨ s_kk σ (12 * p + k) = 3 ∨ s_kk σ (12 * p + k) = 4 ∨ s_kk σ (12 * p + k) = 5) with hkk | hkk | hkk | hkk | hkk | hkk
            · refine x_invV (y.2.2 (12 * p + k)) 2 d4_goes_124 (show t (y.2.2 (12 * p + k)) = some (9, 0) by rw [(hP9.lr hp hk).2.1, hkk]) v4_52_9 (h_goes0 _ hS hf hr hL.2.1.1 hσ hP9 hg9 hp hk (hP9.lr hp hk) hkk hB hSl) ?_ (hB := hB) (hS := hSl)
              rintro o h' ⟨I1, c, rfl, rfl, hFn, hrn, hgn⟩
              have hst := hL.step hσ' hp hA hk hgn
              have hc1 := hgn.1
              refine x_iorN d4_goes_127 ?_
              refine x_istore_n d4_goes_128 ?_
              refine x_iincN (c := 1) d4_goes_129 rfl (by decide) ?_
              refine x_goto 95 d4_goes_132 (by decide) ?_
              exact ih hk _ I1 _ (hF9.trans hFn) hrn hst (stG_ask (σ := sGr σ g) hσ' hp hk hA)
            · refine x_invV (y.2.2 (12 * p + k)) 2 d4_goes_124 (show t (y.2.2 (12 * p + k)) = some (10, 0) by rw [(hP9.lr hp hk).2.1, hkk]) v4_52_10 (h_goes1 _ hS hf hr hL.2.1.1 hσ hP9 hg9 hp hk (hP9.lr hp hk) hkk hB hSl) ?_ (hB := hB) (hS := hSl)
              rintro o h' ⟨I1, c, rfl, rfl, hFn, hrn, hgn⟩
              have hst := hL.step hσ' hp hA hk hgn
              have hc1 := hgn.1
              refine x_iorN d4_goes_127 ?_
              refine x_istore_n d4_goes_128 ?_
              refine x_iincN (c := 1) d4_goes_129 rfl (by decide) ?_
              refine x_goto 95 d4_goes_132 (by decide) ?_
              exact ih hk _ I1 _ (hF9.trans hFn) hrn hst (stG_ask (σ := sGr σ g) hσ' hp hk hA)
            · refine x_invV (y.2.2 (12 * p + k)) 2 d4_goes_124 (show t (y.2.2 (12 * p + k)) = some (11, 0) by rw [(hP9.lr hp hk).2.1, hkk]) v4_52_11 (h_goes2 _ hS hf hr hL.2.1.1 hσ hP9 hg9 hp hk (hP9.lr hp hk) hkk hB hSl) ?_ (hB := hB) (hS := hSl)
              rintro o h' ⟨I1, c, rfl, rfl, hFn, hrn, hgn⟩
              have hst := hL.step hσ' hp hA hk hgn
              have hc1 := hgn.1
              refine x_iorN d4_goes_127 ?_
              refine x_istore_n d4_goes_128 ?_
              refine x_iincN (c := 1) d4_goes_129 rfl (by decide) ?_
              refine x_goto 95 d4_goes_132 (by decide) ?_
              exact ih hk _ I1 _ (hF9.trans hFn) hrn hst (stG_ask (σ := sGr σ g) hσ' hp hk hA)
            · refine x_invV (y.2.2 (12 * p + k)) 2 d4_goes_124 (show t (y.2.2 (12 * p + k)) = some (12, 0) by rw [(hP9.lr hp hk).2.1, hkk]) v4_52_12 (h_goes3 _ hS hf hr hL.2.1.1 hσ hP9 hg9 hp hk (hP9.lr hp hk) hkk hB hSl) ?_ (hB := hB) (hS := hSl)
              rintro o h' ⟨I1, c, rfl, rfl, hFn, hrn, hgn⟩
              have hst := hL.step hσ' hp hA hk hgn
              have hc1 := hgn.1
              refine x_iorN d4_goes_127 ?_
              refine x_istore_n d4_goes_128 ?_
              refine x_iincN (c := 1) d4_goes_129 rfl (by decide) ?_
              refine x_goto 95 d4_goes_132 (by decide) ?_
              exact ih hk _ I1 _ (hF9.trans hFn) hrn hst (stG_ask (σ := sGr σ g) hσ' hp hk hA)
            · refine x_invV (y.2.2 (12 * p + k)) 2 d4_goes_124 (show t (y.2.2 (12 * p + k)) = some (13, 0) by rw [(hP9.lr hp hk).2.1, hkk]) v4_52_13 (h_goes4 _ hS hf hr hL.2.1.1 hσ hP9 hg9 hp hk (hP9.lr hp hk) hkk hB hSl) ?_ (hB := hB) (hS := hSl)
              rintro o h' ⟨I1, c, rfl, rfl, hFn, hrn, hgn⟩
              have hst := hL.step hσ' hp hA hk hgn
              have hc1 := hgn.1
              refine x_iorN d4_goes_127 ?_
              refine x_istore_n d4_goes_128 ?_
              refine x_iincN (c := 1) d4_goes_129 rfl (by decide) ?_
              refine x_goto 95 d4_goes_132 (by decide) ?_
              exact ih hk _ I1 _ (hF9.trans hFn) hrn hst (stG_ask (σ := sGr σ g) hσ' hp hk hA)
            · refine x_invV (y.2.2 (12 * p + k)) 2 d4_goes_124 (show t (y.2.2 (12 * p + k)) = some (14, 0) by rw [(hP9.lr hp hk).2.1, hkk]) v4_52_14 (h_goes5 _ hS hf hr hL.2.1.1 hσ hP9 hg9 hp hk (hP9.lr hp hk) hkk hB hSl) ?_ (hB := hB) (hS := hSl)
              rintro o h' ⟨I1, c, rfl, rfl, hFn, hrn, hgn⟩
              have hst := hL.step hσ' hp hA hk hgn
              have hc1 := hgn.1
              refine x_iorN d4_goes_127 ?_
              refine x_istore_n d4_goes_128 ?_
              refine x_iincN (c := 1) d4_goes_129 rfl (by decide) ?_
              refine x_goto 95 d4_goes_132 (by decide) ?_
              exact ih hk _ I1 _ (hF9.trans hFn) hrn hst (stG_ask (σ := sGr σ g) hσ' hp hk hA)
        have hm1 := hL.1
        refine x_iload_n d4_goes_70 rfl ?_
        refine x_aload_n d4_goes_71 rfl ?_
        refine x_getI d4_goes_72 f4_42 hf.1 ?_
        refine x_top (congrArg Value.int (show I9 f 5 = nI (s_np σ) from ((hF9.2 5 (by decide)).trans h5))) ?_
        refine x_icmp_geN 141 d4_goes_75 (by decide) (by omega) (by omega) (fun b75 => ?_) (fun b75 => ?_)
        · refine x_goto 62 d4_goes_141 (by decide) ?_
          have hpe : p = s_np σ := by omega
          subst hpe
          rcases (by have := hL.1; omega : m = 0 ∨ m = 1) with rfl | rfl
          · refine x_iload_n d4_goes_62 rfl ?_
            refine x_if_eqN 144 d4_goes_63 (by decide) (by decide) (fun _ => ?_) (fun h => absurd rfl h)
            exact x_return d4_goes_144 ⟨rfl, I9, rfl, hB2.trans hF9.g, ⟨fun q hq => by rw [hr.1 q hq, hL.fin hσ' (by omega)], fun e he => by rw [hr.2.1 e he, hL.fin hσ' (by omega)], by rw [hr.2.2, hL.fin hσ' (by omega)]⟩⟩
          · exact hnext h (hL.2.2.2.2 rfl) I9 hF9 hr hL.2.1 hL.2.2.1 _ _
        · have h106 := hL.2.1.1 106 (by decide)
          refine x_aload_n d4_goes_78 rfl ?_
          refine x_getI d4_goes_79 f4_38 hf.1 ?_
          refine x_top (congrArg Value.int (show I9 f 4 = nI (h 106) from hr.2.2)) ?_
          refine x_iload_n d4_goes_82 rfl ?_
          refine x_ishrN d4_goes_83 (by omega) (by omega) ?_
          refine x_iconst (v := nI 1) d4_goes_84 (by decide) ?_
          refine x_tbN d4_goes_85 ?_
          have htb_ := tb_lt (h 106) p
          refine x_if_neN 92 d4_goes_86 (by decide) (by omega) (fun b86 => ?_) (fun b86 => ?_)
          · refine x_iconst (v := nI 0) d4_goes_92 (by decide) ?_
            refine x_istore d4_goes_93 ?_
            exact hkl p b75 ih 0 (Nat.zero_le _) h I9 m hF9 hr hL (tb_ne0.mp b86)
          · refine x_goto 135 d4_goes_89 (by decide) ?_
            refine x_iincN (c := 1) d4_goes_135 rfl (by decide) ?_
            refine x_goto 70 d4_goes_138 (by decide) ?_
            exact ih (by omega) h I9 m hF9 hr (hL.next (fun z => by rw [tb0.mp b86] at z; cases z)) _
      refine wh_ind mu7 ?_
      intro h ih I9 hF9 hr hHG hA0 v3 v4
      refine x_iload_n d4_goes_62 rfl ?_
      refine x_if_eqN 144 d4_goes_63 (by decide) (by omega) (fun b63 => absurd b63 (by decide)) (fun b63 => ?_)
      refine x_iconst (v := nI 0) d4_goes_66 (by decide) ?_
      refine x_istore_n d4_goes_67 ?_
      refine x_iconst (v := nI 0) d4_goes_68 (by decide) ?_
      refine x_istore_n d4_goes_69 ?_
      exact hpl h (fun z hz => ih z hz) 0 (Nat.zero_le _) h I9 0 hF9 hr (GL.init hHG hA0) _
    have hw60 : ∀ I9, FlF f I2 I9 → (∀ q, q < 90 → I9 (f + 2) q = nI 0) → (∀ q, q < 16 → I9 (f + 3) q = nI 0) → I9 f 4 = nI a → ∀ v2 v3 v4, RA G (d + 3) M4_goes 60 [.ref f, .int (nI (s_np σ)), v2, v3, v4] [] (t, I9, J, P, n, sl) (fun o h' => o = .inl none ∧ ∃ I', h' = (t, I', J, P, n, sl) ∧ FlG f I I' ∧ FlR I' f (fin7 (sGr σ g))) := by
      intro I9 hF9 z1 z2 h49 v2 v3 v4
      have hr0 : FlR I9 f (fun q => if q = 106 then a else 0) := by
        refine ⟨fun q hq => ?_, fun e he => ?_, ?_⟩
        · show _ = nI (if q = 106 then a else 0); rw [z1 q hq, if_neg (by omega)]
        · show _ = nI (if 90 + e = 106 then a else 0); rw [z2 e he, if_neg (by omega)]
        · show _ = nI (if 106 = 106 then a else 0); rw [h49, if_pos rfl]
      have hHG : HG (sGr σ g) (fun q => if q = 106 then a else 0) := by
        refine ⟨fun q hq => ?_, fun q hq s hb => ?_, fun e he s hb => ?_, fun p hb => haA p hb⟩
        · show (if q = 106 then a else 0) < 65536; split; exact ha; decide
        · have hb : (if q = 106 then a else 0).testBit s = true := hb
          rw [if_neg (by omega)] at hb; simp at hb
        · have hb : (if 90 + e = 106 then a else 0).testBit s = true := hb
          rw [if_neg (by omega)] at hb; simp at hb
      have h0 : 0 < s_np σ → ((fun q => if q = 106 then a else 0) 106).testBit 0 = true := ha0
      refine x_iconst (v := nI 1) d4_goes_60 (by decide) ?_
      refine x_istore_n d4_goes_61 ?_
      exact hwh (fun q => if q = 106 then a else 0) I9 hF9 hr0 hHG h0 _ _
    have hz2 : ∀ I9, FlF f I2 I9 → I9 f 4 = nI a → (∀ q, q < 90 → I9 (f + 2) q = nI 0) → ∀ v2 v3 v4, RA G (d + 3) M4_goes 39 [.ref f, .int (nI (s_np σ)), v2, v3, v4] [] (t, I9, J, P, n, sl) (fun o h' => o = .inl none ∧ ∃ I', h' = (t, I', J, P, n, sl) ∧ FlG f I I' ∧ FlR I' f (fin7 (sGr σ g))) := by
      intro I9 hF9 h49 z1 v2 v3 v4
      have hz2l : ∀ k, k ≤ 16 → ∀ I9, FlF f I2 I9 → I9 f 4 = nI a → (∀ q, q < 90 → I9 (f + 2) q = nI 0) → (∀ q, q < k → I9 (f + 3) q = nI 0) → RA G (d + 3) M4_goes 41 [.ref f, .int (nI (s_np σ)), .int (nI k), v3, v4] [] (t, I9, J, P, n, sl) (fun o h' => o = .inl none ∧ ∃ I', h' = (t, I', J, P, n, sl) ∧ FlG f I I' ∧ FlR I' f (fin7 (sGr σ g))) := by
        clear hF9 h49 z1 I9
        refine up_ind ?_
        intro k hk_ ih I9 hF9 h49 z1 z2
        refine x_iload_n d4_goes_41 rfl ?_
        refine x_bipush (v := nI 16) d4_goes_42 (by decide) ?_
        refine x_icmp_geN 60 d4_goes_44 (by decide) (by omega) (by omega) (fun b44 => ?_) (fun b44 => ?_)
        · exact hw60 I9 hF9 (fun q hq => z1 q hq) (fun q hq => z2 q (by omega)) h49 _ _ _
        · refine x_aload_n d4_goes_47 rfl ?_
          refine x_getP d4_goes_48 f4_18 hf.1 hf.2.2.2.2.2.2.1 ?_
          refine x_iload_n d4_goes_51 rfl ?_
          refine x_iconst (v := nI 0) d4_goes_52 (by decide) ?_
          refine x_iastN d4_goes_53 hf.2.2.2.2.2.2.2.1 (by omega) (fun I1 hI1 => ?_) (ha := (by omega))
          refine x_iincN (c := 1) d4_goes_54 rfl (by decide) ?_
          refine x_goto 41 d4_goes_57 (by decide) ?_
          exact ih (by omega) I1 (hF9.trans (FlF.door hI1)) (by rw [hI1, u2_row _ _ _ (by omega)]; exact h49) (fun q hq => by rw [hI1, u2_row _ _ _ (by omega)]; exact z1 q hq) (zero_row z2 hI1)
      refine x_iconst (v := nI 0) d4_goes_39 (by decide) ?_
      refine x_istore_n d4_goes_40 ?_
      exact hz2l 0 (Nat.zero_le _) I9 hF9 h49 z1 (fun q hq => absurd hq (Nat.not_lt_zero _))
    have hz1 : ∀ k, k ≤ 90 → ∀ I9, FlF f I2 I9 → I9 f 4 = nI a → (∀ q, q < k → I9 (f + 2) q = nI 0) → RA G (d + 3) M4_goes 20 [.ref f, .int (nI (s_np σ)), .int (nI k), v3, v4] [] (t, I9, J, P, n, sl) (fun o h' => o = .inl none ∧ ∃ I', h' = (t, I', J, P, n, sl) ∧ FlG f I I' ∧ FlR I' f (fin7 (sGr σ g))) := by
      refine up_ind ?_
      intro k hk_ ih I9 hF9 h49 z1
      refine x_iload_n d4_goes_20 rfl ?_
      refine x_bipush (v := nI 90) d4_goes_21 (by decide) ?_
      refine x_icmp_geN 39 d4_goes_23 (by decide) (by omega) (by omega) (fun b23 => ?_) (fun b23 => ?_)
      · exact hz2 I9 hF9 h49 (fun q hq => z1 q (by omega)) _ _ _
      · refine x_aload_n d4_goes_26 rfl ?_
        refine x_getP d4_goes_27 f4_15 hf.1 hf.2.2.2.2.1 ?_
        refine x_iload_n d4_goes_30 rfl ?_
        refine x_iconst (v := nI 0) d4_goes_31 (by decide) ?_
        refine x_iastN d4_goes_32 hf.2.2.2.2.2.1 (by omega) (fun I1 hI1 => ?_) (ha := (by omega))
        refine x_iincN (c := 1) d4_goes_33 rfl (by decide) ?_
        refine x_goto 20 d4_goes_36 (by decide) ?_
        exact ih (by omega) I1 (hF9.trans (FlF.held hI1)) (by rw [hI1, u2_row _ _ _ (by omega)]; exact h49) (zero_row z1 hI1)
    exact hz1 0 (Nat.zero_le _) I2 (FlF.rf f I2) h4 (fun q hq => absurd hq (Nat.not_lt_zero _))
  refine x_aload_n d4_goes_0 rfl ?_
  refine x_iload_n d4_goes_1 rfl ?_
  refine x_putIE d4_goes_2 p4_42 hf.1 (fun I1 hI1 => ?_) (ha := (by omega))
  refine x_aload_n d4_goes_5 rfl ?_
  refine x_iload_n d4_goes_6 rfl ?_
  refine x_if_leN 14 d4_goes_7 (by decide) (by omega) (fun b7 => ?_) (fun b7 => ?_)
  · refine x_iconst (v := nI 0) d4_goes_14 (by decide) ?_
    refine x_putIE d4_goes_15 p4_38 hf.1 (fun I2 hI2 => ?_) (ha := (by omega))
    refine x_iconst (v := nI 0) d4_goes_18 (by decide) ?_
    refine x_istore_n d4_goes_19 ?_
    exact hz I2 0 ((FlG.u hI1 (Or.inr rfl)).trans (FlG.u hI2 (Or.inl rfl))) (by rw [hI2, u2_ne _ _ (by decide), hI1, u2_self]) (by rw [hI2, u2_self]) (by decide) (fun q hq => by simp at hq) (fun q => by omega) _ _
  · refine x_iconst (v := nI 1) d4_goes_10 (by decide) ?_
    refine x_goto 15 d4_goes_11 (by decide) ?_
    refine x_putIE d4_goes_15 p4_38 hf.1 (fun I3 hI3 => ?_) (ha := (by omega))
    refine x_iconst (v := nI 0) d4_goes_18 (by decide) ?_
    refine x_istore_n d4_goes_19 ?_
    exact hz I3 1 ((FlG.u hI1 (Or.inr rfl)).trans (FlG.u hI3 (Or.inl rfl))) (by rw [hI3, u2_ne _ _ (by decide), hI1, u2_self]) (by rw [hI3, u2_self]) (by decide) (fun q hq => by rw [one_bit hq]; exact Asked.zero b7) (fun _ => by decide) _ _
set_option maxHeartbeats 4000000 in
theorem h_flow {G : GG} (d : Nat) {t : Nat → Option (Nat × Nat)} {J : Nat → Nat → Int64} {P : Nat → Nat → Value} {n sl : Nat} {I : Nat → Nat → Int32} (hS : SH t P) {σ : Sg} {y : Lay} (hσ : SgOK σ) (hP : HP t I P σ y) (hF : HdF I σ) (hB : n ≤ 601124) (hSl : sl ≤ 7293033) : CA G (d + 4) M1_flow [.ref 100] (t, I, J, P, n, sl) (fun o h' => o = .inl (some (.ref 108)) ∧ ∃ I', h' = (t, I', J, P, n, sl) ∧ HSm I I' ∧ Fwn I' σ) := by
  refine CA.w ?_
  show RA _ _ M1_flow 0 [.ref 100] [] _ _
  obtain ⟨fl, h1, h8, h3⟩ := hF
  refine x_aload_n d1_flow_0 rfl ?_
  refine x_getI d1_flow_1 f1_80 (hS.T rfl) ?_
  refine x_top (congrArg Value.int (show I 100 8 = nI fl from h8)) ?_
  refine x_if_neN 25 d1_flow_4 (by decide) (by omega) (fun b4 => ?_) (fun b4 => ?_)
  · refine x_aload_n d1_flow_25 rfl ?_
    refine x_iconst (v := nI 1) d1_flow_26 (by decide) ?_
    refine x_putIE d1_flow_27 p1_80 (hS.T rfl) (fun I6 hI6 => ?_)
    refine x_aload_n d1_flow_30 rfl ?_
    refine x_getP d1_flow_31 f1_37 (hS.T rfl) (hS.P rfl) ?_
    exact x_areturn d1_flow_34 ⟨rfl, I6, rfl, HSm.c hI6 (by decide), ⟨by rw [hI6, u2_self], by rw [hI6, u2_row _ _ _ (by decide)]; exact (h3 (by omega)).1, by rw [hI6, u2_row _ _ _ (by decide)]; exact (h3 (by omega)).2.1, by rw [hI6, u2_row _ _ _ (by decide)]; exact (h3 (by omega)).2.2⟩⟩
  · refine x_aload_n d1_flow_7 rfl ?_
    refine x_getP d1_flow_8 f1_37 (hS.T rfl) (hS.P rfl) ?_
    refine x_invV 108 0 d1_flow_11 (hS.T rfl) v1_84_4 (h_takesGrants _ hS (FlT.f hS) hσ hP) ?_ (hB := hB) (hS := hSl)
    rintro o h' ⟨rfl, I1, rfl, hF1, hg1⟩
    have hP1 : HP t I1 P σ y := hP.fr (by rw [hF1 100 (by decide)]) (fun b hb => hF1 b (by omega))
    refine x_aload_n d1_flow_14 rfl ?_
    refine x_getP d1_flow_15 f1_37 (hS.T rfl) (hS.P rfl) ?_
    refine x_aload_n d1_flow_18 rfl ?_
    refine x_getI d1_flow_19 f1_73 (hS.T rfl) ?_
    refine x_top (congrArg Value.int (show I1 100 5 = nI (s_np σ) from (by rw [hF1 100 (by decide)]; exact hP.1))) ?_
    refine x_invV 108 1 d1_flow_22 (hS.T rfl) v1_87_4 (h_goes _ hS (FlT.f hS) hσ hP1 (g := fun p => if p < s_np σ then s_gr σ p else 0) (fun p hp => ⟨hg1 p (by have := hσ.1; omega), by show (if p < s_np σ then s_gr σ p else 0) < 65536; rw [if_pos hp]; exact hσ.gr hp⟩) hB hSl) ?_ (hB := hB) (hS := hSl)
    rintro o h' ⟨rfl, I2, rfl, hF2, hr2⟩
    refine x_aload_n d1_flow_25 rfl ?_
    refine x_iconst (v := nI 1) d1_flow_26 (by decide) ?_
    refine x_putIE d1_flow_27 p1_80 (hS.T rfl) (fun I7 hI7 => ?_)
    refine x_aload_n d1_flow_30 rfl ?_
    refine x_getP d1_flow_31 f1_37 (hS.T rfl) (hS.P rfl) ?_
    refine x_areturn d1_flow_34 ?_
    have hsm : HSm I I2 := ⟨fun b hb => by
      simp only [List.mem_cons, List.not_mem_nil, or_false] at hb
      rw [hF2.1 b (by omega) (by omega) (by omega)]; exact hF1 b (by omega), fun k hk => by rw [hF2.1 100 (by decide) (by decide) (by decide), hF1 100 (by decide)]⟩
    refine ⟨rfl, I7, rfl, hsm.trans (HSm.c hI7 (by decide)), ⟨by rw [hI7, u2_self], fun q hq => ?_, fun e he => ?_, ?_⟩⟩
    · rw [hI7, u2_row _ _ _ (by decide), hr2.1 q hq, fin7_gr (fun p hp => if_pos hp)]
    · rw [hI7, u2_row _ _ _ (by decide), hr2.2.1 e he, fin7_gr (fun p hp => if_pos hp)]
    · rw [hI7, u2_row _ _ _ (by decide), hr2.2.2, fin7_gr (fun p hp => if_pos hp)]
