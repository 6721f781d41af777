/-! the law: step, the loop -/
set_option maxRecDepth 100000
theorem lg_cmp_self (x : Int64) : lg_cmp x x = 0 := by unfold lg_cmp; simp
set_option maxHeartbeats 4000000 in
theorem lw_16 {G : GG} (d : Nat) {len j : Nat} {sc : Nat → Int32} (hlen : len ≤ 384) (hj : 6 * j + 6 ≤ len) (ih : j < 64 → ∀ (t : Nat → Option (Nat × Nat)) (I : Nat → Nat → Int32) (J : Nat → Nat → Int64) (P : Nat → Nat → Value) (n sl : Nat) (σ : Sg) (ρ : Rs), LwS len sc t I P n σ ρ σ ρ → 6 * (j + 1) ≤ len → n ≤ 144 + 370 * (j + 1) → sl ≤ 10000 + 2140 * (j + 1) → ∀ v5 v6, RA G (d + 21) ML_law 23 [.ref 63, .ref 100, .ref 122, .ref 143, .int (nI (6 * (j + 1))), v5, v6] [] (t, I, J, P, n, sl) (fun o h => o = .inl (some (.int (nI 1))) ∧ a_n h ≤ 601124 ∧ a_s h ≤ 7293033)) {t : Nat → Option (Nat × Nat)} {I : Nat → Nat → Int32} {J : Nat → Nat → Int64} {P : Nat → Nat → Value} {n sl : Nat} {σ : Sg} {ρ : Rs} (hL : LwS len sc t I P n σ ρ σ ρ) (hn1 : n ≤ 144 + 370 * j) (hs1 : sl ≤ 10000 + 2140 * j) (v5 v6 : Value) (hst : (g_l G).stackTraces = false) : RA G (d + 21) ML_law 40 [.ref 63, .ref 100, .ref 122, .ref 143, .int (nI (6 * j)), v5, v6] [.int (nI 16)] (t, I, J, P, n, sl) (fun o h => o = .inl (some (.int (nI 1))) ∧ a_n h ≤ 601124 ∧ a_s h ≤ 7293033) := by
  refine x_tableIn (off := 668) 708 dL_law_40 (by decide) (by decide) (by decide) (by decide) ?_
  refine x_aload_n dL_law_708 rfl ?_
  refine x_aload_n dL_law_709 rfl ?_
  refine x_iload dL_law_710 rfl ?_
  refine x_iconst (v := nI 1) dL_law_712 (by decide) ?_
  refine x_iaddN dL_law_713 ?_
  refine x_ialdN dL_law_714 hL.2.2.2.2.2.2.1 (by omega) ?_ (hl := by omega)
  refine x_top (congrArg Value.int (show I 63 ((6 * j) + 1) = sc ((6 * j) + 1) from (hL.2.2.2.2.2.2.2 _ (by omega)))) ?_
  refine x_aload_n dL_law_715 rfl ?_
  refine x_invS 3 dL_law_716 s0_90 (h_lstep hst (d + 13) (sc ((6 * j) + 1)) σ ρ t I J P n sl hL.1 hL.2.2.1 hL.2.2.2.2.1 hL.2.2.2.2.2.1 (by omega) (by omega)) ?_ (hB := by show n ≤ 601124; omega) (hS := by show sl ≤ 7293033; omega)
  rintro o h' ⟨rfl, t1, I1, J1, P1, n1, sl1, rfl, b1, b2, b3, b4, b5, b6, b7, b8, b9, b10, b11⟩
  have L1 : LwS len sc t1 I1 P1 n1 σ ρ σ ρ := ⟨b1, hL.2.1.sh b1 (fun b hb => b8 b (by omega)), b2, hL.2.2.2.1.hf b8, b3, by have := hL.2.2.2.2.2.1; omega, b11 _ _ hL.2.2.2.2.2.2.1, fun j hj => by rw [b8 63 (by omega)]; exact hL.2.2.2.2.2.2.2 j hj⟩
  show RA _ _ _ _ _ [Value.int (qThr ρ (sc ((6 * j) + 1)))] _ _
  refine x_istore dL_law_719 ?_
  refine x_aload_n dL_law_721 rfl ?_
  refine x_aload_n dL_law_722 rfl ?_
  refine x_iload dL_law_723 rfl ?_
  refine x_iconst (v := nI 1) dL_law_725 (by decide) ?_
  refine x_iaddN dL_law_726 ?_
  refine x_ialdN dL_law_727 L1.2.2.2.2.2.2.1 (by omega) ?_ (hl := by omega)
  refine x_top (congrArg Value.int (show I1 63 ((6 * j) + 1) = sc ((6 * j) + 1) from (L1.2.2.2.2.2.2.2 _ (by omega)))) ?_
  refine x_invV 122 1 dL_law_728 (L1.1.T rfl) v0_95_5 (m_step G (d + 20) (sc ((6 * j) + 1)) σ ρ t1 I1 J1 P1 n1 sl1 L1.1 L1.2.2.2.1 (by omega) (by omega)) ?_ (hB := by show n1 ≤ 601124; omega) (hS := by show sl1 ≤ 7293033; omega)
  rintro o h' ⟨rfl, I2, J2, rfl, hD2, hF2, hJ2, h02⟩
  have L2 := L1.m hD2 hF2
  show RA _ _ _ _ _ [Value.int (qStep ρ (sc ((6 * j) + 1)))] _ _
  refine x_istore dL_law_731 ?_
  refine x_aload_n dL_law_733 rfl ?_
  refine x_invV 122 0 dL_law_734 (L2.1.T rfl) v0_96_5 (m_thrown _ L2.1) (Cont.p ?_) (hB := by show n1 ≤ 601124; omega) (hS := by show sl1 ≤ 7293033; omega)
  refine x_top (congrArg Value.int h02) ?_
  refine x_iload dL_law_737 rfl ?_
  refine x_icmp_eq 744 dL_law_739 (by decide) (fun b739 => ?_) (fun b739 => absurd b739 (fun q => q rfl))
  rcases (by unfold qThr; split <;> simp : qThr ρ (sc (6 * j + 1)) = 0 ∨ qThr ρ (sc (6 * j + 1)) = 1) with hq | hq
  · rw [hq]
    refine x_iload dL_law_744 rfl ?_
    refine x_if_ne 761 dL_law_746 (by decide) (fun h => absurd rfl h) (fun _ => ?_)
    refine x_aload_n dL_law_749 rfl ?_
    refine x_iconst (v := nI 0) dL_law_750 (by decide) ?_
    refine x_laldN dL_law_751 (L2.1.T rfl) (by decide) ?_
    refine x_top (congrArg Value.long (show J2 143 0 = (qStep ρ (sc (6 * j + 1))).toInt64 by rw [hJ2 143 (by decide)]; exact b10 hq)) ?_
    refine x_iload dL_law_752 rfl ?_
    refine x_i2l dL_law_754 ?_
    refine x_lcmp dL_law_755 ?_
    refine x_if_eq 761 dL_law_756 (by decide) (fun _ => ?_) (fun h => absurd (lg_cmp_self _) h)
    refine x_goto 1003 dL_law_761 (by decide) ?_
    refine x_iincN (c := 6) dL_law_1003 rfl (by decide) ?_
    refine x_goto 23 dL_law_1006 (by decide) ?_
    exact ih (by omega) t1 I2 J2 P1 n1 sl1 _ _ L2 (by omega) (by omega) (by omega) _ _
  · rw [hq]
    refine x_iload dL_law_744 rfl ?_
    refine x_if_ne 761 dL_law_746 (by decide) (fun _ => ?_) (fun h => absurd h (by decide))
    refine x_goto 1003 dL_law_761 (by decide) ?_
    refine x_iincN (c := 6) dL_law_1003 rfl (by decide) ?_
    refine x_goto 23 dL_law_1006 (by decide) ?_
    exact ih (by omega) t1 I2 J2 P1 n1 sl1 _ _ L2 (by omega) (by omega) (by omega) _ _
