/-! the law: the loop -/
set_option maxRecDepth 100000
set_option maxHeartbeats 8000000 in
theorem lw_loop {G : GG} (hst : (g_l G).stackTraces = false) (d : Nat) {len : Nat} {sc : Nat → Int32} (hlen : len ≤ 384) : ∀ j, j ≤ 64 → ∀ (t : Nat → Option (Nat × Nat)) (I : Nat → Nat → Int32) (J : Nat → Nat → Int64) (P : Nat → Nat → Value) (n sl : Nat) (σ : Sg) (ρ : Rs), LwS len sc t I P n σ ρ σ ρ → 6 * (j) ≤ len → n ≤ 144 + 370 * (j) → sl ≤ 10000 + 2140 * (j) → ∀ v5 v6, RA G (d + 21) ML_law 23 [.ref 63, .ref 100, .ref 122, .ref 143, .int (nI (6 * (j))), v5, v6] [] (t, I, J, P, n, sl) (fun o h => o = .inl (some (.int (nI 1))) ∧ a_n h ≤ 601124 ∧ a_s h ≤ 7293033) := by
  refine up_ind ?_
  intro j hj64 ih t I J P n sl σ ρ hL hjl hn1 hs1 v5 v6
  by_cases hj6 : 6 * j + 6 ≤ len
  ·
    refine x_iload dL_law_23 rfl ?_
    refine x_aload_n dL_law_25 rfl ?_
    refine x_alen (k := 0) dL_law_26 hL.2.2.2.2.2.2.1 rfl ?_
    refine x_bipush (v := nI 6) dL_law_27 (by decide) ?_
    refine x_isubN dL_law_29 (by omega) ?_
    refine x_icmp_gtN 1009 dL_law_30 (by decide) (by omega) (by omega) (fun b30 => absurd b30 (by omega)) (fun b30 => ?_)
    refine x_aload_n dL_law_33 rfl ?_
    refine x_iload dL_law_34 rfl ?_
    refine x_ialdN dL_law_36 hL.2.2.2.2.2.2.1 (by omega) ?_ (hl := by omega)
    refine x_top (congrArg Value.int (show I 63 (6 * j) = sc (6 * j) from (hL.2.2.2.2.2.2.2 _ (by omega)))) ?_
    refine x_bipush (v := nI 31) dL_law_37 (by decide) ?_
    refine x_iand dL_law_39 ?_
    obtain ⟨k, hk32, hk⟩ := and31 (sc (6 * j))
    refine x_top (congrArg Value.int hk) ?_
    rcases (by omega : k = 0 ∨ k = 1 ∨ k = 2 ∨ k = 3 ∨ k = 4 ∨ k = 5 ∨ k = 6 ∨ k = 7 ∨ k = 8 ∨ k = 9 ∨ k = 10 ∨ k = 11 ∨ k = 12 ∨ k = 13 ∨ k = 14 ∨ k = 15 ∨ k = 16 ∨ k = 17 ∨ k = 18 ∨ k = 19 ∨ k = 20 ∨ k = 21 ∨ k = 22 ∨ k = 23 ∨ k = 24 ∨ k = 25 ∨ k = 26 ∨ k = 27 ∨ 28 ≤ k) with rfl | rfl | rfl | rfl | rfl | rfl | rfl | rfl | rfl | rfl | rfl | rfl | rfl | rfl | rfl | rfl | rfl | rfl | rfl | rfl | rfl | rfl | rfl | rfl | rfl | rfl | rfl | rfl | hk28
    · exact lw_0 d hlen hj6 ih hL hn1 hs1 v5 v6
    · exact lw_1 d hlen hj6 ih hL hn1 hs1 v5 v6
    · exact lw_2 d hlen hj6 ih hL hn1 hs1 v5 v6
    · exact lw_3 d hlen hj6 ih hL hn1 hs1 v5 v6
    · exact lw_4 d hlen hj6 ih hL hn1 hs1 v5 v6
    · exact lw_5 d hlen hj6 ih hL hn1 hs1 v5 v6
    · exact lw_6 d hlen hj6 ih hL hn1 hs1 v5 v6
    · by_cases hb : sc (6 * j + 3) = 0
      · exact lw_7F d hlen hj6 ih hL hn1 hs1 v5 v6 hb
      · exact lw_7T d hlen hj6 ih hL hn1 hs1 v5 v6 hb
    · exact lw_8 d hlen hj6 ih hL hn1 hs1 v5 v6
    · exact lw_9 d hlen hj6 ih hL hn1 hs1 v5 v6
    · exact lw_10 d hlen hj6 ih hL hn1 hs1 v5 v6
    · exact lw_11 d hlen hj6 ih hL hn1 hs1 v5 v6
    · exact lw_12 d hlen hj6 ih hL hn1 hs1 v5 v6
    · by_cases hb : sc (6 * j + 1) = 0
      · exact lw_13F d hlen hj6 ih hL hn1 hs1 v5 v6 hb
      · exact lw_13T d hlen hj6 ih hL hn1 hs1 v5 v6 hb
    · exact lw_14 d hlen hj6 ih hL hn1 hs1 v5 v6
    · exact lw_15 d hlen hj6 ih hL hn1 hs1 v5 v6
    · exact lw_16 d hlen hj6 ih hL hn1 hs1 v5 v6 hst
    · exact lw_17 d hlen hj6 ih hL hn1 hs1 v5 v6
    · exact lw_18 d hlen hj6 ih hL hn1 hs1 v5 v6
    · exact lw_19 d hlen hj6 ih hL hn1 hs1 v5 v6
    · exact lw_20 d hlen hj6 ih hL hn1 hs1 v5 v6
    · exact lw_21 d hlen hj6 ih hL hn1 hs1 v5 v6
    · exact lw_22 d hlen hj6 ih hL hn1 hs1 v5 v6
    · exact lw_23 d hlen hj6 ih hL hn1 hs1 v5 v6
    · exact lw_24 d hlen hj6 ih hL hn1 hs1 v5 v6
    · exact lw_25 d hlen hj6 ih hL hn1 hs1 v5 v6
    · exact lw_26 d hlen hj6 ih hL hn1 hs1 v5 v6
    · exact lw_27 d hlen hj6 ih hL hn1 hs1 v5 v6
    · refine x_tableOut 1003 dL_law_40 (Or.inr (by rw [nI_toInt (by omega)]; omega)) (by decide) ?_
      refine x_iincN (c := 6) dL_law_1003 rfl (by decide) ?_
      refine x_goto 23 dL_law_1006 (by decide) ?_
      exact ih (by omega) t I J P n sl σ ρ hL (by omega) (by omega) (by omega) _ _
  · by_cases h6 : 6 ≤ len
    ·
      refine x_iload dL_law_23 rfl ?_
      refine x_aload_n dL_law_25 rfl ?_
      refine x_alen (k := 0) dL_law_26 hL.2.2.2.2.2.2.1 rfl ?_
      refine x_bipush (v := nI 6) dL_law_27 (by decide) ?_
      refine x_isubN dL_law_29 (by omega) ?_
      refine x_icmp_gtN 1009 dL_law_30 (by decide) (by omega) (by omega) (fun b30 => ?_) (fun b30 => absurd b30 (by omega))
      refine x_iconst (v := nI 1) dL_law_1009 (by decide) ?_
      exact x_ireturn dL_law_1010 ⟨rfl, by show n ≤ 601124; omega, by show sl ≤ 7293033; omega⟩
    · have hj0 : j = 0 := by omega
      subst hj0
      refine x_iload dL_law_23 rfl ?_
      refine x_aload_n dL_law_25 rfl ?_
      refine x_alen (k := 0) dL_law_26 hL.2.2.2.2.2.2.1 rfl ?_
      refine x_bipush (v := nI 6) dL_law_27 (by decide) ?_
      refine x_isub dL_law_29 ?_
      rcases (by omega : len = 0 ∨ len = 1 ∨ len = 2 ∨ len = 3 ∨ len = 4 ∨ len = 5) with rfl | rfl | rfl | rfl | rfl | rfl
      all_goals
        refine x_icmp_gt 1009 dL_law_30 (by decide) (fun _ => ?_) (fun h => absurd h (by decide))
        refine x_iconst (v := nI 1) dL_law_1009 (by decide) ?_
        exact x_ireturn dL_law_1010 ⟨rfl, by show n ≤ 601124; omega, by show sl ≤ 7293033; omega⟩
