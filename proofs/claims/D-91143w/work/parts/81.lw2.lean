/-! the law: lines, meant, misuse -/
set_option maxRecDepth 100000
set_option maxHeartbeats 4000000 in
theorem lw_7T {G : GG} (d : Nat) {len j : Nat} {sc : Nat → Int32} (hlen : len ≤ 384) (hj : 6 * j + 6 ≤ len) (ih : j < 64 → ∀ (t : Nat → Option (Nat × Nat)) (I : Nat → Nat → Int32) (J : Nat → Nat → Int64) (P : Nat → Nat → Value) (n sl : Nat) (σ : Sg) (ρ : Rs), LwS len sc t I P n σ ρ σ ρ → 6 * (j + 1) ≤ len → n ≤ 144 + 370 * (j + 1) → sl ≤ 10000 + 2140 * (j + 1) → ∀ v5 v6, RA G (d + 21) ML_law 23 [.ref 63, .ref 100, .ref 122, .ref 143, .int (nI (6 * (j + 1))), v5, v6] [] (t, I, J, P, n, sl) (fun o h => o = .inl (some (.int (nI 1))) ∧ a_n h ≤ 601124 ∧ a_s h ≤ 7293033)) {t : Nat → Option (Nat × Nat)} {I : Nat → Nat → Int32} {J : Nat → Nat → Int64} {P : Nat → Nat → Value} {n sl : Nat} {σ : Sg} {ρ : Rs} (hL : LwS len sc t I P n σ ρ σ ρ) (hn1 : n ≤ 144 + 370 * j) (hs1 : sl ≤ 10000 + 2140 * j) (v5 v6 : Value) (hb : ¬ sc (6 * j + 3) = 0) : RA G (d + 21) ML_law 40 [.ref 63, .ref 100, .ref 122, .ref 143, .int (nI (6 * j)), v5, v6] [.int (nI 7)] (t, I, J, P, n, sl) (fun o h => o = .inl (some (.int (nI 1))) ∧ a_n h ≤ 601124 ∧ a_s h ≤ 7293033) := by
    refine x_tableIn (off := 375) 415 dL_law_40 (by decide) (by decide) (by decide) (by decide) ?_
    refine x_aload_n dL_law_415 rfl ?_
    refine x_aload_n dL_law_416 rfl ?_
    refine x_iload dL_law_417 rfl ?_
    refine x_iconst (v := nI 1) dL_law_419 (by decide) ?_
    refine x_iaddN dL_law_420 ?_
    refine x_ialdN dL_law_421 hL.2.2.2.2.2.2.1 (by omega) ?_ (hl := by omega)
    refine x_top (congrArg Value.int (show I 63 ((6 * j) + 1) = sc ((6 * j) + 1) from (hL.2.2.2.2.2.2.2 _ (by omega)))) ?_
    refine x_aload_n dL_law_422 rfl ?_
    refine x_iload dL_law_423 rfl ?_
    refine x_iconst (v := nI 2) dL_law_425 (by decide) ?_
    refine x_iaddN dL_law_426 ?_
    refine x_ialdN dL_law_427 hL.2.2.2.2.2.2.1 (by omega) ?_ (hl := by omega)
    refine x_top (congrArg Value.int (show I 63 ((6 * j) + 2) = sc ((6 * j) + 2) from (hL.2.2.2.2.2.2.2 _ (by omega)))) ?_
    refine x_aload_n dL_law_428 rfl ?_
    refine x_iload dL_law_429 rfl ?_
    refine x_iconst (v := nI 3) dL_law_431 (by decide) ?_
    refine x_iaddN dL_law_432 ?_
    refine x_ialdN dL_law_433 hL.2.2.2.2.2.2.1 (by omega) ?_ (hl := by omega)
    refine x_top (congrArg Value.int (show I 63 ((6 * j) + 3) = sc ((6 * j) + 3) from (hL.2.2.2.2.2.2.2 _ (by omega)))) ?_
    refine x_if_eq 441 dL_law_434 (by decide) (fun b434 => absurd b434 hb) (fun b434 => ?_)
    refine x_iconst (v := nI 1) dL_law_437 (by decide) ?_
    refine x_goto 442 dL_law_438 (by decide) ?_
    refine x_invV 100 3 dL_law_442 (hL.1.T rfl) v0_52_1 (((h_meantT G (d + 18) (sc ((6 * j) + 1)) (sc ((6 * j) + 2)) σ ρ).con 0 0) t I J P n sl hL.1 hL.2.2.1 hL.2.2.2.2.1 hL.2.2.2.2.2.1 (by omega) (by omega)) ?_ (hB := by show n ≤ 601124; omega) (hS := by show sl ≤ 7293033; omega)
    rintro o h' ⟨rfl, hc1⟩
    obtain ⟨t1, I1, J1, P1, n1, sl1, rfl, L1, hn1a, hn1b, hs1a, hs1b, hj1⟩ := hL.h hc1
    show RA _ _ _ _ _ [Value.int _] _ _
    refine x_aload_n dL_law_445 rfl ?_
    refine x_aload_n dL_law_446 rfl ?_
    refine x_iload dL_law_447 rfl ?_
    refine x_iconst (v := nI 1) dL_law_449 (by decide) ?_
    refine x_iaddN dL_law_450 ?_
    refine x_ialdN dL_law_451 L1.2.2.2.2.2.2.1 (by omega) ?_ (hl := by omega)
    refine x_top (congrArg Value.int (show I1 63 ((6 * j) + 1) = sc ((6 * j) + 1) from (L1.2.2.2.2.2.2.2 _ (by omega)))) ?_
    refine x_aload_n dL_law_452 rfl ?_
    refine x_iload dL_law_453 rfl ?_
    refine x_iconst (v := nI 2) dL_law_455 (by decide) ?_
    refine x_iaddN dL_law_456 ?_
    refine x_ialdN dL_law_457 L1.2.2.2.2.2.2.1 (by omega) ?_ (hl := by omega)
    refine x_top (congrArg Value.int (show I1 63 ((6 * j) + 2) = sc ((6 * j) + 2) from (L1.2.2.2.2.2.2.2 _ (by omega)))) ?_
    refine x_aload_n dL_law_458 rfl ?_
    refine x_iload dL_law_459 rfl ?_
    refine x_iconst (v := nI 3) dL_law_461 (by decide) ?_
    refine x_iaddN dL_law_462 ?_
    refine x_ialdN dL_law_463 L1.2.2.2.2.2.2.1 (by omega) ?_ (hl := by omega)
    refine x_top (congrArg Value.int (show I1 63 ((6 * j) + 3) = sc ((6 * j) + 3) from (L1.2.2.2.2.2.2.2 _ (by omega)))) ?_
    refine x_if_eq 471 dL_law_464 (by decide) (fun b464 => absurd b464 hb) (fun b464 => ?_)
    refine x_iconst (v := nI 1) dL_law_467 (by decide) ?_
    refine x_goto 472 dL_law_468 (by decide) ?_
    refine x_invV 122 3 dL_law_472 (L1.1.T rfl) v0_56_5 (m_meantT G (d + 19) (sc ((6 * j) + 1)) (sc ((6 * j) + 2)) σ ρ t1 I1 J1 P1 n1 sl1 L1.1 L1.2.2.2.1 (by omega) (by omega)) ?_ (hB := by show n1 ≤ 601124; omega) (hS := by show sl1 ≤ 7293033; omega)
    rintro o h' ⟨rfl, I2, J2, rfl, hD2, hF2, hJ2, h02⟩
    have L2 := L1.m hD2 hF2
    refine x_icmp_eq 1003 dL_law_475 (by decide) (fun b475 => ?_) (fun b475 => absurd b475 (fun q => q rfl))
    refine x_iincN (c := 6) dL_law_1003 rfl (by decide) ?_
    refine x_goto 23 dL_law_1006 (by decide) ?_
    exact ih (by omega) t1 I2 J2 P1 n1 sl1 _ _ L2 (by omega) (by omega) (by omega) _ _
set_option maxHeartbeats 4000000 in
theorem lw_7F {G : GG} (d : Nat) {len j : Nat} {sc : Nat → Int32} (hlen : len ≤ 384) (hj : 6 * j + 6 ≤ len) (ih : j < 64 → ∀ (t : Nat → Option (Nat × Nat)) (I : Nat → Nat → Int32) (J : Nat → Nat → Int64) (P : Nat → Nat → Value) (n sl : Nat) (σ : Sg) (ρ : Rs), LwS len sc t I P n σ ρ σ ρ → 6 * (j + 1) ≤ len → n ≤ 144 + 370 * (j + 1) → sl ≤ 10000 + 2140 * (j + 1) → ∀ v5 v6, RA G (d + 21) ML_law 23 [.ref 63, .ref 100, .ref 122, .ref 143, .int (nI (6 * (j + 1))), v5, v6] [] (t, I, J, P, n, sl) (fun o h => o = .inl (some (.int (nI 1))) ∧ a_n h ≤ 601124 ∧ a_s h ≤ 7293033)) {t : Nat → Option (Nat × Nat)} {I : Nat → Nat → Int32} {J : Nat → Nat → Int64} {P : Nat → Nat → Value} {n sl : Nat} {σ : Sg} {ρ : Rs} (hL : LwS len sc t I P n σ ρ σ ρ) (hn1 : n ≤ 144 + 370 * j) (hs1 : sl ≤ 10000 + 2140 * j) (v5 v6 : Value) (hb : sc (6 * j + 3) = 0) : RA G (d + 21) ML_law 40 [.ref 63, .ref 100, .ref 122, .ref 143, .int (nI (6 * j)), v5, v6] [.int (nI 7)] (t, I, J, P, n, sl) (fun o h => o = .inl (some (.int (nI 1))) ∧ a_n h ≤ 601124 ∧ a_s h ≤ 7293033) := by
    refine x_tableIn (off := 375) 415 dL_law_40 (by decide) (by decide) (by decide) (by decide) ?_
    refine x_aload_n dL_law_415 rfl ?_
    refine x_aload_n dL_law_416 rfl ?_
    refine x_iload dL_law_417 rfl ?_
    refine x_iconst (v := nI 1) dL_law_419 (by decide) ?_
    refine x_iaddN dL_law_420 ?_
    refine x_ialdN dL_law_421 hL.2.2.2.2.2.2.1 (by omega) ?_ (hl := by omega)
    refine x_top (congrArg Value.int (show I 63 ((6 * j) + 1) = sc ((6 * j) + 1) from (hL.2.2.2.2.2.2.2 _ (by omega)))) ?_
    refine x_aload_n dL_law_422 rfl ?_
    refine x_iload dL_law_423 rfl ?_
    refine x_iconst (v := nI 2) dL_law_425 (by decide) ?_
    refine x_iaddN dL_law_426 ?_
    refine x_ialdN dL_law_427 hL.2.2.2.2.2.2.1 (by omega) ?_ (hl := by omega)
    refine x_top (congrArg Value.int (show I 63 ((6 * j) + 2) = sc ((6 * j) + 2) from (hL.2.2.2.2.2.2.2 _ (by omega)))) ?_
    refine x_aload_n dL_law_428 rfl ?_
    refine x_iload dL_law_429 rfl ?_
    refine x_iconst (v := nI 3) dL_law_431 (by decide) ?_
    refine x_iaddN dL_law_432 ?_
    refine x_ialdN dL_law_433 hL.2.2.2.2.2.2.1 (by omega) ?_ (hl := by omega)
    refine x_top (congrArg Value.int (show I 63 ((6 * j) + 3) = sc ((6 * j) + 3) from (hL.2.2.2.2.2.2.2 _ (by omega)))) ?_
    refine x_if_eq 441 dL_law_434 (by decide) (fun b434 => ?_) (fun b434 => absurd b434 (fun q => q hb))
    refine x_iconst (v := nI 0) dL_law_441 (by decide) ?_
    refine x_invV 100 3 dL_law_442 (hL.1.T rfl) v0_52_1 (((h_meantF G (d + 18) (sc ((6 * j) + 1)) (sc ((6 * j) + 2)) σ ρ).con 0 0) t I J P n sl hL.1 hL.2.2.1 hL.2.2.2.2.1 hL.2.2.2.2.2.1 (by omega) (by omega)) ?_ (hB := by show n ≤ 601124; omega) (hS := by show sl ≤ 7293033; omega)
    rintro o h' ⟨rfl, hc1⟩
    obtain ⟨t1, I1, J1, P1, n1, sl1, rfl, L1, hn1a, hn1b, hs1a, hs1b, hj1⟩ := hL.h hc1
    show RA _ _ _ _ _ [Value.int _] _ _
    refine x_aload_n dL_law_445 rfl ?_
    refine x_aload_n dL_law_446 rfl ?_
    refine x_iload dL_law_447 rfl ?_
    refine x_iconst (v := nI 1) dL_law_449 (by decide) ?_
    refine x_iaddN dL_law_450 ?_
    refine x_ialdN dL_law_451 L1.2.2.2.2.2.2.1 (by omega) ?_ (hl := by omega)
    refine x_top (congrArg Value.int (show I1 63 ((6 * j) + 1) = sc ((6 * j) + 1) from (L1.2.2.2.2.2.2.2 _ (by omega)))) ?_
    refine x_aload_n dL_law_452 rfl ?_
    refine x_iload dL_law_453 rfl ?_
    refine x_iconst (v := nI 2) dL_law_455 (by decide) ?_
    refine x_iaddN dL_law_456 ?_
    refine x_ialdN dL_law_457 L1.2.2.2.2.2.2.1 (by omega) ?_ (hl := by omega)
    refine x_top (congrArg Value.int (show I1 63 ((6 * j) + 2) = sc ((6 * j) + 2) from (L1.2.2.2.2.2.2.2 _ (by omega)))) ?_
    refine x_aload_n dL_law_458 rfl ?_
    refine x_iload dL_law_459 rfl ?_
    refine x_iconst (v := nI 3) dL_law_461 (by decide) ?_
    refine x_iaddN dL_law_462 ?_
    refine x_ialdN dL_law_463 L1.2.2.2.2.2.2.1 (by omega) ?_ (hl := by omega)
    refine x_top (congrArg Value.int (show I1 63 ((6 * j) + 3) = sc ((6 * j) + 3) from (L1.2.2.2.2.2.2.2 _ (by omega)))) ?_
    refine x_if_eq 471 dL_law_464 (by decide) (fun b464 => ?_) (fun b464 => absurd b464 (fun q => q hb))
    refine x_iconst (v := nI 0) dL_law_471 (by decide) ?_
    refine x_invV 122 3 dL_law_472 (L1.1.T rfl) v0_56_5 (m_meantF G (d + 19) (sc ((6 * j) + 1)) (sc ((6 * j) + 2)) σ ρ t1 I1 J1 P1 n1 sl1 L1.1 L1.2.2.2.1 (by omega) (by omega)) ?_ (hB := by show n1 ≤ 601124; omega) (hS := by show sl1 ≤ 7293033; omega)
    rintro o h' ⟨rfl, I2, J2, rfl, hD2, hF2, hJ2, h02⟩
    have L2 := L1.m hD2 hF2
    refine x_icmp_eq 1003 dL_law_475 (by decide) (fun b475 => ?_) (fun b475 => absurd b475 (fun q => q rfl))
    refine x_iincN (c := 6) dL_law_1003 rfl (by decide) ?_
    refine x_goto 23 dL_law_1006 (by decide) ?_
    exact ih (by omega) t1 I2 J2 P1 n1 sl1 _ _ L2 (by omega) (by omega) (by omega) _ _
set_option maxHeartbeats 4000000 in
theorem lw_13T {G : GG} (d : Nat) {len j : Nat} {sc : Nat → Int32} (hlen : len ≤ 384) (hj : 6 * j + 6 ≤ len) (ih : j < 64 → ∀ (t : Nat → Option (Nat × Nat)) (I : Nat → Nat → Int32) (J : Nat → Nat → Int64) (P : Nat → Nat → Value) (n sl : Nat) (σ : Sg) (ρ : Rs), LwS len sc t I P n σ ρ σ ρ → 6 * (j + 1) ≤ len → n ≤ 144 + 370 * (j + 1) → sl ≤ 10000 + 2140 * (j + 1) → ∀ v5 v6, RA G (d + 21) ML_law 23 [.ref 63, .ref 100, .ref 122, .ref 143, .int (nI (6 * (j + 1))), v5, v6] [] (t, I, J, P, n, sl) (fun o h => o = .inl (some (.int (nI 1))) ∧ a_n h ≤ 601124 ∧ a_s h ≤ 7293033)) {t : Nat → Option (Nat × Nat)} {I : Nat → Nat → Int32} {J : Nat → Nat → Int64} {P : Nat → Nat → Value} {n sl : Nat} {σ : Sg} {ρ : Rs} (hL : LwS len sc t I P n σ ρ σ ρ) (hn1 : n ≤ 144 + 370 * j) (hs1 : sl ≤ 10000 + 2140 * j) (v5 v6 : Value) (hb : ¬ sc (6 * j + 1) = 0) : RA G (d + 21) ML_law 40 [.ref 63, .ref 100, .ref 122, .ref 143, .int (nI (6 * j)), v5, v6] [.int (nI 13)] (t, I, J, P, n, sl) (fun o h => o = .inl (some (.int (nI 1))) ∧ a_n h ≤ 601124 ∧ a_s h ≤ 7293033) := by
    refine x_tableIn (off := 565) 605 dL_law_40 (by decide) (by decide) (by decide) (by decide) ?_
    refine x_aload_n dL_law_605 rfl ?_
    refine x_aload_n dL_law_606 rfl ?_
    refine x_iload dL_law_607 rfl ?_
    refine x_iconst (v := nI 1) dL_law_609 (by decide) ?_
    refine x_iaddN dL_law_610 ?_
    refine x_ialdN dL_law_611 hL.2.2.2.2.2.2.1 (by omega) ?_ (hl := by omega)
    refine x_top (congrArg Value.int (show I 63 ((6 * j) + 1) = sc ((6 * j) + 1) from (hL.2.2.2.2.2.2.2 _ (by omega)))) ?_
    refine x_if_eq 619 dL_law_612 (by decide) (fun b612 => absurd b612 hb) (fun b612 => ?_)
    refine x_iconst (v := nI 1) dL_law_615 (by decide) ?_
    refine x_goto 620 dL_law_616 (by decide) ?_
    refine x_invV 100 1 dL_law_620 (hL.1.T rfl) v0_77_1 (((h_misuseT G (d + 14)  σ ρ).con 0 0) t I J P n sl hL.1 hL.2.2.1 hL.2.2.2.2.1 hL.2.2.2.2.2.1 (by omega) (by omega)) ?_ (hB := by show n ≤ 601124; omega) (hS := by show sl ≤ 7293033; omega)
    rintro o h' ⟨rfl, hc1⟩
    obtain ⟨t1, I1, J1, P1, n1, sl1, rfl, L1, hn1a, hn1b, hs1a, hs1b, hj1⟩ := hL.h hc1
    show RA _ _ _ _ _ [Value.int _] _ _
    refine x_aload_n dL_law_623 rfl ?_
    refine x_aload_n dL_law_624 rfl ?_
    refine x_iload dL_law_625 rfl ?_
    refine x_iconst (v := nI 1) dL_law_627 (by decide) ?_
    refine x_iaddN dL_law_628 ?_
    refine x_ialdN dL_law_629 L1.2.2.2.2.2.2.1 (by omega) ?_ (hl := by omega)
    refine x_top (congrArg Value.int (show I1 63 ((6 * j) + 1) = sc ((6 * j) + 1) from (L1.2.2.2.2.2.2.2 _ (by omega)))) ?_
    refine x_if_eq 637 dL_law_630 (by decide) (fun b630 => absurd b630 hb) (fun b630 => ?_)
    refine x_iconst (v := nI 1) dL_law_633 (by decide) ?_
    refine x_goto 638 dL_law_634 (by decide) ?_
    refine x_invV 122 1 dL_law_638 (L1.1.T rfl) v0_81_5 (m_misuseT G (d + 17)  σ ρ t1 I1 J1 P1 n1 sl1 L1.1 L1.2.2.2.1 (by omega) (by omega)) ?_ (hB := by show n1 ≤ 601124; omega) (hS := by show sl1 ≤ 7293033; omega)
    rintro o h' ⟨rfl, I2, J2, rfl, hD2, hF2, hJ2, h02⟩
    have L2 := L1.m hD2 hF2
    refine x_icmp_eq 1003 dL_law_641 (by decide) (fun b641 => ?_) (fun b641 => absurd b641 (fun q => q rfl))
    refine x_iincN (c := 6) dL_law_1003 rfl (by decide) ?_
    refine x_goto 23 dL_law_1006 (by decide) ?_
    exact ih (by omega) t1 I2 J2 P1 n1 sl1 _ _ L2 (by omega) (by omega) (by omega) _ _
set_option maxHeartbeats 4000000 in
theorem lw_13F {G : GG} (d : Nat) {len j : Nat} {sc : Nat → Int32} (hlen : len ≤ 384) (hj : 6 * j + 6 ≤ len) (ih : j < 64 → ∀ (t : Nat → Option (Nat × Nat)) (I : Nat → Nat → Int32) (J : Nat → Nat → Int64) (P : Nat → Nat → Value) (n sl : Nat) (σ : Sg) (ρ : Rs), LwS len sc t I P n σ ρ σ ρ → 6 * (j + 1) ≤ len → n ≤ 144 + 370 * (j + 1) → sl ≤ 10000 + 2140 * (j + 1) → ∀ v5 v6, RA G (d + 21) ML_law 23 [.ref 63, .ref 100, .ref 122, .ref 143, .int (nI (6 * (j + 1))), v5, v6] [] (t, I, J, P, n, sl) (fun o h => o = .inl (some (.int (nI 1))) ∧ a_n h ≤ 601124 ∧ a_s h ≤ 7293033)) {t : Nat → Option (Nat × Nat)} {I : Nat → Nat → Int32} {J : Nat → Nat → Int64} {P : Nat → Nat → Value} {n sl : Nat} {σ : Sg} {ρ : Rs} (hL : LwS len sc t I P n σ ρ σ ρ) (hn1 : n ≤ 144 + 370 * j) (hs1 : sl ≤ 10000 + 2140 * j) (v5 v6 : Value) (hb : sc (6 * j + 1) = 0) : RA G (d + 21) ML_law 40 [.ref 63, .ref 100, .ref 122, .ref 143, .int (nI (6 * j)), v5, v6] [.int (nI 13)] (t, I, J, P, n, sl) (fun o h => o = .inl (some (.int (nI 1))) ∧ a_n h ≤ 601124 ∧ a_s h ≤ 7293033) := by
    refine x_tableIn (off := 565) 605 dL_law_40 (by decide) (by decide) (by decide) (by decide) ?_
    refine x_aload_n dL_law_605 rfl ?_
    refine x_aload_n dL_law_606 rfl ?_
    refine x_iload dL_law_607 rfl ?_
    refine x_iconst (v := nI 1) dL_law_609 (by decide) ?_
    refine x_iaddN dL_law_610 ?_
    refine x_ialdN dL_law_611 hL.2.2.2.2.2.2.1 (by omega) ?_ (hl := by omega)
    refine x_top (congrArg Value.int (show I 63 ((6 * j) + 1) = sc ((6 * j) + 1) from (hL.2.2.2.2.2.2.2 _ (by omega)))) ?_
    refine x_if_eq 619 dL_law_612 (by decide) (fun b612 => ?_) (fun b612 => absurd b612 (fun q => q hb))
    refine x_iconst (v := nI 0) dL_law_619 (by decide) ?_
    refine x_invV 100 1 dL_law_620 (hL.1.T rfl) v0_77_1 (((h_misuseF G (d + 14)  σ ρ).con 0 0) t I J P n sl hL.1 hL.2.2.1 hL.2.2.2.2.1 hL.2.2.2.2.2.1 (by omega) (by omega)) ?_ (hB := by show n ≤ 601124; omega) (hS := by show sl ≤ 7293033; omega)
    rintro o h' ⟨rfl, hc1⟩
    obtain ⟨t1, I1, J1, P1, n1, sl1, rfl, L1, hn1a, hn1b, hs1a, hs1b, hj1⟩ := hL.h hc1
    show RA _ _ _ _ _ [Value.int _] _ _
    refine x_aload_n dL_law_623 rfl ?_
    refine x_aload_n dL_law_624 rfl ?_
    refine x_iload dL_law_625 rfl ?_
    refine x_iconst (v := nI 1) dL_law_627 (by decide) ?_
    refine x_iaddN dL_law_628 ?_
    refine x_ialdN dL_law_629 L1.2.2.2.2.2.2.1 (by omega) ?_ (hl := by omega)
    refine x_top (congrArg Value.int (show I1 63 ((6 * j) + 1) = sc ((6 * j) + 1) from (L1.2.2.2.2.2.2.2 _ (by omega)))) ?_
    refine x_if_eq 637 dL_law_630 (by decide) (fun b630 => ?_) (fun b630 => absurd b630 (fun q => q hb))
    refine x_iconst (v := nI 0) dL_law_637 (by decide) ?_
    refine x_invV 122 1 dL_law_638 (L1.1.T rfl) v0_81_5 (m_misuseF G (d + 17)  σ ρ t1 I1 J1 P1 n1 sl1 L1.1 L1.2.2.2.1 (by omega) (by omega)) ?_ (hB := by show n1 ≤ 601124; omega) (hS := by show sl1 ≤ 7293033; omega)
    rintro o h' ⟨rfl, I2, J2, rfl, hD2, hF2, hJ2, h02⟩
    have L2 := L1.m hD2 hF2
    refine x_icmp_eq 1003 dL_law_641 (by decide) (fun b641 => ?_) (fun b641 => absurd b641 (fun q => q rfl))
    refine x_iincN (c := 6) dL_law_1003 rfl (by decide) ?_
    refine x_goto 23 dL_law_1006 (by decide) ?_
    exact ih (by omega) t1 I2 J2 P1 n1 sl1 _ _ L2 (by omega) (by omega) (by omega) _ _
set_option maxHeartbeats 4000000 in
theorem lw_3 {G : GG} (d : Nat) {len j : Nat} {sc : Nat → Int32} (hlen : len ≤ 384) (hj : 6 * j + 6 ≤ len) (ih : j < 64 → ∀ (t : Nat → Option (Nat × Nat)) (I : Nat → Nat → Int32) (J : Nat → Nat → Int64) (P : Nat → Nat → Value) (n sl : Nat) (σ : Sg) (ρ : Rs), LwS len sc t I P n σ ρ σ ρ → 6 * (j + 1) ≤ len → n ≤ 144 + 370 * (j + 1) → sl ≤ 10000 + 2140 * (j + 1) → ∀ v5 v6, RA G (d + 21) ML_law 23 [.ref 63, .ref 100, .ref 122, .ref 143, .int (nI (6 * (j + 1))), v5, v6] [] (t, I, J, P, n, sl) (fun o h => o = .inl (some (.int (nI 1))) ∧ a_n h ≤ 601124 ∧ a_s h ≤ 7293033)) {t : Nat → Option (Nat × Nat)} {I : Nat → Nat → Int32} {J : Nat → Nat → Int64} {P : Nat → Nat → Value} {n sl : Nat} {σ : Sg} {ρ : Rs} (hL : LwS len sc t I P n σ ρ σ ρ) (hn1 : n ≤ 144 + 370 * j) (hs1 : sl ≤ 10000 + 2140 * j) (v5 v6 : Value) : RA G (d + 21) ML_law 40 [.ref 63, .ref 100, .ref 122, .ref 143, .int (nI (6 * j)), v5, v6] [.int (nI 3)] (t, I, J, P, n, sl) (fun o h => o = .inl (some (.int (nI 1))) ∧ a_n h ≤ 601124 ∧ a_s h ≤ 7293033) := by
  refine x_tableIn (off := 263) 303 dL_law_40 (by decide) (by decide) (by decide) (by decide) ?_
  refine x_aload_n dL_law_303 rfl ?_
  refine x_aload_n dL_law_304 rfl ?_
  refine x_iload dL_law_305 rfl ?_
  refine x_iconst (v := nI 1) dL_law_307 (by decide) ?_
  refine x_iaddN dL_law_308 ?_
  refine x_ialdN dL_law_309 hL.2.2.2.2.2.2.1 (by omega) ?_ (hl := by omega)
  refine x_top (congrArg Value.int (show I 63 ((6 * j) + 1) = sc ((6 * j) + 1) from (hL.2.2.2.2.2.2.2 _ (by omega)))) ?_
  refine x_aload_n dL_law_310 rfl ?_
  refine x_iload dL_law_311 rfl ?_
  refine x_iconst (v := nI 2) dL_law_313 (by decide) ?_
  refine x_iaddN dL_law_314 ?_
  refine x_ialdN dL_law_315 hL.2.2.2.2.2.2.1 (by omega) ?_ (hl := by omega)
  refine x_top (congrArg Value.int (show I 63 ((6 * j) + 2) = sc ((6 * j) + 2) from (hL.2.2.2.2.2.2.2 _ (by omega)))) ?_
  refine x_invV 100 2 dL_law_316 (hL.1.T rfl) v0_33_1 (h_lines G (d + 9) (sc ((6 * j) + 1)) (sc ((6 * j) + 2)) σ ρ t I J P n sl hL.1 hL.2.1 hL.2.2.1 hL.2.2.2.2.1 hL.2.2.2.2.2.1 (by omega) (by omega)) ?_ (hB := by show n ≤ 601124; omega) (hS := by show sl ≤ 7293033; omega)
  rintro o h' ⟨rfl, hc1⟩
  obtain ⟨t1, I1, J1, P1, n1, sl1, rfl, L1, hn1a, hn1b, hs1a, hs1b, hj1⟩ := hL.h hc1
  show RA _ _ _ _ _ [Value.int _] _ _
  refine x_aload_n dL_law_319 rfl ?_
  refine x_aload_n dL_law_320 rfl ?_
  refine x_iload dL_law_321 rfl ?_
  refine x_iconst (v := nI 1) dL_law_323 (by decide) ?_
  refine x_iaddN dL_law_324 ?_
  refine x_ialdN dL_law_325 L1.2.2.2.2.2.2.1 (by omega) ?_ (hl := by omega)
  refine x_top (congrArg Value.int (show I1 63 ((6 * j) + 1) = sc ((6 * j) + 1) from (L1.2.2.2.2.2.2.2 _ (by omega)))) ?_
  refine x_aload_n dL_law_326 rfl ?_
  refine x_iload dL_law_327 rfl ?_
  refine x_iconst (v := nI 2) dL_law_329 (by decide) ?_
  refine x_iaddN dL_law_330 ?_
  refine x_ialdN dL_law_331 L1.2.2.2.2.2.2.1 (by omega) ?_ (hl := by omega)
  refine x_top (congrArg Value.int (show I1 63 ((6 * j) + 2) = sc ((6 * j) + 2) from (L1.2.2.2.2.2.2.2 _ (by omega)))) ?_
  refine x_invV 122 2 dL_law_332 (L1.1.T rfl) v0_37_5 (m_lines G (d + 11) (sc ((6 * j) + 1)) (sc ((6 * j) + 2)) σ ρ t1 I1 J1 P1 n1 sl1 L1.1 L1.2.1 L1.2.2.2.1 (by omega) (by omega)) ?_ (hB := by show n1 ≤ 601124; omega) (hS := by show sl1 ≤ 7293033; omega)
  rintro o h' ⟨rfl, I2, J2, rfl, hD2, hF2, hJ2, h02⟩
  have L2 := L1.m hD2 hF2
  refine x_icmp_eq 1003 dL_law_335 (by decide) (fun b335 => ?_) (fun b335 => absurd b335 (fun q => q rfl))
  refine x_iincN (c := 6) dL_law_1003 rfl (by decide) ?_
  refine x_goto 23 dL_law_1006 (by decide) ?_
  exact ih (by omega) t1 I2 J2 P1 n1 sl1 _ _ L2 (by omega) (by omega) (by omega) _ _
