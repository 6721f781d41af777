/-! the house: picks -/
set_option maxRecDepth 100000
set_option maxHeartbeats 8000000 in
theorem h_picks {G : GG} (d : Nat) {t : Nat → Option (Nat × Nat)} {J : Nat → Nat → Int64} {P : Nat → Nat → Value} {n sl : Nat} (hS : SH t P) {σ : Sg} {ρ : Rs} {y : Lay} (hσ : SgOK σ) (hρ : RsOK ρ) (h10 : cdN σ ≤ 10) (hB : n ≤ 601124) (hSl : sl ≤ 7293033) (c : Nat) : ∀ {I : Nat → Nat → Int32} {T fr k m : Nat}, CuH t I P σ ρ y → T < 2 ^ fr → fr ≤ cdN σ → cnB T (cdN σ) = k → k + c = m → m ≤ 10 → En I T → CA G (d + c + 5) M1_picks [.ref 100, .int (nI k), .int (nI fr), .int (nI m)] (t, I, J, P, n, sl) (fun o h' => ∃ r I', o = .inl (some (.int (nI r))) ∧ h' = (t, I', J, P, n, sl) ∧ PkF I I' k ∧ PkA σ ρ T fr c r I') := by
  induction c with
  | zero =>
    intro I T fr k m hC hT hfr hk hm hm10 hE
    have hml : cnB T (cdN σ) ≤ cdN σ := cnW_le _ _
    refine CA.w ?_
    show RA _ _ M1_picks 0 [.ref 100, .int (nI k), .int (nI fr), .int (nI m), U0] [] _ _
    refine x_iload_n d1_picks_0 rfl ?_
    refine x_iload_n d1_picks_1 rfl ?_
    refine x_icmp_neN 11 d1_picks_2 (by decide) (by omega) (by omega) (fun b2 => absurd b2 (by omega)) (fun b2 => ?_)
    refine x_aload_n d1_picks_5 rfl ?_
    refine x_iload_n d1_picks_6 rfl ?_
    refine x_invV 100 1 d1_picks_7 (hS.T rfl) v1_230_1 (show CA G _ M1_cures [.ref 100, .int (nI m)] _ _ by rw [← hm, ← hk]; exact h_cures (d := d) hS hσ hρ hC h10 (Nat.lt_of_lt_of_le hT (Nat.pow_le_pow_right (by decide) hfr)) hE hB hSl) ?_ (hB := hB) (hS := hSl)
    rintro o h' ⟨rfl, I1, rfl, hF1⟩
    have hbl := bP_lt (WelS σ ρ T)
    show RA _ _ _ _ _ [Value.int (nI (bP (WelS σ ρ T)))] _ _
    refine x_ireturn d1_picks_10 ?_ (hn := nar_b hbl)
    refine ⟨_, I1, rfl, rfl, ⟨fun b hb => hF1 b (fun e => hb (by simp only [List.mem_cons, List.not_mem_nil, or_false] at e ⊢; omega)), fun j _ => by rw [hF1 121 (by decide)]⟩, by omega, fun e S hx hw => ?_, fun e => ⟨T, Ext.rf hT hfr, bP_1.mp e, fun i hi => by rw [hF1 121 (by decide)]; exact hE i hi, fun S' hx _ => Or.inl (hx.same hT hfr)⟩⟩
    rw [hx.same hT hfr] at hw
    exact bP_0.mp e hw
  | succ c ihc =>
    intro I T fr k m hC hT hfr hk hm hm10 hE
    have hml : cnB T (cdN σ) ≤ cdN σ := cnW_le _ _
    refine CA.w ?_
    show RA _ _ M1_picks 0 [.ref 100, .int (nI k), .int (nI fr), .int (nI m), U0] [] _ _
    have h14 : ∀ i, i ≤ cdN σ → fr ≤ i → ∀ I1, PkF I I1 k → (∀ S, Ext σ T fr (c + 1) S → WelS σ ρ S → ∀ j, j < i → S.testBit j = T.testBit j) → RA G (d + (c + 1) + 5) M1_picks 14 [.ref 100, .int (nI k), .int (nI fr), .int (nI m), .int (nI i)] [] (t, I1, J, P, n, sl) (fun o h' => ∃ r I', o = .inl (some (.int (nI r))) ∧ h' = (t, I', J, P, n, sl) ∧ PkF I I' k ∧ PkA σ ρ T fr (c + 1) r I') := by
      refine up_ind ?_
      intro i hi_ ih hi I1 hF1 hno
      have hC1 := hC.keep hF1.1
      have hE1 : En I1 T := hE.keep (N := cdN σ) (Nat.lt_of_lt_of_le hT (Nat.pow_le_pow_right (by decide) hfr)) (fun j hj => hF1.2 j (by omega))
      refine x_iload d1_picks_14 rfl ?_
      refine x_aload_n d1_picks_16 rfl ?_
      refine x_getI d1_picks_17 f1_233 (hS.T rfl) ?_
      refine x_top (congrArg Value.int (show I1 100 19 = nI (cdN σ) from (hC1.2.2.2.1))) ?_
      refine x_icmp_geN 54 d1_picks_20 (by decide) (by omega) (by omega) (fun b20 => ?_) (fun b20 => ?_)
      · refine x_iconst (v := nI 0) d1_picks_54 (by decide) ?_
        exact x_ireturn d1_picks_55 ⟨0, I1, rfl, rfl, hF1, by decide, fun _ S hx hw => hx.end_ hT hfr (fun j hj => hno S hx hw j (by omega)), fun e => absurd e (by decide)⟩
      · refine x_aload_n d1_picks_23 rfl ?_
        refine x_getP d1_picks_24 f1_67 (hS.T rfl) (hS.P rfl) ?_
        refine x_iload_n d1_picks_27 rfl ?_
        refine x_iload d1_picks_28 rfl ?_
        refine x_iastN d1_picks_30 (hS.T rfl) (by omega) (fun I2 hI2 => ?_)
        refine x_aload_n d1_picks_31 rfl ?_
        refine x_iload_n d1_picks_32 rfl ?_
        refine x_iconst (v := nI 1) d1_picks_33 (by decide) ?_
        refine x_iaddN d1_picks_34 ?_
        refine x_iload d1_picks_35 rfl ?_
        refine x_iconst (v := nI 1) d1_picks_37 (by decide) ?_
        refine x_iaddN d1_picks_38 ?_
        refine x_iload_n d1_picks_39 rfl ?_
        have hTi : T < 2 ^ i := Nat.lt_of_lt_of_le hT (Nat.pow_le_pow_right (by decide) hi)
        have hF2 : ∀ b, b ∉ [112, 113, 114, 115, 121] → I2 b = I1 b := fun b hb => by rw [hI2, u2_row _ _ _ (by rintro rfl; revert hb; decide)]
        have hE2 : En I2 (T ||| 2 ^ i) := hE1.or (N := cdN σ) hTi b20 (by rw [hI2, hk])
        have hn2 := cnB_or hTi b20
        refine x_invV 100 3 d1_picks_40 (hS.T rfl) v1_236_1 (ihc (I := I2) (T := T ||| 2 ^ i) (fr := i + 1) (k := k + 1) (m := m) (hC1.keep hF2) (or2_lt (Nat.lt_of_lt_of_le hTi (Nat.pow_le_pow_right (by decide) (by omega))) (Nat.lt_succ_self i)) (by omega) (by omega) (by omega) (by omega) hE2) ?_ (hB := hB) (hS := hSl)
        rintro o h' ⟨r, I3, rfl, rfl, hF3, hA3⟩
        have hr1 := hA3.1
        have hF3' : PkF I I3 k := (hF1.trans ⟨fun b hb => hF2 b hb, fun j hj => by rw [hI2, u2_ne _ _ (by omega)]⟩).trans (hF3.mono (by omega))
        show RA _ _ _ _ _ [Value.int (nI r)] _ _
        refine x_if_eqN 48 d1_picks_43 (by decide) (by omega) (fun b43 => ?_) (fun b43 => ?_)
        · refine x_iincN (c := 1) d1_picks_48 rfl (by decide) ?_
          refine x_goto 14 d1_picks_51 (by decide) ?_
          exact ih (by omega) (by omega) I3 hF3' (fun S hx hw j hj => by
            have ha := hno S hx hw
            by_cases ej : j = i
            · subst ej
              rw [Nat.testBit_lt_two_pow hTi]
              cases hb : S.testBit j with
              | false => rfl
              | true => exact absurd hw (hA3.2.1 b43 S (hx.dn hT hi b20 ha hb))
            · exact ha j (by omega))
        · refine x_iconst (v := nI 1) d1_picks_46 (by decide) ?_
          refine x_ireturn d1_picks_47 ?_
          obtain ⟨S, x1, x2, x3, x4⟩ := hA3.2.2 (by omega)
          have hSi : S.testBit i = true := by rw [x1.2.1 i (Nat.lt_succ_self i), or2_bit]; simp
          refine ⟨1, I3, rfl, rfl, hF3', by decide, fun e => absurd e (by decide), fun _ => ⟨S, x1.up hT hi b20, x2, x3, fun S' hx' hw' => ?_⟩⟩
          have ha := hno S' hx' hw'
          cases hb : S'.testBit i with
          | true => exact x4 S' (hx'.dn hT hi b20 ha hb) hw'
          | false =>
            right
            exact ⟨i, hSi, hb, fun j hj => by rw [ha j hj, x1.2.1 j (by omega), or2_bit, decide_eq_false (by omega), Bool.or_false]⟩
    refine x_iload_n d1_picks_0 rfl ?_
    refine x_iload_n d1_picks_1 rfl ?_
    refine x_icmp_neN 11 d1_picks_2 (by decide) (by omega) (by omega) (fun b2 => ?_) (fun b2 => absurd b2 (by omega))
    refine x_iload_n d1_picks_11 rfl ?_
    refine x_istore d1_picks_12 ?_
    exact h14 fr (by omega) (Nat.le_refl _) I ⟨fun _ _ => rfl, fun _ _ => rfl⟩ (fun S hx _ j hj => hx.2.1 j hj)
