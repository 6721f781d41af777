/-! the house: cure -/
set_option maxRecDepth 100000
theorem HdS.cd {t : Nat → Option (Nat × Nat)} {P : Nat → Nat → Value} {I2 I : Nat → Nat → Int32} {σ : Sg} {ρ : Rs} {c : Nat} {f : Nat → Nat} (h : HdS t I2 P σ ρ) (hr : ∀ b, b ≠ 100 → b ≠ 120 → I b = I2 b) (hf : ∀ k, k ≠ 20 → I 100 k = I2 100 k) (hc : I 100 20 = nI c) (hc9 : c ≤ 10) (hcd : ∀ j, j < c → I 120 j = nI (f j)) : HdS t I P σ (rCd ρ c f) ∧ HFq I2 I := by
  obtain ⟨h1, h2, ⟨y, hP⟩, ⟨a1, a2, a3, a4, a5, a6, a7, a8, a9, a10⟩, h5⟩ := h
  refine ⟨⟨h1, ⟨h2.1, h2.2.1, h2.2.2.1, h2.2.2.2.1, h2.2.2.2.2.1, hc9, h2.2.2.2.2.2.2⟩, ⟨y, hP.fr (hf 5 (by decide)) (fun b hb => hr b (by omega) (by omega))⟩, ⟨(hf 1 (by decide)).trans a1, ?_, ?_, (hf 10 (by decide)).trans a4, fun e => (hf 12 (by decide)).trans (a5 e), (hf 11 (by decide)).trans a6, (hf 15 (by decide)).trans a7, ?_, hc, hcd⟩, h5.keep (hf 8 (by decide)) (fun b hb => hr b (by rintro rfl; revert hb; decide) (by rintro rfl; revert hb; decide))⟩, fun b hb => hr b (by omega) (by omega)⟩
  · rw [hr 101 (by decide) (by decide)]; exact a2
  · rw [hr 107 (by decide) (by decide)]; exact a3
  · rw [hr 118 (by decide) (by decide)]; exact a8
theorem qCure_0 {σ : Sg} {ρ : Rs} (h : nMis σ ρ = 0) : qCure σ ρ = (nI 0, rT (rCd ρ 0 (r_cd ρ)) 0) := if_pos h
theorem qCure_6 {σ : Sg} {ρ : Rs} (h : ¬ nMis σ ρ = 0) (h2 : 10 < cdN σ) : qCure σ ρ = (-1, rT ρ 6) := by unfold qCure; rw [if_neg h, if_pos h2]
theorem qCure_5 {σ : Sg} {ρ : Rs} (h : ¬ nMis σ ρ = 0) (h2 : ¬ 10 < cdN σ) (h3 : ¬ ∃ b, Bst σ ρ b) : qCure σ ρ = (-1, rT ρ 5) := by unfold qCure; rw [if_neg h, if_neg h2]; exact @if_neg _ (Classical.propDecidable _) h3 _ _ _
theorem qCure_t {σ : Sg} {ρ : Rs} {b : Nat} (h : ¬ nMis σ ρ = 0) (h2 : ¬ 10 < cdN σ) (h3 : Bst σ ρ b) : qCure σ ρ = (nI (pop b), rT (rCd ρ (pop b) (cdS σ b)) 0) := by unfold qCure; rw [if_neg h, if_neg h2, bsF_eq h3]; exact @if_pos _ (Classical.propDecidable _) ⟨b, h3⟩ _ _ _
/-- the first sets of c that cure -/
theorem pk_bst {σ : Sg} {ρ : Rs} {c S : Nat} (h10 : cdN σ ≤ 10) (hc : 1 ≤ c) (hx : Ext σ 0 0 c S) (hw : WelS σ ρ S) (hl : ∀ S', 1 ≤ S' → S' < 2 ^ cdN σ → WelS σ ρ S' → c ≤ pop S') (hm : ∀ S', Ext σ 0 0 c S' → WelS σ ρ S' → S' = S ∨ Ahd S S') : Bst σ ρ S ∧ pop S = c := by
  have h0 : cnB 0 (cdN σ) = 0 := cnB_hi (n := 0) (by decide) (Nat.zero_le _)
  have hp : pop S = c := by rw [← cnB_pop hx.1 (by omega), hx.2.2, h0]; omega
  refine ⟨⟨?_, hx.1, hw, fun S' a1 a2 a3 => ?_⟩, hp⟩
  · rcases Nat.eq_zero_or_pos S with z | z
    · rw [z] at hp; have : pop 0 = 0 := by decide
      omega
    · exact z
  · have h1 := hl S' a1 a2 a3
    by_cases e : pop S' = c
    · rcases hm S' ⟨a2, fun i hi => absurd hi (Nat.not_lt_zero _), by rw [cnB_pop a2 (by omega), e, h0]; omega⟩ a3 with z | z
      · exact Or.inl z
      · exact Or.inr (Or.inr ⟨by omega, z⟩)
    · exact Or.inr (Or.inl (by omega))
theorem pk_next {σ : Sg} {ρ : Rs} {c : Nat} (h10 : cdN σ ≤ 10) (hl : ∀ S', 1 ≤ S' → S' < 2 ^ cdN σ → WelS σ ρ S' → c ≤ pop S') (hm : ∀ S', Ext σ 0 0 c S' → ¬ WelS σ ρ S') : ∀ S', 1 ≤ S' → S' < 2 ^ cdN σ → WelS σ ρ S' → c + 1 ≤ pop S' := by
  intro S' a1 a2 a3
  have h0 : cnB 0 (cdN σ) = 0 := cnB_hi (n := 0) (by decide) (Nat.zero_le _)
  have h1 := hl S' a1 a2 a3
  by_cases e : pop S' = c
  · exact absurd a3 (hm S' ⟨a2, fun i hi => absurd hi (Nat.not_lt_zero _), by rw [cnB_pop a2 (by omega), e, h0]; omega⟩)
  · omega
theorem HSm.pk {I I' : Nat → Nat → Int32} (h : ∀ b, b ∉ [112, 113, 114, 115, 121] → I' b = I b) : HSm I I' :=
  ⟨fun b hb => h b (fun e => hb (by simp only [List.mem_cons, List.not_mem_nil, or_false] at e ⊢; omega)), fun k _ => by rw [h 100 (by decide)]⟩
theorem Fwn.pk {I I' : Nat → Nat → Int32} {σ : Sg} (hf : Fwn I σ) (h : ∀ b, b ∉ [112, 113, 114, 115, 121] → I' b = I b) : Fwn I' σ :=
  hf.keep (by rw [h 100 (by decide)]) (fun b hb => h b (fun e => by simp only [List.mem_cons, List.not_mem_nil, or_false] at e hb; omega))
set_option maxHeartbeats 4000000 in
theorem h_cure (G : GG) (d : Nat)  (σ : Sg) (ρ : Rs) : HQ G (d + 16) M1_cure [.ref 100] σ ρ ((qCure σ ρ).1) σ ((qCure σ ρ).2) := by
  intro t I J P n sl hS hD hB hSl
  have hσ := hD.1
  have hρ := hD.2.1
  obtain ⟨y, hP⟩ := hD.2.2.1
  have hR := hD.2.2.2.1
  have hF := hD.2.2.2.2
  have hnp := hσ.1
  by_cases h0 : nMis σ ρ = 0
  · rw [qCure_0 h0]
    refine CA.w ?_
    show RA _ _ M1_cure 0 [.ref 100, U0, U0, U0, U0] [] _ _
    refine x_aload_n d1_cure_0 rfl ?_
    refine x_invV 100 0 d1_cure_1 (hS.T rfl) v1_91_1 (h_begins _ hS) (Cont.ev ?_) (hB := hB) (hS := hSl)
    obtain ⟨I1, hI1⟩ : ∃ z, z = u2 (u2 I 100 10 (nI 0)) 100 12 (-1) := ⟨_, rfl⟩
    rw [← hI1]
    obtain ⟨hD0, hq0⟩ := hD.bg hI1
    have hρ := hD0.2.1
    obtain ⟨y, hP⟩ := hD0.2.2.1
    have hR := hD0.2.2.2.1
    have hF := hD0.2.2.2.2
    refine x_aload_n d1_cure_4 rfl ?_
    refine x_aload_n d1_cure_5 rfl ?_
    refine x_invV 100 0 d1_cure_6 (hS.T rfl) v1_156_1 (h_flow _ hS hσ hP hF hB hSl) ?_ (hB := hB) (hS := hSl)
    rintro o h' ⟨rfl, I2, rfl, hsI2, hfwI2⟩
    have hsmI2 : HSm I1 I2 := (HSm.rf _).trans hsI2
    refine x_invV 100 1 d1_cure_9 (hS.T rfl) v1_180_1 (h_misuses _ hS (FlT.f hS) (h := dr σ) (m := r_mt ρ) (fun e he => ⟨(hfwI2.2.2.1 e he).trans (by rw [fin7_d he]), dr_lt σ e⟩) (hsmI2.hr hR).2.2.1 hB hSl) (Cont.p ?_) (hB := hB) (hS := hSl)
    refine x_top (show _ = Value.int (nI (nMis σ ρ)) by rw [mis_sum (σ := σ) (r_mt ρ) (fun _ _ => rfl)]; rfl) ?_
    have hnm0 := nMis_le σ ρ
    refine x_if_neN 22 d1_cure_12 (by decide) (by omega) (fun b12 => absurd b12 (fun q => q h0)) (fun b12 => ?_)
    refine x_aload_n d1_cure_15 rfl ?_
    refine x_iconst (v := nI 0) d1_cure_16 (by decide) ?_
    refine x_putIE d1_cure_17 p1_239 (hS.T rfl) (fun I3 hI3 => ?_)
    refine x_iconst (v := nI 0) d1_cure_20 (by decide) ?_
    refine x_ireturn d1_cure_21 ?_
    have hcd := HdS.cd (I := I3) (c := 0) (f := r_cd ρ) (hsmI2.hds hfwI2 hD0) (fun b h1 _ => by rw [hI3, u2_row _ _ _ h1]) (fun k hk => by rw [hI3, u2_ne _ _ hk]) (by rw [hI3, u2_self]) (by decide) (fun j hj => absurd hj (Nat.not_lt_zero _))
    exact ⟨rfl, I3, rfl, hcd.1, hq0.trans (hsmI2.fq.trans hcd.2)⟩
  · refine CA.w ?_
    show RA _ _ M1_cure 0 [.ref 100, U0, U0, U0, U0] [] _ _
    refine x_aload_n d1_cure_0 rfl ?_
    refine x_invV 100 0 d1_cure_1 (hS.T rfl) v1_91_1 (h_begins _ hS) (Cont.ev ?_) (hB := hB) (hS := hSl)
    obtain ⟨I1, hI1⟩ : ∃ z, z = u2 (u2 I 100 10 (nI 0)) 100 12 (-1) := ⟨_, rfl⟩
    rw [← hI1]
    obtain ⟨hD0, hq0⟩ := hD.bg hI1
    have hρ := hD0.2.1
    obtain ⟨y, hP⟩ := hD0.2.2.1
    have hR := hD0.2.2.2.1
    have hF := hD0.2.2.2.2
    refine x_aload_n d1_cure_4 rfl ?_
    refine x_aload_n d1_cure_5 rfl ?_
    refine x_invV 100 0 d1_cure_6 (hS.T rfl) v1_156_1 (h_flow _ hS hσ hP hF hB hSl) ?_ (hB := hB) (hS := hSl)
    rintro o h' ⟨rfl, I2, rfl, hsI2, hfwI2⟩
    have hsmI2 : HSm I1 I2 := (HSm.rf _).trans hsI2
    refine x_invV 100 1 d1_cure_9 (hS.T rfl) v1_180_1 (h_misuses _ hS (FlT.f hS) (h := dr σ) (m := r_mt ρ) (fun e he => ⟨(hfwI2.2.2.1 e he).trans (by rw [fin7_d he]), dr_lt σ e⟩) (hsmI2.hr hR).2.2.1 hB hSl) (Cont.p ?_) (hB := hB) (hS := hSl)
    refine x_top (show _ = Value.int (nI (nMis σ ρ)) by rw [mis_sum (σ := σ) (r_mt ρ) (fun _ _ => rfl)]; rfl) ?_
    have hnm0 := nMis_le σ ρ
    refine x_if_neN 22 d1_cure_12 (by decide) (by omega) (fun b12 => ?_) (fun b12 => absurd b12 h0)
    refine x_aload_n d1_cure_22 rfl ?_
    refine x_iconst (v := nI 0) d1_cure_23 (by decide) ?_
    refine x_putIE d1_cure_24 p1_233 (hS.T rfl) (fun I3 hI3 => ?_)
    have hsmI3 : HSm I1 I3 := hsmI2.trans (HSm.c hI3 (by decide))
    have hfwI3 : Fwn I3 σ := hfwI2.keep (by rw [hI3, u2_ne _ _ (by decide)]) (fun b hb => by rw [hI3, u2_row _ _ _ (fun e => by rw [e] at hb; revert hb; decide)])
    refine x_iconst (v := nI 0) d1_cure_27 (by decide) ?_
    refine x_istore_n d1_cure_28 ?_
    refine x_iconst (v := nI 0) d1_cure_29 (by decide) ?_
    refine x_istore_n d1_cure_30 ?_
    have hcp : ∀ c, 1 ≤ c → c ≤ 10 → ∀ I8, HSm I1 I8 → Fwn I8 σ → (∀ j, j < cdN σ → I8 119 j = nI (cod (cdI σ j))) → ∀ S, Bst σ ρ S → pop S = c → En I8 S → ∀ k, k ≤ c → ∀ I7, (∀ b, b ≠ 100 → b ≠ 120 → I7 b = I8 b) → (∀ k, k ≠ 20 → I7 100 k = I8 100 k) → I7 100 20 = nI c → (∀ j, j < k → I7 120 j = nI (cdS σ S j)) → ∀ v4, cdN σ ≤ 10 → RA G (d + 16) M1_cure 174 [.ref 100, .int (nI (cdN σ)), .int (nI c), .int (nI k), v4] [] (t, I7, J, P, n, sl) (fun o h' => o = .inl (some (.int ((qCure σ ρ).1))) ∧ ∃ I', h' = (t, I', J, P, n, sl) ∧ HdS t I' P σ ((qCure σ ρ).2) ∧ HFq I I') := by
      intro c hc1 hc9 I8 hsm8 hfw8 hma S hBst hpS hE
      refine up_ind ?_
      intro k hk_ ih I7 hr7 hf7 hc7 hd7 v4 h10
      refine x_iload_n d1_cure_174 rfl ?_
      refine x_iload_n d1_cure_175 rfl ?_
      refine x_icmp_geN 202 d1_cure_176 (by decide) (by omega) (by omega) (fun b176 => ?_) (fun b176 => ?_)
      · refine x_iload_n d1_cure_202 rfl ?_
        refine x_ireturn d1_cure_203 ?_
        have hke : k = c := by omega
        subst hke
        have hcd := HdS.cd (c := k) (f := cdS σ S) (hsm8.hds hfw8 hD0) hr7 hf7 hc7 (by omega) hd7
        rw [qCure_t h0 (by omega) hBst, hpS]
        exact ⟨rfl, I7, rfl, hcd.1, hq0.trans (hsm8.fq.trans hcd.2)⟩
      · have hpn : cnB S (cdN σ) = c := by rw [cnB_pop hBst.2.1 (by omega)]; exact hpS
        obtain ⟨i, hi1, hi2, hi3⟩ := pk_ex (show k < cnB S (cdN σ) by omega)
        refine x_aload_n d1_cure_179 rfl ?_
        refine x_getP d1_cure_180 f1_64 (hS.T rfl) (hS.P rfl) ?_
        refine x_iload_n d1_cure_183 rfl ?_
        refine x_aload_n d1_cure_184 rfl ?_
        refine x_getP d1_cure_185 f1_61 (hS.T rfl) (hS.P rfl) ?_
        refine x_aload_n d1_cure_188 rfl ?_
        refine x_getP d1_cure_189 f1_67 (hS.T rfl) (hS.P rfl) ?_
        refine x_iload_n d1_cure_192 rfl ?_
        refine x_ialdN d1_cure_193 (hS.T rfl) (by omega) ?_
        refine x_top (congrArg Value.int (show I7 121 k = nI i from (show I7 121 k = nI i by rw [hr7 121 (by decide) (by decide), ← hi3]; exact hE i hi2))) ?_
        refine x_ialdN d1_cure_194 (hS.T rfl) (by omega) ?_
        refine x_top (congrArg Value.int (show I7 119 i = nI (cod (cdI σ i)) from (show I7 119 i = nI (cod (cdI σ i)) by rw [hr7 119 (by decide) (by decide)]; exact hma i hi1))) ?_
        refine x_iastN d1_cure_195 (hS.T rfl) (by omega) (fun I31 hI31 => ?_)
        refine x_iincN (c := 1) d1_cure_196 rfl (by decide) ?_
        refine x_goto 174 d1_cure_199 (by decide) ?_
        exact ih (by omega) I31 (fun b h1 h2 => by rw [hI31, u2_row _ _ _ h2]; exact hr7 b h1 h2) (fun k hk => by rw [hI31, u2_row _ _ _ (by decide)]; exact hf7 k hk) (by rw [hI31, u2_row _ _ _ (by decide)]; exact hc7) (fun j hj => by
          rw [hI31, u2_at]
          by_cases ej : j = k
          · rw [if_pos ej, ej, ← hi3, cdS_eq hi2]
          · rw [if_neg ej]; exact hd7 j (by omega)) _ h10
    have hns : cdN σ ≤ 10 → ∀ c, c ≤ cdN σ + 1 → 1 ≤ c → ∀ I9, HSm I1 I9 → Fwn I9 σ → I9 100 19 = nI (cdN σ) → (∀ j, j < cdN σ → I9 119 j = nI (cod (cdI σ j))) → (∀ S', 1 ≤ S' → S' < 2 ^ cdN σ → WelS σ ρ S' → c ≤ pop S') → ∀ v3 v4, RA G (d + 16) M1_cure 146 [.ref 100, .int (nI (cdN σ)), .int (nI c), v3, v4] [] (t, I9, J, P, n, sl) (fun o h' => o = .inl (some (.int ((qCure σ ρ).1))) ∧ ∃ I', h' = (t, I', J, P, n, sl) ∧ HdS t I' P σ ((qCure σ ρ).2) ∧ HFq I I') := by
      intro h10
      refine up_ind ?_
      intro c hc_ ih hc1 I9 hsm9 hfw9 hmm hma hl v3 v4
      refine x_iload_n d1_cure_146 rfl ?_
      refine x_aload_n d1_cure_147 rfl ?_
      refine x_getI d1_cure_148 f1_233 (hS.T rfl) ?_
      refine x_top (congrArg Value.int (show I9 100 19 = nI (cdN σ) from hmm)) ?_
      refine x_icmp_gtN 210 d1_cure_151 (by decide) (by omega) (by omega) (fun b151 => ?_) (fun b151 => ?_)
      · rw [qCure_5 h0 (by omega) (fun ⟨S, hS1⟩ => by
          have h1 := hl S hS1.1 hS1.2.1 hS1.2.2.1
          rw [← cnB_pop hS1.2.1 (by omega)] at h1
          have h2 : cnB S (cdN σ) ≤ cdN σ := cnW_le _ _
          omega)]
        refine x_aload_n d1_cure_210 rfl ?_
        refine x_iconst (v := nI 5) d1_cure_211 (by decide) ?_
        refine x_invV 100 1 d1_cure_212 (hS.T rfl) v1_95_1 (h_no _ hS (k := 5)) (Cont.e ?_) (hB := hB) (hS := hSl)
        have hno_ := HdS.no (k := 5) (hsm9.hds hfw9 hD0) rfl (by decide) (by decide)
        exact x_ireturn d1_cure_215 ⟨rfl, u2 I9 100 10 (nI 5), rfl, hno_.1, (hq0.trans hsm9.fq).trans hno_.2⟩
      · refine x_aload_n d1_cure_154 rfl ?_
        refine x_iconst (v := nI 0) d1_cure_155 (by decide) ?_
        refine x_iconst (v := nI 0) d1_cure_156 (by decide) ?_
        refine x_iload_n d1_cure_157 rfl ?_
        have hCu : CuH t I9 P σ (rT ρ 0) y := ⟨hsm9.hp hP, hfw9, hsm9.hr hR, hmm, hma⟩
        refine x_invV 100 3 d1_cure_158 (hS.T rfl) v1_236_1 (show CA G (d + 15) M1_picks [.ref 100, .int (nI 0), .int (nI 0), .int (nI c)] _ _ by rw [show d + 15 = (d + (10 - c)) + c + 5 by omega]; exact h_picks (d + (10 - c)) hS hσ hρ h10 hB hSl c (I := I9) (T := 0) (fr := 0) (k := 0) (m := c) hCu (by decide) (Nat.zero_le _) (cnB_hi (n := 0) (by decide) (Nat.zero_le _)) (by omega) (by omega) (En.zero I9)) ?_ (hB := hB) (hS := hSl)
        rintro o h' ⟨r, I8, rfl, rfl, hF8, hA8⟩
        have hr1 := hA8.1
        have hsm8 : HSm I1 I8 := hsm9.trans (HSm.pk hF8.1)
        have hfw8 : Fwn I8 σ := hfw9.pk hF8.1
        show RA _ _ _ _ _ [Value.int (nI r)] _ _
        refine x_if_neN 167 d1_cure_161 (by decide) (by omega) (fun b161 => ?_) (fun b161 => ?_)
        · refine x_aload_n d1_cure_167 rfl ?_
          refine x_iload_n d1_cure_168 rfl ?_
          refine x_putIE d1_cure_169 p1_239 (hS.T rfl) (fun I21 hI21 => ?_)
          refine x_iconst (v := nI 0) d1_cure_172 (by decide) ?_
          refine x_istore_n d1_cure_173 ?_
          obtain ⟨S, x1, x2, x3, x4⟩ := hA8.2.2 (by omega)
          obtain ⟨hBst, hpS⟩ := pk_bst h10 hc1 x1 x2 hl x4
          exact hcp c hc1 (by omega) I8 hsm8 hfw8 (by rw [hF8.1 119 (by decide)]; exact hma) S hBst hpS x3 0 (Nat.zero_le _) I21 (fun b h1 _ => by rw [hI21, u2_row _ _ _ h1]) (fun k hk => by rw [hI21, u2_ne _ _ hk]) (by rw [hI21, u2_self]) (fun j hj => absurd hj (Nat.not_lt_zero _)) _ h10
        · refine x_goto 204 d1_cure_164 (by decide) ?_
          refine x_iincN (c := 1) d1_cure_204 rfl (by decide) ?_
          refine x_goto 146 d1_cure_207 (by decide) ?_
          exact ih (by omega) (by omega) I8 hsm8 hfw8 (by rw [hF8.1 100 (by decide)]; exact hmm) (by rw [hF8.1 119 (by decide)]; exact hma) (pk_next h10 hl (hA8.2.1 (by omega))) _ _
    have hfin : ∀ I9 m, HSm I1 I9 → Fwn I9 σ → (I9 100 19 = nI m ∧ m = min 10 (cnW (cdW σ) (16 * s_np σ)) ∧ ∀ x, x < 16 * s_np σ → cdW σ x = true → cnW (cdW σ) x < 10 → I9 119 (cnW (cdW σ) x) = nI (cod x)) → ∀ v3 v4, RA G (d + 16) M1_cure 131 [.ref 100, .int (nI (cdN σ)), .int (nI (s_np σ)), v3, v4] [] (t, I9, J, P, n, sl) (fun o h' => o = .inl (some (.int ((qCure σ ρ).1))) ∧ ∃ I', h' = (t, I', J, P, n, sl) ∧ HdS t I' P σ ((qCure σ ρ).2) ∧ HFq I I') := by
      intro I9 m hsm9 hfw9 hI v3 v4
      have hcdl : cdN σ ≤ 160 := Nat.le_trans (cnW_le _ _) (by omega)
      refine x_iload_n d1_cure_131 rfl ?_
      refine x_bipush (v := nI 10) d1_cure_132 (by decide) ?_
      refine x_icmp_leN 144 d1_cure_134 (by decide) (by omega) (by omega) (fun b134 => ?_) (fun b134 => ?_)
      · refine x_iconst (v := nI 1) d1_cure_144 (by decide) ?_
        refine x_istore_n d1_cure_145 ?_
        have hmc : m = cdN σ := by have := hI.2.1; have e : cdN σ = cnW (cdW σ) (16 * s_np σ) := rfl; omega
        subst hmc
        exact hns (by omega) 1 (by omega) (Nat.le_refl _) I9 hsm9 hfw9 hI.1 (fun j hj => by
          have h1 := cdI_ok hj
          have h2 := hI.2.2 (cdI σ j) h1.1 h1.2.1 (by omega)
          rw [h1.2.2] at h2; exact h2) (fun S h1 h2 h3 => by
            rcases Nat.eq_zero_or_pos (pop S) with z | z
            · have := (pop0 (Nat.lt_of_lt_of_le h2 (Nat.pow_le_pow_right (n := 2) (j := 16) (by decide) (by omega)))).mp z
              omega
            · exact z) _ _
      · rw [qCure_6 h0 (show 10 < cdN σ from b134)]
        refine x_aload_n d1_cure_137 rfl ?_
        refine x_bipush (v := nI 6) d1_cure_138 (by decide) ?_
        refine x_invV 100 1 d1_cure_140 (hS.T rfl) v1_95_1 (h_no _ hS (k := 6)) (Cont.e ?_) (hB := hB) (hS := hSl)
        have hno_ := HdS.no (k := 6) (hsm9.hds hfw9 hD0) rfl (by decide) (by decide)
        exact x_ireturn d1_cure_143 ⟨rfl, u2 I9 100 10 (nI 6), rfl, hno_.1, (hq0.trans hsm9.fq).trans hno_.2⟩
    have hin : ∀ p, p < s_np σ → (p < s_np σ → ∀ I9 m, HSm I1 I9 → Fwn I9 σ → (I9 100 19 = nI m ∧ m = min 10 (cnW (cdW σ) (16 * (p + 1))) ∧ ∀ x, x < 16 * (p + 1) → cdW σ x = true → cnW (cdW σ) x < 10 → I9 119 (cnW (cdW σ) x) = nI (cod x)) → ∀ v3 v4, RA G (d + 16) M1_cure 31 [.ref 100, .int (nI (cnW (cdW σ) (16 * (p + 1)))), .int (nI ((p + 1))), v3, v4] [] (t, I9, J, P, n, sl) (fun o h' => o = .inl (some (.int ((qCure σ ρ).1))) ∧ ∃ I', h' = (t, I', J, P, n, sl) ∧ HdS t I' P σ ((qCure σ ρ).2) ∧ HFq I I')) → ∀ r, r ≤ 16 → ∀ I9 m, HSm I1 I9 → Fwn I9 σ → (I9 100 19 = nI m ∧ m = min 10 (cnW (cdW σ) (16 * p + r)) ∧ ∀ x, x < 16 * p + r → cdW σ x = true → cnW (cdW σ) x < 10 → I9 119 (cnW (cdW σ) x) = nI (cod x)) → RA G (d + 16) M1_cure 65 [.ref 100, .int (nI (cnW (cdW σ) (16 * (p + 1)))), .int (nI p), .int (nI (s_gr σ p &&& ndF σ p)), .int (nI r)] [] (t, I9, J, P, n, sl) (fun o h' => o = .inl (some (.int ((qCure σ ρ).1))) ∧ ∃ I', h' = (t, I', J, P, n, sl) ∧ HdS t I' P σ ((qCure σ ρ).2) ∧ HFq I I') := by
      intro p hp ihp
      have hcl : cnW (cdW σ) (16 * (p + 1)) ≤ 160 := Nat.le_trans (cnW_le _ _) (by omega)
      refine up_ind ?_
      intro r hr_ ih I9 m hsm9 hfw9 hI
      have hm10 := hI.2.1
      refine x_iload d1_cure_65 rfl ?_
      refine x_bipush (v := nI 16) d1_cure_67 (by decide) ?_
      refine x_icmp_geN 125 d1_cure_69 (by decide) (by omega) (by omega) (fun b69 => ?_) (fun b69 => ?_)
      · refine x_iincN (c := 1) d1_cure_125 rfl (by decide) ?_
        refine x_goto 31 d1_cure_128 (by decide) ?_
        have hr16 : r = 16 := by omega
        subst hr16
        exact ihp hp I9 m hsm9 hfw9 (by rw [show 16 * (p + 1) = 16 * p + 16 by omega]; exact hI) _ _
      · have e1 : (16 * p + r) / 16 = p := by omega
        have e2 : (16 * p + r) % 16 = r := by omega
        have eW : cdW σ (16 * p + r) = (s_gr σ p &&& ndF σ p).testBit r := by unfold cdW; rw [e1, e2]
        have hgn : s_gr σ p &&& ndF σ p < 65536 := and_lt (hσ.gr hp)
        refine x_iload_n d1_cure_72 rfl ?_
        refine x_iload d1_cure_73 rfl ?_
        refine x_ishrN d1_cure_75 (by omega) (by omega) ?_
        refine x_iconst (v := nI 1) d1_cure_76 (by decide) ?_
        refine x_tbN d1_cure_77 ?_
        have htb_ := tb_lt (s_gr σ p &&& ndF σ p) r
        refine x_if_eqN 119 d1_cure_78 (by decide) (by omega) (fun b78 => ?_) (fun b78 => ?_)
        · refine x_iincN (c := 1) d1_cure_119 rfl (by decide) ?_
          refine x_goto 65 d1_cure_122 (by decide) ?_
          have hWf : cdW σ (16 * p + r) = false := by rw [eW]; exact tb0.mp (by omega)
          exact ih (by omega) I9 m hsm9 hfw9 ⟨hI.1, by rw [← Nat.add_assoc, cnW_f hWf]; exact hI.2.1, fun x hx hw hc => by by_cases ex : x = 16 * p + r; rw [ex, hWf] at hw; cases hw; exact hI.2.2 x (by omega) hw hc⟩
        · refine x_aload_n d1_cure_81 rfl ?_
          refine x_getI d1_cure_82 f1_233 (hS.T rfl) ?_
          refine x_top (congrArg Value.int (show I9 100 19 = nI m from hI.1)) ?_
          refine x_bipush (v := nI 10) d1_cure_85 (by decide) ?_
          refine x_icmp_neN 93 d1_cure_87 (by decide) (by omega) (by omega) (fun b87 => ?_) (fun b87 => ?_)
          · refine x_aload_n d1_cure_93 rfl ?_
            refine x_getP d1_cure_94 f1_61 (hS.T rfl) (hS.P rfl) ?_
            refine x_aload_n d1_cure_97 rfl ?_
            refine x_getI d1_cure_98 f1_233 (hS.T rfl) ?_
            refine x_top (congrArg Value.int (show I9 100 19 = nI m from hI.1)) ?_
            refine x_bipush (v := nI 100) d1_cure_101 (by decide) ?_
            refine x_iload_n d1_cure_103 rfl ?_
            refine x_imulN d1_cure_104 ?_
            refine x_iload d1_cure_105 rfl ?_
            refine x_iaddN d1_cure_107 ?_
            refine x_iastN d1_cure_108 (hS.T rfl) (by omega) (fun I21 hI21 => ?_)
            have hsmI21 : HSm I1 I21 := hsm9.trans (HSm.u hI21 (by decide))
            have hfwI21 : Fwn I21 σ := hfw9.keep (by rw [hI21, u2_row _ _ _ (by decide)]) (fun b hb => by rw [hI21, u2_row _ _ _ (fun e => by rw [e] at hb; revert hb; decide)])
            refine x_aload_n d1_cure_109 rfl ?_
            refine x_dup d1_cure_110 rfl ?_
            refine x_getI d1_cure_111 f1_233 (hS.T rfl) ?_
            refine x_top (congrArg Value.int (show I21 100 19 = nI m from (by rw [hI21, u2_row _ _ _ (by decide)]; exact hI.1))) ?_
            refine x_iconst (v := nI 1) d1_cure_114 (by decide) ?_
            refine x_iaddN d1_cure_115 ?_
            refine x_putIE d1_cure_116 p1_233 (hS.T rfl) (fun I22 hI22 => ?_)
            have hsmI22 : HSm I1 I22 := hsmI21.trans (HSm.c hI22 (by decide))
            have hfwI22 : Fwn I22 σ := hfwI21.keep (by rw [hI22, u2_ne _ _ (by decide)]) (fun b hb => by rw [hI22, u2_row _ _ _ (fun e => by rw [e] at hb; revert hb; decide)])
            refine x_iincN (c := 1) d1_cure_119 rfl (by decide) ?_
            refine x_goto 65 d1_cure_122 (by decide) ?_
            have hWt : cdW σ (16 * p + r) = true := by rw [eW]; exact tb_ne0.mp (by omega)
            have hm9 := hI.2.1
            have hmc : m = cnW (cdW σ) (16 * p + r) := by omega
            exact ih (by omega) I22 (m + 1) hsmI22 hfwI22 ⟨by rw [hI22, u2_self], by rw [← Nat.add_assoc, cnW_t hWt]; omega, fun x hx hw hc => by
              rw [hI22, u2_row _ _ _ (by decide), hI21, u2_at]
              by_cases ex : x = 16 * p + r
              · rw [if_pos (by rw [ex, hmc]), ex]; unfold cod; rw [e1, e2]
              · have := cnW_lt (W := cdW σ) (x := x) (y := 16 * p + r) (by omega) hw
                rw [if_neg (by omega)]; exact hI.2.2 x (by omega) hw hc⟩
          · refine x_goto 119 d1_cure_90 (by decide) ?_
            refine x_iincN (c := 1) d1_cure_119 rfl (by decide) ?_
            refine x_goto 65 d1_cure_122 (by decide) ?_
            have hWt : cdW σ (16 * p + r) = true := by rw [eW]; exact tb_ne0.mp (by omega)
            have hm9 := hI.2.1
            exact ih (by omega) I9 m hsm9 hfw9 ⟨hI.1, by rw [← Nat.add_assoc, cnW_t hWt]; omega, fun x hx hw hc => by
              by_cases ex : x = 16 * p + r
              · rw [ex] at hc; omega
              · exact hI.2.2 x (by omega) hw hc⟩
    have hout : ∀ p, p ≤ s_np σ → ∀ I9 m, HSm I1 I9 → Fwn I9 σ → (I9 100 19 = nI m ∧ m = min 10 (cnW (cdW σ) (16 * p)) ∧ ∀ x, x < 16 * p → cdW σ x = true → cnW (cdW σ) x < 10 → I9 119 (cnW (cdW σ) x) = nI (cod x)) → ∀ v3 v4, RA G (d + 16) M1_cure 31 [.ref 100, .int (nI (cnW (cdW σ) (16 * p))), .int (nI p), v3, v4] [] (t, I9, J, P, n, sl) (fun o h' => o = .inl (some (.int ((qCure σ ρ).1))) ∧ ∃ I', h' = (t, I', J, P, n, sl) ∧ HdS t I' P σ ((qCure σ ρ).2) ∧ HFq I I') := by
      refine up_ind ?_
      intro p hp_ ih I9 m hsm9 hfw9 hI v3 v4
      refine x_iload_n d1_cure_31 rfl ?_
      refine x_aload_n d1_cure_32 rfl ?_
      refine x_getI d1_cure_33 f1_73 (hS.T rfl) ?_
      refine x_top (congrArg Value.int (show I9 100 5 = nI (s_np σ) from (hsm9.hp hP).1)) ?_
      refine x_icmp_geN 131 d1_cure_36 (by decide) (by omega) (by omega) (fun b36 => ?_) (fun b36 => ?_)
      · have hpe : p = s_np σ := by omega
        subst hpe
        exact hfin I9 m hsm9 hfw9 hI _ _
      · have hp : p < s_np σ := b36
        refine x_aload_n d1_cure_39 rfl ?_
        refine x_getP d1_cure_40 f1_24 (hS.T rfl) (hS.P rfl) ?_
        refine x_iload_n d1_cure_43 rfl ?_
        refine x_aald5N d1_cure_44 (hS.T rfl) (by omega) ((hsm9.hp hP).at_ hp) ?_
        refine x_getI d1_cure_45 f1_100 ((hsm9.hp hP).ty hp) ?_
        refine x_top (congrArg Value.int (show I9 (y.1 p) 0 = nI (s_gr σ p) from ((hsm9.hp hP).gr hp))) ?_
        have hgr_ := hσ.gr hp
        refine x_aload_n d1_cure_48 rfl ?_
        refine x_iload_n d1_cure_49 rfl ?_
        refine x_invV 100 1 d1_cure_50 (hS.T rfl) v1_220_1 (h_needsF _ hS hσ (hsm9.hp hP) hfw9 hp hB hSl) (Cont.p ?_) (hB := hB) (hS := hSl)
        refine x_iandN d1_cure_53 ?_
        refine x_istore_n d1_cure_54 ?_
        refine x_iload_n d1_cure_55 rfl ?_
        refine x_iload_n d1_cure_56 rfl ?_
        refine x_invS 1 d1_cure_57 s1_174 (h_ones G _ _ ((s_gr σ p) &&& (ndF σ p)) (and_lt (hσ.gr hp))) (Cont.p ?_) (hB := hB) (hS := hSl)
        have hpop_ := pop_le ((s_gr σ p) &&& (ndF σ p))
        refine x_iaddN d1_cure_60 ?_
        refine x_istore_n d1_cure_61 ?_
        refine x_iconst (v := nI 0) d1_cure_62 (by decide) ?_
        refine x_istore d1_cure_63 ?_
        rw [← cd_sum]
        exact hin p hp ih 0 (Nat.zero_le _) I9 m hsm9 hfw9 hI
    exact hout 0 (Nat.zero_le _) I3 0 hsmI3 hfwI3 ⟨by rw [hI3, u2_self], rfl, fun x hx => absurd hx (Nat.not_lt_zero _)⟩ _ _
