/-! the house: step, and the law that catches -/
set_option maxRecDepth 100000
set_option maxHeartbeats 4000000 in
theorem h_step {G : GG} (hst : (g_l G).stackTraces = false) (d : Nat) (v : Int32) (σ : Sg) (ρ : Rs) : ∀ (t : Nat → Option (Nat × Nat)) (I : Nat → Nat → Int32) (J : Nat → Nat → Int64) (P : Nat → Nat → Value) (n sl : Nat), SH t P → HdS t I P σ ρ → TyB t n → 144 ≤ n → n + 1 ≤ 601124 → sl + 6 ≤ 7293033 → CA G (d + 6) M1_step [.ref 100, .int v] (t, I, J, P, n, sl) (fun o h' => ((qThr ρ v = 0 ∧ o = .inl (some (.int (qStep ρ v)))) ∨ (qThr ρ v = 1 ∧ o = .inr n ∧ a_t h' n = some (16, 0))) ∧ HCn t σ ρ 1 6 I J n sl h') := by
  intro t I J P n sl hS hD hT hn hB0 hSl0
  have hB : n ≤ 601124 := by omega
  have hSl : sl ≤ 7293033 := by omega
  have hσ := hD.1
  have hρ := hD.2.1
  obtain ⟨y, hP⟩ := hD.2.2.1
  have hR := hD.2.2.2.1
  have hF := hD.2.2.2.2
  have hnp := hσ.1
  have hsn := hρ.2.2.2.2.1
  rcases ix_cases v (n := r_sn ρ) (by omega) with ⟨hv, e⟩ | ⟨p, hp, rfl, hv, e⟩
  · refine CA.w ?_
    show RA _ _ M1_step 0 [.ref 100, .int v] [] _ _
    refine x_iload_n d1_step_0 rfl ?_
    refine x_iconst (v := nI 0) d1_step_1 (by decide) ?_
    refine x_aload_n d1_step_2 rfl ?_
    refine x_getI d1_step_3 f1_203 (hS.T rfl) ?_
    refine x_top (congrArg Value.int (show I 100 15 = nI (r_sn ρ) from hR.2.2.2.2.2.2.1)) ?_
    have hsn_ := hρ.2.2.2.2.1
    refine x_iconst (v := nI 1) d1_step_6 (by decide) ?_
    refine x_isub d1_step_7 ?_
    refine x_invS 3 d1_step_8 s1_76 (h_in G _ _ (v) (nI 0) ((nI (r_sn ρ)) - (nI 1))) (Cont.p ?_) (hB := hB) (hS := hSl)
    refine x_top (congrArg Value.int (b2i_f (fun z => hv ((ix_pm (by omega)).mp z)))) ?_
    refine x_if_ne 22 d1_step_11 (by decide) (fun b11 => absurd b11 (by decide)) (fun b11 => ?_)
    refine x_thrNew hst (by omega) (by omega) (by omega) (fun t1 I1 J1 P1 ht hI hJ hP' => ?_)
    obtain ⟨P0, hP0⟩ : ∃ z, z = r1 P n Value.null := ⟨_, rfl⟩
    have gw : Gw t I J P n t1 I1 J1 P1 (n + 1) := ((((Gw.rf (I := I) (J := J) (P := P) hT).new ht hI hJ rfl).up rfl (Nat.le_refl n)).up rfl (Nat.le_refl n)).up hP' (Nat.le_refl n)
    refine x_athrow d1_step_21 ⟨by omega, Or.inl ⟨rfl, Or.inr ⟨by simp only [qThr, e], rfl, ?_⟩, t1, I1, J1, P1, n + 1, sl + 6, rfl, gw.sh hn hS, gw.hds hn hT hD, gw.b, by omega, by omega, by omega, by omega, (gw.f4 hn).1, (gw.f4 hn).2, gw.ty⟩⟩
    show t1 n = some (16, 0)
    rw [ht, p1_self]
  · refine CA.w ?_
    show RA _ _ M1_step 0 [.ref 100, .int (nI p)] [] _ _
    refine x_iload_n d1_step_0 rfl ?_
    refine x_iconst (v := nI 0) d1_step_1 (by decide) ?_
    refine x_aload_n d1_step_2 rfl ?_
    refine x_getI d1_step_3 f1_203 (hS.T rfl) ?_
    refine x_top (congrArg Value.int (show I 100 15 = nI (r_sn ρ) from hR.2.2.2.2.2.2.1)) ?_
    have hsn_ := hρ.2.2.2.2.1
    refine x_iconst (v := nI 1) d1_step_6 (by decide) ?_
    refine x_isub d1_step_7 ?_
    refine x_invS 3 d1_step_8 s1_76 (h_in G _ _ (nI p) (nI 0) ((nI (r_sn ρ)) - (nI 1))) (Cont.p ?_) (hB := hB) (hS := hSl)
    refine x_top (congrArg Value.int (b2i_t ((ix_pm (by omega)).mpr hv))) ?_
    refine x_if_ne 22 d1_step_11 (by decide) (fun b11 => ?_) (fun b11 => absurd b11 (by decide))
    refine x_aload_n d1_step_22 rfl ?_
    refine x_getP d1_step_23 f1_58 (hS.T rfl) (hS.P rfl) ?_
    refine x_iload_n d1_step_26 rfl ?_
    refine x_ialdN d1_step_27 (hS.T rfl) (by omega) ?_
    refine x_top (congrArg Value.int (show I 118 p = nI (r_sp ρ p) from (hR.2.2.2.2.2.2.2.1 _ (by omega)))) ?_
    exact x_ireturn d1_step_28 ⟨Or.inl ⟨by simp only [qThr, e], by simp only [qStep, e]⟩, t, I, J, P, n, sl, rfl, hS, hD, hT, Nat.le_refl _, by omega, Nat.le_refl _, by omega, fun _ _ => rfl, fun _ _ => rfl, fun _ _ h => h⟩
set_option maxHeartbeats 4000000 in
theorem h_lstep {G : GG} (hst : (g_l G).stackTraces = false) (d : Nat) (v : Int32) (σ : Sg) (ρ : Rs) : ∀ (t : Nat → Option (Nat × Nat)) (I : Nat → Nat → Int32) (J : Nat → Nat → Int64) (P : Nat → Nat → Value) (n sl : Nat), SH t P → HdS t I P σ ρ → TyB t n → 144 ≤ n → n + 1 ≤ 601124 → sl + 6 ≤ 7293033 → CA G (d + 7) M0_step [.ref 100, .int v, .ref 143] (t, I, J, P, n, sl) (fun o h' => o = .inl (some (.int (qThr ρ v))) ∧ ∃ t' I' J' P' n' sl', h' = (t', I', J', P', n', sl') ∧ SH t' P' ∧ HdS t' I' P' σ ρ ∧ TyB t' n' ∧ n ≤ n' ∧ n' ≤ n + 1 ∧ sl ≤ sl' ∧ sl' ≤ sl + 6 ∧ HF4 I I' ∧ (∀ b, b < 143 → J' b = J b) ∧ (qThr ρ v = 0 → J' 143 0 = (qStep ρ v).toInt64) ∧ (∀ a tg, t a = some tg → t' a = some tg)) := by
  intro t I J P n sl hS hD hT hn hB0 hSl0
  have hB : n ≤ 601124 := by omega
  have hSl : sl ≤ 7293033 := by omega
  have hσ := hD.1
  have hρ := hD.2.1
  obtain ⟨y, hP⟩ := hD.2.2.1
  have hR := hD.2.2.2.1
  have hF := hD.2.2.2.2
  have hnp := hσ.1
  refine CA.w ?_
  show RA _ _ M0_step 0 [.ref 100, .int v, .ref 143, U0] [] _ _
  refine x_aload_n d0_step_0 rfl ?_
  refine x_iconst (v := nI 0) d0_step_1 (by decide) ?_
  refine x_aload_n d0_step_2 rfl ?_
  refine x_iload_n d0_step_3 rfl ?_
  refine x_invV 100 1 d0_step_4 (hS.T rfl) v0_7_1 (h_step hst d v σ ρ t I J P n sl hS hD hT hn hB0 hSl0) ?_ (hB := hB) (hS := hSl)
  rintro o h' ⟨hc, t1, I1, J1, P1, n1, sl1, rfl, hS1, hD1, hT1, hn1, hn2, hs1, hs2, hF1, hJ1, hty1⟩
  rcases hc with ⟨hq, rfl⟩ | ⟨hq, rfl, ht16⟩
  rotate_left
  · refine ⟨by omega, Or.inr ⟨0, 9, 12, 13, rfl, by decide, by decide, by decide, ⟨(16, 0), _, ht16, rfl, by decide, (lw_g (lw_at lw_m4 213 rfl) rfl)⟩, ?_⟩⟩
    refine x_astore_n d0_step_12 ?_
    refine x_iconst (v := nI 1) d0_step_13 (by decide) ?_
    exact x_ireturn d0_step_14 ⟨by rw [hq]; rfl, t1, I1, J1, P1, n1, sl1, rfl, hS1, hD1, hT1, hn1, hn2, hs1, hs2, hF1, fun b hb => hJ1 b (by omega), fun z => by rw [hq] at z; exact absurd z (by decide), hty1⟩
  show RA _ _ _ _ _ (Value.int (qStep ρ v) :: _) _ _
  refine x_i2l d0_step_7 ?_
  refine x_lastN d0_step_8 (hS1.T rfl) (by omega) (fun J11 hJ11 => ?_)
  refine x_goto 15 d0_step_9 (by decide) ?_
  refine x_iconst (v := nI 0) d0_step_15 (by decide) ?_
  exact x_ireturn d0_step_16 ⟨by rw [hq]; rfl, t1, I1, J11, P1, n1, sl1, rfl, hS1, hD1, hT1, hn1, hn2, hs1, hs2, hF1, fun b hb => by rw [hJ11, u2_row _ _ _ (by omega)]; exact hJ1 b (by omega), fun _ => by rw [hJ11, u2_self], hty1⟩
