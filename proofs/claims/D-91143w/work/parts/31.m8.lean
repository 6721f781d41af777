/-! the reference: needed, idle, lacking, helped, trim, turns, without, key -/
set_option maxRecDepth 100000
theorem orF_s {f : Nat → Nat} {n x : Nat} (h : x = f n) : orF f n ||| x = orF f (n + 1) := by rw [h]; rfl
set_option maxHeartbeats 4000000 in
theorem m_neededOf {G : GG} (d : Nat) {t : Nat → Option (Nat × Nat)} {J : Nat → Nat → Int64} {P : Nat → Nat → Value} {n sl : Nat} {I : Nat → Nat → Int32} {σ : Sg} (hS : SH t P) (hσ : SgOK σ) (hM : MP I σ) {p : Nat} (hp : p < s_np σ) (hak : I 137 p = nI (bP (Asked σ p))) : CP G d M5_neededOf [.ref 122, .int (nI p)] (t, I, J, P, n, sl) (.int (nI (ndF σ p))) := by
  refine CA.w ?_
  show RA _ _ M5_neededOf 0 [.ref 122, .int (nI p), U0, U0] [] _ _
  have hnp := hσ.1
  have hln := hσ.ln hp
  by_cases hA : Asked σ p
  · refine x_iconst (v := nI 0) d5_neededOf_0 (by decide) ?_
    refine x_istore_n d5_neededOf_1 ?_
    refine x_bipush (v := nI 12) d5_neededOf_2 (by decide) ?_
    refine x_iload_n d5_neededOf_4 rfl ?_
    refine x_imulN d5_neededOf_5 ?_
    refine x_istore_n d5_neededOf_6 ?_
    have hL : ∀ k, k ≤ s_ln σ p → RA G d M5_neededOf 7 [.ref 122, .int (nI p), .int (nI (orF (ndK σ p) k)), .int (nI (12 * p + k))] [] (t, I, J, P, n, sl) (fun o h' => o = .inl (some (.int (nI (ndF σ p)))) ∧ h' = (t, I, J, P, n, sl)) := by
      refine up_ind ?_
      intro k hk_ ih
      have hln_ := hσ.ln hp
      refine x_iload_n d5_neededOf_7 rfl ?_
      refine x_bipush (v := nI 12) d5_neededOf_8 (by decide) ?_
      refine x_iload_n d5_neededOf_10 rfl ?_
      refine x_imulN d5_neededOf_11 ?_
      refine x_aload_n d5_neededOf_12 rfl ?_
      refine x_getP d5_neededOf_13 f5_17 (hS.T rfl) (hS.P rfl) ?_
      refine x_iload_n d5_neededOf_16 rfl ?_
      refine x_ialdN d5_neededOf_17 (hS.T rfl) (by omega) ?_
      refine x_top (congrArg Value.int (show I 124 p = nI (s_ln σ p) from (hM.ln hp))) ?_
      have hln_ := hσ.ln hp
      refine x_iaddN d5_neededOf_18 ?_
      refine x_icmp_geN 71 d5_neededOf_19 (by decide) (by omega) (by omega) (fun b19 => ?_) (fun b19 => ?_)
      · refine x_iload_n d5_neededOf_71 rfl ?_
        exact x_ireturn d5_neededOf_72 ⟨by rw [ndF_t hA]; unfold ndR; rw [show k = s_ln σ p by omega], rfl⟩
      · have hkl : k < s_ln σ p := by omega
        refine x_aload_n d5_neededOf_22 rfl ?_
        refine x_getP d5_neededOf_23 f5_61 (hS.T rfl) (hS.P rfl) ?_
        refine x_iload_n d5_neededOf_26 rfl ?_
        refine x_zaldN d5_neededOf_27 (hS.T rfl) (by omega) ?_
        refine x_top (congrArg Value.int (show I 137 p = nI 1 from (hak.trans (by rw [bP_t hA])))) ?_
        refine x_if_eqN 71 d5_neededOf_28 (by decide) (by omega) (fun b28 => absurd b28 (by decide)) (fun b28 => ?_)
        refine x_iload_n d5_neededOf_31 rfl ?_
        refine x_aload_n d5_neededOf_32 rfl ?_
        refine x_getP d5_neededOf_33 f5_23 (hS.T rfl) (hS.P rfl) ?_
        refine x_iload_n d5_neededOf_36 rfl ?_
        refine x_ialdN d5_neededOf_37 (hS.T rfl) (by omega) ?_
        refine x_top (congrArg Value.int (show I 126 (12 * p + k) = nI (s_kk σ (12 * p + k)) from (hM.kk hp hkl))) ?_
        have hkk_ := (hσ.row hp hkl).1
        refine x_if_eqN 51 d5_neededOf_38 (by decide) (by omega) (fun b38 => ?_) (fun b38 => ?_)
        · refine x_iconst (v := nI 1) d5_neededOf_51 (by decide) ?_
          refine x_aload_n d5_neededOf_52 rfl ?_
          refine x_getP d5_neededOf_53 f5_26 (hS.T rfl) (hS.P rfl) ?_
          refine x_iload_n d5_neededOf_56 rfl ?_
          refine x_ialdN d5_neededOf_57 (hS.T rfl) (by omega) ?_
          refine x_top (congrArg Value.int (show I 127 (12 * p + k) = nI (s_nu σ (12 * p + k)) from (hM.nu hp hkl))) ?_
          have hnu_ := (hσ.row hp hkl).2.1
          refine x_1shlN d5_neededOf_58 (by omega) ?_
          refine x_goto 63 d5_neededOf_59 (by decide) ?_
          refine x_iorN d5_neededOf_63 ?_
          refine x_istore_n d5_neededOf_64 ?_
          refine x_iincN (c := 1) d5_neededOf_65 rfl (by decide) ?_
          refine x_goto 7 d5_neededOf_68 (by decide) ?_
          rw [show 2 ^ s_nu σ (12 * p + k) = ndK σ p k from (if_pos (Or.inl b38)).symm]
          exact ih (by omega)
        · refine x_aload_n d5_neededOf_41 rfl ?_
          refine x_getP d5_neededOf_42 f5_23 (hS.T rfl) (hS.P rfl) ?_
          refine x_iload_n d5_neededOf_45 rfl ?_
          refine x_ialdN d5_neededOf_46 (hS.T rfl) (by omega) ?_
          refine x_top (congrArg Value.int (show I 126 (12 * p + k) = nI (s_kk σ (12 * p + k)) from (hM.kk hp hkl))) ?_
          have hkk_ := (hσ.row hp hkl).1
          refine x_iconst (v := nI 3) d5_neededOf_47 (by decide) ?_
          refine x_icmp_neN 62 d5_neededOf_48 (by decide) (by omega) (by omega) (fun b48 => ?_) (fun b48 => ?_)
          · refine x_iconst (v := nI 0) d5_neededOf_62 (by decide) ?_
            refine x_iorN d5_neededOf_63 ?_
            refine x_istore_n d5_neededOf_64 ?_
            refine x_iincN (c := 1) d5_neededOf_65 rfl (by decide) ?_
            refine x_goto 7 d5_neededOf_68 (by decide) ?_
            rw [show 0 = ndK σ p k from (if_neg (fun z => z.elim b38 b48)).symm]
            exact ih (by omega)
          · refine x_iconst (v := nI 1) d5_neededOf_51 (by decide) ?_
            refine x_aload_n d5_neededOf_52 rfl ?_
            refine x_getP d5_neededOf_53 f5_26 (hS.T rfl) (hS.P rfl) ?_
            refine x_iload_n d5_neededOf_56 rfl ?_
            refine x_ialdN d5_neededOf_57 (hS.T rfl) (by omega) ?_
            refine x_top (congrArg Value.int (show I 127 (12 * p + k) = nI (s_nu σ (12 * p + k)) from (hM.nu hp hkl))) ?_
            have hnu_ := (hσ.row hp hkl).2.1
            refine x_1shlN d5_neededOf_58 (by omega) ?_
            refine x_goto 63 d5_neededOf_59 (by decide) ?_
            refine x_iorN d5_neededOf_63 ?_
            refine x_istore_n d5_neededOf_64 ?_
            refine x_iincN (c := 1) d5_neededOf_65 rfl (by decide) ?_
            refine x_goto 7 d5_neededOf_68 (by decide) ?_
            rw [show 2 ^ s_nu σ (12 * p + k) = ndK σ p k from (if_pos (Or.inr b48)).symm]
            exact ih (by omega)
    exact hL 0 (Nat.zero_le _)
  · refine x_iconst (v := nI 0) d5_neededOf_0 (by decide) ?_
    refine x_istore_n d5_neededOf_1 ?_
    refine x_bipush (v := nI 12) d5_neededOf_2 (by decide) ?_
    refine x_iload_n d5_neededOf_4 rfl ?_
    refine x_imulN d5_neededOf_5 ?_
    refine x_istore_n d5_neededOf_6 ?_
    refine x_iload_n d5_neededOf_7 rfl ?_
    refine x_bipush (v := nI 12) d5_neededOf_8 (by decide) ?_
    refine x_iload_n d5_neededOf_10 rfl ?_
    refine x_imulN d5_neededOf_11 ?_
    refine x_aload_n d5_neededOf_12 rfl ?_
    refine x_getP d5_neededOf_13 f5_17 (hS.T rfl) (hS.P rfl) ?_
    refine x_iload_n d5_neededOf_16 rfl ?_
    refine x_ialdN d5_neededOf_17 (hS.T rfl) (by omega) ?_
    refine x_top (congrArg Value.int (show I 124 p = nI (s_ln σ p) from (hM.ln hp))) ?_
    have hln_ := hσ.ln hp
    refine x_iaddN d5_neededOf_18 ?_
    refine x_icmp_geN 71 d5_neededOf_19 (by decide) (by omega) (by omega) (fun b19 => ?_) (fun b19 => ?_)
    · refine x_iload_n d5_neededOf_71 rfl ?_
      exact x_ireturn d5_neededOf_72 ⟨by rw [ndF_f hA], rfl⟩
    · refine x_aload_n d5_neededOf_22 rfl ?_
      refine x_getP d5_neededOf_23 f5_61 (hS.T rfl) (hS.P rfl) ?_
      refine x_iload_n d5_neededOf_26 rfl ?_
      refine x_zaldN d5_neededOf_27 (hS.T rfl) (by omega) ?_
      refine x_top (congrArg Value.int (show I 137 p = nI 0 from (hak.trans (by rw [bP_f hA])))) ?_
      refine x_if_eqN 71 d5_neededOf_28 (by decide) (by omega) (fun b28 => ?_) (fun b28 => absurd b28 (fun z => z rfl))
      refine x_iload_n d5_neededOf_71 rfl ?_
      exact x_ireturn d5_neededOf_72 ⟨by rw [ndF_f hA], rfl⟩
set_option maxHeartbeats 4000000 in
theorem m_needed (G : GG) (d : Nat) (v : Int32) (σ : Sg) (ρ : Rs) : MCon G (d + 1) M5_needed [.ref 122, .int v] σ ρ (qNeeded σ v) σ ρ := by
  intro t I J P n sl hS hD hB hSl
  have hσ := hD.1
  have hρ := hD.2.1
  have hM := hD.2.2.1
  have hR := hD.2.2.2
  have hnp := hσ.1
  rcases ix_cases v (n := s_np σ) (by omega) with ⟨hv, e⟩ | ⟨p, hp, rfl, hv, e⟩
  · refine CA.w ?_
    show RA _ _ M5_needed 0 [.ref 122, .int v] [] _ _
    refine x_aload_n d5_needed_0 rfl ?_
    refine x_iconst (v := nI 0) d5_needed_1 (by decide) ?_
    refine x_putIE d5_needed_2 p5_80 (hS.T rfl) (fun I1 hI1 => ?_)
    have hsmI1 : MSm I I1 := MSm.thr hI1
    have hthI1 : I1 122 0 = 0 := by rw [hI1, u2_self]; rfl
    refine x_aload_n d5_needed_5 rfl ?_
    refine x_iload_n d5_needed_6 rfl ?_
    refine x_invV 122 1 d5_needed_7 (hS.T rfl) v5_101_5 (m_isPart _ hS (hsmI1.mp hM) (v)) (Cont.p ?_) (hB := hB) (hS := hSl)
    refine x_top (congrArg Value.int (b2i_f hv)) ?_
    refine x_if_ne 15 d5_needed_10 (by decide) (fun b10 => absurd b10 (by decide)) (fun b10 => ?_)
    refine x_iconst (v := -1) d5_needed_13 (by decide) ?_
    exact x_ireturn d5_needed_14 ⟨by unfold qNeeded; rw [e], I1, J, rfl, hsmI1.mds hD, hsmI1.mf, JF.rf J, hthI1⟩
  · refine CA.w ?_
    show RA _ _ M5_needed 0 [.ref 122, .int (nI p)] [] _ _
    refine x_aload_n d5_needed_0 rfl ?_
    refine x_iconst (v := nI 0) d5_needed_1 (by decide) ?_
    refine x_putIE d5_needed_2 p5_80 (hS.T rfl) (fun I1 hI1 => ?_)
    have hsmI1 : MSm I I1 := MSm.thr hI1
    have hthI1 : I1 122 0 = 0 := by rw [hI1, u2_self]; rfl
    refine x_aload_n d5_needed_5 rfl ?_
    refine x_iload_n d5_needed_6 rfl ?_
    refine x_invV 122 1 d5_needed_7 (hS.T rfl) v5_101_5 (m_isPart _ hS (hsmI1.mp hM) (nI p)) (Cont.p ?_) (hB := hB) (hS := hSl)
    refine x_top (congrArg Value.int (b2i_t hv)) ?_
    refine x_if_ne 15 d5_needed_10 (by decide) (fun b10 => ?_) (fun b10 => absurd b10 (by decide))
    refine x_aload_n d5_needed_15 rfl ?_
    refine x_invV 122 0 d5_needed_16 (hS.T rfl) v5_231_5 (m_asks _ hS hσ (hsmI1.mp hM)) ?_ (hB := hB) (hS := hSl)
    rintro o h' ⟨rfl, I2, rfl, hFI2, hak⟩
    have hsmI2 : MSm I I2 := hsmI1.trans (MSm.ak hFI2)
    have hthI2 : I2 122 0 = 0 := by rw [hFI2 122 (by decide)]; exact hthI1
    refine x_aload_n d5_needed_19 rfl ?_
    refine x_iload_n d5_needed_20 rfl ?_
    refine x_invV 122 1 d5_needed_21 (hS.T rfl) v5_269_5 (m_neededOf _ hS hσ (hsmI2.mp hM) hp (hak _ (by omega))) (Cont.p ?_) (hB := hB) (hS := hSl)
    have hnd_ := ndF_lt hσ hp
    exact x_ireturn d5_needed_24 ⟨by unfold qNeeded; rw [e], I2, J, rfl, hsmI2.mds hD, hsmI2.mf, JF.rf J, hthI2⟩
set_option maxHeartbeats 4000000 in
theorem m_idle (G : GG) (d : Nat) (v : Int32) (σ : Sg) (ρ : Rs) : MCon G (d + 1) M5_idle [.ref 122, .int v] σ ρ (qIdle σ v) σ ρ := by
  intro t I J P n sl hS hD hB hSl
  have hσ := hD.1
  have hρ := hD.2.1
  have hM := hD.2.2.1
  have hR := hD.2.2.2
  have hnp := hσ.1
  rcases ix_cases v (n := s_np σ) (by omega) with ⟨hv, e⟩ | ⟨p, hp, rfl, hv, e⟩
  · refine CA.w ?_
    show RA _ _ M5_idle 0 [.ref 122, .int v] [] _ _
    refine x_aload_n d5_idle_0 rfl ?_
    refine x_iconst (v := nI 0) d5_idle_1 (by decide) ?_
    refine x_putIE d5_idle_2 p5_80 (hS.T rfl) (fun I1 hI1 => ?_)
    have hsmI1 : MSm I I1 := MSm.thr hI1
    have hthI1 : I1 122 0 = 0 := by rw [hI1, u2_self]; rfl
    refine x_aload_n d5_idle_5 rfl ?_
    refine x_iload_n d5_idle_6 rfl ?_
    refine x_invV 122 1 d5_idle_7 (hS.T rfl) v5_101_5 (m_isPart _ hS (hsmI1.mp hM) (v)) (Cont.p ?_) (hB := hB) (hS := hSl)
    refine x_top (congrArg Value.int (b2i_f hv)) ?_
    refine x_if_ne 15 d5_idle_10 (by decide) (fun b10 => absurd b10 (by decide)) (fun b10 => ?_)
    refine x_iconst (v := -1) d5_idle_13 (by decide) ?_
    exact x_ireturn d5_idle_14 ⟨by unfold qIdle; rw [e], I1, J, rfl, hsmI1.mds hD, hsmI1.mf, JF.rf J, hthI1⟩
  · refine CA.w ?_
    show RA _ _ M5_idle 0 [.ref 122, .int (nI p)] [] _ _
    refine x_aload_n d5_idle_0 rfl ?_
    refine x_iconst (v := nI 0) d5_idle_1 (by decide) ?_
    refine x_putIE d5_idle_2 p5_80 (hS.T rfl) (fun I1 hI1 => ?_)
    have hsmI1 : MSm I I1 := MSm.thr hI1
    have hthI1 : I1 122 0 = 0 := by rw [hI1, u2_self]; rfl
    refine x_aload_n d5_idle_5 rfl ?_
    refine x_iload_n d5_idle_6 rfl ?_
    refine x_invV 122 1 d5_idle_7 (hS.T rfl) v5_101_5 (m_isPart _ hS (hsmI1.mp hM) (nI p)) (Cont.p ?_) (hB := hB) (hS := hSl)
    refine x_top (congrArg Value.int (b2i_t hv)) ?_
    refine x_if_ne 15 d5_idle_10 (by decide) (fun b10 => ?_) (fun b10 => absurd b10 (by decide))
    refine x_aload_n d5_idle_15 rfl ?_
    refine x_invV 122 0 d5_idle_16 (hS.T rfl) v5_231_5 (m_asks _ hS hσ (hsmI1.mp hM)) ?_ (hB := hB) (hS := hSl)
    rintro o h' ⟨rfl, I2, rfl, hFI2, hak⟩
    have hsmI2 : MSm I I2 := hsmI1.trans (MSm.ak hFI2)
    have hthI2 : I2 122 0 = 0 := by rw [hFI2 122 (by decide)]; exact hthI1
    refine x_aload_n d5_idle_19 rfl ?_
    refine x_getP d5_idle_20 f5_13 (hS.T rfl) (hS.P rfl) ?_
    refine x_iload_n d5_idle_23 rfl ?_
    refine x_ialdN d5_idle_24 (hS.T rfl) (by omega) ?_
    refine x_top (congrArg Value.int (show I2 123 p = nI (s_gr σ p) from ((hsmI2.mp hM).gr hp))) ?_
    have hgr_ := hσ.gr hp
    refine x_aload_n d5_idle_25 rfl ?_
    refine x_iload_n d5_idle_26 rfl ?_
    refine x_invV 122 1 d5_idle_27 (hS.T rfl) v5_269_5 (m_neededOf _ hS hσ (hsmI2.mp hM) hp (hak _ (by omega))) (Cont.p ?_) (hB := hB) (hS := hSl)
    have hnd_ := ndF_lt hσ hp
    refine x_iconst (v := -1) d5_idle_30 (by decide) ?_
    refine x_ixor d5_idle_31 ?_
    refine x_andnN d5_idle_32 (hσ.gr hp) ?_
    exact x_ireturn d5_idle_33 ⟨by unfold qIdle; rw [e], I2, J, rfl, hsmI2.mds hD, hsmI2.mf, JF.rf J, hthI2⟩
set_option maxHeartbeats 4000000 in
theorem m_lacking (G : GG) (d : Nat) (v : Int32) (σ : Sg) (ρ : Rs) : MCon G (d + 1) M5_lacking [.ref 122, .int v] σ ρ (qLacking σ v) σ ρ := by
  intro t I J P n sl hS hD hB hSl
  have hσ := hD.1
  have hρ := hD.2.1
  have hM := hD.2.2.1
  have hR := hD.2.2.2
  have hnp := hσ.1
  rcases ix_cases v (n := s_np σ) (by omega) with ⟨hv, e⟩ | ⟨p, hp, rfl, hv, e⟩
  · refine CA.w ?_
    show RA _ _ M5_lacking 0 [.ref 122, .int v] [] _ _
    refine x_aload_n d5_lacking_0 rfl ?_
    refine x_iconst (v := nI 0) d5_lacking_1 (by decide) ?_
    refine x_putIE d5_lacking_2 p5_80 (hS.T rfl) (fun I1 hI1 => ?_)
    have hsmI1 : MSm I I1 := MSm.thr hI1
    have hthI1 : I1 122 0 = 0 := by rw [hI1, u2_self]; rfl
    refine x_aload_n d5_lacking_5 rfl ?_
    refine x_iload_n d5_lacking_6 rfl ?_
    refine x_invV 122 1 d5_lacking_7 (hS.T rfl) v5_101_5 (m_isPart _ hS (hsmI1.mp hM) (v)) (Cont.p ?_) (hB := hB) (hS := hSl)
    refine x_top (congrArg Value.int (b2i_f hv)) ?_
    refine x_if_ne 15 d5_lacking_10 (by decide) (fun b10 => absurd b10 (by decide)) (fun b10 => ?_)
    refine x_iconst (v := -1) d5_lacking_13 (by decide) ?_
    exact x_ireturn d5_lacking_14 ⟨by unfold qLacking; rw [e], I1, J, rfl, hsmI1.mds hD, hsmI1.mf, JF.rf J, hthI1⟩
  · refine CA.w ?_
    show RA _ _ M5_lacking 0 [.ref 122, .int (nI p)] [] _ _
    refine x_aload_n d5_lacking_0 rfl ?_
    refine x_iconst (v := nI 0) d5_lacking_1 (by decide) ?_
    refine x_putIE d5_lacking_2 p5_80 (hS.T rfl) (fun I1 hI1 => ?_)
    have hsmI1 : MSm I I1 := MSm.thr hI1
    have hthI1 : I1 122 0 = 0 := by rw [hI1, u2_self]; rfl
    refine x_aload_n d5_lacking_5 rfl ?_
    refine x_iload_n d5_lacking_6 rfl ?_
    refine x_invV 122 1 d5_lacking_7 (hS.T rfl) v5_101_5 (m_isPart _ hS (hsmI1.mp hM) (nI p)) (Cont.p ?_) (hB := hB) (hS := hSl)
    refine x_top (congrArg Value.int (b2i_t hv)) ?_
    refine x_if_ne 15 d5_lacking_10 (by decide) (fun b10 => ?_) (fun b10 => absurd b10 (by decide))
    refine x_aload_n d5_lacking_15 rfl ?_
    refine x_invV 122 0 d5_lacking_16 (hS.T rfl) v5_231_5 (m_asks _ hS hσ (hsmI1.mp hM)) ?_ (hB := hB) (hS := hSl)
    rintro o h' ⟨rfl, I2, rfl, hFI2, hak⟩
    have hsmI2 : MSm I I2 := hsmI1.trans (MSm.ak hFI2)
    have hthI2 : I2 122 0 = 0 := by rw [hFI2 122 (by decide)]; exact hthI1
    refine x_aload_n d5_lacking_19 rfl ?_
    refine x_iload_n d5_lacking_20 rfl ?_
    refine x_invV 122 1 d5_lacking_21 (hS.T rfl) v5_269_5 (m_neededOf _ hS hσ (hsmI2.mp hM) hp (hak _ (by omega))) (Cont.p ?_) (hB := hB) (hS := hSl)
    have hnd_ := ndF_lt hσ hp
    refine x_aload_n d5_lacking_24 rfl ?_
    refine x_getP d5_lacking_25 f5_13 (hS.T rfl) (hS.P rfl) ?_
    refine x_iload_n d5_lacking_28 rfl ?_
    refine x_ialdN d5_lacking_29 (hS.T rfl) (by omega) ?_
    refine x_top (congrArg Value.int (show I2 123 p = nI (s_gr σ p) from ((hsmI2.mp hM).gr hp))) ?_
    have hgr_ := hσ.gr hp
    refine x_iconst (v := -1) d5_lacking_30 (by decide) ?_
    refine x_ixor d5_lacking_31 ?_
    refine x_andnN d5_lacking_32 (ndF_lt hσ hp) ?_
    exact x_ireturn d5_lacking_33 ⟨by unfold qLacking; rw [e], I2, J, rfl, hsmI2.mds hD, hsmI2.mf, JF.rf J, hthI2⟩
set_option maxHeartbeats 4000000 in
theorem m_helped (G : GG) (d : Nat) (v : Int32) (σ : Sg) (ρ : Rs) : MCon G (d + 1) M5_helped [.ref 122, .int v] σ ρ (qHelped σ v) σ ρ := by
  intro t I J P n sl hS hD hB hSl
  have hσ := hD.1
  have hρ := hD.2.1
  have hM := hD.2.2.1
  have hR := hD.2.2.2
  have hnp := hσ.1
  rcases ix_cases v (n := s_np σ) (by omega) with ⟨hv, e⟩ | ⟨p, hp, rfl, hv, e⟩
  · refine CA.w ?_
    show RA _ _ M5_helped 0 [.ref 122, .int v, U0, U0, U0, U0] [] _ _
    refine x_aload_n d5_helped_0 rfl ?_
    refine x_iconst (v := nI 0) d5_helped_1 (by decide) ?_
    refine x_putIE d5_helped_2 p5_80 (hS.T rfl) (fun I1 hI1 => ?_)
    have hsmI1 : MSm I I1 := MSm.thr hI1
    have hthI1 : I1 122 0 = 0 := by rw [hI1, u2_self]; rfl
    refine x_aload_n d5_helped_5 rfl ?_
    refine x_iload_n d5_helped_6 rfl ?_
    refine x_invV 122 1 d5_helped_7 (hS.T rfl) v5_101_5 (m_isPart _ hS (hsmI1.mp hM) (v)) (Cont.p ?_) (hB := hB) (hS := hSl)
    refine x_top (congrArg Value.int (b2i_f hv)) ?_
    refine x_if_ne 15 d5_helped_10 (by decide) (fun b10 => absurd b10 (by decide)) (fun b10 => ?_)
    refine x_iconst (v := -1) d5_helped_13 (by decide) ?_
    exact x_ireturn d5_helped_14 ⟨by unfold qHelped; rw [e], I1, J, rfl, hsmI1.mds hD, hsmI1.mf, JF.rf J, hthI1⟩
  by_cases hA : Asked σ p
  · refine CA.w ?_
    show RA _ _ M5_helped 0 [.ref 122, .int (nI p), U0, U0, U0, U0] [] _ _
    refine x_aload_n d5_helped_0 rfl ?_
    refine x_iconst (v := nI 0) d5_helped_1 (by decide) ?_
    refine x_putIE d5_helped_2 p5_80 (hS.T rfl) (fun I1 hI1 => ?_)
    have hsmI1 : MSm I I1 := MSm.thr hI1
    have hthI1 : I1 122 0 = 0 := by rw [hI1, u2_self]; rfl
    refine x_aload_n d5_helped_5 rfl ?_
    refine x_iload_n d5_helped_6 rfl ?_
    refine x_invV 122 1 d5_helped_7 (hS.T rfl) v5_101_5 (m_isPart _ hS (hsmI1.mp hM) (nI p)) (Cont.p ?_) (hB := hB) (hS := hSl)
    refine x_top (congrArg Value.int (b2i_t hv)) ?_
    refine x_if_ne 15 d5_helped_10 (by decide) (fun b10 => ?_) (fun b10 => absurd b10 (by decide))
    refine x_aload_n d5_helped_15 rfl ?_
    refine x_invV 122 0 d5_helped_16 (hS.T rfl) v5_231_5 (m_asks _ hS hσ (hsmI1.mp hM)) ?_ (hB := hB) (hS := hSl)
    rintro o h' ⟨rfl, I2, rfl, hFI2, hak⟩
    have hsmI2 : MSm I I2 := hsmI1.trans (MSm.ak hFI2)
    have hthI2 : I2 122 0 = 0 := by rw [hFI2 122 (by decide)]; exact hthI1
    refine x_aload_n d5_helped_19 rfl ?_
    refine x_getP d5_helped_20 f5_61 (hS.T rfl) (hS.P rfl) ?_
    refine x_iload_n d5_helped_23 rfl ?_
    refine x_zaldN d5_helped_24 (hS.T rfl) (by omega) ?_
    refine x_top (congrArg Value.int (show I2 137 p = nI 1 from ((hak _ (by omega)).trans (by rw [bP_t hA])))) ?_
    refine x_if_neN 30 d5_helped_25 (by decide) (by omega) (fun b25 => ?_) (fun b25 => absurd b25 (by decide))
    refine x_iconst (v := nI 0) d5_helped_30 (by decide) ?_
    refine x_istore_n d5_helped_31 ?_
    refine x_iconst (v := -1) d5_helped_32 (by decide) ?_
    refine x_istore_n d5_helped_33 ?_
    refine x_iload_n d5_helped_34 rfl ?_
    refine x_iload_n d5_helped_35 rfl ?_
    refine x_icmp_eq 138 d5_helped_36 (by decide) (fun b36 => absurd b36 (by decide)) (fun b36 => ?_)
    refine x_iload_n d5_helped_39 rfl ?_
    refine x_istore_n d5_helped_40 ?_
    have hrb : rch σ p < 1024 := lt1024 (fun i hi => by cases hb : (rch σ p).testBit i with | false => rfl | true => have := ((mkS_bit _ _ _).mp hb).1; omega)
    have hfin : ∀ k, k ≤ s_np σ → RA G (d + 1) M5_helped 144 [.ref 122, .int (nI p), .int (nI (rch σ p)), .int (nI (rch σ p)), .int (nI (orF (hlS σ p) k)), .int (nI k)] [] (t, I2, J, P, n, sl) (fun o h' => o = .inl (some (.int (qHelped σ (nI p)))) ∧ ∃ I' J', h' = (t, I', J', P, n, sl) ∧ MdS I' σ ρ ∧ MF I I' ∧ JF J J' ∧ I' 122 0 = 0) := by
      have hfin : ∀ k, k ≤ s_np σ → RA G (d + 1) M5_helped 144 [.ref 122, .int (nI p), .int (nI (rch σ p)), .int (nI (rch σ p)), .int (nI (orF (hlS σ p) k)), .int (nI k)] [] (t, I2, J, P, n, sl) (fun o h' => o = .inl (some (.int (qHelped σ (nI p)))) ∧ ∃ I' J', h' = (t, I', J', P, n, sl) ∧ MdS I' σ ρ ∧ MF I I' ∧ JF J J' ∧ I' 122 0 = 0) := by
        refine up_ind ?_
        intro k hk_ ih
        have hr10 := hrb
        refine x_iload d5_helped_144 rfl ?_
        refine x_aload_n d5_helped_146 rfl ?_
        refine x_getI d5_helped_147 f5_86 (hS.T rfl) ?_
        refine x_top (congrArg Value.int (show I2 122 4 = nI (s_np σ) from (hsmI2.mp hM).np)) ?_
        refine x_icmp_geN 192 d5_helped_150 (by decide) (by omega) (by omega) (fun b150 => ?_) (fun b150 => ?_)
        · refine x_iload d5_helped_192 rfl ?_
          refine x_aload_n d5_helped_194 rfl ?_
          refine x_getP d5_helped_195 f5_13 (hS.T rfl) (hS.P rfl) ?_
          refine x_iload_n d5_helped_198 rfl ?_
          refine x_ialdN d5_helped_199 (hS.T rfl) (by omega) ?_
          refine x_top (congrArg Value.int (show I2 123 p = nI (s_gr σ p) from ((hsmI2.mp hM).gr hp))) ?_
          have hgr_ := hσ.gr hp
          refine x_iconst (v := -1) d5_helped_200 (by decide) ?_
          refine x_ixor d5_helped_201 ?_
          refine x_andnN d5_helped_202 (orF_lt (fun i hi => hlS_lt hσ (by omega))) ?_
          exact x_ireturn d5_helped_203 ⟨by rw [qHelped_t e hA, show k = s_np σ by omega], I2, J, rfl, hsmI2.mds hD, hsmI2.mf, JF.rf J, hthI2⟩
        · refine x_iload d5_helped_153 rfl ?_
          refine x_iload_n d5_helped_155 rfl ?_
          refine x_iload d5_helped_156 rfl ?_
          refine x_ishrN d5_helped_158 (by omega) (by omega) ?_
          refine x_iconst (v := nI 1) d5_helped_159 (by decide) ?_
          refine x_tbN d5_helped_160 ?_
          have htb_ := tb_lt (rch σ p) k
          refine x_iconst (v := nI 1) d5_helped_161 (by decide) ?_
          refine x_icmp_neN 182 d5_helped_162 (by decide) (by omega) (by omega) (fun b162 => ?_) (fun b162 => ?_)
          · refine x_iconst (v := nI 0) d5_helped_182 (by decide) ?_
            refine x_iorN d5_helped_183 ?_
            refine x_istore d5_helped_184 ?_
            refine x_iincN (c := 1) d5_helped_186 rfl (by decide) ?_
            refine x_goto 144 d5_helped_189 (by decide) ?_
            rw [orF_s (f := hlS σ p) (n := k) (x := 0) (if_neg (fun z => by rw [tb_ne1.mp b162] at z; cases z)).symm]
            exact ih (by omega)
          · refine x_aload_n d5_helped_165 rfl ?_
            refine x_getP d5_helped_166 f5_13 (hS.T rfl) (hS.P rfl) ?_
            refine x_iload d5_helped_169 rfl ?_
            refine x_ialdN d5_helped_171 (hS.T rfl) (by omega) ?_
            refine x_top (congrArg Value.int (show I2 123 k = nI (s_gr σ k) from ((hsmI2.mp hM).gr (by omega)))) ?_
            have hgr_ := hσ.gr (show k < s_np σ by omega)
            refine x_aload_n d5_helped_172 rfl ?_
            refine x_iload d5_helped_173 rfl ?_
            refine x_invV 122 1 d5_helped_175 (hS.T rfl) v5_269_5 (m_neededOf _ hS hσ (hsmI2.mp hM) (by omega : k < s_np σ) (hak _ (by omega))) (Cont.p ?_) (hB := hB) (hS := hSl)
            have hnd_ := ndF_lt hσ (by omega : k < s_np σ)
            refine x_iandN d5_helped_178 ?_
            refine x_goto 183 d5_helped_179 (by decide) ?_
            refine x_iorN d5_helped_183 ?_
            refine x_istore d5_helped_184 ?_
            refine x_iincN (c := 1) d5_helped_186 rfl (by decide) ?_
            refine x_goto 144 d5_helped_189 (by decide) ?_
            rw [orF_s (f := hlS σ p) (n := k) (x := s_gr σ k &&& ndF σ k) (if_pos (tb1.mp b162)).symm]
            exact ih (by omega)
      exact hfin
    have hend : ∀ v4 v5, RA G (d + 1) M5_helped 138 [.ref 122, .int (nI p), .int (nI (rch σ p)), .int (nI (rch σ p)), v4, v5] [] (t, I2, J, P, n, sl) (fun o h' => o = .inl (some (.int (qHelped σ (nI p)))) ∧ ∃ I' J', h' = (t, I', J', P, n, sl) ∧ MdS I' σ ρ ∧ MF I I' ∧ JF J J' ∧ I' 122 0 = 0) := by
      intro v4 v5
      refine x_iconst (v := nI 0) d5_helped_138 (by decide) ?_
      refine x_istore d5_helped_139 ?_
      refine x_iconst (v := nI 0) d5_helped_141 (by decide) ?_
      refine x_istore d5_helped_142 ?_
      exact hfin 0 (Nat.zero_le _)
    have hpl : ∀ h0, (∀ a, 1024 - a < 1024 - h0 → HpI σ p a → ∀ v4 v5, RA G (d + 1) M5_helped 41 [.ref 122, .int (nI p), .int (nI a), .int (nI a), v4, v5] [] (t, I2, J, P, n, sl) (fun o h' => o = .inl (some (.int (qHelped σ (nI p)))) ∧ ∃ I' J', h' = (t, I', J', P, n, sl) ∧ MdS I' σ ρ ∧ MF I I' ∧ JF J J' ∧ I' 122 0 = 0)) → h0 < 1024 → ∀ p1, p1 ≤ s_np σ → ∀ a, HpS σ p h0 a (p1) → ∀ v5, RA G (d + 1) M5_helped 44 [.ref 122, .int (nI p), .int (nI a), .int (nI h0), .int (nI (p1)), v5] [] (t, I2, J, P, n, sl) (fun o h' => o = .inl (some (.int (qHelped σ (nI p)))) ∧ ∃ I' J', h' = (t, I', J', P, n, sl) ∧ MdS I' σ ρ ∧ MF I I' ∧ JF J J' ∧ I' 122 0 = 0) := by
      intro h0 hnext hh0
      refine up_ind ?_
      intro p1 hp1_ ih a hS1 v5
      have ha10 := hS1.1.1
      have hkl_ : ∀ p1, p1 < s_np σ → (p1 = p ∨ Hlp σ p p1) → (p1 < s_np σ → ∀ a, HpS σ p h0 a (p1 + 1) → ∀ v5, RA G (d + 1) M5_helped 44 [.ref 122, .int (nI p), .int (nI a), .int (nI h0), .int (nI (p1 + 1)), v5] [] (t, I2, J, P, n, sl) (fun o h' => o = .inl (some (.int (qHelped σ (nI p)))) ∧ ∃ I' J', h' = (t, I', J', P, n, sl) ∧ MdS I' σ ρ ∧ MF I I' ∧ JF J J' ∧ I' 122 0 = 0)) → ∀ k, k ≤ s_ln σ p1 → ∀ a, HpK σ p h0 a p1 k → RA G (d + 1) M5_helped 78 [.ref 122, .int (nI p), .int (nI a), .int (nI h0), .int (nI p1), .int (nI (12 * p1 + k))] [] (t, I2, J, P, n, sl) (fun o h' => o = .inl (some (.int (qHelped σ (nI p)))) ∧ ∃ I' J', h' = (t, I', J', P, n, sl) ∧ MdS I' σ ρ ∧ MF I I' ∧ JF J J' ∧ I' 122 0 = 0) := by
        clear ih hS1 ha10
        intro p1 hp1 hs1 ihp
        have hln := hσ.ln hp1
        refine up_ind ?_
        intro k hk_ ih a hK
        have ha10 := hK.1.1.1
        refine x_iload d5_helped_78 rfl ?_
        refine x_bipush (v := nI 12) d5_helped_80 (by decide) ?_
        refine x_iload d5_helped_82 rfl ?_
        refine x_imulN d5_helped_84 ?_
        refine x_aload_n d5_helped_85 rfl ?_
        refine x_getP d5_helped_86 f5_17 (hS.T rfl) (hS.P rfl) ?_
        refine x_iload d5_helped_89 rfl ?_
        refine x_ialdN d5_helped_91 (hS.T rfl) (by omega) ?_
        refine x_top (congrArg Value.int (show I2 124 p1 = nI (s_ln σ p1) from ((hsmI2.mp hM).ln hp1))) ?_
        have hln_ := hσ.ln hp1
        refine x_iaddN d5_helped_92 ?_
        refine x_icmp_geN 129 d5_helped_93 (by decide) (by omega) (by omega) (fun b93 => ?_) (fun b93 => ?_)
        · refine x_iincN (c := 1) d5_helped_129 rfl (by decide) ?_
          refine x_goto 44 d5_helped_132 (by decide) ?_
          have hke : k = s_ln σ p1 := by omega
          subst hke
          exact ihp hp1 a hK.next _
        · have hkl : k < s_ln σ p1 := by omega
          refine x_iload_n d5_helped_96 rfl ?_
          refine x_aload_n d5_helped_97 rfl ?_
          refine x_getP d5_helped_98 f5_23 (hS.T rfl) (hS.P rfl) ?_
          refine x_iload d5_helped_101 rfl ?_
          refine x_ialdN d5_helped_103 (hS.T rfl) (by omega) ?_
          refine x_top (congrArg Value.int (show I2 126 (12 * p1 + k) = nI (s_kk σ (12 * p1 + k)) from ((hsmI2.mp hM).kk hp1 hkl))) ?_
          have hkk_ := (hσ.row hp1 hkl).1
          refine x_iconst (v := nI 2) d5_helped_104 (by decide) ?_
          refine x_icmp_neN 120 d5_helped_105 (by decide) (by omega) (by omega) (fun b105 => ?_) (fun b105 => ?_)
          · refine x_iconst (v := nI 0) d5_helped_120 (by decide) ?_
            refine x_iorN d5_helped_121 ?_
            refine x_istore_n d5_helped_122 ?_
            refine x_iincN (c := 1) d5_helped_123 rfl (by decide) ?_
            refine x_goto 78 d5_helped_126 (by decide) ?_
            rw [show a ||| 0 = a ||| asK σ p1 k from congrArg (fun q => a ||| q) (if_neg b105).symm]
            exact ih hkl _ (hK.line hσ hp1 hkl hs1)
          · refine x_iconst (v := nI 1) d5_helped_108 (by decide) ?_
            refine x_aload_n d5_helped_109 rfl ?_
            refine x_getP d5_helped_110 f5_26 (hS.T rfl) (hS.P rfl) ?_
            refine x_iload d5_helped_113 rfl ?_
            refine x_ialdN d5_helped_115 (hS.T rfl) (by omega) ?_
            refine x_top (congrArg Value.int (show I2 127 (12 * p1 + k) = nI (s_nu σ (12 * p1 + k)) from ((hsmI2.mp hM).nu hp1 hkl))) ?_
            have hnu_ := (hσ.row hp1 hkl).2.1
            refine x_1shlN d5_helped_116 (by omega) ?_
            refine x_goto 121 d5_helped_117 (by decide) ?_
            refine x_iorN d5_helped_121 ?_
            refine x_istore_n d5_helped_122 ?_
            refine x_iincN (c := 1) d5_helped_123 rfl (by decide) ?_
            refine x_goto 78 d5_helped_126 (by decide) ?_
            rw [show a ||| 2 ^ s_nu σ (12 * p1 + k) = a ||| asK σ p1 k from congrArg (fun q => a ||| q) (if_pos b105).symm]
            exact ih hkl _ (hK.line hσ hp1 hkl hs1)
      refine x_iload d5_helped_44 rfl ?_
      refine x_aload_n d5_helped_46 rfl ?_
      refine x_getI d5_helped_47 f5_86 (hS.T rfl) ?_
      refine x_top (congrArg Value.int (show I2 122 4 = nI (s_np σ) from (hsmI2.mp hM).np)) ?_
      refine x_icmp_geN 135 d5_helped_50 (by decide) (by omega) (by omega) (fun b50 => ?_) (fun b50 => ?_)
      · refine x_goto 34 d5_helped_135 (by decide) ?_
        have hpe : p1 = s_np σ := by omega
        subst hpe
        by_cases hae : a = h0
        · subst hae
          refine x_iload_n d5_helped_34 rfl ?_
          refine x_iload_n d5_helped_35 rfl ?_
          refine x_icmp_eqN 138 d5_helped_36 (by decide) (by omega) (by omega) (fun _ => ?_) (fun z => absurd rfl z)
          rw [hS1.fin hσ hp]
          exact hend _ _
        · refine x_iload_n d5_helped_34 rfl ?_
          refine x_iload_n d5_helped_35 rfl ?_
          refine x_icmp_eqN 138 d5_helped_36 (by decide) (by omega) (by omega) (fun z => absurd z hae) (fun _ => ?_)
          refine x_iload_n d5_helped_39 rfl ?_
          refine x_istore_n d5_helped_40 ?_
          exact hnext a (by have := sub_lt_of hS1.2.1 hae; omega) hS1.1 _ _
      · refine x_iload d5_helped_53 rfl ?_
        refine x_iload_n d5_helped_55 rfl ?_
        refine x_icmp_eqN 71 d5_helped_56 (by decide) (by omega) (by omega) (fun b56 => ?_) (fun b56 => ?_)
        · refine x_bipush (v := nI 12) d5_helped_71 (by decide) ?_
          refine x_iload d5_helped_73 rfl ?_
          refine x_imulN d5_helped_75 ?_
          refine x_istore d5_helped_76 ?_
          exact hkl_ p1 b50 (Or.inl b56) ih 0 (Nat.zero_le _) a ⟨hS1, fun _ h => absurd h (Nat.not_lt_zero _)⟩
        · refine x_iload_n d5_helped_59 rfl ?_
          refine x_iload d5_helped_60 rfl ?_
          refine x_ishrN d5_helped_62 (by omega) (by omega) ?_
          refine x_iconst (v := nI 1) d5_helped_63 (by decide) ?_
          refine x_tbN d5_helped_64 ?_
          have htb_ := tb_lt a p1
          refine x_if_neN 71 d5_helped_65 (by decide) (by omega) (fun b65 => ?_) (fun b65 => ?_)
          · refine x_bipush (v := nI 12) d5_helped_71 (by decide) ?_
            refine x_iload d5_helped_73 rfl ?_
            refine x_imulN d5_helped_75 ?_
            refine x_istore d5_helped_76 ?_
            exact hkl_ p1 b50 (Or.inr (hS1.1.2 p1 (tb_ne0.mp b65))) ih 0 (Nat.zero_le _) a ⟨hS1, fun _ h => absurd h (Nat.not_lt_zero _)⟩
          · refine x_goto 129 d5_helped_68 (by decide) ?_
            refine x_iincN (c := 1) d5_helped_129 rfl (by decide) ?_
            refine x_goto 44 d5_helped_132 (by decide) ?_
            exact ih (by omega) a (hS1.skip b56 (by cases hz : h0.testBit p1 with | false => rfl | true => have := hS1.2.1 p1 hz; rw [tb0.mp b65] at this; cases this)) _
    have hwh : ∀ a, HpI σ p a → ∀ v4 v5, RA G (d + 1) M5_helped 41 [.ref 122, .int (nI p), .int (nI a), .int (nI a), v4, v5] [] (t, I2, J, P, n, sl) (fun o h' => o = .inl (some (.int (qHelped σ (nI p)))) ∧ ∃ I' J', h' = (t, I', J', P, n, sl) ∧ MdS I' σ ρ ∧ MF I I' ∧ JF J J' ∧ I' 122 0 = 0) := by
      refine wh_ind (fun a => 1024 - a) ?_
      intro a ih hI v4 v5
      refine x_iconst (v := nI 0) d5_helped_41 (by decide) ?_
      refine x_istore d5_helped_42 ?_
      exact hpl a (fun z hz => ih z hz) hI.1 0 (Nat.zero_le _) a (HpS.init hI) _
    exact hwh 0 (HpI.zero σ p) _ _
  · refine CA.w ?_
    show RA _ _ M5_helped 0 [.ref 122, .int (nI p), U0, U0, U0, U0] [] _ _
    refine x_aload_n d5_helped_0 rfl ?_
    refine x_iconst (v := nI 0) d5_helped_1 (by decide) ?_
    refine x_putIE d5_helped_2 p5_80 (hS.T rfl) (fun I1 hI1 => ?_)
    have hsmI1 : MSm I I1 := MSm.thr hI1
    have hthI1 : I1 122 0 = 0 := by rw [hI1, u2_self]; rfl
    refine x_aload_n d5_helped_5 rfl ?_
    refine x_iload_n d5_helped_6 rfl ?_
    refine x_invV 122 1 d5_helped_7 (hS.T rfl) v5_101_5 (m_isPart _ hS (hsmI1.mp hM) (nI p)) (Cont.p ?_) (hB := hB) (hS := hSl)
    refine x_top (congrArg Value.int (b2i_t hv)) ?_
    refine x_if_ne 15 d5_helped_10 (by decide) (fun b10 => ?_) (fun b10 => absurd b10 (by decide))
    refine x_aload_n d5_helped_15 rfl ?_
    refine x_invV 122 0 d5_helped_16 (hS.T rfl) v5_231_5 (m_asks _ hS hσ (hsmI1.mp hM)) ?_ (hB := hB) (hS := hSl)
    rintro o h' ⟨rfl, I2, rfl, hFI2, hak⟩
    have hsmI2 : MSm I I2 := hsmI1.trans (MSm.ak hFI2)
    have hthI2 : I2 122 0 = 0 := by rw [hFI2 122 (by decide)]; exact hthI1
    refine x_aload_n d5_helped_19 rfl ?_
    refine x_getP d5_helped_20 f5_61 (hS.T rfl) (hS.P rfl) ?_
    refine x_iload_n d5_helped_23 rfl ?_
    refine x_zaldN d5_helped_24 (hS.T rfl) (by omega) ?_
    refine x_top (congrArg Value.int (show I2 137 p = nI 0 from ((hak _ (by omega)).trans (by rw [bP_f hA])))) ?_
    refine x_if_neN 30 d5_helped_25 (by decide) (by omega) (fun b25 => absurd b25 (by decide)) (fun b25 => ?_)
    refine x_iconst (v := nI 0) d5_helped_28 (by decide) ?_
    exact x_ireturn d5_helped_29 ⟨by rw [qHelped_f e hA], I2, J, rfl, hsmI2.mds hD, hsmI2.mf, JF.rf J, hthI2⟩
def E123 (I I' : Nat → Nat → Int32) : Prop := ∀ b, b ≠ 123 → I' b = I b
theorem E123.step {I I' I'' : Nat → Nat → Int32} {k : Nat} {v : Int32} (h : E123 I I') (hI : I'' = u2 I' 123 k v) : E123 I I'' := fun b hb => by rw [hI, u2_row _ _ _ hb]; exact h b hb
set_option maxHeartbeats 4000000 in
theorem m_trim (G : GG) (d : Nat)  (σ : Sg) (ρ : Rs) : MCon G (d + 1) M5_trim [.ref 122] σ ρ (nI (nTrim σ)) (sTrim σ) ρ := by
  intro t I J P n sl hS hD hB hSl
  have hσ := hD.1
  have hρ := hD.2.1
  have hM := hD.2.2.1
  have hR := hD.2.2.2
  have hnp := hσ.1
  refine CA.w ?_
  show RA _ _ M5_trim 0 [.ref 122, U0, U0, U0] [] _ _
  refine x_aload_n d5_trim_0 rfl ?_
  refine x_iconst (v := nI 0) d5_trim_1 (by decide) ?_
  refine x_putIE d5_trim_2 p5_80 (hS.T rfl) (fun I1 hI1 => ?_)
  have hsmI1 : MSm I I1 := MSm.thr hI1
  have hthI1 : I1 122 0 = 0 := by rw [hI1, u2_self]; rfl
  refine x_aload_n d5_trim_5 rfl ?_
  refine x_invV 122 0 d5_trim_6 (hS.T rfl) v5_231_5 (m_asks _ hS hσ (hsmI1.mp hM)) ?_ (hB := hB) (hS := hSl)
  rintro o h' ⟨rfl, I2, rfl, hFI2, hak⟩
  have hsmI2 : MSm I I2 := hsmI1.trans (MSm.ak hFI2)
  have hthI2 : I2 122 0 = 0 := by rw [hFI2 122 (by decide)]; exact hthI1
  refine x_iconst (v := nI 0) d5_trim_9 (by decide) ?_
  refine x_istore_n d5_trim_10 ?_
  refine x_iconst (v := nI 0) d5_trim_11 (by decide) ?_
  refine x_istore_n d5_trim_12 ?_
  have hL : ∀ k, k ≤ s_np σ → ∀ I9, MP I9 (sGr σ (trG σ k)) → E123 I2 I9 → (∀ p, p < 10 → I9 137 p = nI (bP (Asked σ p))) → ∀ v3, RA G (d + 1) M5_trim 13 [.ref 122, .int (nI (sumN k (fun p => pop (idl σ p)))), .int (nI k), v3] [] (t, I9, J, P, n, sl) (fun o h' => o = .inl (some (.int (nI (nTrim σ)))) ∧ ∃ I' J', h' = (t, I', J', P, n, sl) ∧ MdS I' (sTrim σ) ρ ∧ MF I I' ∧ JF J J' ∧ I' 122 0 = 0) := by
    refine up_ind ?_
    intro k hk_ ih I9 hM9 hE9 ha9 v3
    have hsum_ := sumN_le (n := k) (f := fun p => pop (idl σ p)) (c := 16) (fun i _ => pop_le _)
    refine x_iload_n d5_trim_13 rfl ?_
    refine x_aload_n d5_trim_14 rfl ?_
    refine x_getI d5_trim_15 f5_86 (hS.T rfl) ?_
    refine x_top (congrArg Value.int (show I9 122 4 = nI (s_np σ) from hM9.np)) ?_
    refine x_icmp_geN 61 d5_trim_18 (by decide) (by omega) (by omega) (fun b18 => ?_) (fun b18 => ?_)
    · refine x_iload_n d5_trim_61 rfl ?_
      refine x_ireturn d5_trim_62 ?_
      have hke : k = s_np σ := by omega
      subst hke
      exact ⟨rfl, I9, J, rfl, ⟨hσ.gr' (fun p hp => trG_lt hσ hp), hρ, hM9, (hsmI2.mr hR).same (fun q _ => by rw [hE9 122 (by decide)]) (fun b hb => hE9 b (by rintro rfl; revert hb; decide))⟩, hsmI2.mf.trans (fun b hb => hE9 b (by omega)), JF.rf J, by rw [hE9 122 (by decide)]; exact hthI2⟩
    · refine x_aload_n d5_trim_21 rfl ?_
      refine x_getP d5_trim_22 f5_13 (hS.T rfl) (hS.P rfl) ?_
      refine x_iload_n d5_trim_25 rfl ?_
      refine x_ialdN d5_trim_26 (hS.T rfl) (by omega) ?_
      refine x_top (congrArg Value.int (show I9 123 k = nI (s_gr σ k) from ((hM9.gr (show k < s_np σ by omega)).trans (by show nI (trG σ k k) = _; unfold trG; rw [if_neg (Nat.lt_irrefl k)])))) ?_
      have hgr_ := hσ.gr (show k < s_np σ by omega)
      refine x_aload_n d5_trim_27 rfl ?_
      refine x_iload_n d5_trim_28 rfl ?_
      refine x_invV 122 1 d5_trim_29 (hS.T rfl) v5_269_5 (m_neededOf _ hS (hσ.gr' (fun p hp => trG_lt hσ hp)) hM9 (show k < s_np σ by omega) (ha9 _ (by omega))) (Cont.p ?_) (hB := hB) (hS := hSl)
      refine x_top (show Value.int (nI (ndF (sGr σ (trG σ k)) k)) = Value.int (nI (ndF σ k)) from rfl) ?_
      refine x_iconst (v := -1) d5_trim_32 (by decide) ?_
      refine x_ixor d5_trim_33 ?_
      refine x_andnN d5_trim_34 hgr_ ?_
      refine x_istore_n d5_trim_35 ?_
      refine x_iload_n d5_trim_36 rfl ?_
      refine x_iload_n d5_trim_37 rfl ?_
      refine x_invS 1 d5_trim_38 s5_244 (m_bits G _ _ (adf (s_gr σ k) (ndF σ k)) (adf_lt hgr_)) (Cont.p ?_) (hB := hB) (hS := hSl)
      have hpop_ := pop_le (adf (s_gr σ k) (ndF σ k))
      refine x_iaddN d5_trim_41 ?_
      refine x_istore_n d5_trim_42 ?_
      refine x_aload_n d5_trim_43 rfl ?_
      refine x_getP d5_trim_44 f5_13 (hS.T rfl) (hS.P rfl) ?_
      refine x_iload_n d5_trim_47 rfl ?_
      refine x_dup2 d5_trim_48 rfl rfl ?_
      refine x_ialdN d5_trim_49 (hS.T rfl) (by omega) ?_
      refine x_top (congrArg Value.int (show I9 123 k = nI (s_gr σ k) from ((hM9.gr (show k < s_np σ by omega)).trans (by show nI (trG σ k k) = _; unfold trG; rw [if_neg (Nat.lt_irrefl k)])))) ?_
      have hgr_ := hσ.gr (show k < s_np σ by omega)
      refine x_iload_n d5_trim_50 rfl ?_
      refine x_iconst (v := -1) d5_trim_51 (by decide) ?_
      refine x_ixor d5_trim_52 ?_
      refine x_andnN d5_trim_53 hgr_ ?_
      refine x_iastN d5_trim_54 (hS.T rfl) (by omega) (fun I21 hI21 => ?_)
      refine x_iincN (c := 1) d5_trim_55 rfl (by decide) ?_
      refine x_goto 13 d5_trim_58 (by decide) ?_
      have hM8 : MP I21 (sGr σ (trG σ (k + 1))) := by
        refine hM9.upd (fun p hp => ?_) (fun b hb => by rw [hI21, u2_row _ _ _ hb])
        rw [hI21, u2_at]
        show _ = nI (trG σ (k + 1) p)
        unfold trG
        by_cases e : p = k
        · rw [if_pos e, if_pos (by omega), e]; rfl
        · rw [if_neg e, (hM9.gr hp)]
          show nI (trG σ k p) = _
          unfold trG
          by_cases e2 : p < k
          · rw [if_pos e2, if_pos (by omega)]
          · rw [if_neg e2, if_neg (by omega)]
      exact ih (by omega) I21 hM8 (hE9.step hI21) (fun q hq => by rw [hI21, u2_row _ _ _ (by decide)]; exact ha9 q hq) _
  exact hL 0 (Nat.zero_le _) I2 ((hsmI2.mp hM).upd (fun p hp => by rw [(hsmI2.mp hM).gr hp]; rfl) (fun _ _ => rfl)) (fun _ _ => rfl) hak _
set_option maxHeartbeats 4000000 in
theorem m_turns {G : GG} (d : Nat) {t : Nat → Option (Nat × Nat)} {J : Nat → Nat → Int64} {P : Nat → Nat → Value} {n sl : Nat} {I : Nat → Nat → Int32} (hS : SH t P) {p r g : Nat} (hp : p < 10) (hr : r < 16) (hg : I 123 p = nI g) : CA G d M5_turns [.ref 122, .int (nI (100 * p + r))] (t, I, J, P, n, sl) (fun o h' => o = .inl none ∧ h' = (t, u2 I 123 p (nI (g ^^^ 2 ^ r)), J, P, n, sl)) := by
  refine CA.w ?_
  show RA _ _ M5_turns 0 [.ref 122, .int (nI (100 * p + r))] [] _ _
  refine x_aload_n d5_turns_0 rfl ?_
  refine x_getP d5_turns_1 f5_13 (hS.T rfl) (hS.P rfl) ?_
  refine x_iload_n d5_turns_4 rfl ?_
  refine x_bipush (v := nI 100) d5_turns_5 (by decide) ?_
  refine x_idivN d5_turns_7 (by omega) (by omega) ?_
  refine x_dup2 d5_turns_8 rfl rfl ?_
  refine x_ialdN d5_turns_9 (hS.T rfl) (by omega) ?_
  refine x_top (congrArg Value.int (show I 123 ((100 * p + r) / 100) = nI g from (by rw [show (100 * p + r) / 100 = p by omega]; exact hg))) ?_
  refine x_iconst (v := nI 1) d5_turns_10 (by decide) ?_
  refine x_iload_n d5_turns_11 rfl ?_
  refine x_bipush (v := nI 100) d5_turns_12 (by decide) ?_
  refine x_iremN d5_turns_14 (by omega) (by omega) ?_
  refine x_1shlN d5_turns_15 (by omega) ?_
  refine x_ixorN d5_turns_16 ?_
  refine x_iastN d5_turns_17 (hS.T rfl) (by omega) (fun I1 hI1 => ?_)
  exact x_return d5_turns_18 ⟨rfl, by rw [hI1, show (100 * p + r) / 100 = p by omega, show (100 * p + r) % 100 = r by omega]⟩
/-- turned, worked, counted, turned back -/
theorem WK.back {σ' : Sg} {I I1 I2 I3 : Nat → Nat → Int32} {p : Nat} {x y : Int32} (h1 : I1 = u2 I 123 p x) (hW : WK σ' I1 I2) (h3 : I3 = u2 I2 123 p y) (hy : I 123 p = y) : MSm I I3 := by
  have e2 : ∀ b, b ∉ [133, 134, 135, 136, 137] → b ≠ 123 → I3 b = I b := fun b hb h => by rw [h3, u2_row _ _ _ h, hW.1 b hb, h1, u2_row _ _ _ h]
  refine ⟨fun b hb => ?_, fun k _ => by rw [e2 122 (by decide) (by decide)]⟩
  by_cases e : b = 123
  · subst e
    rw [h3]
    funext j
    rw [u2_at, hW.1 123 (by decide), h1, u2_at]
    by_cases ej : j = p
    · rw [if_pos ej, ej, hy]
    · rw [if_neg ej, if_neg ej]
  · exact e2 b (fun z => hb (by simp only [List.mem_cons, List.not_mem_nil, or_false] at z ⊢; omega)) e
set_option maxHeartbeats 4000000 in
theorem m_without (G : GG) (d : Nat) (v u : Int32) (σ : Sg) (ρ : Rs) : MCon G (d + 3) M5_without [.ref 122, .int v, .int u] σ ρ (qWithout σ ρ v u).1 σ (qWithout σ ρ v u).2 := by
  intro t I J P n sl hS hD hB hSl
  have hσ := hD.1
  have hρ := hD.2.1
  have hM := hD.2.2.1
  have hR := hD.2.2.2
  have hnp := hσ.1
  rcases ix_cases v (n := s_np σ) (by omega) with ⟨hv, e⟩ | ⟨p, hp, rfl, hv, e⟩
  · rw [show qWithout σ ρ v u = (-1, rT ρ 1) by simp only [qWithout, e]]
    refine CA.w ?_
    show RA _ _ M5_without 0 [.ref 122, .int v, .int u, U0] [] _ _
    refine x_aload_n d5_without_0 rfl ?_
    refine x_iconst (v := nI 0) d5_without_1 (by decide) ?_
    refine x_putIE d5_without_2 p5_80 (hS.T rfl) (fun I1 hI1 => ?_)
    have hsmI1 : MSm I I1 := MSm.thr hI1
    have hthI1 : I1 122 0 = 0 := by rw [hI1, u2_self]; rfl
    refine x_aload_n d5_without_5 rfl ?_
    refine x_iload_n d5_without_6 rfl ?_
    refine x_invV 122 1 d5_without_7 (hS.T rfl) v5_101_5 (m_isPart _ hS (hsmI1.mp hM) (v)) (Cont.p ?_) (hB := hB) (hS := hSl)
    refine x_top (congrArg Value.int (b2i_f hv)) ?_
    refine x_if_ne 19 d5_without_10 (by decide) (fun b10 => absurd b10 (by decide)) (fun b10 => ?_)
    refine x_aload_n d5_without_13 rfl ?_
    refine x_iconst (v := nI 1) d5_without_14 (by decide) ?_
    refine x_invV 122 1 d5_without_15 (hS.T rfl) v5_94_5 (m_refused _ hS (k := 1)) (Cont.e ?_) (hB := hB) (hS := hSl)
    obtain ⟨I2, hI2⟩ : ∃ z, z = u2 (u2 I1 122 1 (nI 1)) 122 2 (-1) := ⟨_, rfl⟩
    rw [← hI2]
    have hthI2 : I2 122 0 = 0 := by rw [hI2, u2_ne _ _ (by decide), u2_ne _ _ (by decide)]; exact hthI1
    exact x_ireturn d5_without_18 ⟨rfl, I2, J, rfl, (hsmI1.mds hD).tr hI2 (by decide), (hsmI1.mf).trans (MF.tell hI2), JF.rf J, hthI2⟩
  rcases ix_cases u (n := 16) (by decide) with ⟨hu, e2⟩ | ⟨r, hr, rfl, hu, e2⟩
  · rw [show qWithout σ ρ (nI p) u = (-1, rT ρ 2) by simp only [qWithout, e, e2]]
    refine CA.w ?_
    show RA _ _ M5_without 0 [.ref 122, .int (nI p), .int u, U0] [] _ _
    refine x_aload_n d5_without_0 rfl ?_
    refine x_iconst (v := nI 0) d5_without_1 (by decide) ?_
    refine x_putIE d5_without_2 p5_80 (hS.T rfl) (fun I1 hI1 => ?_)
    have hsmI1 : MSm I I1 := MSm.thr hI1
    have hthI1 : I1 122 0 = 0 := by rw [hI1, u2_self]; rfl
    refine x_aload_n d5_without_5 rfl ?_
    refine x_iload_n d5_without_6 rfl ?_
    refine x_invV 122 1 d5_without_7 (hS.T rfl) v5_101_5 (m_isPart _ hS (hsmI1.mp hM) (nI p)) (Cont.p ?_) (hB := hB) (hS := hSl)
    refine x_top (congrArg Value.int (b2i_t hv)) ?_
    refine x_if_ne 19 d5_without_10 (by decide) (fun b10 => ?_) (fun b10 => absurd b10 (by decide))
    refine x_iload_n d5_without_19 rfl ?_
    refine x_invS 1 d5_without_20 s5_228 (m_isRight G _ _ (u)) (Cont.p ?_) (hB := hB) (hS := hSl)
    refine x_top (congrArg Value.int (b2i_f hu)) ?_
    refine x_if_ne 32 d5_without_23 (by decide) (fun b23 => absurd b23 (by decide)) (fun b23 => ?_)
    refine x_aload_n d5_without_26 rfl ?_
    refine x_iconst (v := nI 2) d5_without_27 (by decide) ?_
    refine x_invV 122 1 d5_without_28 (hS.T rfl) v5_94_5 (m_refused _ hS (k := 2)) (Cont.e ?_) (hB := hB) (hS := hSl)
    obtain ⟨I2, hI2⟩ : ∃ z, z = u2 (u2 I1 122 1 (nI 2)) 122 2 (-1) := ⟨_, rfl⟩
    rw [← hI2]
    have hthI2 : I2 122 0 = 0 := by rw [hI2, u2_ne _ _ (by decide), u2_ne _ _ (by decide)]; exact hthI1
    exact x_ireturn d5_without_31 ⟨rfl, I2, J, rfl, (hsmI1.mds hD).tr hI2 (by decide), (hsmI1.mf).trans (MF.tell hI2), JF.rf J, hthI2⟩
  · rw [show qWithout σ ρ (nI p) (nI r) = (nI (nMis (flp σ p r) ρ), rT ρ 0) by simp only [qWithout, e, e2]]
    refine CA.w ?_
    show RA _ _ M5_without 0 [.ref 122, .int (nI p), .int (nI r), U0] [] _ _
    refine x_aload_n d5_without_0 rfl ?_
    refine x_iconst (v := nI 0) d5_without_1 (by decide) ?_
    refine x_putIE d5_without_2 p5_80 (hS.T rfl) (fun I1 hI1 => ?_)
    have hsmI1 : MSm I I1 := MSm.thr hI1
    have hthI1 : I1 122 0 = 0 := by rw [hI1, u2_self]; rfl
    refine x_aload_n d5_without_5 rfl ?_
    refine x_iload_n d5_without_6 rfl ?_
    refine x_invV 122 1 d5_without_7 (hS.T rfl) v5_101_5 (m_isPart _ hS (hsmI1.mp hM) (nI p)) (Cont.p ?_) (hB := hB) (hS := hSl)
    refine x_top (congrArg Value.int (b2i_t hv)) ?_
    refine x_if_ne 19 d5_without_10 (by decide) (fun b10 => ?_) (fun b10 => absurd b10 (by decide))
    refine x_iload_n d5_without_19 rfl ?_
    refine x_invS 1 d5_without_20 s5_228 (m_isRight G _ _ (nI r)) (Cont.p ?_) (hB := hB) (hS := hSl)
    refine x_top (congrArg Value.int (b2i_t hu)) ?_
    refine x_if_ne 32 d5_without_23 (by decide) (fun b23 => ?_) (fun b23 => absurd b23 (by decide))
    refine x_aload_n d5_without_32 rfl ?_
    refine x_bipush (v := nI 100) d5_without_33 (by decide) ?_
    refine x_iload_n d5_without_35 rfl ?_
    refine x_imulN d5_without_36 ?_
    refine x_iload_n d5_without_37 rfl ?_
    refine x_iaddN d5_without_38 ?_
    refine x_invV 122 1 d5_without_39 (hS.T rfl) v5_278_5 (m_turns _ hS (p := p) (r := r) (g := s_gr σ p) (by omega) hr ((hsmI1.mp hM).gr hp)) (Cont.ev ?_) (hB := hB) (hS := hSl)
    obtain ⟨I2, hI2⟩ : ∃ z, z = u2 I1 123 p (nI (s_gr σ p ^^^ 2 ^ r)) := ⟨_, rfl⟩
    rw [← hI2]
    have hMt : MP I2 (flp σ p r) := ((hsmI1.mp hM)).upd (row_set (fun q hq => ((hsmI1.mp hM)).gr hq) hI2 rfl) (fun b hb => by rw [hI2, u2_row _ _ _ hb])
    refine x_aload_n d5_without_42 rfl ?_
    refine x_invV 122 0 d5_without_43 (hS.T rfl) v5_241_5 (m_works _ hS (flp_ok hσ hp hr) hMt hB hSl) ?_ (hB := hB) (hS := hSl)
    rintro o h' ⟨rfl, I3, rfl, hW2⟩
    refine x_aload_n d5_without_46 rfl ?_
    refine x_invV 122 0 d5_without_47 (hS.T rfl) v5_247_5 (m_misuses _ hS (l := lk (flp σ p r)) (m := r_mt ρ) (fun s hs => ⟨hW2.2.2.2.2.2 s hs, lk_lt _ s⟩) (fun s hs => ⟨by rw [hW2.1 125 (by decide), hI2, u2_row _ _ _ (by decide)]; exact (hsmI1.mr hR).1 s hs, hρ.1 s hs⟩) hB hSl) (Cont.p ?_) (hB := hB) (hS := hSl)
    refine x_top (show _ = Value.int (nI (nMis (flp σ p r) ρ)) from rfl) ?_
    have hnm_ := nMis_le (flp σ p r) ρ
    refine x_istore_n d5_without_50 ?_
    refine x_aload_n d5_without_51 rfl ?_
    refine x_bipush (v := nI 100) d5_without_52 (by decide) ?_
    refine x_iload_n d5_without_54 rfl ?_
    refine x_imulN d5_without_55 ?_
    refine x_iload_n d5_without_56 rfl ?_
    refine x_iaddN d5_without_57 ?_
    refine x_invV 122 1 d5_without_58 (hS.T rfl) v5_278_5 (m_turns _ hS (p := p) (r := r) (g := s_gr σ p ^^^ 2 ^ r) (by omega) hr (by rw [hW2.1 123 (by decide), hI2, u2_self])) (Cont.ev ?_) (hB := hB) (hS := hSl)
    rw [xor2]
    obtain ⟨I4, hI4⟩ : ∃ z, z = u2 I3 123 p (nI (s_gr σ p)) := ⟨_, rfl⟩
    rw [← hI4]
    have hsmI4 : MSm I I4 := hsmI1.trans (WK.back hI2 hW2 hI4 (((hsmI1.mp hM)).gr hp))
    have hthI4 : I4 122 0 = 0 := by rw [hI4, u2_row _ _ _ (by decide), hW2.1 122 (by decide), hI2, u2_row _ _ _ (by decide)]; exact hthI1
    refine x_aload_n d5_without_61 rfl ?_
    refine x_iload_n d5_without_62 rfl ?_
    refine x_invV 122 1 d5_without_63 (hS.T rfl) v5_98_5 (m_done _ hS (v := nI (nMis (flp σ p r) ρ))) (Cont.e ?_) (hB := hB) (hS := hSl)
    obtain ⟨I5, hI5⟩ : ∃ z, z = u2 (u2 I4 122 1 (nI 0)) 122 2 (-1) := ⟨_, rfl⟩
    rw [← hI5]
    have hthI5 : I5 122 0 = 0 := by rw [hI5, u2_ne _ _ (by decide), u2_ne _ _ (by decide)]; exact hthI4
    exact x_ireturn d5_without_66 ⟨rfl, I5, J, rfl, (hsmI4.mds hD).tr hI5 (by decide), (hsmI4.mf).trans (MF.tell hI5), JF.rf J, hthI5⟩
set_option maxHeartbeats 4000000 in
theorem m_key (G : GG) (d : Nat) (σ : Sg) (ρ : Rs) : MCon G (d + 3) M5_key [.ref 122] σ ρ (qKey σ ρ).1 σ (qKey σ ρ).2 := by
  intro t I J P n sl hS hD hB hSl
  have hσ := hD.1
  have hρ := hD.2.1
  have hM := hD.2.2.1
  have hR := hD.2.2.2
  have hnp := hσ.1
  by_cases h0 : nMis σ ρ = 0
  · rw [show qKey σ ρ = (-1, rT ρ 5) from if_pos h0]
    refine CA.w ?_
    show RA _ _ M5_key 0 [.ref 122, U0, U0, U0, U0, U0, U0] [] _ _
    refine x_aload_n d5_key_0 rfl ?_
    refine x_iconst (v := nI 0) d5_key_1 (by decide) ?_
    refine x_putIE d5_key_2 p5_80 (hS.T rfl) (fun I1 hI1 => ?_)
    have hsmI1 : MSm I I1 := MSm.thr hI1
    have hthI1 : I1 122 0 = 0 := by rw [hI1, u2_self]; rfl
    refine x_aload_n d5_key_5 rfl ?_
    refine x_invV 122 0 d5_key_6 (hS.T rfl) v5_241_5 (m_works _ hS hσ (hsmI1.mp hM) hB hSl) ?_ (hB := hB) (hS := hSl)
    rintro o h' ⟨rfl, I2, rfl, hWK⟩
    have hsmI2 : MSm I I2 := hsmI1.trans (MSm.wk hWK)
    have hthI2 : I2 122 0 = 0 := by rw [hWK.1 122 (by decide)]; exact hthI1
    refine x_aload_n d5_key_9 rfl ?_
    refine x_invV 122 0 d5_key_10 (hS.T rfl) v5_247_5 (m_misuses _ hS (l := lk σ) (m := r_mt ρ) (fun s hs => ⟨hWK.2.2.2.2.2 s hs, lk_lt σ s⟩) (fun s hs => ⟨(hsmI2.mr hR).1 s hs, hρ.1 s hs⟩) hB hSl) (Cont.p ?_) (hB := hB) (hS := hSl)
    refine x_top (show _ = Value.int (nI (nMis σ ρ)) from rfl) ?_
    have hnm0 := nMis_le σ ρ
    refine x_istore_n d5_key_13 ?_
    refine x_iload_n d5_key_14 rfl ?_
    refine x_if_neN 24 d5_key_15 (by decide) (by omega) (fun b15 => absurd b15 (fun z => z h0)) (fun b15 => ?_)
    refine x_aload_n d5_key_18 rfl ?_
    refine x_iconst (v := nI 5) d5_key_19 (by decide) ?_
    refine x_invV 122 1 d5_key_20 (hS.T rfl) v5_94_5 (m_refused _ hS (k := 5)) (Cont.e ?_) (hB := hB) (hS := hSl)
    obtain ⟨I3, hI3⟩ : ∃ z, z = u2 (u2 I2 122 1 (nI 5)) 122 2 (-1) := ⟨_, rfl⟩
    rw [← hI3]
    have hthI3 : I3 122 0 = 0 := by rw [hI3, u2_ne _ _ (by decide), u2_ne _ _ (by decide)]; exact hthI2
    exact x_ireturn d5_key_23 ⟨rfl, I3, J, rfl, (hsmI2.mds hD).tr hI3 (by decide), (hsmI2.mf).trans (MF.tell hI3), JF.rf J, hthI3⟩
  · rw [show qKey σ ρ = (kyJ (kyW σ) (kyM σ ρ) (16 * s_np σ) 0 (nMis σ ρ) (-2), rT ρ 0) from if_neg h0]
    generalize hRe : kyJ (kyW σ) (kyM σ ρ) (16 * s_np σ) 0 (nMis σ ρ) (-2) = R
    refine CA.w ?_
    show RA _ _ M5_key 0 [.ref 122, U0, U0, U0, U0, U0, U0] [] _ _
    refine x_aload_n d5_key_0 rfl ?_
    refine x_iconst (v := nI 0) d5_key_1 (by decide) ?_
    refine x_putIE d5_key_2 p5_80 (hS.T rfl) (fun I1 hI1 => ?_)
    have hsmI1 : MSm I I1 := MSm.thr hI1
    have hthI1 : I1 122 0 = 0 := by rw [hI1, u2_self]; rfl
    refine x_aload_n d5_key_5 rfl ?_
    refine x_invV 122 0 d5_key_6 (hS.T rfl) v5_241_5 (m_works _ hS hσ (hsmI1.mp hM) hB hSl) ?_ (hB := hB) (hS := hSl)
    rintro o h' ⟨rfl, I2, rfl, hWK⟩
    have hsmI2 : MSm I I2 := hsmI1.trans (MSm.wk hWK)
    have hthI2 : I2 122 0 = 0 := by rw [hWK.1 122 (by decide)]; exact hthI1
    refine x_aload_n d5_key_9 rfl ?_
    refine x_invV 122 0 d5_key_10 (hS.T rfl) v5_247_5 (m_misuses _ hS (l := lk σ) (m := r_mt ρ) (fun s hs => ⟨hWK.2.2.2.2.2 s hs, lk_lt σ s⟩) (fun s hs => ⟨(hsmI2.mr hR).1 s hs, hρ.1 s hs⟩) hB hSl) (Cont.p ?_) (hB := hB) (hS := hSl)
    refine x_top (show _ = Value.int (nI (nMis σ ρ)) from rfl) ?_
    have hnm0 := nMis_le σ ρ
    refine x_istore_n d5_key_13 ?_
    refine x_iload_n d5_key_14 rfl ?_
    refine x_if_neN 24 d5_key_15 (by decide) (by omega) (fun b15 => ?_) (fun b15 => absurd b15 h0)
    refine x_bipush (v := -2) d5_key_24 (by decide) ?_
    refine x_istore_n d5_key_26 ?_
    refine x_iconst (v := nI 0) d5_key_27 (by decide) ?_
    refine x_istore_n d5_key_28 ?_
    refine x_iconst (v := nI 0) d5_key_29 (by decide) ?_
    refine x_istore d5_key_30 ?_
    have hin : ∀ p, p < s_np σ → (p < s_np σ → ∀ f l b I9, 16 * (p + 1) + 0 + f = 16 * s_np σ → l ≤ nMis σ ρ → MSm I I9 → I9 122 0 = 0 → kyJ (kyW σ) (kyM σ ρ) f (16 * (p + 1) + 0) l b = R → ∀ v5 v6, RA G (d + 3) M5_key 32 [.ref 122, .int (nI (nMis σ ρ)), .int b, .int (nI (nMis σ ρ - l)), .int (nI (p + 1)), v5, v6] [] (t, I9, J, P, n, sl) (fun o h' => o = .inl (some (.int R)) ∧ ∃ I' J', h' = (t, I', J', P, n, sl) ∧ MdS I' σ (rT ρ 0) ∧ MF I I' ∧ JF J J' ∧ I' 122 0 = 0)) → ∀ r, r ≤ 16 → ∀ f l b I9, 16 * p + r + f = 16 * s_np σ → l ≤ nMis σ ρ → MSm I I9 → I9 122 0 = 0 → kyJ (kyW σ) (kyM σ ρ) f (16 * p + r) l b = R → ∀ v6, RA G (d + 3) M5_key 44 [.ref 122, .int (nI (nMis σ ρ)), .int b, .int (nI (nMis σ ρ - l)), .int (nI p), .int (nI r), v6] [] (t, I9, J, P, n, sl) (fun o h' => o = .inl (some (.int R)) ∧ ∃ I' J', h' = (t, I', J', P, n, sl) ∧ MdS I' σ (rT ρ 0) ∧ MF I I' ∧ JF J J' ∧ I' 122 0 = 0) := by
      intro p hp ihp
      refine up_ind ?_
      intro r hr_ ih f l b I9 hf hl hsm9 hth9 hRe v6
      refine x_iload d5_key_44 rfl ?_
      refine x_bipush (v := nI 16) d5_key_46 (by decide) ?_
      refine x_icmp_geN 132 d5_key_48 (by decide) (by omega) (by omega) (fun b48 => ?_) (fun b48 => ?_)
      · refine x_iincN (c := 1) d5_key_132 rfl (by decide) ?_
        refine x_goto 32 d5_key_135 (by decide) ?_
        have hr16 : r = 16 := by omega
        subst hr16
        exact ihp hp f l b I9 (by omega) hl hsm9 hth9 (by rw [show 16 * (p + 1) + 0 = 16 * p + 16 by omega]; exact hRe) _ _
      · obtain ⟨f, rfl⟩ : ∃ g, f = g + 1 := ⟨f - 1, by omega⟩
        rw [kyJ] at hRe
        have e1 : (16 * p + r) / 16 = p := by omega
        have e2 : (16 * p + r) % 16 = r := by omega
        have eM : kyM σ ρ (16 * p + r) = nMis (flp σ p r) ρ := by unfold kyM; rw [e1, e2]
        have eW : kyW σ (16 * p + r) = (s_gr σ p).testBit r := by unfold kyW; rw [e1, e2]
        refine x_aload_n d5_key_51 rfl ?_
        refine x_getP d5_key_52 f5_13 (hS.T rfl) (hS.P rfl) ?_
        refine x_iload d5_key_55 rfl ?_
        refine x_ialdN d5_key_57 (hS.T rfl) (by omega) ?_
        refine x_top (congrArg Value.int (show I9 123 p = nI (s_gr σ p) from ((hsm9.mp hM).gr hp))) ?_
        have hgr_ := hσ.gr hp
        refine x_iload d5_key_58 rfl ?_
        refine x_ishrN d5_key_60 (by omega) (by omega) ?_
        refine x_iconst (v := nI 1) d5_key_61 (by decide) ?_
        refine x_tbN d5_key_62 ?_
        have htb_ := tb_lt (s_gr σ p) r
        refine x_if_neN 69 d5_key_63 (by decide) (by omega) (fun b63 => ?_) (fun b63 => ?_)
        · refine x_aload_n d5_key_69 rfl ?_
          refine x_bipush (v := nI 100) d5_key_70 (by decide) ?_
          refine x_iload d5_key_72 rfl ?_
          refine x_imulN d5_key_74 ?_
          refine x_iload d5_key_75 rfl ?_
          refine x_iaddN d5_key_77 ?_
          refine x_invV 122 1 d5_key_78 (hS.T rfl) v5_278_5 (m_turns _ hS (p := p) (r := r) (g := s_gr σ p) (by omega) b48 ((hsm9.mp hM).gr hp)) (Cont.ev ?_) (hB := hB) (hS := hSl)
          obtain ⟨I21, hI21⟩ : ∃ z, z = u2 I9 123 p (nI (s_gr σ p ^^^ 2 ^ r)) := ⟨_, rfl⟩
          rw [← hI21]
          have hMt : MP I21 (flp σ p r) := ((hsm9.mp hM)).upd (row_set (fun q hq => ((hsm9.mp hM)).gr hq) hI21 rfl) (fun b hb => by rw [hI21, u2_row _ _ _ hb])
          refine x_aload_n d5_key_81 rfl ?_
          refine x_invV 122 0 d5_key_82 (hS.T rfl) v5_241_5 (m_works _ hS (flp_ok hσ hp b48) hMt hB hSl) ?_ (hB := hB) (hS := hSl)
          rintro o h' ⟨rfl, I22, rfl, hW2⟩
          refine x_iload_n d5_key_85 rfl ?_
          refine x_aload_n d5_key_86 rfl ?_
          refine x_invV 122 0 d5_key_87 (hS.T rfl) v5_247_5 (m_misuses _ hS (l := lk (flp σ p r)) (m := r_mt ρ) (fun s hs => ⟨hW2.2.2.2.2.2 s hs, lk_lt _ s⟩) (fun s hs => ⟨by rw [hW2.1 125 (by decide), hI21, u2_row _ _ _ (by decide)]; exact (hsm9.mr hR).1 s hs, hρ.1 s hs⟩) hB hSl) (Cont.p ?_) (hB := hB) (hS := hSl)
          refine x_top (show _ = Value.int (nI (nMis (flp σ p r) ρ)) from rfl) ?_
          have hnm_ := nMis_le (flp σ p r) ρ
          refine x_isub d5_key_90 ?_
          refine x_istore d5_key_91 ?_
          refine x_aload_n d5_key_93 rfl ?_
          refine x_bipush (v := nI 100) d5_key_94 (by decide) ?_
          refine x_iload d5_key_96 rfl ?_
          refine x_imulN d5_key_98 ?_
          refine x_iload d5_key_99 rfl ?_
          refine x_iaddN d5_key_101 ?_
          refine x_invV 122 1 d5_key_102 (hS.T rfl) v5_278_5 (m_turns _ hS (p := p) (r := r) (g := s_gr σ p ^^^ 2 ^ r) (by omega) b48 (by rw [hW2.1 123 (by decide), hI21, u2_self])) (Cont.ev ?_) (hB := hB) (hS := hSl)
          rw [xor2]
          obtain ⟨I23, hI23⟩ : ∃ z, z = u2 I22 123 p (nI (s_gr σ p)) := ⟨_, rfl⟩
          rw [← hI23]
          have hsmI23 : MSm I I23 := hsm9.trans (WK.back hI21 hW2 hI23 (((hsm9.mp hM)).gr hp))
          have hthI23 : I23 122 0 = 0 := by rw [hI23, u2_row _ _ _ (by decide), hW2.1 122 (by decide), hI21, u2_row _ _ _ (by decide)]; exact hth9
          refine x_iload d5_key_105 rfl ?_
          refine x_iload_n d5_key_107 rfl ?_
          refine x_icmp_gt 114 d5_key_108 (by decide) (fun b108 => ?_) (fun b108 => ?_)
          · refine x_iload d5_key_114 rfl ?_
            refine x_istore_n d5_key_116 ?_
            refine x_bipush (v := nI 100) d5_key_117 (by decide) ?_
            refine x_iload d5_key_119 rfl ?_
            refine x_imulN d5_key_121 ?_
            refine x_iload d5_key_122 rfl ?_
            refine x_iaddN d5_key_124 ?_
            refine x_istore_n d5_key_125 ?_
            refine x_iincN (c := 1) d5_key_126 rfl (by decide) ?_
            refine x_goto 44 d5_key_129 (by decide) ?_
            have hml := (gone_lt hl (by omega) (by omega)).mp b108
            rw [if_pos (by rw [eW]; exact tb_ne0.mp b63), eM, if_pos hml, e1, e2] at hRe
            rw [pk_sub (by omega)]
            exact ih (by omega) f (nMis (flp σ p r) ρ) _ I23 (by omega) (by omega) hsmI23 hthI23 hRe _
          · refine x_goto 126 d5_key_111 (by decide) ?_
            refine x_iincN (c := 1) d5_key_126 rfl (by decide) ?_
            refine x_goto 44 d5_key_129 (by decide) ?_
            rw [if_pos (by rw [eW]; exact tb_ne0.mp b63), eM, if_neg (fun z => b108 ((gone_lt hl (by omega) (by omega)).mpr z))] at hRe
            exact ih (by omega) f l b I23 (by omega) hl hsmI23 hthI23 hRe _
        · refine x_goto 126 d5_key_66 (by decide) ?_
          refine x_iincN (c := 1) d5_key_126 rfl (by decide) ?_
          refine x_goto 44 d5_key_129 (by decide) ?_
          rw [if_neg (by rw [eW, tb0.mp b63]; decide)] at hRe
          exact ih (by omega) f l b I9 (by omega) hl hsm9 hth9 hRe _
    have hout : ∀ p, p ≤ s_np σ → ∀ f l b I9, 16 * p + 0 + f = 16 * s_np σ → l ≤ nMis σ ρ → MSm I I9 → I9 122 0 = 0 → kyJ (kyW σ) (kyM σ ρ) f (16 * p + 0) l b = R → ∀ v5 v6, RA G (d + 3) M5_key 32 [.ref 122, .int (nI (nMis σ ρ)), .int b, .int (nI (nMis σ ρ - l)), .int (nI p), v5, v6] [] (t, I9, J, P, n, sl) (fun o h' => o = .inl (some (.int R)) ∧ ∃ I' J', h' = (t, I', J', P, n, sl) ∧ MdS I' σ (rT ρ 0) ∧ MF I I' ∧ JF J J' ∧ I' 122 0 = 0) := by
      refine up_ind ?_
      intro p hp_ ih f l b I9 hf hl hsm9 hth9 hRe v5 v6
      refine x_iload d5_key_32 rfl ?_
      refine x_aload_n d5_key_34 rfl ?_
      refine x_getI d5_key_35 f5_86 (hS.T rfl) ?_
      refine x_top (congrArg Value.int (show I9 122 4 = nI (s_np σ) from (hsm9.mp hM).np)) ?_
      refine x_icmp_geN 138 d5_key_38 (by decide) (by omega) (by omega) (fun b38 => ?_) (fun b38 => ?_)
      · refine x_aload_n d5_key_138 rfl ?_
        refine x_iload_n d5_key_139 rfl ?_
        refine x_invV 122 1 d5_key_140 (hS.T rfl) v5_98_5 (m_done _ hS (v := b)) (Cont.e ?_) (hB := hB) (hS := hSl)
        obtain ⟨I41, hI41⟩ : ∃ z, z = u2 (u2 I9 122 1 (nI 0)) 122 2 (-1) := ⟨_, rfl⟩
        rw [← hI41]
        have hthI41 : I41 122 0 = 0 := by rw [hI41, u2_ne _ _ (by decide), u2_ne _ _ (by decide)]; exact hth9
        exact x_ireturn d5_key_143 ⟨by rw [show f = 0 by omega, kyJ] at hRe; rw [hRe], I41, J, rfl, (hsm9.mds hD).tr hI41 (by decide), (hsm9.mf).trans (MF.tell hI41), JF.rf J, hthI41⟩
      · refine x_iconst (v := nI 0) d5_key_41 (by decide) ?_
        refine x_istore d5_key_42 ?_
        exact hin p b38 ih 0 (Nat.zero_le _) f l b I9 (by omega) hl hsm9 hth9 hRe _
    have hgo := hout 0 (Nat.zero_le _) (16 * s_np σ) (nMis σ ρ) (-2) I2 (by omega) (Nat.le_refl _) hsmI2 hthI2 hRe U0 U0
    rw [Nat.sub_self] at hgo
    exact hgo
