/-! the reference: what is told; queries on what is held -/
set_option maxRecDepth 100000
set_option maxHeartbeats 4000000 in
theorem m_refused {G : GG} (d : Nat) {t : Nat → Option (Nat × Nat)} {J : Nat → Nat → Int64} {P : Nat → Nat → Value} {n sl : Nat} {I : Nat → Nat → Int32} (hS : SH t P) {k : Nat} : CA G d M5_refused [.ref 122, .int (nI k)] (t, I, J, P, n, sl) (fun o h' => o = .inl (some (.int (-1))) ∧ h' = (t, u2 (u2 I 122 1 (nI k)) 122 2 (-1), J, P, n, sl)) := by
  refine CA.w ?_
  show RA _ _ M5_refused 0 [.ref 122, .int (nI k)] [] _ _
  refine x_aload_n d5_refused_0 rfl ?_
  refine x_iload_n d5_refused_1 rfl ?_
  refine x_putIE d5_refused_2 p5_83 (hS.T rfl) (fun I1 hI1 => ?_)
  refine x_aload_n d5_refused_5 rfl ?_
  refine x_iconst (v := -1) d5_refused_6 (by decide) ?_
  refine x_putIE d5_refused_7 p5_9 (hS.T rfl) (fun I2 hI2 => ?_)
  refine x_iconst (v := -1) d5_refused_10 (by decide) ?_
  exact x_ireturn d5_refused_11 ⟨rfl, by rw [hI2, hI1]⟩
set_option maxHeartbeats 4000000 in
theorem m_denied {G : GG} (d : Nat) {t : Nat → Option (Nat × Nat)} {J : Nat → Nat → Int64} {P : Nat → Nat → Value} {n sl : Nat} {I : Nat → Nat → Int32} (hS : SH t P) {k : Nat} : CA G d M5_denied [.ref 122, .int (nI k)] (t, I, J, P, n, sl) (fun o h' => o = .inl (some (.int (nI 0))) ∧ h' = (t, u2 (u2 I 122 1 (nI k)) 122 2 (-1), J, P, n, sl)) := by
  refine CA.w ?_
  show RA _ _ M5_denied 0 [.ref 122, .int (nI k)] [] _ _
  refine x_aload_n d5_denied_0 rfl ?_
  refine x_iload_n d5_denied_1 rfl ?_
  refine x_putIE d5_denied_2 p5_83 (hS.T rfl) (fun I1 hI1 => ?_)
  refine x_aload_n d5_denied_5 rfl ?_
  refine x_iconst (v := -1) d5_denied_6 (by decide) ?_
  refine x_putIE d5_denied_7 p5_9 (hS.T rfl) (fun I2 hI2 => ?_)
  refine x_iconst (v := nI 0) d5_denied_10 (by decide) ?_
  exact x_ireturn d5_denied_11 ⟨rfl, by rw [hI2, hI1]⟩
set_option maxHeartbeats 4000000 in
theorem m_done {G : GG} (d : Nat) {t : Nat → Option (Nat × Nat)} {J : Nat → Nat → Int64} {P : Nat → Nat → Value} {n sl : Nat} {I : Nat → Nat → Int32} (hS : SH t P) {v : Int32} : CA G d M5_done [.ref 122, .int v] (t, I, J, P, n, sl) (fun o h' => o = .inl (some (.int v)) ∧ h' = (t, u2 (u2 I 122 1 (nI 0)) 122 2 (-1), J, P, n, sl)) := by
  refine CA.w ?_
  show RA _ _ M5_done 0 [.ref 122, .int v] [] _ _
  refine x_aload_n d5_done_0 rfl ?_
  refine x_iconst (v := nI 0) d5_done_1 (by decide) ?_
  refine x_putIE d5_done_2 p5_83 (hS.T rfl) (fun I1 hI1 => ?_)
  refine x_aload_n d5_done_5 rfl ?_
  refine x_iconst (v := -1) d5_done_6 (by decide) ?_
  refine x_putIE d5_done_7 p5_9 (hS.T rfl) (fun I2 hI2 => ?_)
  refine x_iload_n d5_done_10 rfl ?_
  exact x_ireturn d5_done_11 ⟨rfl, by rw [hI2, hI1]⟩
set_option maxHeartbeats 4000000 in
theorem m_granted {G : GG} (d : Nat) {t : Nat → Option (Nat × Nat)} {J : Nat → Nat → Int64} {P : Nat → Nat → Value} {n sl : Nat} {I : Nat → Nat → Int32} (hS : SH t P)  : CA G d M5_granted [.ref 122] (t, I, J, P, n, sl) (fun o h' => o = .inl (some (.int (nI 1))) ∧ h' = (t, u2 (u2 I 122 1 (nI 0)) 122 2 (-1), J, P, n, sl)) := by
  refine CA.w ?_
  show RA _ _ M5_granted 0 [.ref 122] [] _ _
  refine x_aload_n d5_granted_0 rfl ?_
  refine x_iconst (v := nI 0) d5_granted_1 (by decide) ?_
  refine x_putIE d5_granted_2 p5_83 (hS.T rfl) (fun I1 hI1 => ?_)
  refine x_aload_n d5_granted_5 rfl ?_
  refine x_iconst (v := -1) d5_granted_6 (by decide) ?_
  refine x_putIE d5_granted_7 p5_9 (hS.T rfl) (fun I2 hI2 => ?_)
  refine x_iconst (v := nI 1) d5_granted_10 (by decide) ?_
  exact x_ireturn d5_granted_11 ⟨rfl, by rw [hI2, hI1]⟩
theorem MdS.tr {I I' : Nat → Nat → Int32} {σ : Sg} {ρ : Rs} {k : Nat} (hD : MdS I σ ρ) (hI : I' = u2 (u2 I 122 1 (nI k)) 122 2 (-1)) (hk : k < 100) : MdS I' σ (rT ρ k) := by
  obtain ⟨h1, h2, h3, h4⟩ := hD
  have er : ∀ b, b ≠ 122 → I' b = I b := fun b hb => by rw [hI, u2_row _ _ _ hb, u2_row _ _ _ hb]
  have ef : ∀ j, j ≠ 1 → j ≠ 2 → I' 122 j = I 122 j := fun j a b => by rw [hI, u2_ne _ _ b, u2_ne _ _ a]
  refine ⟨h1, ⟨h2.1, h2.2.1, hk, h2.2.2.2.1, h2.2.2.2.2.1, h2.2.2.2.2.2.1, fun _ => rfl⟩, ?_, ?_⟩
  · unfold MP
    rw [ef 4 (by decide) (by decide), er 123 (by decide), er 124 (by decide), er 126 (by decide), er 127 (by decide), er 128 (by decide), er 129 (by decide), er 130 (by decide)]
    exact h3
  · unfold MR
    rw [ef 15 (by decide) (by decide), ef 3 (by decide) (by decide), ef 30 (by decide) (by decide), ef 34 (by decide) (by decide), er 125 (by decide), er 132 (by decide), er 139 (by decide), er 141 (by decide)]
    refine ⟨h4.1, h4.2.1, h4.2.2.1, ?_, ?_, h4.2.2.2.2.2⟩
    · rw [hI, u2_ne _ _ (by decide), u2_self]; rfl
    · rw [hI, u2_self]; rfl
theorem MF.tell {I I' : Nat → Nat → Int32} {k : Nat} (hI : I' = u2 (u2 I 122 1 (nI k)) 122 2 (-1)) : MF I I' := fun b hb => by rw [hI, u2_row _ _ _ (by omega), u2_row _ _ _ (by omega)]
set_option maxHeartbeats 4000000 in
theorem m_fault (G : GG) (d : Nat)  (σ : Sg) (ρ : Rs) : MCon G (d + 0) M5_fault [.ref 122] σ ρ (nI (r_fa ρ)) σ ρ := by
  intro t I J P n sl hS hD hB hSl
  have hσ := hD.1
  have hρ := hD.2.1
  have hM := hD.2.2.1
  have hR := hD.2.2.2
  have hnp := hσ.1
  refine CA.w ?_
  show RA _ _ M5_fault 0 [.ref 122] [] _ _
  refine x_aload_n d5_fault_0 rfl ?_
  refine x_iconst (v := nI 0) d5_fault_1 (by decide) ?_
  refine x_putIE d5_fault_2 p5_80 (hS.T rfl) (fun I1 hI1 => ?_)
  have hsmI1 : MSm I I1 := MSm.thr hI1
  have hthI1 : I1 122 0 = 0 := by rw [hI1, u2_self]; rfl
  refine x_aload_n d5_fault_5 rfl ?_
  refine x_getI d5_fault_6 f5_222 (hS.T rfl) ?_
  refine x_top (congrArg Value.int (hsmI1.mr hR).2.2.2.2.2.1) ?_
  exact x_ireturn d5_fault_9 ⟨rfl, I1, J, rfl, hsmI1.mds hD, hsmI1.mf, JF.rf J, hthI1⟩
set_option maxHeartbeats 4000000 in
theorem m_where (G : GG) (d : Nat)  (σ : Sg) (ρ : Rs) : MCon G (d + 0) M5_where [.ref 122] σ ρ (r_wh ρ) σ ρ := by
  intro t I J P n sl hS hD hB hSl
  have hσ := hD.1
  have hρ := hD.2.1
  have hM := hD.2.2.1
  have hR := hD.2.2.2
  have hnp := hσ.1
  refine CA.w ?_
  show RA _ _ M5_where 0 [.ref 122] [] _ _
  refine x_aload_n d5_where_0 rfl ?_
  refine x_iconst (v := nI 0) d5_where_1 (by decide) ?_
  refine x_putIE d5_where_2 p5_80 (hS.T rfl) (fun I1 hI1 => ?_)
  have hsmI1 : MSm I I1 := MSm.thr hI1
  have hthI1 : I1 122 0 = 0 := by rw [hI1, u2_self]; rfl
  refine x_aload_n d5_where_5 rfl ?_
  refine x_getI d5_where_6 f5_9 (hS.T rfl) ?_
  refine x_top (congrArg Value.int (hsmI1.mr hR).2.2.2.2.1) ?_
  exact x_ireturn d5_where_9 ⟨rfl, I1, J, rfl, hsmI1.mds hD, hsmI1.mf, JF.rf J, hthI1⟩
set_option maxHeartbeats 4000000 in
theorem m_trouble (G : GG) (d : Nat)  (σ : Sg) (ρ : Rs) : MCon G (d + 0) M5_trouble [.ref 122] σ ρ (nI (r_tr ρ)) σ ρ := by
  intro t I J P n sl hS hD hB hSl
  have hσ := hD.1
  have hρ := hD.2.1
  have hM := hD.2.2.1
  have hR := hD.2.2.2
  have hnp := hσ.1
  refine CA.w ?_
  show RA _ _ M5_trouble 0 [.ref 122] [] _ _
  refine x_aload_n d5_trouble_0 rfl ?_
  refine x_iconst (v := nI 0) d5_trouble_1 (by decide) ?_
  refine x_putIE d5_trouble_2 p5_80 (hS.T rfl) (fun I1 hI1 => ?_)
  have hsmI1 : MSm I I1 := MSm.thr hI1
  have hthI1 : I1 122 0 = 0 := by rw [hI1, u2_self]; rfl
  refine x_aload_n d5_trouble_5 rfl ?_
  refine x_getI d5_trouble_6 f5_83 (hS.T rfl) ?_
  refine x_top (congrArg Value.int (hsmI1.mr hR).2.2.2.1) ?_
  exact x_ireturn d5_trouble_9 ⟨rfl, I1, J, rfl, hsmI1.mds hD, hsmI1.mf, JF.rf J, hthI1⟩
set_option maxHeartbeats 4000000 in
theorem m_thrown {G : GG} (d : Nat) {t : Nat → Option (Nat × Nat)} {J : Nat → Nat → Int64} {P : Nat → Nat → Value} {n sl : Nat} {I : Nat → Nat → Int32} (hS : SH t P) : CA G d M5_thrown [.ref 122] (t, I, J, P, n, sl) (fun o h' => o = .inl (some (.int (I 122 0))) ∧ h' = (t, I, J, P, n, sl)) := by
  refine CA.w ?_
  show RA _ _ M5_thrown 0 [.ref 122] [] _ _
  refine x_aload_n d5_thrown_0 rfl ?_
  refine x_getI d5_thrown_1 f5_80 (hS.T rfl) ?_
  exact x_ireturn d5_thrown_4 ⟨rfl, rfl⟩
noncomputable def qResult (σ : Sg) (v : Int32) : Int32 := match ixOf v (s_np σ) with | some p => nI (mk16 (Held σ (80 + p))) | none => -1
noncomputable def qAsked (σ : Sg) (v : Int32) : Int32 := match ixOf v (s_np σ) with | some p => nI (bP (Asked σ p)) | none => -1
noncomputable def qHolds (σ : Sg) (v u : Int32) : Int32 := match ixOf v (s_np σ), ixOf u 8 with | some p, some k => nI (mk16 (Held σ (8 * p + k))) | _, _ => -1
noncomputable def qDoor (σ : Sg) (v : Int32) : Int32 := match ixOf v 16 with | some d => nI (dr σ d) | none => -1
set_option maxHeartbeats 4000000 in
theorem m_result (G : GG) (d : Nat) (v : Int32) (σ : Sg) (ρ : Rs) : MCon G (d + 3) M5_result [.ref 122, .int v] σ ρ (qResult σ v) σ ρ := by
  intro t I J P n sl hS hD hB hSl
  have hσ := hD.1
  have hρ := hD.2.1
  have hM := hD.2.2.1
  have hR := hD.2.2.2
  have hnp := hσ.1
  rcases ix_cases v (n := s_np σ) (by omega) with ⟨hv, e⟩ | ⟨p, hp, rfl, hv, e⟩
  · refine CA.w ?_
    show RA _ _ M5_result 0 [.ref 122, .int v] [] _ _
    refine x_aload_n d5_result_0 rfl ?_
    refine x_iconst (v := nI 0) d5_result_1 (by decide) ?_
    refine x_putIE d5_result_2 p5_80 (hS.T rfl) (fun I1 hI1 => ?_)
    have hsmI1 : MSm I I1 := MSm.thr hI1
    have hthI1 : I1 122 0 = 0 := by rw [hI1, u2_self]; rfl
    refine x_aload_n d5_result_5 rfl ?_
    refine x_iload_n d5_result_6 rfl ?_
    refine x_invV 122 1 d5_result_7 (hS.T rfl) v5_101_5 (m_isPart _ hS (hsmI1.mp hM) (v)) (Cont.p ?_) (hB := hB) (hS := hSl)
    refine x_top (congrArg Value.int (b2i_f hv)) ?_
    refine x_if_ne 15 d5_result_10 (by decide) (fun b10 => absurd b10 (by decide)) (fun b10 => ?_)
    refine x_iconst (v := -1) d5_result_13 (by decide) ?_
    exact x_ireturn d5_result_14 ⟨by unfold qResult; rw [e], I1, J, rfl, hsmI1.mds hD, hsmI1.mf, JF.rf J, hthI1⟩
  · refine CA.w ?_
    show RA _ _ M5_result 0 [.ref 122, .int (nI p)] [] _ _
    refine x_aload_n d5_result_0 rfl ?_
    refine x_iconst (v := nI 0) d5_result_1 (by decide) ?_
    refine x_putIE d5_result_2 p5_80 (hS.T rfl) (fun I1 hI1 => ?_)
    have hsmI1 : MSm I I1 := MSm.thr hI1
    have hthI1 : I1 122 0 = 0 := by rw [hI1, u2_self]; rfl
    refine x_aload_n d5_result_5 rfl ?_
    refine x_iload_n d5_result_6 rfl ?_
    refine x_invV 122 1 d5_result_7 (hS.T rfl) v5_101_5 (m_isPart _ hS (hsmI1.mp hM) (nI p)) (Cont.p ?_) (hB := hB) (hS := hSl)
    refine x_top (congrArg Value.int (b2i_t hv)) ?_
    refine x_if_ne 15 d5_result_10 (by decide) (fun b10 => ?_) (fun b10 => absurd b10 (by decide))
    refine x_aload_n d5_result_15 rfl ?_
    refine x_invV 122 0 d5_result_16 (hS.T rfl) v5_241_5 (m_works _ hS hσ (hsmI1.mp hM) hB hSl) ?_ (hB := hB) (hS := hSl)
    rintro o h' ⟨rfl, I2, rfl, hWK⟩
    have hsmI2 : MSm I I2 := hsmI1.trans (MSm.wk hWK)
    have hthI2 : I2 122 0 = 0 := by rw [hWK.1 122 (by decide)]; exact hthI1
    refine x_aload_n d5_result_19 rfl ?_
    refine x_getP d5_result_20 f5_55 (hS.T rfl) (hS.P rfl) ?_
    refine x_iload_n d5_result_23 rfl ?_
    refine x_ialdN d5_result_24 (hS.T rfl) (by omega) ?_
    refine x_top (congrArg Value.int (hWK.2.2.2.1 _ (by omega))) ?_
    exact x_ireturn d5_result_25 ⟨by unfold qResult; rw [e], I2, J, rfl, hsmI2.mds hD, hsmI2.mf, JF.rf J, hthI2⟩
set_option maxHeartbeats 4000000 in
theorem m_asked (G : GG) (d : Nat) (v : Int32) (σ : Sg) (ρ : Rs) : MCon G (d + 3) M5_asked [.ref 122, .int v] σ ρ (qAsked σ v) σ ρ := by
  intro t I J P n sl hS hD hB hSl
  have hσ := hD.1
  have hρ := hD.2.1
  have hM := hD.2.2.1
  have hR := hD.2.2.2
  have hnp := hσ.1
  rcases ix_cases v (n := s_np σ) (by omega) with ⟨hv, e⟩ | ⟨p, hp, rfl, hv, e⟩
  · refine CA.w ?_
    show RA _ _ M5_asked 0 [.ref 122, .int v] [] _ _
    refine x_aload_n d5_asked_0 rfl ?_
    refine x_iconst (v := nI 0) d5_asked_1 (by decide) ?_
    refine x_putIE d5_asked_2 p5_80 (hS.T rfl) (fun I1 hI1 => ?_)
    have hsmI1 : MSm I I1 := MSm.thr hI1
    have hthI1 : I1 122 0 = 0 := by rw [hI1, u2_self]; rfl
    refine x_aload_n d5_asked_5 rfl ?_
    refine x_iload_n d5_asked_6 rfl ?_
    refine x_invV 122 1 d5_asked_7 (hS.T rfl) v5_101_5 (m_isPart _ hS (hsmI1.mp hM) (v)) (Cont.p ?_) (hB := hB) (hS := hSl)
    refine x_top (congrArg Value.int (b2i_f hv)) ?_
    refine x_if_ne 15 d5_asked_10 (by decide) (fun b10 => absurd b10 (by decide)) (fun b10 => ?_)
    refine x_iconst (v := -1) d5_asked_13 (by decide) ?_
    exact x_ireturn d5_asked_14 ⟨by unfold qAsked; rw [e], I1, J, rfl, hsmI1.mds hD, hsmI1.mf, JF.rf J, hthI1⟩
  · refine CA.w ?_
    show RA _ _ M5_asked 0 [.ref 122, .int (nI p)] [] _ _
    refine x_aload_n d5_asked_0 rfl ?_
    refine x_iconst (v := nI 0) d5_asked_1 (by decide) ?_
    refine x_putIE d5_asked_2 p5_80 (hS.T rfl) (fun I1 hI1 => ?_)
    have hsmI1 : MSm I I1 := MSm.thr hI1
    have hthI1 : I1 122 0 = 0 := by rw [hI1, u2_self]; rfl
    refine x_aload_n d5_asked_5 rfl ?_
    refine x_iload_n d5_asked_6 rfl ?_
    refine x_invV 122 1 d5_asked_7 (hS.T rfl) v5_101_5 (m_isPart _ hS (hsmI1.mp hM) (nI p)) (Cont.p ?_) (hB := hB) (hS := hSl)
    refine x_top (congrArg Value.int (b2i_t hv)) ?_
    refine x_if_ne 15 d5_asked_10 (by decide) (fun b10 => ?_) (fun b10 => absurd b10 (by decide))
    refine x_aload_n d5_asked_15 rfl ?_
    refine x_invV 122 0 d5_asked_16 (hS.T rfl) v5_231_5 (m_asks _ hS hσ (hsmI1.mp hM)) ?_ (hB := hB) (hS := hSl)
    rintro o h' ⟨rfl, I2, rfl, hFI2, hak⟩
    have hsmI2 : MSm I I2 := hsmI1.trans (MSm.ak hFI2)
    have hthI2 : I2 122 0 = 0 := by rw [hFI2 122 (by decide)]; exact hthI1
    refine x_aload_n d5_asked_19 rfl ?_
    refine x_getP d5_asked_20 f5_61 (hS.T rfl) (hS.P rfl) ?_
    refine x_iload_n d5_asked_23 rfl ?_
    refine x_zaldN d5_asked_24 (hS.T rfl) (by omega) ?_
    refine x_top (congrArg Value.int (hak _ (by omega))) ?_
    have hbp_ := bP_lt (Asked σ p)
    refine x_if_eqN 32 d5_asked_25 (by decide) (by omega) (fun b25 => ?_) (fun b25 => ?_)
    · refine x_iconst (v := nI 0) d5_asked_32 (by decide) ?_
      exact x_ireturn d5_asked_33 ⟨by unfold qAsked; rw [e]; show _ = Sum.inl (some (Value.int (nI (bP (Asked σ p))))); rw [show bP (Asked σ p) = 0 from b25], I2, J, rfl, hsmI2.mds hD, hsmI2.mf, JF.rf J, hthI2⟩
    · refine x_iconst (v := nI 1) d5_asked_28 (by decide) ?_
      refine x_goto 33 d5_asked_29 (by decide) ?_
      exact x_ireturn d5_asked_33 ⟨by unfold qAsked; rw [e]; show _ = Sum.inl (some (Value.int (nI (bP (Asked σ p))))); rw [show bP (Asked σ p) = 1 by omega], I2, J, rfl, hsmI2.mds hD, hsmI2.mf, JF.rf J, hthI2⟩
set_option maxHeartbeats 4000000 in
theorem m_holds (G : GG) (d : Nat) (v u : Int32) (σ : Sg) (ρ : Rs) : MCon G (d + 3) M5_holds [.ref 122, .int v, .int u] σ ρ (qHolds σ v u) σ ρ := by
  intro t I J P n sl hS hD hB hSl
  have hσ := hD.1
  have hρ := hD.2.1
  have hM := hD.2.2.1
  have hR := hD.2.2.2
  have hnp := hσ.1
  rcases ix_cases v (n := s_np σ) (by omega) with ⟨hv, e⟩ | ⟨p, hp, rfl, hv, e⟩
  · refine CA.w ?_
    show RA _ _ M5_holds 0 [.ref 122, .int v, .int u] [] _ _
    refine x_aload_n d5_holds_0 rfl ?_
    refine x_iconst (v := nI 0) d5_holds_1 (by decide) ?_
    refine x_putIE d5_holds_2 p5_80 (hS.T rfl) (fun I1 hI1 => ?_)
    have hsmI1 : MSm I I1 := MSm.thr hI1
    have hthI1 : I1 122 0 = 0 := by rw [hI1, u2_self]; rfl
    refine x_aload_n d5_holds_5 rfl ?_
    refine x_iload_n d5_holds_6 rfl ?_
    refine x_invV 122 1 d5_holds_7 (hS.T rfl) v5_101_5 (m_isPart _ hS (hsmI1.mp hM) (v)) (Cont.p ?_) (hB := hB) (hS := hSl)
    refine x_top (congrArg Value.int (b2i_f hv)) ?_
    refine x_if_eq 23 d5_holds_10 (by decide) (fun b10 => ?_) (fun b10 => absurd b10 (by decide))
    refine x_iconst (v := -1) d5_holds_23 (by decide) ?_
    exact x_ireturn d5_holds_24 ⟨by unfold qHolds; rw [e], I1, J, rfl, hsmI1.mds hD, hsmI1.mf, JF.rf J, hthI1⟩
  rcases ix_cases u (n := 8) (by decide) with ⟨hu, e2⟩ | ⟨k, hk, rfl, hu, e2⟩
  · refine CA.w ?_
    show RA _ _ M5_holds 0 [.ref 122, .int (nI p), .int u] [] _ _
    refine x_aload_n d5_holds_0 rfl ?_
    refine x_iconst (v := nI 0) d5_holds_1 (by decide) ?_
    refine x_putIE d5_holds_2 p5_80 (hS.T rfl) (fun I1 hI1 => ?_)
    have hsmI1 : MSm I I1 := MSm.thr hI1
    have hthI1 : I1 122 0 = 0 := by rw [hI1, u2_self]; rfl
    refine x_aload_n d5_holds_5 rfl ?_
    refine x_iload_n d5_holds_6 rfl ?_
    refine x_invV 122 1 d5_holds_7 (hS.T rfl) v5_101_5 (m_isPart _ hS (hsmI1.mp hM) (nI p)) (Cont.p ?_) (hB := hB) (hS := hSl)
    refine x_top (congrArg Value.int (b2i_t hv)) ?_
    refine x_if_eq 23 d5_holds_10 (by decide) (fun b10 => absurd b10 (by decide)) (fun b10 => ?_)
    refine x_iload_n d5_holds_13 rfl ?_
    refine x_iconst (v := nI 0) d5_holds_14 (by decide) ?_
    refine x_bipush (v := nI 7) d5_holds_15 (by decide) ?_
    refine x_invS 3 d5_holds_17 s5_90 (m_in G _ _ (u) (nI 0) (nI 7)) (Cont.p ?_) (hB := hB) (hS := hSl)
    refine x_top (congrArg Value.int (b2i_f (fun z => hu ((ix_le _ (m := 7) (by decide)).mp z)))) ?_
    refine x_if_ne 25 d5_holds_20 (by decide) (fun b20 => absurd b20 (by decide)) (fun b20 => ?_)
    refine x_iconst (v := -1) d5_holds_23 (by decide) ?_
    exact x_ireturn d5_holds_24 ⟨by unfold qHolds; rw [e, e2], I1, J, rfl, hsmI1.mds hD, hsmI1.mf, JF.rf J, hthI1⟩
  · refine CA.w ?_
    show RA _ _ M5_holds 0 [.ref 122, .int (nI p), .int (nI k)] [] _ _
    refine x_aload_n d5_holds_0 rfl ?_
    refine x_iconst (v := nI 0) d5_holds_1 (by decide) ?_
    refine x_putIE d5_holds_2 p5_80 (hS.T rfl) (fun I1 hI1 => ?_)
    have hsmI1 : MSm I I1 := MSm.thr hI1
    have hthI1 : I1 122 0 = 0 := by rw [hI1, u2_self]; rfl
    refine x_aload_n d5_holds_5 rfl ?_
    refine x_iload_n d5_holds_6 rfl ?_
    refine x_invV 122 1 d5_holds_7 (hS.T rfl) v5_101_5 (m_isPart _ hS (hsmI1.mp hM) (nI p)) (Cont.p ?_) (hB := hB) (hS := hSl)
    refine x_top (congrArg Value.int (b2i_t hv)) ?_
    refine x_if_eq 23 d5_holds_10 (by decide) (fun b10 => absurd b10 (by decide)) (fun b10 => ?_)
    refine x_iload_n d5_holds_13 rfl ?_
    refine x_iconst (v := nI 0) d5_holds_14 (by decide) ?_
    refine x_bipush (v := nI 7) d5_holds_15 (by decide) ?_
    refine x_invS 3 d5_holds_17 s5_90 (m_in G _ _ (nI k) (nI 0) (nI 7)) (Cont.p ?_) (hB := hB) (hS := hSl)
    refine x_top (congrArg Value.int (b2i_t ((ix_le _ (m := 7) (by decide)).mpr hu))) ?_
    refine x_if_ne 25 d5_holds_20 (by decide) (fun b20 => ?_) (fun b20 => absurd b20 (by decide))
    refine x_aload_n d5_holds_25 rfl ?_
    refine x_invV 122 0 d5_holds_26 (hS.T rfl) v5_241_5 (m_works _ hS hσ (hsmI1.mp hM) hB hSl) ?_ (hB := hB) (hS := hSl)
    rintro o h' ⟨rfl, I2, rfl, hWK⟩
    have hsmI2 : MSm I I2 := hsmI1.trans (MSm.wk hWK)
    have hthI2 : I2 122 0 = 0 := by rw [hWK.1 122 (by decide)]; exact hthI1
    refine x_aload_n d5_holds_29 rfl ?_
    refine x_getP d5_holds_30 f5_49 (hS.T rfl) (hS.P rfl) ?_
    refine x_bipush (v := nI 8) d5_holds_33 (by decide) ?_
    refine x_iload_n d5_holds_35 rfl ?_
    refine x_imulN d5_holds_36 ?_
    refine x_iload_n d5_holds_37 rfl ?_
    refine x_iaddN d5_holds_38 ?_
    refine x_ialdN d5_holds_39 (hS.T rfl) (by omega) ?_
    refine x_top (congrArg Value.int (hWK.2.2.1 _ (by omega))) ?_
    exact x_ireturn d5_holds_40 ⟨by unfold qHolds; rw [e, e2], I2, J, rfl, hsmI2.mds hD, hsmI2.mf, JF.rf J, hthI2⟩
