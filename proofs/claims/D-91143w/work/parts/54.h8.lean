/-! the house: way -/
set_option maxRecDepth 100000
noncomputable def bO (σ : Sg) (s d : Nat) : Option Nat → Int32
  | none => -1
  | some l => nI (dF σ s d (plc σ l))
def fO : Option Nat → Int32
  | none => -1
  | some l => nI (cdF l)
theorem HSm.f117 {I0 I I' : Nat → Nat → Int32} (h : HSm I0 I) (hF : ∀ b, b ≠ 117 → I' b = I b) : HSm I0 I' :=
  h.trans ⟨fun b hb => hF b (by rintro rfl; revert hb; decide), fun k _ => by rw [hF 100 (by decide)]⟩
theorem Fwn.f117 {I I' : Nat → Nat → Int32} {σ : Sg} (h : Fwn I σ) (hF : ∀ b, b ≠ 117 → I' b = I b) : Fwn I' σ :=
  h.keep (by rw [hF 100 (by decide)]) (fun b hb => hF b (by rintro rfl; revert hb; decide))
theorem HdS.way {t : Nat → Option (Nat × Nat)} {P : Nat → Nat → Value} {I2 I : Nat → Nat → Int32} {σ : Sg} {ρ : Rs} {s d l c : Nat} (h : HdS t I2 P σ ρ) (hF : Fst σ s d l) (hW : LyM σ s d l I2 I c) (hc : c ≤ 92) : HdS t I P σ (rSp ρ c (wyS σ s d)) ∧ HFq I2 I := by
  obtain ⟨h1, h2, ⟨y, hP⟩, ⟨a1, a2, a3, a4, a5, a6, a7, a8, a9, a10⟩, h5⟩ := h
  have hr := hW.1
  have hf := hW.2.1
  refine ⟨⟨h1, ⟨h2.1, h2.2.1, h2.2.2.1, h2.2.2.2.1, hc, h2.2.2.2.2.2⟩, ⟨y, hW.hp hP⟩, ⟨(hf 1 (by decide)).trans a1, ?_, ?_, (hf 10 (by decide)).trans a4, fun e => (hf 12 (by decide)).trans (a5 e), (hf 11 (by decide)).trans a6, hW.2.2.1, fun j hj => ?_, (hf 20 (by decide)).trans a9, ?_⟩, h5.keep (hf 8 (by decide)) (fun b hb => hr b (by rintro rfl; revert hb; decide) (by rintro rfl; revert hb; decide))⟩, fun b hb => hr b (by omega) (by omega)⟩
  · rw [hr 101 (by decide) (by decide)]; exact a2
  · rw [hr 107 (by decide) (by decide)]; exact a3
  · rw [hW.2.2.2 j hj]
    show _ = nI (wyS σ s d j)
    unfold wyS
    rw [wyL_eq hF]
    cases j <;> rfl
  · rw [hr 120 (by decide) (by decide)]; exact a10
set_option maxHeartbeats 4000000 in
theorem h_way (G : GG) (d : Nat) (v u : Int32) (σ : Sg) (ρ : Rs) : HQ G (d + 5) M1_way [.ref 100, .int v, .int u] σ ρ ((qWay σ ρ v u).1) σ ((qWay σ ρ v u).2) := by
  intro t I J P n sl hS hD hB hSl
  have hσ := hD.1
  have hρ := hD.2.1
  obtain ⟨y, hP⟩ := hD.2.2.1
  have hR := hD.2.2.2.1
  have hF := hD.2.2.2.2
  have hnp := hσ.1
  rcases ix_cases v (n := 16) (by decide) with ⟨hv, e⟩ | ⟨s, hs, rfl, hv, e⟩
  · rw [show qWay σ ρ v u = (-1, rT ρ 2) by simp only [qWay, e]]
    refine CA.w ?_
    show RA _ _ M1_way 0 [.ref 100, .int v, .int u, U0, U0, U0, U0, U0, U0] [] _ _
    refine x_aload_n d1_way_0 rfl ?_
    refine x_invV 100 0 d1_way_1 (hS.T rfl) v1_91_1 (h_begins _ hS) (Cont.ev ?_) (hB := hB) (hS := hSl)
    obtain ⟨I1, hI1⟩ : ∃ z, z = u2 (u2 I 100 10 (nI 0)) 100 12 (-1) := ⟨_, rfl⟩
    rw [← hI1]
    obtain ⟨hD0, hq0⟩ := hD.bg hI1
    have hρ := hD0.2.1
    obtain ⟨y, hP⟩ := hD0.2.2.1
    have hR := hD0.2.2.2.1
    have hF := hD0.2.2.2.2
    refine x_iload_n d1_way_4 rfl ?_
    refine x_invS 1 d1_way_5 s1_153 (h_isRight _ (v) hB hSl) (Cont.p ?_) (hB := hB) (hS := hSl)
    refine x_top (congrArg Value.int (b2i_f hv)) ?_
    refine x_if_eq 18 d1_way_8 (by decide) (fun b8 => ?_) (fun b8 => absurd b8 (fun q => q rfl))
    refine x_aload_n d1_way_18 rfl ?_
    refine x_iconst (v := nI 2) d1_way_19 (by decide) ?_
    refine x_invV 100 1 d1_way_20 (hS.T rfl) v1_95_1 (h_no _ hS (k := 2)) (Cont.e ?_) (hB := hB) (hS := hSl)
    have hno_ := HdS.no (k := 2) hD0 rfl (by decide) (by decide)
    exact x_ireturn d1_way_23 ⟨rfl, u2 I1 100 10 (nI 2), rfl, hno_.1, hq0.trans hno_.2⟩
  rcases ix_cases u (n := 16) (by decide) with ⟨hu, e2'⟩ | ⟨dr, hd, rfl, hu, e2'⟩
  · rw [show qWay σ ρ (nI s) u = (-1, rT ρ 2) by simp only [qWay, e, e2']]
    refine CA.w ?_
    show RA _ _ M1_way 0 [.ref 100, .int (nI s), .int u, U0, U0, U0, U0, U0, U0] [] _ _
    refine x_aload_n d1_way_0 rfl ?_
    refine x_invV 100 0 d1_way_1 (hS.T rfl) v1_91_1 (h_begins _ hS) (Cont.ev ?_) (hB := hB) (hS := hSl)
    obtain ⟨I1, hI1⟩ : ∃ z, z = u2 (u2 I 100 10 (nI 0)) 100 12 (-1) := ⟨_, rfl⟩
    rw [← hI1]
    obtain ⟨hD0, hq0⟩ := hD.bg hI1
    have hρ := hD0.2.1
    obtain ⟨y, hP⟩ := hD0.2.2.1
    have hR := hD0.2.2.2.1
    have hF := hD0.2.2.2.2
    refine x_iload_n d1_way_4 rfl ?_
    refine x_invS 1 d1_way_5 s1_153 (h_isRight _ (nI s) hB hSl) (Cont.p ?_) (hB := hB) (hS := hSl)
    refine x_top (congrArg Value.int (b2i_t hv)) ?_
    refine x_if_eq 18 d1_way_8 (by decide) (fun b8 => absurd b8 (by decide)) (fun b8 => ?_)
    refine x_iload_n d1_way_11 rfl ?_
    refine x_invS 1 d1_way_12 s1_153 (h_isRight _ (u) hB hSl) (Cont.p ?_) (hB := hB) (hS := hSl)
    refine x_top (congrArg Value.int (b2i_f hu)) ?_
    refine x_if_ne 24 d1_way_15 (by decide) (fun b15 => absurd b15 (by decide)) (fun b15 => ?_)
    refine x_aload_n d1_way_18 rfl ?_
    refine x_iconst (v := nI 2) d1_way_19 (by decide) ?_
    refine x_invV 100 1 d1_way_20 (hS.T rfl) v1_95_1 (h_no _ hS (k := 2)) (Cont.e ?_) (hB := hB) (hS := hSl)
    have hno_ := HdS.no (k := 2) hD0 rfl (by decide) (by decide)
    exact x_ireturn d1_way_23 ⟨rfl, u2 I1 100 10 (nI 2), rfl, hno_.1, hq0.trans hno_.2⟩
  · refine CA.w ?_
    show RA _ _ M1_way 0 [.ref 100, .int (nI s), .int (nI dr), U0, U0, U0, U0, U0, U0] [] _ _
    refine x_aload_n d1_way_0 rfl ?_
    refine x_invV 100 0 d1_way_1 (hS.T rfl) v1_91_1 (h_begins _ hS) (Cont.ev ?_) (hB := hB) (hS := hSl)
    obtain ⟨I1, hI1⟩ : ∃ z, z = u2 (u2 I 100 10 (nI 0)) 100 12 (-1) := ⟨_, rfl⟩
    rw [← hI1]
    obtain ⟨hD0, hq0⟩ := hD.bg hI1
    have hρ := hD0.2.1
    obtain ⟨y, hP⟩ := hD0.2.2.1
    have hR := hD0.2.2.2.1
    have hF := hD0.2.2.2.2
    refine x_iload_n d1_way_4 rfl ?_
    refine x_invS 1 d1_way_5 s1_153 (h_isRight _ (nI s) hB hSl) (Cont.p ?_) (hB := hB) (hS := hSl)
    refine x_top (congrArg Value.int (b2i_t hv)) ?_
    refine x_if_eq 18 d1_way_8 (by decide) (fun b8 => absurd b8 (by decide)) (fun b8 => ?_)
    refine x_iload_n d1_way_11 rfl ?_
    refine x_invS 1 d1_way_12 s1_153 (h_isRight _ (nI dr) hB hSl) (Cont.p ?_) (hB := hB) (hS := hSl)
    refine x_top (congrArg Value.int (b2i_t hu)) ?_
    refine x_if_ne 24 d1_way_15 (by decide) (fun b15 => ?_) (fun b15 => absurd b15 (by decide))
    refine x_aload_n d1_way_24 rfl ?_
    refine x_invV 100 0 d1_way_25 (hS.T rfl) v1_156_1 (h_flow _ hS hσ hP hF hB hSl) ?_ (hB := hB) (hS := hSl)
    rintro o h' ⟨rfl, I2, rfl, hsI2, hfwI2⟩
    have hsmI2 : HSm I1 I2 := (HSm.rf _).trans hsI2
    refine x_pop d1_way_28 rfl ?_
    refine x_aload_n d1_way_29 rfl ?_
    refine x_iload_n d1_way_30 rfl ?_
    refine x_iload_n d1_way_31 rfl ?_
    refine x_invV 100 2 d1_way_32 (hS.T rfl) v1_199_1 (h_measures _ hS hσ (hsmI2.hp hP) hfwI2 hs hd hB hSl) ?_ (hB := hB) (hS := hSl)
    rintro o h' ⟨rfl, I3, rfl, hFI3, hfar⟩
    have hsm : HSm I1 I3 := hsmI2.f117 hFI3
    have hfw : Fwn I3 σ := hfwI2.f117 hFI3
    refine x_iconst (v := -1) d1_way_35 (by decide) ?_
    refine x_istore_n d1_way_36 ?_
    refine x_iconst (v := -1) d1_way_37 (by decide) ?_
    refine x_istore d1_way_38 ?_
    refine x_iconst (v := nI 0) d1_way_40 (by decide) ?_
    refine x_istore d1_way_41 ?_
    have hend : ∀ o p, s_np σ ≤ p → GS σ s dr (12 * p) o → ∀ v6 v7 v8, RA G (d + 5) M1_way 192 [.ref 100, .int (nI s), .int (nI dr), .int (bO σ s dr o), .int (fO o), .int (nI p), v6, v7, v8] [] (t, I3, J, P, n, sl) (fun o h' => o = .inl (some (.int (qWay σ ρ (nI s) (nI dr)).1)) ∧ ∃ I', h' = (t, I', J, P, n, sl) ∧ HdS t I' P σ (qWay σ ρ (nI s) (nI dr)).2 ∧ HFq I I') := by
      intro o p hp hG v6 v7 v8
      cases o with
      | none =>
        show RA _ _ _ _ [.ref 100, .int (nI s), .int (nI dr), .int ((-1)), .int ((-1)), .int (nI p), v6, v7, v8] _ _ _
        refine x_iload_n d1_way_192 rfl ?_
        refine x_iconst (v := -1) d1_way_193 (by decide) ?_
        refine x_icmp_ne 200 d1_way_194 (by decide) (fun b194 => absurd b194 (fun z => z rfl)) (fun b194 => ?_)
        refine x_bipush (v := -2) d1_way_197 (by decide) ?_
        refine x_ireturn d1_way_199 ?_
        rw [qWay_f e e2' (hG.no hσ (by omega))]
        exact ⟨rfl, I3, rfl, hsm.hds hfw hD0, hq0.trans hsm.fq⟩
      | some b =>
        show RA _ _ _ _ [.ref 100, .int (nI s), .int (nI dr), .int (nI (dF σ s dr (plc σ b))), .int (nI (cdF b)), .int (nI p), v6, v7, v8] _ _ _
        have hFst := GS.fst hσ hG (by omega)
        have hbd := hFst.bd hσ
        have hb0 := hFst.1.1.1
        have hbl := hσ.ln hb0
        have hbk := hFst.1.1.2.2
        have hpl : plc σ b < 80 := by
          unfold plc
          have h1 := (hσ.row hFst.1.1.1 hFst.1.1.2.2).2.2.1
          rw [show 12 * (b / 12) + b % 12 = b by omega] at h1
          omega
        have hdp := dF_pos hσ (s := s) (d := dr) (q := plc σ b) (by omega)
        refine x_iload_n d1_way_192 rfl ?_
        refine x_iconst (v := -1) d1_way_193 (by decide) ?_
        refine x_icmp_ne 200 d1_way_194 (by decide) (fun b194 => ?_) (fun b194 => absurd b194 (nI_m1 (by omega)))
        refine x_aload_n d1_way_200 rfl ?_
        refine x_iconst (v := nI 0) d1_way_201 (by decide) ?_
        refine x_putIE d1_way_202 p1_203 (hS.T rfl) (fun I41 hI41 => ?_)
        refine x_aload_n d1_way_205 rfl ?_
        refine x_getP d1_way_206 f1_58 (hS.T rfl) (hS.P rfl) ?_
        refine x_aload_n d1_way_209 rfl ?_
        refine x_getI d1_way_210 f1_203 (hS.T rfl) ?_
        refine x_top (congrArg Value.int (show I41 100 15 = nI 0 from (by rw [hI41, u2_self]))) ?_
        refine x_iload d1_way_213 rfl ?_
        refine x_iastN d1_way_215 (hS.T rfl) (by omega) (fun I42 hI42 => ?_)
        refine x_aload_n d1_way_216 rfl ?_
        refine x_dup d1_way_217 rfl ?_
        refine x_getI d1_way_218 f1_203 (hS.T rfl) ?_
        refine x_top (congrArg Value.int (show I42 100 15 = nI 0 from (by rw [hI42, u2_row _ _ _ (by decide), hI41, u2_self]))) ?_
        refine x_iconst (v := nI 1) d1_way_221 (by decide) ?_
        refine x_iaddN d1_way_222 ?_
        refine x_putIE d1_way_223 p1_203 (hS.T rfl) (fun I43 hI43 => ?_)
        refine x_aload_n d1_way_226 rfl ?_
        refine x_iload d1_way_227 rfl ?_
        refine x_iload_n d1_way_229 rfl ?_
        refine x_iload_n d1_way_230 rfl ?_
        refine x_iload_n d1_way_231 rfl ?_
        have hM1 : LyM σ s dr b I3 I43 1 := by
          refine ⟨fun c hb hb2 => ?_, fun k hk => ?_, ?_, fun j hj => ?_⟩
          · rw [hI43, u2_row _ _ _ hb, hI42, u2_row _ _ _ hb2, hI41, u2_row _ _ _ hb]
          · rw [hI43, u2_ne _ _ hk, hI42, u2_row _ _ _ (by decide), hI41, u2_ne _ _ hk]
          · rw [hI43, u2_self]
          · have hj0 : j = 0 := by omega
            subst hj0
            rw [hI43, u2_row _ _ _ (by decide), hI42, u2_self]
        have hbe : 12 * (b / 12) + b % 12 = b := by omega
        have hMx : LyM σ s dr (12 * (b / 12) + b % 12) I43 I43 1 := by
          rw [hbe]; exact ⟨fun _ _ _ => rfl, fun _ _ => rfl, hM1.2.2.1, hM1.2.2.2⟩
        refine x_invV 100 4 d1_way_232 (hS.T rfl) v1_206_1 (show CA G _ M1_lays [.ref 100, .int (nI (cdF b)), .int (nI (dF σ s dr (plc σ b))), .int (nI s), .int (nI dr)] _ _ from h_lays (d + 1) hS hσ (hM1.hp (hsm.hp hP)) (hM1.fw hfw) (s := s) (dr := dr) (p := b / 12) (k := b % 12) (c := dF σ s dr (plc σ b)) hs hd hFst.1.1.1 hFst.1.1.2.2 (fun j hj => by rw [hM1.1 117 (by decide) (by decide)]; exact hfar j hj) (by rw [hbe]) (by omega) hbd hMx hB hSl) ?_ (hB := hB) (hS := hSl)
        rintro o h' ⟨rfl, I49, rfl, hM8⟩
        rw [hbe] at hM8
        have hM9 : LyM σ s dr b I3 I49 (dF σ s dr (plc σ b) + 1) := ⟨fun c h1 h2 => (hM8.1 c h1 h2).trans (hM1.1 c h1 h2), fun k hk => (hM8.2.1 k hk).trans (hM1.2.1 k hk), hM8.2.2.1, hM8.2.2.2⟩
        refine x_aload_n d1_way_235 rfl ?_
        refine x_getI d1_way_236 f1_203 (hS.T rfl) ?_
        refine x_top (congrArg Value.int (show I49 100 15 = nI (dF σ s dr (plc σ b) + 1) from hM9.2.2.1)) ?_
        refine x_ireturn d1_way_239 ?_
        rw [qWay_t e e2' ⟨b, hFst⟩]
        have hwn : wyN σ s dr = dF σ s dr (plc σ b) := by unfold wyN; rw [wyL_eq hFst]
        have hWy := HdS.way (hsm.hds hfw hD0) hFst hM9 (by omega)
        rw [hwn]
        exact ⟨rfl, I49, rfl, hWy.1, hq0.trans (hsm.fq.trans hWy.2)⟩
    have hkk : ∀ p, p < s_np σ → (p < s_np σ → ∀ o, GS σ s dr (12 * (p + 1)) o → ∀ v6 v7 v8, RA G (d + 5) M1_way 43 [.ref 100, .int (nI s), .int (nI dr), .int (bO σ s dr o), .int (fO o), .int (nI ((p + 1))), v6, v7, v8] [] (t, I3, J, P, n, sl) (fun o h' => o = .inl (some (.int (qWay σ ρ (nI s) (nI dr)).1)) ∧ ∃ I', h' = (t, I', J, P, n, sl) ∧ HdS t I' P σ (qWay σ ρ (nI s) (nI dr)).2 ∧ HFq I I')) → ∀ k, k ≤ s_ln σ p → ∀ o, GS σ s dr (12 * p + k) o → ∀ v7 v8, RA G (d + 5) M1_way 55 [.ref 100, .int (nI s), .int (nI dr), .int (bO σ s dr o), .int (fO o), .int (nI p), .int (nI k), v7, v8] [] (t, I3, J, P, n, sl) (fun o h' => o = .inl (some (.int (qWay σ ρ (nI s) (nI dr)).1)) ∧ ∃ I', h' = (t, I', J, P, n, sl) ∧ HdS t I' P σ (qWay σ ρ (nI s) (nI dr)).2 ∧ HFq I I') := by
      intro p hp ihp
      have hln := hσ.ln hp
      refine up_ind ?_
      intro k hk_ ih o hG v7 v8
      cases o with
      | none =>
        show RA _ _ _ _ [.ref 100, .int (nI s), .int (nI dr), .int ((-1)), .int ((-1)), .int (nI p), .int (nI k), v7, v8] _ _ _
        refine x_iload d1_way_55 rfl ?_
        refine x_aload_n d1_way_57 rfl ?_
        refine x_getP d1_way_58 f1_24 (hS.T rfl) (hS.P rfl) ?_
        refine x_iload d1_way_61 rfl ?_
        refine x_aald5N d1_way_63 (hS.T rfl) (by omega) ((hsm.hp hP).at_ hp) ?_
        refine x_getI d1_way_64 f1_133 ((hsm.hp hP).ty hp) ?_
        refine x_top (congrArg Value.int (show I3 (y.1 p) 1 = nI (s_ln σ p) from ((hsm.hp hP).ln hp))) ?_
        have hln_ := hσ.ln hp
        refine x_icmp_geN 186 d1_way_67 (by decide) (by omega) (by omega) (fun b67 => ?_) (fun b67 => ?_)
        · refine x_iincN (c := 1) d1_way_186 rfl (by decide) ?_
          refine x_goto 43 d1_way_189 (by decide) ?_
          exact ihp hp none (hG.jump (by omega) (fun l' h1 h2 g => by have h3 : l' / 12 = p := (by omega); have h4 := g.1.2.2; rw [h3] at h4; omega)) _ _ _
        · have hk : k < s_ln σ p := b67
          have e1 : (12 * p + k) / 12 = p := by omega
          have e2 : (12 * p + k) % 12 = k := by omega
          refine x_aload_n d1_way_70 rfl ?_
          refine x_iload d1_way_71 rfl ?_
          refine x_invV 100 1 d1_way_73 (hS.T rfl) v1_188_1 (h_isAskedF _ hS hσ hfw (p := p) (by omega) hB hSl) (Cont.p ?_) (hB := hB) (hS := hSl)
          have hbp_ := bP_lt (Asked σ p)
          refine x_if_eqN 186 d1_way_76 (by decide) (by omega) (fun b76 => ?_) (fun b76 => ?_)
          · refine x_iincN (c := 1) d1_way_186 rfl (by decide) ?_
            refine x_goto 43 d1_way_189 (by decide) ?_
            exact ihp hp none (hG.jump (by omega) (fun l' h1 h2 g => by have h3 : l' / 12 = p := (by omega); have h4 := g.1.2.1; rw [h3] at h4; rw [bP_t h4] at b76; cases b76)) _ _ _
          · have hA : Asked σ p := Classical.byContradiction (fun z => b76 (bP_f z))
            have hRw : Rw σ (12 * p + k) := ⟨by rw [e1]; exact hp, by rw [e1]; exact hA, by rw [e1, e2]; exact hk⟩
            have hpl : plc σ (12 * p + k) = 8 * p + s_fs σ (12 * p + k) := by unfold plc; rw [e1]
            refine x_aload_n d1_way_79 rfl ?_
            refine x_getP d1_way_80 f1_24 (hS.T rfl) (hS.P rfl) ?_
            refine x_iload d1_way_83 rfl ?_
            refine x_aald5N d1_way_85 (hS.T rfl) (by omega) ((hsm.hp hP).at_ hp) ?_
            refine x_getP d1_way_86 f1_136 ((hsm.hp hP).ty hp) ((hsm.hp hP).pl hp) ?_
            refine x_iload d1_way_89 rfl ?_
            refine x_aald6N d1_way_91 ((hsm.hp hP).tl hp) (by omega) ((hsm.hp hP).lp hp hk) ?_
            refine x_astore d1_way_92 ?_
            refine x_aload d1_way_94 rfl ?_
            refine x_getI d1_way_96 f1_140 ((hsm.hp hP).lr hp hk).2.1 ?_ (hc := lncs (hσ.row hp hk).1)
            refine x_top (congrArg Value.int (show I3 (y.2.2 (12 * p + k)) 0 = nI (s_kk σ (12 * p + k)) from ((hsm.hp hP).lr hp hk).2.2.1)) ?_
            have hkk_ := (hσ.row hp hk).1
            refine x_if_neN 180 d1_way_99 (by decide) (by omega) (fun b99 => ?_) (fun b99 => ?_)
            · refine x_iincN (c := 1) d1_way_180 rfl (by decide) ?_
              refine x_goto 55 d1_way_183 (by decide) ?_
              exact ih hk none (hG.skip (fun g => b99 g.2.1)) _ _
            · refine x_aload d1_way_102 rfl ?_
              refine x_getI d1_way_104 f1_143 ((hsm.hp hP).lr hp hk).2.1 ?_ (hc := lncs (hσ.row hp hk).1)
              refine x_top (congrArg Value.int (show I3 (y.2.2 (12 * p + k)) 1 = nI (s_nu σ (12 * p + k)) from ((hsm.hp hP).lr hp hk).2.2.2.1)) ?_
              have hnu_ := (hσ.row hp hk).2.1
              refine x_iload_n d1_way_107 rfl ?_
              refine x_icmp_neN 180 d1_way_108 (by decide) (by omega) (by omega) (fun b108 => ?_) (fun b108 => ?_)
              · refine x_iincN (c := 1) d1_way_180 rfl (by decide) ?_
                refine x_goto 55 d1_way_183 (by decide) ?_
                exact ih hk none (hG.skip (fun g => b108 g.2.2.1)) _ _
              · refine x_aload_n d1_way_111 rfl ?_
                refine x_getP d1_way_112 f1_24 (hS.T rfl) (hS.P rfl) ?_
                refine x_iload d1_way_115 rfl ?_
                refine x_aald5N d1_way_117 (hS.T rfl) (by omega) ((hsm.hp hP).at_ hp) ?_
                refine x_getI d1_way_118 f1_100 ((hsm.hp hP).ty hp) ?_
                refine x_top (congrArg Value.int (show I3 (y.1 p) 0 = nI (s_gr σ p) from ((hsm.hp hP).gr hp))) ?_
                have hgr_ := hσ.gr hp
                refine x_iload_n d1_way_121 rfl ?_
                refine x_ishrN d1_way_122 (by omega) (by omega) ?_
                refine x_iconst (v := nI 1) d1_way_123 (by decide) ?_
                refine x_tbN d1_way_124 ?_
                have htb_ := tb_lt (s_gr σ p) s
                refine x_if_neN 131 d1_way_125 (by decide) (by omega) (fun b125 => ?_) (fun b125 => ?_)
                · refine x_aload_n d1_way_131 rfl ?_
                  refine x_getP d1_way_132 f1_55 (hS.T rfl) (hS.P rfl) ?_
                  refine x_iload d1_way_135 rfl ?_
                  refine x_aload d1_way_137 rfl ?_
                  refine x_getI d1_way_139 f1_146 ((hsm.hp hP).lr hp hk).2.1 ?_ (hc := lncs (hσ.row hp hk).1)
                  refine x_top (congrArg Value.int (show I3 (y.2.2 (12 * p + k)) 2 = nI (s_fs σ (12 * p + k)) from ((hsm.hp hP).lr hp hk).2.2.2.2.1)) ?_
                  have hfs_ := (hσ.row hp hk).2.2.1
                  refine x_invS 2 d1_way_142 s1_162 (h_place p (s_fs σ (12 * p + k))) (Cont.p ?_) (hB := hB) (hS := hSl)
                  refine x_ialdN d1_way_145 (hS.T rfl) (by omega) ?_
                  refine x_top (congrArg Value.int (show I3 117 (8 * p + (s_fs σ (12 * p + k))) = nI (hfF σ s dr (8 * p + (s_fs σ (12 * p + k)))) from (hfar _ (by omega)))) ?_
                  have hhf_ := hfF_lt hσ s dr (8 * p + (s_fs σ (12 * p + k)))
                  refine x_istore d1_way_146 ?_
                  have hhd : hfF σ s dr (8 * p + s_fs σ (12 * p + k)) = if dF σ s dr (8 * p + s_fs σ (12 * p + k)) = 100000 then 0 else dF σ s dr (8 * p + s_fs σ (12 * p + k)) := rfl
                  have hdp := dF_pos hσ (s := s) (d := dr) (q := 8 * p + s_fs σ (12 * p + k)) (by omega)
                  have hd5 := dF_le5 hσ s dr (8 * p + s_fs σ (12 * p + k))
                  refine x_iload d1_way_148 rfl ?_
                  refine x_if_eqN 180 d1_way_150 (by decide) (by omega) (fun b150 => ?_) (fun b150 => ?_)
                  · refine x_iincN (c := 1) d1_way_180 rfl (by decide) ?_
                    refine x_goto 55 d1_way_183 (by decide) ?_
                    exact ih hk none (hG.worse (x := 100000) rfl (by rw [hpl]; split at hhd <;> omega) (dF_le5 hσ s dr _)) _ _
                  · refine x_iload_n d1_way_153 rfl ?_
                    refine x_iconst (v := -1) d1_way_154 (by decide) ?_
                    refine x_icmp_eq 167 d1_way_155 (by decide) (fun b155 => ?_) (fun b155 => absurd b155 (by decide))
                    refine x_iload d1_way_167 rfl ?_
                    refine x_istore_n d1_way_169 ?_
                    refine x_bipush (v := nI 100) d1_way_170 (by decide) ?_
                    refine x_iload d1_way_172 rfl ?_
                    refine x_imulN d1_way_174 ?_
                    refine x_iload d1_way_175 rfl ?_
                    refine x_iaddN d1_way_177 ?_
                    refine x_istore d1_way_178 ?_
                    refine x_iincN (c := 1) d1_way_180 rfl (by decide) ?_
                    refine x_goto 55 d1_way_183 (by decide) ?_
                    have hdd : hfF σ s dr (8 * p + s_fs σ (12 * p + k)) = dF σ s dr (plc σ (12 * p + k)) := by rw [hpl]; split at hhd <;> omega
                    have hlt : dF σ s dr (plc σ (12 * p + k)) < 100000 := by rw [← hdd]; omega
                    rw [hdd, show 100 * p + k = cdF (12 * p + k) by unfold cdF; rw [e1, e2]]
                    have hgt : Gt σ s (12 * p + k) := ⟨hRw, b99, b108, by rw [e1]; exact tb_ne0.mp (by omega)⟩
                    exact ih hk (some (12 * p + k)) (hG.better (x := 100000) rfl hgt hlt (Nat.le_refl _)) _ _
                · refine x_goto 180 d1_way_128 (by decide) ?_
                  refine x_iincN (c := 1) d1_way_180 rfl (by decide) ?_
                  refine x_goto 55 d1_way_183 (by decide) ?_
                  exact ih hk none (hG.skip (fun g => by have := g.2.2.2; rw [e1, tb0.mp (by omega)] at this; cases this)) _ _
      | some b =>
        show RA _ _ _ _ [.ref 100, .int (nI s), .int (nI dr), .int (nI (dF σ s dr (plc σ b))), .int (nI (cdF b)), .int (nI p), .int (nI k), v7, v8] _ _ _
        have hbb := dF_le5 hσ s dr (plc σ b)
        refine x_iload d1_way_55 rfl ?_
        refine x_aload_n d1_way_57 rfl ?_
        refine x_getP d1_way_58 f1_24 (hS.T rfl) (hS.P rfl) ?_
        refine x_iload d1_way_61 rfl ?_
        refine x_aald5N d1_way_63 (hS.T rfl) (by omega) ((hsm.hp hP).at_ hp) ?_
        refine x_getI d1_way_64 f1_133 ((hsm.hp hP).ty hp) ?_
        refine x_top (congrArg Value.int (show I3 (y.1 p) 1 = nI (s_ln σ p) from ((hsm.hp hP).ln hp))) ?_
        have hln_ := hσ.ln hp
        refine x_icmp_geN 186 d1_way_67 (by decide) (by omega) (by omega) (fun b67 => ?_) (fun b67 => ?_)
        · refine x_iincN (c := 1) d1_way_186 rfl (by decide) ?_
          refine x_goto 43 d1_way_189 (by decide) ?_
          exact ihp hp (some b) (hG.jump (by omega) (fun l' h1 h2 g => by have h3 : l' / 12 = p := (by omega); have h4 := g.1.2.2; rw [h3] at h4; omega)) _ _ _
        · have hk : k < s_ln σ p := b67
          have e1 : (12 * p + k) / 12 = p := by omega
          have e2 : (12 * p + k) % 12 = k := by omega
          refine x_aload_n d1_way_70 rfl ?_
          refine x_iload d1_way_71 rfl ?_
          refine x_invV 100 1 d1_way_73 (hS.T rfl) v1_188_1 (h_isAskedF _ hS hσ hfw (p := p) (by omega) hB hSl) (Cont.p ?_) (hB := hB) (hS := hSl)
          have hbp_ := bP_lt (Asked σ p)
          refine x_if_eqN 186 d1_way_76 (by decide) (by omega) (fun b76 => ?_) (fun b76 => ?_)
          · refine x_iincN (c := 1) d1_way_186 rfl (by decide) ?_
            refine x_goto 43 d1_way_189 (by decide) ?_
            exact ihp hp (some b) (hG.jump (by omega) (fun l' h1 h2 g => by have h3 : l' / 12 = p := (by omega); have h4 := g.1.2.1; rw [h3] at h4; rw [bP_t h4] at b76; cases b76)) _ _ _
          · have hA : Asked σ p := Classical.byContradiction (fun z => b76 (bP_f z))
            have hRw : Rw σ (12 * p + k) := ⟨by rw [e1]; exact hp, by rw [e1]; exact hA, by rw [e1, e2]; exact hk⟩
            have hpl : plc σ (12 * p + k) = 8 * p + s_fs σ (12 * p + k) := by unfold plc; rw [e1]
            refine x_aload_n d1_way_79 rfl ?_
            refine x_getP d1_way_80 f1_24 (hS.T rfl) (hS.P rfl) ?_
            refine x_iload d1_way_83 rfl ?_
            refine x_aald5N d1_way_85 (hS.T rfl) (by omega) ((hsm.hp hP).at_ hp) ?_
            refine x_getP d1_way_86 f1_136 ((hsm.hp hP).ty hp) ((hsm.hp hP).pl hp) ?_
            refine x_iload d1_way_89 rfl ?_
            refine x_aald6N d1_way_91 ((hsm.hp hP).tl hp) (by omega) ((hsm.hp hP).lp hp hk) ?_
            refine x_astore d1_way_92 ?_
            refine x_aload d1_way_94 rfl ?_
            refine x_getI d1_way_96 f1_140 ((hsm.hp hP).lr hp hk).2.1 ?_ (hc := lncs (hσ.row hp hk).1)
            refine x_top (congrArg Value.int (show I3 (y.2.2 (12 * p + k)) 0 = nI (s_kk σ (12 * p + k)) from ((hsm.hp hP).lr hp hk).2.2.1)) ?_
            have hkk_ := (hσ.row hp hk).1
            refine x_if_neN 180 d1_way_99 (by decide) (by omega) (fun b99 => ?_) (fun b99 => ?_)
            · refine x_iincN (c := 1) d1_way_180 rfl (by decide) ?_
              refine x_goto 55 d1_way_183 (by decide) ?_
              exact ih hk (some b) (hG.skip (fun g => b99 g.2.1)) _ _
            · refine x_aload d1_way_102 rfl ?_
              refine x_getI d1_way_104 f1_143 ((hsm.hp hP).lr hp hk).2.1 ?_ (hc := lncs (hσ.row hp hk).1)
              refine x_top (congrArg Value.int (show I3 (y.2.2 (12 * p + k)) 1 = nI (s_nu σ (12 * p + k)) from ((hsm.hp hP).lr hp hk).2.2.2.1)) ?_
              have hnu_ := (hσ.row hp hk).2.1
              refine x_iload_n d1_way_107 rfl ?_
              refine x_icmp_neN 180 d1_way_108 (by decide) (by omega) (by omega) (fun b108 => ?_) (fun b108 => ?_)
              · refine x_iincN (c := 1) d1_way_180 rfl (by decide) ?_
                refine x_goto 55 d1_way_183 (by decide) ?_
                exact ih hk (some b) (hG.skip (fun g => b108 g.2.2.1)) _ _
              · refine x_aload_n d1_way_111 rfl ?_
                refine x_getP d1_way_112 f1_24 (hS.T rfl) (hS.P rfl) ?_
                refine x_iload d1_way_115 rfl ?_
                refine x_aald5N d1_way_117 (hS.T rfl) (by omega) ((hsm.hp hP).at_ hp) ?_
                refine x_getI d1_way_118 f1_100 ((hsm.hp hP).ty hp) ?_
                refine x_top (congrArg Value.int (show I3 (y.1 p) 0 = nI (s_gr σ p) from ((hsm.hp hP).gr hp))) ?_
                have hgr_ := hσ.gr hp
                refine x_iload_n d1_way_121 rfl ?_
                refine x_ishrN d1_way_122 (by omega) (by omega) ?_
                refine x_iconst (v := nI 1) d1_way_123 (by decide) ?_
                refine x_tbN d1_way_124 ?_
                have htb_ := tb_lt (s_gr σ p) s
                refine x_if_neN 131 d1_way_125 (by decide) (by omega) (fun b125 => ?_) (fun b125 => ?_)
                · refine x_aload_n d1_way_131 rfl ?_
                  refine x_getP d1_way_132 f1_55 (hS.T rfl) (hS.P rfl) ?_
                  refine x_iload d1_way_135 rfl ?_
                  refine x_aload d1_way_137 rfl ?_
                  refine x_getI d1_way_139 f1_146 ((hsm.hp hP).lr hp hk).2.1 ?_ (hc := lncs (hσ.row hp hk).1)
                  refine x_top (congrArg Value.int (show I3 (y.2.2 (12 * p + k)) 2 = nI (s_fs σ (12 * p + k)) from ((hsm.hp hP).lr hp hk).2.2.2.2.1)) ?_
                  have hfs_ := (hσ.row hp hk).2.2.1
                  refine x_invS 2 d1_way_142 s1_162 (h_place p (s_fs σ (12 * p + k))) (Cont.p ?_) (hB := hB) (hS := hSl)
                  refine x_ialdN d1_way_145 (hS.T rfl) (by omega) ?_
                  refine x_top (congrArg Value.int (show I3 117 (8 * p + (s_fs σ (12 * p + k))) = nI (hfF σ s dr (8 * p + (s_fs σ (12 * p + k)))) from (hfar _ (by omega)))) ?_
                  have hhf_ := hfF_lt hσ s dr (8 * p + (s_fs σ (12 * p + k)))
                  refine x_istore d1_way_146 ?_
                  have hhd : hfF σ s dr (8 * p + s_fs σ (12 * p + k)) = if dF σ s dr (8 * p + s_fs σ (12 * p + k)) = 100000 then 0 else dF σ s dr (8 * p + s_fs σ (12 * p + k)) := rfl
                  have hdp := dF_pos hσ (s := s) (d := dr) (q := 8 * p + s_fs σ (12 * p + k)) (by omega)
                  have hd5 := dF_le5 hσ s dr (8 * p + s_fs σ (12 * p + k))
                  refine x_iload d1_way_148 rfl ?_
                  refine x_if_eqN 180 d1_way_150 (by decide) (by omega) (fun b150 => ?_) (fun b150 => ?_)
                  · refine x_iincN (c := 1) d1_way_180 rfl (by decide) ?_
                    refine x_goto 55 d1_way_183 (by decide) ?_
                    exact ih hk (some b) (hG.worse (x := (dF σ s dr (plc σ b))) rfl (by rw [hpl]; split at hhd <;> omega) (dF_le5 hσ s dr _)) _ _
                  · refine x_iload_n d1_way_153 rfl ?_
                    refine x_iconst (v := -1) d1_way_154 (by decide) ?_
                    refine x_icmp_eq 167 d1_way_155 (by decide) (fun b155 => absurd b155 (nI_m1 (by omega))) (fun b155 => ?_)
                    refine x_iload d1_way_158 rfl ?_
                    refine x_iload_n d1_way_160 rfl ?_
                    refine x_icmp_ltN 167 d1_way_161 (by decide) (by omega) (by omega) (fun b161 => ?_) (fun b161 => ?_)
                    · refine x_iload d1_way_167 rfl ?_
                      refine x_istore_n d1_way_169 ?_
                      refine x_bipush (v := nI 100) d1_way_170 (by decide) ?_
                      refine x_iload d1_way_172 rfl ?_
                      refine x_imulN d1_way_174 ?_
                      refine x_iload d1_way_175 rfl ?_
                      refine x_iaddN d1_way_177 ?_
                      refine x_istore d1_way_178 ?_
                      refine x_iincN (c := 1) d1_way_180 rfl (by decide) ?_
                      refine x_goto 55 d1_way_183 (by decide) ?_
                      have hdd : hfF σ s dr (8 * p + s_fs σ (12 * p + k)) = dF σ s dr (plc σ (12 * p + k)) := by rw [hpl]; split at hhd <;> omega
                      have hlt : dF σ s dr (plc σ (12 * p + k)) < (dF σ s dr (plc σ b)) := by rw [← hdd]; exact b161
                      rw [hdd, show 100 * p + k = cdF (12 * p + k) by unfold cdF; rw [e1, e2]]
                      have hgt : Gt σ s (12 * p + k) := ⟨hRw, b99, b108, by rw [e1]; exact tb_ne0.mp (by omega)⟩
                      exact ih hk (some (12 * p + k)) (hG.better (x := (dF σ s dr (plc σ b))) rfl hgt hlt (dF_le5 hσ s dr _)) _ _
                    · refine x_goto 180 d1_way_164 (by decide) ?_
                      refine x_iincN (c := 1) d1_way_180 rfl (by decide) ?_
                      refine x_goto 55 d1_way_183 (by decide) ?_
                      exact ih hk (some b) (hG.worse (x := (dF σ s dr (plc σ b))) rfl (by rw [hpl]; split at hhd <;> omega) (dF_le5 hσ s dr _)) _ _
                · refine x_goto 180 d1_way_128 (by decide) ?_
                  refine x_iincN (c := 1) d1_way_180 rfl (by decide) ?_
                  refine x_goto 55 d1_way_183 (by decide) ?_
                  exact ih hk (some b) (hG.skip (fun g => by have := g.2.2.2; rw [e1, tb0.mp (by omega)] at this; cases this)) _ _
    have hpp : ∀ p, p ≤ s_np σ → ∀ o, GS σ s dr (12 * p) o → ∀ v6 v7 v8, RA G (d + 5) M1_way 43 [.ref 100, .int (nI s), .int (nI dr), .int (bO σ s dr o), .int (fO o), .int (nI p), v6, v7, v8] [] (t, I3, J, P, n, sl) (fun o h' => o = .inl (some (.int (qWay σ ρ (nI s) (nI dr)).1)) ∧ ∃ I', h' = (t, I', J, P, n, sl) ∧ HdS t I' P σ (qWay σ ρ (nI s) (nI dr)).2 ∧ HFq I I') := by
      refine up_ind ?_
      intro p hp_ ih o hG v6 v7 v8
      refine x_iload d1_way_43 rfl ?_
      refine x_aload_n d1_way_45 rfl ?_
      refine x_getI d1_way_46 f1_73 (hS.T rfl) ?_
      refine x_top (congrArg Value.int (show I3 100 5 = nI (s_np σ) from (hsm.hp hP).1)) ?_
      refine x_icmp_geN 192 d1_way_49 (by decide) (by omega) (by omega) (fun b49 => ?_) (fun b49 => ?_)
      · exact hend o p (by omega) hG _ _ _
      · have hp : p < s_np σ := b49
        refine x_iconst (v := nI 0) d1_way_52 (by decide) ?_
        refine x_istore d1_way_53 ?_
        exact hkk p hp ih 0 (Nat.zero_le _) o hG _ _
    exact hpp 0 (Nat.zero_le _) none (fun l' h => absurd h (Nat.not_lt_zero _)) _ _ _
