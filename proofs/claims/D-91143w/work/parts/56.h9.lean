/-! the house: cures, picks -/
set_option maxRecDepth 100000
set_option maxHeartbeats 4000000 in
theorem h_needsF {G : GG} (d : Nat) {t : Nat → Option (Nat × Nat)} {J : Nat → Nat → Int64} {P : Nat → Nat → Value} {n sl : Nat} {I : Nat → Nat → Int32} (hS : SH t P) {σ : Sg} {y : Lay} (hσ : SgOK σ) (hP : HP t I P σ y) (hfw : Fwn I σ) {p : Nat} (hp : p < s_np σ) (hB : n ≤ 601124) (hSl : sl ≤ 7293033) : CP G (d + 2) M1_needs [.ref 100, .int (nI p)] (t, I, J, P, n, sl) (.int (nI (ndF σ p))) := by
  refine CA.w ?_
  show RA _ _ M1_needs 0 [.ref 100, .int (nI p)] [] _ _
  have hnp := hσ.1
  refine x_aload_n d1_needs_0 rfl ?_
  refine x_iload_n d1_needs_1 rfl ?_
  refine x_invV 100 1 d1_needs_2 (hS.T rfl) v1_188_1 (h_isAskedF _ hS hσ hfw (p := p) (by omega) hB hSl) (Cont.p ?_) (hB := hB) (hS := hSl)
  have hbp_ := bP_lt (Asked σ p)
  refine x_if_eqN 20 d1_needs_5 (by decide) (by omega) (fun b5 => ?_) (fun b5 => ?_)
  · refine x_iconst (v := nI 0) d1_needs_20 (by decide) ?_
    exact x_ireturn d1_needs_21 ⟨by rw [ndF_f (bP_0.mp b5)], rfl⟩
  · refine x_aload_n d1_needs_8 rfl ?_
    refine x_getP d1_needs_9 f1_24 (hS.T rfl) (hS.P rfl) ?_
    refine x_iload_n d1_needs_12 rfl ?_
    refine x_aald5N d1_needs_13 (hS.T rfl) (by omega) (hP.at_ hp) ?_
    refine x_invV (y.1 p) 0 d1_needs_14 (hP.ty hp) v1_217_7 (h_pneeds _ hS hσ hP hp hB hSl) (Cont.p ?_) (hB := hB) (hS := hSl)
    refine x_goto 21 d1_needs_17 (by decide) ?_
    exact x_ireturn d1_needs_21 ⟨by rw [ndF_t (bP_1.mp (by omega))], rfl⟩
/-- what the picking stands on: candidates, flown; mayMany -/
def CuH (t : Nat → Option (Nat × Nat)) (I : Nat → Nat → Int32) (P : Nat → Nat → Value) (σ : Sg) (ρ : Rs) (y : Lay) : Prop := HP t I P σ y ∧ Fwn I σ ∧ HdR I ρ ∧ I 100 19 = nI (cdN σ) ∧ ∀ j, j < cdN σ → I 119 j = nI (cod (cdI σ j))
theorem CuH.keep {t : Nat → Option (Nat × Nat)} {I I' : Nat → Nat → Int32} {P : Nat → Nat → Value} {σ : Sg} {ρ : Rs} {y : Lay} (h : CuH t I P σ ρ y) (hF : ∀ b, b ∉ [112, 113, 114, 115, 121] → I' b = I b) : CuH t I' P σ ρ y := by
  obtain ⟨h1, h2, h3, h4, h5⟩ := h
  have hs : HSm I I' := ⟨fun b hb => hF b (fun e => hb (by simp only [List.mem_cons, List.not_mem_nil, or_false] at e ⊢; omega)), fun k _ => by rw [hF 100 (by decide)]⟩
  exact ⟨hs.hp h1, h2.keep (by rw [hF 100 (by decide)]) (fun b hb => hF b (fun e => by simp only [List.mem_cons, List.not_mem_nil, or_false] at e hb; omega)), hs.hr h3, by rw [hF 100 (by decide)]; exact h4, by rw [hF 119 (by decide)]; exact h5⟩
/-- what a picking may change -/
def PkF (I I' : Nat → Nat → Int32) (k : Nat) : Prop := (∀ b, b ∉ [112, 113, 114, 115, 121] → I' b = I b) ∧ ∀ j, j < k → I' 121 j = I 121 j
theorem PkF.trans {I1 I2 I3 : Nat → Nat → Int32} {k : Nat} (h : PkF I1 I2 k) (h' : PkF I2 I3 k) : PkF I1 I3 k := ⟨fun b hb => (h'.1 b hb).trans (h.1 b hb), fun j hj => (h'.2 j hj).trans (h.2 j hj)⟩
theorem PkF.mono {I I' : Nat → Nat → Int32} {k m : Nat} (h : PkF I I' k) (hm : m ≤ k) : PkF I I' m := ⟨h.1, fun j hj => h.2 j (by omega)⟩
/-- a picking's answer -/
def PkA (σ : Sg) (ρ : Rs) (T fr c r : Nat) (I' : Nat → Nat → Int32) : Prop := r ≤ 1 ∧ (r = 0 → ∀ S, Ext σ T fr c S → ¬ WelS σ ρ S) ∧ (r = 1 → ∃ S, Ext σ T fr c S ∧ WelS σ ρ S ∧ En I' S ∧ ∀ S', Ext σ T fr c S' → WelS σ ρ S' → S' = S ∨ Ahd S S')
theorem bP_congr {a b : Prop} (h : a ↔ b) : bP a = bP b := by rw [propext h]
set_option maxHeartbeats 8000000 in
theorem h_cures {G : GG} (d : Nat) {t : Nat → Option (Nat × Nat)} {J : Nat → Nat → Int64} {P : Nat → Nat → Value} {n sl : Nat} {I : Nat → Nat → Int32} (hS : SH t P) {σ : Sg} {ρ : Rs} {y : Lay} (hσ : SgOK σ) (hρ : RsOK ρ) (hC : CuH t I P σ ρ y) (h10 : cdN σ ≤ 10) {S : Nat} (hS2 : S < 2 ^ cdN σ) (hE : En I S) (hB : n ≤ 601124) (hSl : sl ≤ 7293033) : CA G (d + 4) M1_cures [.ref 100, .int (nI (cnB S (cdN σ)))] (t, I, J, P, n, sl) (fun o h' => o = .inl (some (.int (nI (bP (WelS σ ρ S))))) ∧ ∃ I', h' = (t, I', J, P, n, sl) ∧ ∀ b, b ∉ [112, 113, 114, 115] → I' b = I b) := by
  refine CA.w ?_
  show RA _ _ M1_cures 0 [.ref 100, .int (nI (cnB S (cdN σ))), U0, U0] [] _ _
  have hnp := hσ.1
  have hml : cnB S (cdN σ) ≤ cdN σ := cnW_le _ _
  have hMz : sumN 16 (fun d => pop (adf (dr (sGr σ (gS σ S)) d) (trp (r_mt ρ) d))) = 0 ↔ (∀ e, e < 16 → adf (dr (sGr σ (gS σ S)) e) (trp (r_mt ρ) e) = 0) := by
    rw [sum0]; exact ⟨fun h e he => (pop0 (adf_lt (dr_lt _ e))).mp (h e he), fun h e he => (pop0 (adf_lt (dr_lt _ e))).mpr (h e he)⟩
  have hWel : ((∀ e, e < 16 → adf (dr (sGr σ (gS σ S)) e) (trp (r_mt ρ) e) = 0) ∧ ∀ e, e < 16 → adf (dr σ e &&& trp (r_mt ρ) e) (dr (sGr σ (gS σ S)) e) = 0) ↔ WelS σ ρ S := wel_iff hρ (fun p hp i h => gS_sub hσ hp h)
  have h93 : ∀ I3, (∀ b, b ∉ [112, 113, 114, 115] → I3 b = I b) → (∀ e, e < 16 → I3 115 e = nI (dr (sGr σ (gS σ S)) e)) → ∀ k, k ≤ 16 → RA G (d + 4) M1_cures 93 [.ref 100, .int (nI (cnB S (cdN σ))), .int (nI (bP ((∀ e, e < 16 → adf (dr (sGr σ (gS σ S)) e) (trp (r_mt ρ) e) = 0) ∧ ∀ e, e < k → adf (dr σ e &&& trp (r_mt ρ) e) (dr (sGr σ (gS σ S)) e) = 0))), .int (nI k)] [] (t, I3, J, P, n, sl) (fun o h' => o = .inl (some (.int (nI (bP (WelS σ ρ S))))) ∧ ∃ I', h' = (t, I', J, P, n, sl) ∧ ∀ b, b ∉ [112, 113, 114, 115] → I' b = I b) := by
    intro I3 hk3 hdr3
    refine up_ind ?_
    intro k hk_ ih
    have hbl := bP_lt ((∀ e, e < 16 → adf (dr (sGr σ (gS σ S)) e) (trp (r_mt ρ) e) = 0) ∧ ∀ e, e < k → adf (dr σ e &&& trp (r_mt ρ) e) (dr (sGr σ (gS σ S)) e) = 0)
    refine x_iload_n d1_cures_93 rfl ?_
    refine x_bipush (v := nI 16) d1_cures_94 (by decide) ?_
    refine x_icmp_geN 146 d1_cures_96 (by decide) (by omega) (by omega) (fun b96 => ?_) (fun b96 => ?_)
    · refine x_iload_n d1_cures_146 rfl ?_
      exact x_ireturn d1_cures_147 ⟨by rw [show k = 16 by omega, bP_congr hWel], I3, rfl, hk3⟩ (hn := nar_b hbl)
    · refine x_iload_n d1_cures_99 rfl ?_
      refine x_if_eqN 146 d1_cures_100 (by decide) (by omega) (fun b100 => ?_) (fun b100 => ?_)
      · refine x_iload_n d1_cures_146 rfl ?_
        exact x_ireturn d1_cures_147 ⟨by rw [b100, bP_f (fun z => bP_0.mp b100 (by have w := hWel.mpr z; exact ⟨w.1, fun e he => w.2 e (by omega)⟩))], I3, rfl, hk3⟩ (hn := nar_b hbl)
      · refine x_aload_n d1_cures_103 rfl ?_
        refine x_getP d1_cures_104 f1_37 (hS.T rfl) (hS.P rfl) ?_
        refine x_getP d1_cures_107 f1_171 (hS.T rfl) (hS.P rfl) ?_
        refine x_iload_n d1_cures_110 rfl ?_
        refine x_ialdN d1_cures_111 (hS.T rfl) (by omega) ?_
        refine x_top (congrArg Value.int (show I3 111 k = nI (dr σ k) from (show I3 111 k = nI (dr σ k) by rw [hk3 111 (by decide)]; exact (hC.2.1.2.2.1 _ (by omega)).trans (by rw [fin7_d (by omega)])))) ?_
        have hd1_ := dr_lt σ k
        refine x_aload_n d1_cures_112 rfl ?_
        refine x_getP d1_cures_113 f1_28 (hS.T rfl) (hS.P rfl) ?_
        refine x_iload_n d1_cures_116 rfl ?_
        refine x_ialdN d1_cures_117 (hS.T rfl) (by omega) ?_
        refine x_top (congrArg Value.int (show I3 107 k = nI (trp (r_mt ρ) k) from (show I3 107 k = nI (trp (r_mt ρ) k) by rw [hk3 107 (by decide)]; exact hC.2.2.1.2.2.1 _ (by omega)))) ?_
        refine x_iandN d1_cures_118 ?_
        refine x_aload_n d1_cures_119 rfl ?_
        refine x_getP d1_cures_120 f1_41 (hS.T rfl) (hS.P rfl) ?_
        refine x_getP d1_cures_123 f1_171 (hS.T rfl) (hS.P rfl) ?_
        refine x_iload_n d1_cures_126 rfl ?_
        refine x_ialdN d1_cures_127 (hS.T rfl) (by omega) ?_
        refine x_top (congrArg Value.int (show I3 115 k = nI (dr (sGr σ (gS σ S)) k) from (hdr3 _ (by omega)))) ?_
        have hd2_ := dr_lt (sGr σ (gS σ S)) k
        refine x_iconst (v := -1) d1_cures_128 (by decide) ?_
        refine x_ixor d1_cures_129 ?_
        refine x_andnN d1_cures_130 (and_lt (dr_lt σ _)) ?_
        have hal := adf_lt (b := dr (sGr σ (gS σ S)) k) (and_lt (b := trp (r_mt ρ) k) (dr_lt σ k))
        refine x_if_neN 138 d1_cures_131 (by decide) (by omega) (fun b131 => ?_) (fun b131 => ?_)
        · refine x_iconst (v := nI 0) d1_cures_138 (by decide) ?_
          refine x_istore_n d1_cures_139 ?_
          refine x_iincN (c := 1) d1_cures_140 rfl (by decide) ?_
          refine x_goto 93 d1_cures_143 (by decide) ?_
          rw [show nI 0 = nI (bP ((∀ e, e < 16 → adf (dr (sGr σ (gS σ S)) e) (trp (r_mt ρ) e) = 0) ∧ ∀ e, e < (k + 1) → adf (dr σ e &&& trp (r_mt ρ) e) (dr (sGr σ (gS σ S)) e) = 0)) by rw [bP_f (fun z => b131 (z.2 k (by omega)))]]
          exact ih (by omega)
        · refine x_iconst (v := nI 1) d1_cures_134 (by decide) ?_
          refine x_goto 139 d1_cures_135 (by decide) ?_
          refine x_istore_n d1_cures_139 ?_
          refine x_iincN (c := 1) d1_cures_140 rfl (by decide) ?_
          refine x_goto 93 d1_cures_143 (by decide) ?_
          rw [show nI 1 = nI (bP ((∀ e, e < 16 → adf (dr (sGr σ (gS σ S)) e) (trp (r_mt ρ) e) = 0) ∧ ∀ e, e < (k + 1) → adf (dr σ e &&& trp (r_mt ρ) e) (dr (sGr σ (gS σ S)) e) = 0)) by rw [bP_t (by
            have z := bP_1.mp (show bP ((∀ e, e < 16 → adf (dr (sGr σ (gS σ S)) e) (trp (r_mt ρ) e) = 0) ∧ ∀ e, e < k → adf (dr σ e &&& trp (r_mt ρ) e) (dr (sGr σ (gS σ S)) e) = 0) = 1 by omega)
            refine ⟨z.1, fun e he => ?_⟩
            by_cases ee : e = k
            · rw [ee]; exact b131
            · exact z.2 e (by omega))]]
          exact ih (by omega)
  have h63 : ∀ I2, (∀ b, b ≠ 113 → I2 b = I b) → (∀ p, p < s_np σ → I2 113 p = nI (gS σ S p)) → RA G (d + 4) M1_cures 63 [.ref 100, .int (nI (cnB S (cdN σ))), .int (nI (cnB S (cdN σ))), U0] [] (t, I2, J, P, n, sl) (fun o h' => o = .inl (some (.int (nI (bP (WelS σ ρ S))))) ∧ ∃ I', h' = (t, I', J, P, n, sl) ∧ ∀ b, b ∉ [112, 113, 114, 115] → I' b = I b) := by
    intro I2 hF hg
    have hP2 : HP t I2 P σ y := hC.1.fr (by rw [hF 100 (by decide)]) (fun b hb => hF b (by omega))
    refine x_aload_n d1_cures_63 rfl ?_
    refine x_getP d1_cures_64 f1_41 (hS.T rfl) (hS.P rfl) ?_
    refine x_aload_n d1_cures_67 rfl ?_
    refine x_getI d1_cures_68 f1_73 (hS.T rfl) ?_
    refine x_top (congrArg Value.int (show I2 100 5 = nI (s_np σ) from hP2.1)) ?_
    refine x_invV 112 1 d1_cures_71 (hS.T rfl) v1_87_4 (h_goes _ hS (FlT.t hS) hσ hP2 (g := gS σ S) (fun p hp => ⟨hg p hp, gS_lt σ S p⟩) hB hSl) ?_ (hB := hB) (hS := hSl)
    rintro o h' ⟨rfl, I3, rfl, hF3, hr3⟩
    have hk3 : ∀ b, b ∉ [112, 113, 114, 115] → I3 b = I b := fun b hb => by
      simp only [List.mem_cons, List.not_mem_nil, or_false] at hb
      rw [hF3.1 b (by omega) (by omega) (by omega)]; exact hF b (by omega)
    have hdr3 : ∀ e, e < 16 → I3 115 e = nI (dr (sGr σ (gS σ S)) e) := fun e he => (hr3.2.1 e he).trans (by rw [fin7_d he])
    refine x_aload_n d1_cures_74 rfl ?_
    refine x_aload_n d1_cures_75 rfl ?_
    refine x_getP d1_cures_76 f1_41 (hS.T rfl) (hS.P rfl) ?_
    refine x_invV 100 1 d1_cures_79 (hS.T rfl) v1_180_1 (h_misuses _ hS (FlT.t hS) (h := dr (sGr σ (gS σ S))) (m := r_mt ρ) (fun e he => ⟨hdr3 e he, dr_lt _ e⟩) (fun e he => by rw [hk3 107 (by decide)]; exact hC.2.2.1.2.2.1 e he) hB hSl) (Cont.p ?_) (hB := hB) (hS := hSl)
    have hsl := sumN_le (n := 16) (f := fun d => pop (adf (dr (sGr σ (gS σ S)) d) (trp (r_mt ρ) d))) (c := 16) (fun i _ => pop_le _)
    refine x_if_neN 89 d1_cures_82 (by decide) (by omega) (fun b82 => ?_) (fun b82 => ?_)
    · refine x_iconst (v := nI 0) d1_cures_89 (by decide) ?_
      refine x_istore_n d1_cures_90 ?_
      refine x_iconst (v := nI 0) d1_cures_91 (by decide) ?_
      refine x_istore_n d1_cures_92 ?_
      have h0 := h93 I3 hk3 hdr3 0 (Nat.zero_le _)
      rw [bP_f (fun z => b82 (hMz.mpr z.1))] at h0
      exact h0
    · refine x_iconst (v := nI 1) d1_cures_85 (by decide) ?_
      refine x_goto 90 d1_cures_86 (by decide) ?_
      refine x_istore_n d1_cures_90 ?_
      refine x_iconst (v := nI 0) d1_cures_91 (by decide) ?_
      refine x_istore_n d1_cures_92 ?_
      have h0 := h93 I3 hk3 hdr3 0 (Nat.zero_le _)
      rw [bP_t ⟨hMz.mp b82, fun e h => absurd h (Nat.not_lt_zero _)⟩] at h0
      exact h0
  have h9 : ∀ k, k ≤ (cnB S (cdN σ)) → ∀ I2, (∀ b, b ≠ 113 → I2 b = I b) → (∀ p, p < s_np σ → I2 113 p = nI (gS σ (pkU S k) p)) → RA G (d + 4) M1_cures 9 [.ref 100, .int (nI (cnB S (cdN σ))), .int (nI k), U0] [] (t, I2, J, P, n, sl) (fun o h' => o = .inl (some (.int (nI (bP (WelS σ ρ S))))) ∧ ∃ I', h' = (t, I', J, P, n, sl) ∧ ∀ b, b ∉ [112, 113, 114, 115] → I' b = I b) := by
    refine up_ind ?_
    intro k hk_ ih I2 hF hg
    refine x_iload_n d1_cures_9 rfl ?_
    refine x_iload_n d1_cures_10 rfl ?_
    refine x_icmp_geN 63 d1_cures_11 (by decide) (by omega) (by omega) (fun b11 => ?_) (fun b11 => ?_)
    · have hke : k = cnB S (cdN σ) := by omega
      subst hke
      rw [pkU_n hS2 (by omega)] at hg
      exact h63 I2 hF hg
    · obtain ⟨i, hi1, hi2, hi3⟩ := pk_ex b11
      have hrg := cdI_rng hσ hi1
      have hps := pkU_s (by omega : i < 16) hi2
      rw [hi3] at hps
      have hgl := gS_lt σ (pkU S k) (cdI σ i / 16)
      refine x_aload_n d1_cures_14 rfl ?_
      refine x_getP d1_cures_15 f1_41 (hS.T rfl) (hS.P rfl) ?_
      refine x_getP d1_cures_18 f1_228 (hS.T rfl) (hS.P rfl) ?_
      refine x_aload_n d1_cures_21 rfl ?_
      refine x_getP d1_cures_22 f1_61 (hS.T rfl) (hS.P rfl) ?_
      refine x_aload_n d1_cures_25 rfl ?_
      refine x_getP d1_cures_26 f1_67 (hS.T rfl) (hS.P rfl) ?_
      refine x_iload_n d1_cures_29 rfl ?_
      refine x_ialdN d1_cures_30 (hS.T rfl) (by omega) ?_
      refine x_top (congrArg Value.int (show I2 121 k = nI i from (show I2 121 k = nI i by rw [hF 121 (by decide), ← hi3]; exact hE i hi2))) ?_
      refine x_ialdN d1_cures_31 (hS.T rfl) (by omega) ?_
      refine x_top (congrArg Value.int (show I2 119 i = nI (100 * (cdI σ i / 16) + cdI σ i % 16) from (show I2 119 i = nI (100 * (cdI σ i / 16) + cdI σ i % 16) by rw [hF 119 (by decide)]; exact hC.2.2.2.2 i hi1))) ?_
      refine x_bipush (v := nI 100) d1_cures_32 (by decide) ?_
      refine x_idivN d1_cures_34 (by omega) (by omega) ?_
      rw [show (100 * (cdI σ i / 16) + cdI σ i % 16) / 100 = cdI σ i / 16 by omega]
      refine x_dup2 d1_cures_35 rfl rfl ?_
      refine x_ialdN d1_cures_36 (hS.T rfl) (by omega) ?_
      refine x_top (congrArg Value.int (show I2 113 (cdI σ i / 16) = nI (gS σ (pkU S k) (cdI σ i / 16)) from (hg _ hrg.1))) ?_
      refine x_iconst (v := nI 1) d1_cures_37 (by decide) ?_
      refine x_aload_n d1_cures_38 rfl ?_
      refine x_getP d1_cures_39 f1_61 (hS.T rfl) (hS.P rfl) ?_
      refine x_aload_n d1_cures_42 rfl ?_
      refine x_getP d1_cures_43 f1_67 (hS.T rfl) (hS.P rfl) ?_
      refine x_iload_n d1_cures_46 rfl ?_
      refine x_ialdN d1_cures_47 (hS.T rfl) (by omega) ?_
      refine x_top (congrArg Value.int (show I2 121 k = nI i from (show I2 121 k = nI i by rw [hF 121 (by decide), ← hi3]; exact hE i hi2))) ?_
      refine x_ialdN d1_cures_48 (hS.T rfl) (by omega) ?_
      refine x_top (congrArg Value.int (show I2 119 i = nI (100 * (cdI σ i / 16) + cdI σ i % 16) from (show I2 119 i = nI (100 * (cdI σ i / 16) + cdI σ i % 16) by rw [hF 119 (by decide)]; exact hC.2.2.2.2 i hi1))) ?_
      refine x_bipush (v := nI 100) d1_cures_49 (by decide) ?_
      refine x_iremN d1_cures_51 (by omega) (by omega) ?_
      rw [show (100 * (cdI σ i / 16) + cdI σ i % 16) % 100 = cdI σ i % 16 by omega]
      refine x_1shlN d1_cures_52 (by omega) ?_
      refine x_iconst (v := -1) d1_cures_53 (by decide) ?_
      refine x_ixor d1_cures_54 ?_
      refine x_andnN d1_cures_55 (by omega) ?_
      refine x_iastN d1_cures_56 (hS.T rfl) (by omega) (fun I1 hI1 => ?_)
      refine x_iincN (c := 1) d1_cures_57 rfl (by decide) ?_
      refine x_goto 9 d1_cures_60 (by decide) ?_
      exact ih (by omega) I1 (fun b hb => by rw [hI1, u2_row _ _ _ hb]; exact hF b hb) (by rw [hps.1, gS_step hσ hi1 hps.2]; exact row_set hg hI1 rfl)
  refine x_aload_n d1_cures_0 rfl ?_
  refine x_getP d1_cures_1 f1_41 (hS.T rfl) (hS.P rfl) ?_
  refine x_invV 112 0 d1_cures_4 (hS.T rfl) v1_84_4 (h_takesGrants _ hS (FlT.t hS) hσ hC.1) ?_ (hB := hB) (hS := hSl)
  rintro o h' ⟨rfl, I1, rfl, hF1, hg1⟩
  refine x_iconst (v := nI 0) d1_cures_7 (by decide) ?_
  refine x_istore_n d1_cures_8 ?_
  exact h9 0 (Nat.zero_le _) I1 (fun b hb => hF1 b hb) (fun p hp => by rw [pkU_0, gS_zero hσ hp]; exact (hg1 p (by omega)).trans (by rw [if_pos hp]))
