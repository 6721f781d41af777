/-! the house: rights, counts, lines, meant, the tape -/
set_option maxRecDepth 100000
set_option maxHeartbeats 4000000 in
theorem h_isAsked {G : GG} (d : Nat) {t : Nat → Option (Nat × Nat)} {J : Nat → Nat → Int64} {P : Nat → Nat → Value} {n sl : Nat} {I : Nat → Nat → Int32} (hS : SH t P) {σ : Sg} {y : Lay} (hσ : SgOK σ) (hP : HP t I P σ y) (hF : HdF I σ) {p : Nat} (hp : p < 10) (hB : n ≤ 601124) (hSl : sl ≤ 7293033) : CA G (d + 5) M1_isAsked [.ref 100, .int (nI p)] (t, I, J, P, n, sl) (fun o h' => o = .inl (some (.int (nI (bP (Asked σ p))))) ∧ ∃ I', h' = (t, I', J, P, n, sl) ∧ HSm I I' ∧ Fwn I' σ) := by
  refine CA.w ?_
  show RA _ _ M1_isAsked 0 [.ref 100, .int (nI p)] [] _ _
  refine x_aload_n d1_isAsked_0 rfl ?_
  refine x_invV 100 0 d1_isAsked_1 (hS.T rfl) v1_156_1 (h_flow _ hS hσ hP hF hB hSl) ?_ (hB := hB) (hS := hSl)
  rintro o h' ⟨rfl, I1, rfl, hsI1, hfwI1⟩
  have hsmI1 : HSm I I1 := (HSm.rf _).trans hsI1
  refine x_getI d1_isAsked_4 f1_168 (hS.T rfl) ?_
  refine x_top (congrArg Value.int (show I1 108 4 = nI (askB σ) from (hfwI1.2.2.2.trans (by rw [fin7_a])))) ?_
  have hab_ := askB_lt σ
  refine x_iload_n d1_isAsked_7 rfl ?_
  refine x_ishrN d1_isAsked_8 (by omega) (by omega) ?_
  refine x_iconst (v := nI 1) d1_isAsked_9 (by decide) ?_
  refine x_tbN d1_isAsked_10 ?_
  have htb_ := tb_lt (askB σ) p
  refine x_iconst (v := nI 1) d1_isAsked_11 (by decide) ?_
  refine x_icmp_neN 19 d1_isAsked_12 (by decide) (by omega) (by omega) (fun b12 => ?_) (fun b12 => ?_)
  · refine x_iconst (v := nI 0) d1_isAsked_19 (by decide) ?_
    exact x_ireturn d1_isAsked_20 ⟨by rw [bP_f (fun z => by have := (askB_bit hσ).mpr z; rw [tb_ne1.mp b12] at this; cases this)], I1, rfl, hsmI1, hfwI1⟩
  · refine x_iconst (v := nI 1) d1_isAsked_15 (by decide) ?_
    refine x_goto 20 d1_isAsked_16 (by decide) ?_
    exact x_ireturn d1_isAsked_20 ⟨by rw [bP_t ((askB_bit hσ).mp (tb1.mp b12))], I1, rfl, hsmI1, hfwI1⟩

set_option maxHeartbeats 4000000 in
theorem h_lneeds0 {G : GG} (d : Nat) {t : Nat → Option (Nat × Nat)} {J : Nat → Nat → Int64} {P : Nat → Nat → Value} {n sl : Nat} {I : Nat → Nat → Int32} (hS : SH t P) {σ : Sg} (hσ : SgOK σ) {p k a : Nat} (hp : p < s_np σ) (hk : k < s_ln σ p) (ha : LnR t I P σ (12 * p + k) a) (hkk : s_kk σ (12 * p + k) = 0) : CP G d M9_needs [.ref a] (t, I, J, P, n, sl) (.int (nI (ndK σ p k))) := by
  refine CA.w ?_
  show RA _ _ M9_needs 0 [.ref a] [] _ _
  have hnu := (hσ.row hp hk).2.1
  have hta : t a = some (9, 0) := by rw [ha.2.1, hkk]
  refine x_iconst (v := nI 1) d9_needs_0 (by decide) ?_
  refine x_aload_n d9_needs_1 rfl ?_
  refine x_getI d9_needs_2 f9_15 hta ?_
  refine x_top (congrArg Value.int (show I a 1 = nI (s_nu σ (12 * p + k)) from ha.2.2.2.1)) ?_
  refine x_1shlN d9_needs_5 (by omega) ?_
  exact x_ireturn d9_needs_6 ⟨by rw [show ndK σ p k = 2 ^ s_nu σ (12 * p + k) from if_pos (Or.inl hkk)], rfl⟩
set_option maxHeartbeats 4000000 in
theorem h_lneeds3 {G : GG} (d : Nat) {t : Nat → Option (Nat × Nat)} {J : Nat → Nat → Int64} {P : Nat → Nat → Value} {n sl : Nat} {I : Nat → Nat → Int32} (hS : SH t P) {σ : Sg} (hσ : SgOK σ) {p k a : Nat} (hp : p < s_np σ) (hk : k < s_ln σ p) (ha : LnR t I P σ (12 * p + k) a) (hkk : s_kk σ (12 * p + k) = 3) : CP G d M12_needs [.ref a] (t, I, J, P, n, sl) (.int (nI (ndK σ p k))) := by
  refine CA.w ?_
  show RA _ _ M12_needs 0 [.ref a] [] _ _
  have hnu := (hσ.row hp hk).2.1
  have hta : t a = some (12, 0) := by rw [ha.2.1, hkk]
  refine x_iconst (v := nI 1) d12_needs_0 (by decide) ?_
  refine x_aload_n d12_needs_1 rfl ?_
  refine x_getI d12_needs_2 f12_9 hta ?_
  refine x_top (congrArg Value.int (show I a 1 = nI (s_nu σ (12 * p + k)) from ha.2.2.2.1)) ?_
  refine x_1shlN d12_needs_5 (by omega) ?_
  exact x_ireturn d12_needs_6 ⟨by rw [show ndK σ p k = 2 ^ s_nu σ (12 * p + k) from if_pos (Or.inr hkk)], rfl⟩
set_option maxHeartbeats 4000000 in
theorem h_lneedsN {G : GG} (d : Nat) {h : AH} {σ : Sg} {p k a : Nat} (hkk : s_kk σ (12 * p + k) ≠ 0 ∧ s_kk σ (12 * p + k) ≠ 3) : CP G d M8_needs [.ref a] h (.int (nI (ndK σ p k))) := by
  refine CA.w ?_
  show RA _ _ M8_needs 0 [.ref a] [] _ _
  refine x_iconst (v := nI 0) d8_needs_0 (by decide) ?_
  exact x_ireturn d8_needs_1 ⟨by rw [show ndK σ p k = 0 from if_neg (by omega)], rfl⟩
set_option maxHeartbeats 4000000 in
theorem h_pneeds {G : GG} (d : Nat) {t : Nat → Option (Nat × Nat)} {J : Nat → Nat → Int64} {P : Nat → Nat → Value} {n sl : Nat} {I : Nat → Nat → Int32} (hS : SH t P) {σ : Sg} {y : Lay} (hσ : SgOK σ) (hP : HP t I P σ y) {p : Nat} (hp : p < s_np σ) (hB : n ≤ 601124) (hSl : sl ≤ 7293033) : CP G (d + 1) M7_needs [.ref (y.1 p)] (t, I, J, P, n, sl) (.int (nI (ndR σ p))) := by
  refine CA.w ?_
  show RA _ _ M7_needs 0 [.ref (y.1 p), U0, U0] [] _ _
  have hnp := hσ.1
  have hln := hσ.ln hp
  refine x_iconst (v := nI 0) d7_needs_0 (by decide) ?_
  refine x_istore_n d7_needs_1 ?_
  refine x_iconst (v := nI 0) d7_needs_2 (by decide) ?_
  refine x_istore_n d7_needs_3 ?_
  have hL : ∀ k, k ≤ s_ln σ p → RA G (d + 1) M7_needs 4 [.ref (y.1 p), .int (nI (orF (ndK σ p) k)), .int (nI k)] [] (t, I, J, P, n, sl) (fun o h' => o = .inl (some (.int (nI (ndR σ p)))) ∧ h' = (t, I, J, P, n, sl)) := by
    refine up_ind ?_
    intro k hk_ ih
    refine x_iload_n d7_needs_4 rfl ?_
    refine x_aload_n d7_needs_5 rfl ?_
    refine x_getI d7_needs_6 f7_21 (hP.ty hp) ?_
    refine x_top (congrArg Value.int (show I (y.1 p) 1 = nI (s_ln σ p) from (hP.ln hp))) ?_
    have hln_ := hσ.ln hp
    refine x_icmp_geN 30 d7_needs_9 (by decide) (by omega) (by omega) (fun b9 => ?_) (fun b9 => ?_)
    · refine x_iload_n d7_needs_30 rfl ?_
      exact x_ireturn d7_needs_31 ⟨by unfold ndR; rw [show k = s_ln σ p by omega], rfl⟩
    · have hk : k < s_ln σ p := b9
      refine x_iload_n d7_needs_12 rfl ?_
      refine x_aload_n d7_needs_13 rfl ?_
      refine x_getP d7_needs_14 f7_11 (hP.ty hp) (hP.pl hp) ?_
      refine x_iload_n d7_needs_17 rfl ?_
      refine x_aald6N d7_needs_18 (hP.tl hp) (by omega) (hP.lp hp hk) ?_
      rcases (by have := (hσ.row hp hk).1; omega : s_kk σ (12 * p + k) = 0 ∨ s_kk σ (12 * p + k) = 1 ∨ s_kk σ (12 * p + k) = 2 ∨ s_kk σ (12 * p + k) = 3 ∨ s_kk σ (12 * p + k) = 4 ∨ s_kk σ (12 * p + k) = 5) with hkk | hkk | hkk | hkk | hkk | hkk
      · refine x_invV (y.2.2 (12 * p + k)) 0 d7_needs_19 (show t (y.2.2 (12 * p + k)) = some (9, 0) by rw [(hP.lr hp hk).2.1, hkk]) v7_34_9 (h_lneeds0 _ hS hσ hp hk (hP.lr hp hk) hkk) (Cont.p ?_) (hB := hB) (hS := hSl)
        refine x_iorN d7_needs_22 ?_
        refine x_istore_n d7_needs_23 ?_
        refine x_iincN (c := 1) d7_needs_24 rfl (by decide) ?_
        refine x_goto 4 d7_needs_27 (by decide) ?_
        exact ih b9
      · refine x_invV (y.2.2 (12 * p + k)) 0 d7_needs_19 (show t (y.2.2 (12 * p + k)) = some (10, 0) by rw [(hP.lr hp hk).2.1, hkk]) v7_34_10 (h_lneedsN _ (σ := σ) (p := p) (k := k) (by omega)) (Cont.p ?_) (hB := hB) (hS := hSl)
        refine x_iorN d7_needs_22 ?_
        refine x_istore_n d7_needs_23 ?_
        refine x_iincN (c := 1) d7_needs_24 rfl (by decide) ?_
        refine x_goto 4 d7_needs_27 (by decide) ?_
        exact ih b9
      · refine x_invV (y.2.2 (12 * p + k)) 0 d7_needs_19 (show t (y.2.2 (12 * p + k)) = some (11, 0) by rw [(hP.lr hp hk).2.1, hkk]) v7_34_11 (h_lneedsN _ (σ := σ) (p := p) (k := k) (by omega)) (Cont.p ?_) (hB := hB) (hS := hSl)
        refine x_iorN d7_needs_22 ?_
        refine x_istore_n d7_needs_23 ?_
        refine x_iincN (c := 1) d7_needs_24 rfl (by decide) ?_
        refine x_goto 4 d7_needs_27 (by decide) ?_
        exact ih b9
      · refine x_invV (y.2.2 (12 * p + k)) 0 d7_needs_19 (show t (y.2.2 (12 * p + k)) = some (12, 0) by rw [(hP.lr hp hk).2.1, hkk]) v7_34_12 (h_lneeds3 _ hS hσ hp hk (hP.lr hp hk) hkk) (Cont.p ?_) (hB := hB) (hS := hSl)
        refine x_iorN d7_needs_22 ?_
        refine x_istore_n d7_needs_23 ?_
        refine x_iincN (c := 1) d7_needs_24 rfl (by decide) ?_
        refine x_goto 4 d7_needs_27 (by decide) ?_
        exact ih b9
      · refine x_invV (y.2.2 (12 * p + k)) 0 d7_needs_19 (show t (y.2.2 (12 * p + k)) = some (13, 0) by rw [(hP.lr hp hk).2.1, hkk]) v7_34_13 (h_lneedsN _ (σ := σ) (p := p) (k := k) (by omega)) (Cont.p ?_) (hB := hB) (hS := hSl)
        refine x_iorN d7_needs_22 ?_
        refine x_istore_n d7_needs_23 ?_
        refine x_iincN (c := 1) d7_needs_24 rfl (by decide) ?_
        refine x_goto 4 d7_needs_27 (by decide) ?_
        exact ih b9
      · refine x_invV (y.2.2 (12 * p + k)) 0 d7_needs_19 (show t (y.2.2 (12 * p + k)) = some (14, 0) by rw [(hP.lr hp hk).2.1, hkk]) v7_34_14 (h_lneedsN _ (σ := σ) (p := p) (k := k) (by omega)) (Cont.p ?_) (hB := hB) (hS := hSl)
        refine x_iorN d7_needs_22 ?_
        refine x_istore_n d7_needs_23 ?_
        refine x_iincN (c := 1) d7_needs_24 rfl (by decide) ?_
        refine x_goto 4 d7_needs_27 (by decide) ?_
        exact ih b9
  exact hL 0 (Nat.zero_le _)
set_option maxHeartbeats 4000000 in
theorem h_needs {G : GG} (d : Nat) {t : Nat → Option (Nat × Nat)} {J : Nat → Nat → Int64} {P : Nat → Nat → Value} {n sl : Nat} {I : Nat → Nat → Int32} (hS : SH t P) {σ : Sg} {y : Lay} (hσ : SgOK σ) (hP : HP t I P σ y) (hF : HdF I σ) {p : Nat} (hp : p < s_np σ) (hB : n ≤ 601124) (hSl : sl ≤ 7293033) : CA G (d + 6) M1_needs [.ref 100, .int (nI p)] (t, I, J, P, n, sl) (fun o h' => o = .inl (some (.int (nI (ndF σ p)))) ∧ ∃ I', h' = (t, I', J, P, n, sl) ∧ HSm I I' ∧ Fwn I' σ) := by
  refine CA.w ?_
  show RA _ _ M1_needs 0 [.ref 100, .int (nI p)] [] _ _
  have hnp := hσ.1
  refine x_aload_n d1_needs_0 rfl ?_
  refine x_iload_n d1_needs_1 rfl ?_
  refine x_invV 100 1 d1_needs_2 (hS.T rfl) v1_188_1 (h_isAsked _ hS hσ hP hF (p := p) (by omega) hB hSl) ?_ (hB := hB) (hS := hSl)
  rintro o h' ⟨rfl, I1, rfl, hsI1, hfwI1⟩
  have hsmI1 : HSm I I1 := (HSm.rf _).trans hsI1
  have hbp_ := bP_lt (Asked σ p)
  refine x_if_eqN 20 d1_needs_5 (by decide) (by omega) (fun b5 => ?_) (fun b5 => ?_)
  · refine x_iconst (v := nI 0) d1_needs_20 (by decide) ?_
    exact x_ireturn d1_needs_21 ⟨by rw [ndF_f (bP_0.mp b5)], I1, rfl, hsmI1, hfwI1⟩
  · refine x_aload_n d1_needs_8 rfl ?_
    refine x_getP d1_needs_9 f1_24 (hS.T rfl) (hS.P rfl) ?_
    refine x_iload_n d1_needs_12 rfl ?_
    refine x_aald5N d1_needs_13 (hS.T rfl) (by omega) ((hsmI1.hp hP).at_ hp) ?_
    refine x_invV (y.1 p) 0 d1_needs_14 ((hsmI1.hp hP).ty hp) v1_217_7 (h_pneeds _ hS hσ (hsmI1.hp hP) hp hB hSl) (Cont.p ?_) (hB := hB) (hS := hSl)
    refine x_goto 21 d1_needs_17 (by decide) ?_
    exact x_ireturn d1_needs_21 ⟨by rw [ndF_t (bP_1.mp (by omega))], I1, rfl, hsmI1, hfwI1⟩
set_option maxHeartbeats 4000000 in
theorem h_needed (G : GG) (d : Nat) (v : Int32) (σ : Sg) (ρ : Rs) : HQ G (d + 7) M1_needed [.ref 100, .int v] σ ρ (qNeeded σ v) σ ρ := by
  intro t I J P n sl hS hD hB hSl
  have hσ := hD.1
  have hρ := hD.2.1
  obtain ⟨y, hP⟩ := hD.2.2.1
  have hR := hD.2.2.2.1
  have hF := hD.2.2.2.2
  have hnp := hσ.1
  rcases ix_cases v (n := s_np σ) (by omega) with ⟨hv, e⟩ | ⟨p, hp, rfl, hv, e⟩
  · refine CA.w ?_
    show RA _ _ M1_needed 0 [.ref 100, .int v] [] _ _
    refine x_aload_n d1_needed_0 rfl ?_
    refine x_iload_n d1_needed_1 rfl ?_
    refine x_invV 100 1 d1_needed_2 (hS.T rfl) v1_103_1 (h_isPart _ hS hP hσ (v) hB hSl) (Cont.p ?_) (hB := hB) (hS := hSl)
    refine x_top (congrArg Value.int (b2i_f hv)) ?_
    refine x_if_eq 16 d1_needed_5 (by decide) (fun b5 => ?_) (fun b5 => absurd b5 (fun q => q rfl))
    refine x_iconst (v := -1) d1_needed_16 (by decide) ?_
    exact x_ireturn d1_needed_17 ⟨by simp only [qNeeded, e], I, rfl, hD, fun _ _ => rfl⟩
  · refine CA.w ?_
    show RA _ _ M1_needed 0 [.ref 100, .int (nI p)] [] _ _
    refine x_aload_n d1_needed_0 rfl ?_
    refine x_iload_n d1_needed_1 rfl ?_
    refine x_invV 100 1 d1_needed_2 (hS.T rfl) v1_103_1 (h_isPart _ hS hP hσ (nI p) hB hSl) (Cont.p ?_) (hB := hB) (hS := hSl)
    refine x_top (congrArg Value.int (b2i_t hv)) ?_
    refine x_if_eq 16 d1_needed_5 (by decide) (fun b5 => absurd b5 (by decide)) (fun b5 => ?_)
    refine x_aload_n d1_needed_8 rfl ?_
    refine x_iload_n d1_needed_9 rfl ?_
    refine x_invV 100 1 d1_needed_10 (hS.T rfl) v1_220_1 (h_needs _ hS hσ hP hF (p := p) hp hB hSl) ?_ (hB := hB) (hS := hSl)
    rintro o h' ⟨rfl, I1, rfl, hsI1, hfwI1⟩
    have hsmI1 : HSm I I1 := (HSm.rf _).trans hsI1
    have hnd_ := ndF_lt hσ hp
    refine x_goto 17 d1_needed_13 (by decide) ?_
    exact x_ireturn d1_needed_17 ⟨by simp only [qNeeded, e], I1, rfl, hsmI1.hds hfwI1 hD, hsmI1.fq⟩
set_option maxHeartbeats 4000000 in
theorem h_idle (G : GG) (d : Nat) (v : Int32) (σ : Sg) (ρ : Rs) : HQ G (d + 7) M1_idle [.ref 100, .int v] σ ρ (qIdle σ v) σ ρ := by
  intro t I J P n sl hS hD hB hSl
  have hσ := hD.1
  have hρ := hD.2.1
  obtain ⟨y, hP⟩ := hD.2.2.1
  have hR := hD.2.2.2.1
  have hF := hD.2.2.2.2
  have hnp := hσ.1
  rcases ix_cases v (n := s_np σ) (by omega) with ⟨hv, e⟩ | ⟨p, hp, rfl, hv, e⟩
  · refine CA.w ?_
    show RA _ _ M1_idle 0 [.ref 100, .int v] [] _ _
    refine x_aload_n d1_idle_0 rfl ?_
    refine x_iload_n d1_idle_1 rfl ?_
    refine x_invV 100 1 d1_idle_2 (hS.T rfl) v1_103_1 (h_isPart _ hS hP hσ (v) hB hSl) (Cont.p ?_) (hB := hB) (hS := hSl)
    refine x_top (congrArg Value.int (b2i_f hv)) ?_
    refine x_if_eq 28 d1_idle_5 (by decide) (fun b5 => ?_) (fun b5 => absurd b5 (fun q => q rfl))
    refine x_iconst (v := -1) d1_idle_28 (by decide) ?_
    exact x_ireturn d1_idle_29 ⟨by simp only [qIdle, e], I, rfl, hD, fun _ _ => rfl⟩
  · refine CA.w ?_
    show RA _ _ M1_idle 0 [.ref 100, .int (nI p)] [] _ _
    refine x_aload_n d1_idle_0 rfl ?_
    refine x_iload_n d1_idle_1 rfl ?_
    refine x_invV 100 1 d1_idle_2 (hS.T rfl) v1_103_1 (h_isPart _ hS hP hσ (nI p) hB hSl) (Cont.p ?_) (hB := hB) (hS := hSl)
    refine x_top (congrArg Value.int (b2i_t hv)) ?_
    refine x_if_eq 28 d1_idle_5 (by decide) (fun b5 => absurd b5 (by decide)) (fun b5 => ?_)
    refine x_aload_n d1_idle_8 rfl ?_
    refine x_getP d1_idle_9 f1_24 (hS.T rfl) (hS.P rfl) ?_
    refine x_iload_n d1_idle_12 rfl ?_
    refine x_aald5N d1_idle_13 (hS.T rfl) (by omega) (hP.at_ hp) ?_
    refine x_getI d1_idle_14 f1_100 (hP.ty hp) ?_
    refine x_top (congrArg Value.int (show I (y.1 p) 0 = nI (s_gr σ p) from (hP.gr hp))) ?_
    have hgr_ := hσ.gr hp
    refine x_aload_n d1_idle_17 rfl ?_
    refine x_iload_n d1_idle_18 rfl ?_
    refine x_invV 100 1 d1_idle_19 (hS.T rfl) v1_220_1 (h_needs _ hS hσ hP hF (p := p) hp hB hSl) ?_ (hB := hB) (hS := hSl)
    rintro o h' ⟨rfl, I1, rfl, hsI1, hfwI1⟩
    have hsmI1 : HSm I I1 := (HSm.rf _).trans hsI1
    have hnd_ := ndF_lt hσ hp
    refine x_iconst (v := -1) d1_idle_22 (by decide) ?_
    refine x_ixor d1_idle_23 ?_
    refine x_andnN d1_idle_24 (by omega) ?_
    refine x_goto 29 d1_idle_25 (by decide) ?_
    exact x_ireturn d1_idle_29 ⟨by simp only [qIdle, e], I1, rfl, hsmI1.hds hfwI1 hD, hsmI1.fq⟩
set_option maxHeartbeats 4000000 in
theorem h_lacking (G : GG) (d : Nat) (v : Int32) (σ : Sg) (ρ : Rs) : HQ G (d + 7) M1_lacking [.ref 100, .int v] σ ρ (qLacking σ v) σ ρ := by
  intro t I J P n sl hS hD hB hSl
  have hσ := hD.1
  have hρ := hD.2.1
  obtain ⟨y, hP⟩ := hD.2.2.1
  have hR := hD.2.2.2.1
  have hF := hD.2.2.2.2
  have hnp := hσ.1
  rcases ix_cases v (n := s_np σ) (by omega) with ⟨hv, e⟩ | ⟨p, hp, rfl, hv, e⟩
  · refine CA.w ?_
    show RA _ _ M1_lacking 0 [.ref 100, .int v] [] _ _
    refine x_aload_n d1_lacking_0 rfl ?_
    refine x_iload_n d1_lacking_1 rfl ?_
    refine x_invV 100 1 d1_lacking_2 (hS.T rfl) v1_103_1 (h_isPart _ hS hP hσ (v) hB hSl) (Cont.p ?_) (hB := hB) (hS := hSl)
    refine x_top (congrArg Value.int (b2i_f hv)) ?_
    refine x_if_eq 28 d1_lacking_5 (by decide) (fun b5 => ?_) (fun b5 => absurd b5 (fun q => q rfl))
    refine x_iconst (v := -1) d1_lacking_28 (by decide) ?_
    exact x_ireturn d1_lacking_29 ⟨by simp only [qLacking, e], I, rfl, hD, fun _ _ => rfl⟩
  · refine CA.w ?_
    show RA _ _ M1_lacking 0 [.ref 100, .int (nI p)] [] _ _
    refine x_aload_n d1_lacking_0 rfl ?_
    refine x_iload_n d1_lacking_1 rfl ?_
    refine x_invV 100 1 d1_lacking_2 (hS.T rfl) v1_103_1 (h_isPart _ hS hP hσ (nI p) hB hSl) (Cont.p ?_) (hB := hB) (hS := hSl)
    refine x_top (congrArg Value.int (b2i_t hv)) ?_
    refine x_if_eq 28 d1_lacking_5 (by decide) (fun b5 => absurd b5 (by decide)) (fun b5 => ?_)
    refine x_aload_n d1_lacking_8 rfl ?_
    refine x_iload_n d1_lacking_9 rfl ?_
    refine x_invV 100 1 d1_lacking_10 (hS.T rfl) v1_220_1 (h_needs _ hS hσ hP hF (p := p) hp hB hSl) ?_ (hB := hB) (hS := hSl)
    rintro o h' ⟨rfl, I1, rfl, hsI1, hfwI1⟩
    have hsmI1 : HSm I I1 := (HSm.rf _).trans hsI1
    have hnd_ := ndF_lt hσ hp
    refine x_aload_n d1_lacking_13 rfl ?_
    refine x_getP d1_lacking_14 f1_24 (hS.T rfl) (hS.P rfl) ?_
    refine x_iload_n d1_lacking_17 rfl ?_
    refine x_aald5N d1_lacking_18 (hS.T rfl) (by omega) ((hsmI1.hp hP).at_ hp) ?_
    refine x_getI d1_lacking_19 f1_100 ((hsmI1.hp hP).ty hp) ?_
    refine x_top (congrArg Value.int (show I1 (y.1 p) 0 = nI (s_gr σ p) from ((hsmI1.hp hP).gr hp))) ?_
    have hgr_ := hσ.gr hp
    refine x_iconst (v := -1) d1_lacking_22 (by decide) ?_
    refine x_ixor d1_lacking_23 ?_
    refine x_andnN d1_lacking_24 (by omega) ?_
    refine x_goto 29 d1_lacking_25 (by decide) ?_
    exact x_ireturn d1_lacking_29 ⟨by simp only [qLacking, e], I1, rfl, hsmI1.hds hfwI1 hD, hsmI1.fq⟩
set_option maxHeartbeats 4000000 in
theorem h_idleC {G : GG} (d : Nat) {t : Nat → Option (Nat × Nat)} {J : Nat → Nat → Int64} {P : Nat → Nat → Value} {n sl : Nat} {I : Nat → Nat → Int32} (hS : SH t P) {σ : Sg} {y : Lay} (hσ : SgOK σ) (hP : HP t I P σ y) (hF : HdF I σ) {p : Nat} (hp : p < s_np σ) (hB : n ≤ 601124) (hSl : sl ≤ 7293033) : CA G (d + 7) M1_idle [.ref 100, .int (nI p)] (t, I, J, P, n, sl) (fun o h' => o = .inl (some (.int (nI (idl σ p)))) ∧ ∃ I', h' = (t, I', J, P, n, sl) ∧ HSm I I' ∧ Fwn I' σ) := by
  refine CA.w ?_
  show RA _ _ M1_idle 0 [.ref 100, .int (nI p)] [] _ _
  have hnp := hσ.1
  refine x_aload_n d1_idle_0 rfl ?_
  refine x_iload_n d1_idle_1 rfl ?_
  refine x_invV 100 1 d1_idle_2 (hS.T rfl) v1_103_1 (h_isPart _ hS hP hσ (nI p) hB hSl) (Cont.p ?_) (hB := hB) (hS := hSl)
  refine x_top (congrArg Value.int (b2i_t ⟨nI_pos' (by omega), nI_lt hp (by omega)⟩)) ?_
  refine x_if_eq 28 d1_idle_5 (by decide) (fun b5 => absurd b5 (by decide)) (fun b5 => ?_)
  refine x_aload_n d1_idle_8 rfl ?_
  refine x_getP d1_idle_9 f1_24 (hS.T rfl) (hS.P rfl) ?_
  refine x_iload_n d1_idle_12 rfl ?_
  refine x_aald5N d1_idle_13 (hS.T rfl) (by omega) (hP.at_ hp) ?_
  refine x_getI d1_idle_14 f1_100 (hP.ty hp) ?_
  refine x_top (congrArg Value.int (show I (y.1 p) 0 = nI (s_gr σ p) from (hP.gr hp))) ?_
  have hgr_ := hσ.gr hp
  refine x_aload_n d1_idle_17 rfl ?_
  refine x_iload_n d1_idle_18 rfl ?_
  refine x_invV 100 1 d1_idle_19 (hS.T rfl) v1_220_1 (h_needs _ hS hσ hP hF (p := p) hp hB hSl) ?_ (hB := hB) (hS := hSl)
  rintro o h' ⟨rfl, I1, rfl, hsI1, hfwI1⟩
  have hsmI1 : HSm I I1 := (HSm.rf _).trans hsI1
  have hnd_ := ndF_lt hσ hp
  refine x_iconst (v := -1) d1_idle_22 (by decide) ?_
  refine x_ixor d1_idle_23 ?_
  refine x_andnN d1_idle_24 (by omega) ?_
  refine x_goto 29 d1_idle_25 (by decide) ?_
  exact x_ireturn d1_idle_29 ⟨rfl, I1, rfl, hsmI1, hfwI1⟩
set_option maxHeartbeats 4000000 in
theorem h_asks {G : GG} (d : Nat) {t : Nat → Option (Nat × Nat)} {J : Nat → Nat → Int64} {P : Nat → Nat → Value} {n sl : Nat} {I : Nat → Nat → Int32} (hS : SH t P) {σ : Sg} {y : Lay} (hσ : SgOK σ) (hP : HP t I P σ y) {p : Nat} (hp : p < s_np σ) : CP G d M1_asks [.ref 100, .int (nI p)] (t, I, J, P, n, sl) (.int (nI (asb σ p))) := by
  refine CA.w ?_
  show RA _ _ M1_asks 0 [.ref 100, .int (nI p), U0, U0] [] _ _
  have hnp := hσ.1
  have hln := hσ.ln hp
  refine x_iconst (v := nI 0) d1_asks_0 (by decide) ?_
  refine x_istore_n d1_asks_1 ?_
  refine x_iconst (v := nI 0) d1_asks_2 (by decide) ?_
  refine x_istore_n d1_asks_3 ?_
  have hL : ∀ k, k ≤ s_ln σ p → RA G d M1_asks 4 [.ref 100, .int (nI p), .int (nI (orF (asK σ p) k)), .int (nI k)] [] (t, I, J, P, n, sl) (fun o h' => o = .inl (some (.int (nI (asb σ p)))) ∧ h' = (t, I, J, P, n, sl)) := by
    refine up_ind ?_
    intro k hk_ ih
    by_cases hke : k = s_ln σ p
    · refine x_iload_n d1_asks_4 rfl ?_
      refine x_aload_n d1_asks_5 rfl ?_
      refine x_getP d1_asks_6 f1_24 (hS.T rfl) (hS.P rfl) ?_
      refine x_iload_n d1_asks_9 rfl ?_
      refine x_aald5N d1_asks_10 (hS.T rfl) (by omega) (hP.at_ hp) ?_
      refine x_getI d1_asks_11 f1_133 (hP.ty hp) ?_
      refine x_top (congrArg Value.int (show I (y.1 p) 1 = nI (s_ln σ p) from (hP.ln hp))) ?_
      have hln_ := hσ.ln hp
      refine x_icmp_geN 60 d1_asks_14 (by decide) (by omega) (by omega) (fun b14 => ?_) (fun b14 => absurd b14 (by omega))
      refine x_iload_n d1_asks_60 rfl ?_
      exact x_ireturn d1_asks_61 ⟨by unfold asb; rw [show k = s_ln σ p by omega], rfl⟩
    have hk : k < s_ln σ p := by omega
    rcases (by have := (hσ.row hp hk).1; omega : s_kk σ (12 * p + k) = 0 ∨ s_kk σ (12 * p + k) = 1 ∨ s_kk σ (12 * p + k) = 2 ∨ s_kk σ (12 * p + k) = 3 ∨ s_kk σ (12 * p + k) = 4 ∨ s_kk σ (12 * p + k) = 5) with hkk | hkk | hkk | hkk | hkk | hkk
    · refine x_iload_n d1_asks_4 rfl ?_
      refine x_aload_n d1_asks_5 rfl ?_
      refine x_getP d1_asks_6 f1_24 (hS.T rfl) (hS.P rfl) ?_
      refine x_iload_n d1_asks_9 rfl ?_
      refine x_aald5N d1_asks_10 (hS.T rfl) (by omega) (hP.at_ hp) ?_
      refine x_getI d1_asks_11 f1_133 (hP.ty hp) ?_
      refine x_top (congrArg Value.int (show I (y.1 p) 1 = nI (s_ln σ p) from (hP.ln hp))) ?_
      have hln_ := hσ.ln hp
      refine x_icmp_geN 60 d1_asks_14 (by decide) (by omega) (by omega) (fun b14 => absurd b14 (by omega)) (fun b14 => ?_)
      refine x_aload_n d1_asks_17 rfl ?_
      refine x_getP d1_asks_18 f1_24 (hS.T rfl) (hS.P rfl) ?_
      refine x_iload_n d1_asks_21 rfl ?_
      refine x_aald5N d1_asks_22 (hS.T rfl) (by omega) (hP.at_ hp) ?_
      refine x_getP d1_asks_23 f1_136 (hP.ty hp) (hP.pl hp) ?_
      refine x_iload_n d1_asks_26 rfl ?_
      refine x_aald6N d1_asks_27 (hP.tl hp) (by omega) (hP.lp hp hk) ?_
      refine x_getI d1_asks_28 f1_140 (show t (y.2.2 (12 * p + k)) = some (9, 0) by rw [(hP.lr hp hk).2.1, hkk]) ?_
      refine x_top (congrArg Value.int (show I (y.2.2 (12 * p + k)) 0 = nI (s_kk σ (12 * p + k)) from (hP.lr hp hk).2.2.1)) ?_
      have hkk_ := (hσ.row hp hk).1
      refine x_iconst (v := nI 2) d1_asks_31 (by decide) ?_
      refine x_icmp_neN 54 d1_asks_32 (by decide) (by omega) (by omega) (fun b32 => ?_) (fun b32 => absurd b32 (by omega))
      refine x_iincN (c := 1) d1_asks_54 rfl (by decide) ?_
      refine x_goto 4 d1_asks_57 (by decide) ?_
      rw [show orF (asK σ p) k = orF (asK σ p) (k + 1) by rw [orF, show asK σ p k = 0 from if_neg (by omega), Nat.or_zero]]
      exact ih hk
    · refine x_iload_n d1_asks_4 rfl ?_
      refine x_aload_n d1_asks_5 rfl ?_
      refine x_getP d1_asks_6 f1_24 (hS.T rfl) (hS.P rfl) ?_
      refine x_iload_n d1_asks_9 rfl ?_
      refine x_aald5N d1_asks_10 (hS.T rfl) (by omega) (hP.at_ hp) ?_
      refine x_getI d1_asks_11 f1_133 (hP.ty hp) ?_
      refine x_top (congrArg Value.int (show I (y.1 p) 1 = nI (s_ln σ p) from (hP.ln hp))) ?_
      have hln_ := hσ.ln hp
      refine x_icmp_geN 60 d1_asks_14 (by decide) (by omega) (by omega) (fun b14 => absurd b14 (by omega)) (fun b14 => ?_)
      refine x_aload_n d1_asks_17 rfl ?_
      refine x_getP d1_asks_18 f1_24 (hS.T rfl) (hS.P rfl) ?_
      refine x_iload_n d1_asks_21 rfl ?_
      refine x_aald5N d1_asks_22 (hS.T rfl) (by omega) (hP.at_ hp) ?_
      refine x_getP d1_asks_23 f1_136 (hP.ty hp) (hP.pl hp) ?_
      refine x_iload_n d1_asks_26 rfl ?_
      refine x_aald6N d1_asks_27 (hP.tl hp) (by omega) (hP.lp hp hk) ?_
      refine x_getI d1_asks_28 f1_140 (show t (y.2.2 (12 * p + k)) = some (10, 0) by rw [(hP.lr hp hk).2.1, hkk]) ?_
      refine x_top (congrArg Value.int (show I (y.2.2 (12 * p + k)) 0 = nI (s_kk σ (12 * p + k)) from (hP.lr hp hk).2.2.1)) ?_
      have hkk_ := (hσ.row hp hk).1
      refine x_iconst (v := nI 2) d1_asks_31 (by decide) ?_
      refine x_icmp_neN 54 d1_asks_32 (by decide) (by omega) (by omega) (fun b32 => ?_) (fun b32 => absurd b32 (by omega))
      refine x_iincN (c := 1) d1_asks_54 rfl (by decide) ?_
      refine x_goto 4 d1_asks_57 (by decide) ?_
      rw [show orF (asK σ p) k = orF (asK σ p) (k + 1) by rw [orF, show asK σ p k = 0 from if_neg (by omega), Nat.or_zero]]
      exact ih hk
    · refine x_iload_n d1_asks_4 rfl ?_
      refine x_aload_n d1_asks_5 rfl ?_
      refine x_getP d1_asks_6 f1_24 (hS.T rfl) (hS.P rfl) ?_
      refine x_iload_n d1_asks_9 rfl ?_
      refine x_aald5N d1_asks_10 (hS.T rfl) (by omega) (hP.at_ hp) ?_
      refine x_getI d1_asks_11 f1_133 (hP.ty hp) ?_
      refine x_top (congrArg Value.int (show I (y.1 p) 1 = nI (s_ln σ p) from (hP.ln hp))) ?_
      have hln_ := hσ.ln hp
      refine x_icmp_geN 60 d1_asks_14 (by decide) (by omega) (by omega) (fun b14 => absurd b14 (by omega)) (fun b14 => ?_)
      refine x_aload_n d1_asks_17 rfl ?_
      refine x_getP d1_asks_18 f1_24 (hS.T rfl) (hS.P rfl) ?_
      refine x_iload_n d1_asks_21 rfl ?_
      refine x_aald5N d1_asks_22 (hS.T rfl) (by omega) (hP.at_ hp) ?_
      refine x_getP d1_asks_23 f1_136 (hP.ty hp) (hP.pl hp) ?_
      refine x_iload_n d1_asks_26 rfl ?_
      refine x_aald6N d1_asks_27 (hP.tl hp) (by omega) (hP.lp hp hk) ?_
      refine x_getI d1_asks_28 f1_140 (show t (y.2.2 (12 * p + k)) = some (11, 0) by rw [(hP.lr hp hk).2.1, hkk]) ?_
      refine x_top (congrArg Value.int (show I (y.2.2 (12 * p + k)) 0 = nI (s_kk σ (12 * p + k)) from (hP.lr hp hk).2.2.1)) ?_
      have hkk_ := (hσ.row hp hk).1
      refine x_iconst (v := nI 2) d1_asks_31 (by decide) ?_
      refine x_icmp_neN 54 d1_asks_32 (by decide) (by omega) (by omega) (fun b32 => absurd b32 (fun q => q hkk)) (fun b32 => ?_)
      refine x_iload_n d1_asks_35 rfl ?_
      refine x_iconst (v := nI 1) d1_asks_36 (by decide) ?_
      refine x_aload_n d1_asks_37 rfl ?_
      refine x_getP d1_asks_38 f1_24 (hS.T rfl) (hS.P rfl) ?_
      refine x_iload_n d1_asks_41 rfl ?_
      refine x_aald5N d1_asks_42 (hS.T rfl) (by omega) (hP.at_ hp) ?_
      refine x_getP d1_asks_43 f1_136 (hP.ty hp) (hP.pl hp) ?_
      refine x_iload_n d1_asks_46 rfl ?_
      refine x_aald6N d1_asks_47 (hP.tl hp) (by omega) (hP.lp hp hk) ?_
      refine x_getI d1_asks_48 f1_143 (show t (y.2.2 (12 * p + k)) = some (11, 0) by rw [(hP.lr hp hk).2.1, hkk]) ?_
      refine x_top (congrArg Value.int (show I (y.2.2 (12 * p + k)) 1 = nI (s_nu σ (12 * p + k)) from (hP.lr hp hk).2.2.2.1)) ?_
      have hnu_ := (hσ.row hp hk).2.1
      refine x_1shlN d1_asks_51 (by omega) ?_
      refine x_iorN d1_asks_52 ?_
      refine x_istore_n d1_asks_53 ?_
      refine x_iincN (c := 1) d1_asks_54 rfl (by decide) ?_
      refine x_goto 4 d1_asks_57 (by decide) ?_
      rw [orF_s (f := asK σ p) (n := k) (x := 2 ^ s_nu σ (12 * p + k)) (if_pos hkk).symm]
      exact ih hk
    · refine x_iload_n d1_asks_4 rfl ?_
      refine x_aload_n d1_asks_5 rfl ?_
      refine x_getP d1_asks_6 f1_24 (hS.T rfl) (hS.P rfl) ?_
      refine x_iload_n d1_asks_9 rfl ?_
      refine x_aald5N d1_asks_10 (hS.T rfl) (by omega) (hP.at_ hp) ?_
      refine x_getI d1_asks_11 f1_133 (hP.ty hp) ?_
      refine x_top (congrArg Value.int (show I (y.1 p) 1 = nI (s_ln σ p) from (hP.ln hp))) ?_
      have hln_ := hσ.ln hp
      refine x_icmp_geN 60 d1_asks_14 (by decide) (by omega) (by omega) (fun b14 => absurd b14 (by omega)) (fun b14 => ?_)
      refine x_aload_n d1_asks_17 rfl ?_
      refine x_getP d1_asks_18 f1_24 (hS.T rfl) (hS.P rfl) ?_
      refine x_iload_n d1_asks_21 rfl ?_
      refine x_aald5N d1_asks_22 (hS.T rfl) (by omega) (hP.at_ hp) ?_
      refine x_getP d1_asks_23 f1_136 (hP.ty hp) (hP.pl hp) ?_
      refine x_iload_n d1_asks_26 rfl ?_
      refine x_aald6N d1_asks_27 (hP.tl hp) (by omega) (hP.lp hp hk) ?_
      refine x_getI d1_asks_28 f1_140 (show t (y.2.2 (12 * p + k)) = some (12, 0) by rw [(hP.lr hp hk).2.1, hkk]) ?_
      refine x_top (congrArg Value.int (show I (y.2.2 (12 * p + k)) 0 = nI (s_kk σ (12 * p + k)) from (hP.lr hp hk).2.2.1)) ?_
      have hkk_ := (hσ.row hp hk).1
      refine x_iconst (v := nI 2) d1_asks_31 (by decide) ?_
      refine x_icmp_neN 54 d1_asks_32 (by decide) (by omega) (by omega) (fun b32 => ?_) (fun b32 => absurd b32 (by omega))
      refine x_iincN (c := 1) d1_asks_54 rfl (by decide) ?_
      refine x_goto 4 d1_asks_57 (by decide) ?_
      rw [show orF (asK σ p) k = orF (asK σ p) (k + 1) by rw [orF, show asK σ p k = 0 from if_neg (by omega), Nat.or_zero]]
      exact ih hk
    · refine x_iload_n d1_asks_4 rfl ?_
      refine x_aload_n d1_asks_5 rfl ?_
      refine x_getP d1_asks_6 f1_24 (hS.T rfl) (hS.P rfl) ?_
      refine x_iload_n d1_asks_9 rfl ?_
      refine x_aald5N d1_asks_10 (hS.T rfl) (by omega) (hP.at_ hp) ?_
      refine x_getI d1_asks_11 f1_133 (hP.ty hp) ?_
      refine x_top (congrArg Value.int (show I (y.1 p) 1 = nI (s_ln σ p) from (hP.ln hp))) ?_
      have hln_ := hσ.ln hp
      refine x_icmp_geN 60 d1_asks_14 (by decide) (by omega) (by omega) (fun b14 => absurd b14 (by omega)) (fun b14 => ?_)
      refine x_aload_n d1_asks_17 rfl ?_
      refine x_getP d1_asks_18 f1_24 (hS.T rfl) (hS.P rfl) ?_
      refine x_iload_n d1_asks_21 rfl ?_
      refine x_aald5N d1_asks_22 (hS.T rfl) (by omega) (hP.at_ hp) ?_
      refine x_getP d1_asks_23 f1_136 (hP.ty hp) (hP.pl hp) ?_
      refine x_iload_n d1_asks_26 rfl ?_
      refine x_aald6N d1_asks_27 (hP.tl hp) (by omega) (hP.lp hp hk) ?_
      refine x_getI d1_asks_28 f1_140 (show t (y.2.2 (12 * p + k)) = some (13, 0) by rw [(hP.lr hp hk).2.1, hkk]) ?_
      refine x_top (congrArg Value.int (show I (y.2.2 (12 * p + k)) 0 = nI (s_kk σ (12 * p + k)) from (hP.lr hp hk).2.2.1)) ?_
      have hkk_ := (hσ.row hp hk).1
      refine x_iconst (v := nI 2) d1_asks_31 (by decide) ?_
      refine x_icmp_neN 54 d1_asks_32 (by decide) (by omega) (by omega) (fun b32 => ?_) (fun b32 => absurd b32 (by omega))
      refine x_iincN (c := 1) d1_asks_54 rfl (by decide) ?_
      refine x_goto 4 d1_asks_57 (by decide) ?_
      rw [show orF (asK σ p) k = orF (asK σ p) (k + 1) by rw [orF, show asK σ p k = 0 from if_neg (by omega), Nat.or_zero]]
      exact ih hk
    · refine x_iload_n d1_asks_4 rfl ?_
      refine x_aload_n d1_asks_5 rfl ?_
      refine x_getP d1_asks_6 f1_24 (hS.T rfl) (hS.P rfl) ?_
      refine x_iload_n d1_asks_9 rfl ?_
      refine x_aald5N d1_asks_10 (hS.T rfl) (by omega) (hP.at_ hp) ?_
      refine x_getI d1_asks_11 f1_133 (hP.ty hp) ?_
      refine x_top (congrArg Value.int (show I (y.1 p) 1 = nI (s_ln σ p) from (hP.ln hp))) ?_
      have hln_ := hσ.ln hp
      refine x_icmp_geN 60 d1_asks_14 (by decide) (by omega) (by omega) (fun b14 => absurd b14 (by omega)) (fun b14 => ?_)
      refine x_aload_n d1_asks_17 rfl ?_
      refine x_getP d1_asks_18 f1_24 (hS.T rfl) (hS.P rfl) ?_
      refine x_iload_n d1_asks_21 rfl ?_
      refine x_aald5N d1_asks_22 (hS.T rfl) (by omega) (hP.at_ hp) ?_
      refine x_getP d1_asks_23 f1_136 (hP.ty hp) (hP.pl hp) ?_
      refine x_iload_n d1_asks_26 rfl ?_
      refine x_aald6N d1_asks_27 (hP.tl hp) (by omega) (hP.lp hp hk) ?_
      refine x_getI d1_asks_28 f1_140 (show t (y.2.2 (12 * p + k)) = some (14, 0) by rw [(hP.lr hp hk).2.1, hkk]) ?_
      refine x_top (congrArg Value.int (show I (y.2.2 (12 * p + k)) 0 = nI (s_kk σ (12 * p + k)) from (hP.lr hp hk).2.2.1)) ?_
      have hkk_ := (hσ.row hp hk).1
      refine x_iconst (v := nI 2) d1_asks_31 (by decide) ?_
      refine x_icmp_neN 54 d1_asks_32 (by decide) (by omega) (by omega) (fun b32 => ?_) (fun b32 => absurd b32 (by omega))
      refine x_iincN (c := 1) d1_asks_54 rfl (by decide) ?_
      refine x_goto 4 d1_asks_57 (by decide) ?_
      rw [show orF (asK σ p) k = orF (asK σ p) (k + 1) by rw [orF, show asK σ p k = 0 from if_neg (by omega), Nat.or_zero]]
      exact ih hk
  exact hL 0 (Nat.zero_le _)
theorem HpS.skip2 {σ : Sg} {pt h0 a p : Nat} (h : HpS σ pt h0 a p) (hpt : ∀ q, AskL σ pt q → a.testBit q = true) (h2 : h0.testBit p = false) : HpS σ pt h0 a (p + 1) := by
  refine ⟨h.1, h.2.1, fun p' hp' hc q hq => ?_⟩
  by_cases e : p' = p
  · subst e
    rcases hc with hc | hc
    · subst hc; exact hpt q hq
    · rw [h2] at hc; cases hc
  · exact h.2.2 p' (by omega) hc q hq
theorem rch_lt (σ : Sg) (p : Nat) : rch σ p < 1024 := lt1024 (fun i hi => by cases hb : (rch σ p).testBit i with | false => rfl | true => have := ((mkS_bit _ _ _).mp hb).1; omega)
theorem orF_0 {f : Nat → Nat} {n : Nat} (h : f n = 0) : orF f n = orF f (n + 1) := by rw [orF, h, Nat.or_zero]
set_option maxHeartbeats 4000000 in
theorem h_helped (G : GG) (d : Nat) (v : Int32) (σ : Sg) (ρ : Rs) : HQ G (d + 7) M1_helped [.ref 100, .int v] σ ρ (qHelped σ v) σ ρ := by
  intro t I J P n sl hS hD hB hSl
  have hσ := hD.1
  have hρ := hD.2.1
  obtain ⟨y, hP⟩ := hD.2.2.1
  have hR := hD.2.2.2.1
  have hF := hD.2.2.2.2
  have hnp := hσ.1
  rcases ix_cases v (n := s_np σ) (by omega) with ⟨hv, e⟩ | ⟨p, hp, rfl, hv, e⟩
  · refine CA.w ?_
    show RA _ _ M1_helped 0 [.ref 100, .int v, U0, U0, U0, U0] [] _ _
    refine x_aload_n d1_helped_0 rfl ?_
    refine x_iload_n d1_helped_1 rfl ?_
    refine x_invV 100 1 d1_helped_2 (hS.T rfl) v1_103_1 (h_isPart _ hS hP hσ (v) hB hSl) (Cont.p ?_) (hB := hB) (hS := hSl)
    refine x_top (congrArg Value.int (b2i_f hv)) ?_
    refine x_if_ne 10 d1_helped_5 (by decide) (fun b5 => absurd b5 (by decide)) (fun b5 => ?_)
    refine x_iconst (v := -1) d1_helped_8 (by decide) ?_
    exact x_ireturn d1_helped_9 ⟨by simp only [qHelped, e], I, rfl, hD, fun _ _ => rfl⟩
  by_cases hA : Asked σ p
  · refine CA.w ?_
    show RA _ _ M1_helped 0 [.ref 100, .int (nI p), U0, U0, U0, U0] [] _ _
    refine x_aload_n d1_helped_0 rfl ?_
    refine x_iload_n d1_helped_1 rfl ?_
    refine x_invV 100 1 d1_helped_2 (hS.T rfl) v1_103_1 (h_isPart _ hS hP hσ (nI p) hB hSl) (Cont.p ?_) (hB := hB) (hS := hSl)
    refine x_top (congrArg Value.int (b2i_t hv)) ?_
    refine x_if_ne 10 d1_helped_5 (by decide) (fun b5 => ?_) (fun b5 => absurd b5 (by decide))
    refine x_aload_n d1_helped_10 rfl ?_
    refine x_iload_n d1_helped_11 rfl ?_
    refine x_invV 100 1 d1_helped_12 (hS.T rfl) v1_188_1 (h_isAsked _ hS hσ hP hF (p := p) (by omega) hB hSl) ?_ (hB := hB) (hS := hSl)
    rintro o h' ⟨rfl, I1, rfl, hsI1, hfwI1⟩
    have hsmI1 : HSm I I1 := (HSm.rf _).trans hsI1
    have hbp_ := bP_lt (Asked σ p)
    refine x_if_neN 20 d1_helped_15 (by decide) (by omega) (fun b15 => ?_) (fun b15 => absurd b15 (by rw [bP_t hA]; decide))
    refine x_aload_n d1_helped_20 rfl ?_
    refine x_iload_n d1_helped_21 rfl ?_
    refine x_invV 100 1 d1_helped_22 (hS.T rfl) v1_222_1 (h_asks _ hS hσ (hsmI1.hp hP) (p := p) hp) (Cont.p ?_) (hB := hB) (hS := hSl)
    have hab_ := asb_lt hσ hp
    refine x_istore_n d1_helped_25 ?_
    refine x_iconst (v := nI 0) d1_helped_26 (by decide) ?_
    refine x_istore_n d1_helped_27 ?_
    have hrb := rch_lt σ p
    have hend : ∀ x3 v4 v5, RA G (d + 7) M1_helped 75 [.ref 100, .int (nI p), .int (nI (rch σ p)), .int x3, v4, v5] [] (t, I1, J, P, n, sl) (fun o h' => o = .inl (some (.int (qHelped σ (nI p)))) ∧ ∃ I', h' = (t, I', J, P, n, sl) ∧ HdS t I' P σ ρ ∧ HFq I I') := by
      intro x3 v4 v5
      have hfin : ∀ k, k ≤ s_np σ → ∀ I9, HSm I I9 → Fwn I9 σ → RA G (d + 7) M1_helped 81 [.ref 100, .int (nI p), .int (nI (rch σ p)), .int x3, .int (nI (orF (hlS σ p) k)), .int (nI k)] [] (t, I9, J, P, n, sl) (fun o h' => o = .inl (some (.int (qHelped σ (nI p)))) ∧ ∃ I', h' = (t, I', J, P, n, sl) ∧ HdS t I' P σ ρ ∧ HFq I I') := by
        refine up_ind ?_
        intro k hk_ ih I9 hsm9 hfw9
        refine x_iload d1_helped_81 rfl ?_
        refine x_aload_n d1_helped_83 rfl ?_
        refine x_getI d1_helped_84 f1_73 (hS.T rfl) ?_
        refine x_top (congrArg Value.int (show I9 100 5 = nI (s_np σ) from (hsm9.hp hP).1)) ?_
        refine x_icmp_geN 128 d1_helped_87 (by decide) (by omega) (by omega) (fun b87 => ?_) (fun b87 => ?_)
        · refine x_iload d1_helped_128 rfl ?_
          refine x_aload_n d1_helped_130 rfl ?_
          refine x_getP d1_helped_131 f1_24 (hS.T rfl) (hS.P rfl) ?_
          refine x_iload_n d1_helped_134 rfl ?_
          refine x_aald5N d1_helped_135 (hS.T rfl) (by omega) ((hsm9.hp hP).at_ hp) ?_
          refine x_getI d1_helped_136 f1_100 ((hsm9.hp hP).ty hp) ?_
          refine x_top (congrArg Value.int (show I9 (y.1 p) 0 = nI (s_gr σ p) from ((hsm9.hp hP).gr hp))) ?_
          have hgr_ := hσ.gr hp
          refine x_iconst (v := -1) d1_helped_139 (by decide) ?_
          refine x_ixor d1_helped_140 ?_
          refine x_andnN d1_helped_141 (orF_lt (fun i hi => hlS_lt hσ (by omega))) ?_
          exact x_ireturn d1_helped_142 ⟨by rw [qHelped_t e hA, show k = s_np σ by omega], I9, rfl, hsm9.hds hfw9 hD, hsm9.fq⟩
        · refine x_iload_n d1_helped_90 rfl ?_
          refine x_iload d1_helped_91 rfl ?_
          refine x_ishrN d1_helped_93 (by omega) (by omega) ?_
          refine x_iconst (v := nI 1) d1_helped_94 (by decide) ?_
          refine x_tbN d1_helped_95 ?_
          have htb_ := tb_lt (rch σ p) k
          refine x_iconst (v := nI 1) d1_helped_96 (by decide) ?_
          refine x_icmp_neN 122 d1_helped_97 (by decide) (by omega) (by omega) (fun b97 => ?_) (fun b97 => ?_)
          · refine x_iincN (c := 1) d1_helped_122 rfl (by decide) ?_
            refine x_goto 81 d1_helped_125 (by decide) ?_
            rw [orF_0 (show hlS σ p k = 0 from if_neg (fun z => by rw [tb_ne1.mp b97] at z; cases z))]
            exact ih (by omega) I9 hsm9 hfw9
          · refine x_iload d1_helped_100 rfl ?_
            refine x_aload_n d1_helped_102 rfl ?_
            refine x_getP d1_helped_103 f1_24 (hS.T rfl) (hS.P rfl) ?_
            refine x_iload d1_helped_106 rfl ?_
            refine x_aald5N d1_helped_108 (hS.T rfl) (by omega) ((hsm9.hp hP).at_ b87) ?_
            refine x_getI d1_helped_109 f1_100 ((hsm9.hp hP).ty b87) ?_
            refine x_top (congrArg Value.int (show I9 (y.1 k) 0 = nI (s_gr σ k) from ((hsm9.hp hP).gr b87))) ?_
            have hgr_ := hσ.gr b87
            refine x_aload_n d1_helped_112 rfl ?_
            refine x_iload d1_helped_113 rfl ?_
            refine x_invV 100 1 d1_helped_115 (hS.T rfl) v1_220_1 (h_needs _ hS hσ (hsm9.hp hP) hfw9.f (p := k) b87 hB hSl) ?_ (hB := hB) (hS := hSl)
            rintro o h' ⟨rfl, I31, rfl, hsI31, hfwI31⟩
            have hsmI31 : HSm I I31 := hsm9.trans hsI31
            have hnd_ := ndF_lt hσ b87
            refine x_iandN d1_helped_118 ?_
            refine x_iorN d1_helped_119 ?_
            refine x_istore d1_helped_120 ?_
            refine x_iincN (c := 1) d1_helped_122 rfl (by decide) ?_
            refine x_goto 81 d1_helped_125 (by decide) ?_
            rw [orF_s (f := hlS σ p) (n := k) (x := s_gr σ k &&& ndF σ k) (if_pos (tb1.mp b97)).symm]
            exact ih (by omega) I31 hsmI31 hfwI31
      refine x_iconst (v := nI 0) d1_helped_75 (by decide) ?_
      refine x_istore d1_helped_76 ?_
      refine x_iconst (v := nI 0) d1_helped_78 (by decide) ?_
      refine x_istore d1_helped_79 ?_
      exact hfin 0 (Nat.zero_le _) I1 hsmI1 hfwI1
    have hpl : ∀ h0, (∀ a, 1024 - a < 1024 - h0 → HpI σ p a → (∀ q, AskL σ p q → a.testBit q = true) → ∀ v3 v4 v5, RA G (d + 7) M1_helped 33 [.ref 100, .int (nI p), .int (nI a), v3, v4, v5] [] (t, I1, J, P, n, sl) (fun o h' => o = .inl (some (.int (qHelped σ (nI p)))) ∧ ∃ I', h' = (t, I', J, P, n, sl) ∧ HdS t I' P σ ρ ∧ HFq I I')) → h0 < 1024 → (∀ q, AskL σ p q → h0.testBit q = true) → ∀ p1, p1 ≤ s_np σ → ∀ a, HpS σ p h0 a (p1) → ∀ v5, RA G (d + 7) M1_helped 38 [.ref 100, .int (nI p), .int (nI a), .int (nI h0), .int (nI p1), v5] [] (t, I1, J, P, n, sl) (fun o h' => o = .inl (some (.int (qHelped σ (nI p)))) ∧ ∃ I', h' = (t, I', J, P, n, sl) ∧ HdS t I' P σ ρ ∧ HFq I I') := by
      intro h0 hnext hh0 hpt
      refine up_ind ?_
      intro p1 hp1_ ih a hS1 v5
      have ha10 := hS1.1.1
      refine x_iload d1_helped_38 rfl ?_
      refine x_aload_n d1_helped_40 rfl ?_
      refine x_getI d1_helped_41 f1_73 (hS.T rfl) ?_
      refine x_top (congrArg Value.int (show I1 100 5 = nI (s_np σ) from (hsmI1.hp hP).1)) ?_
      refine x_icmp_geN 72 d1_helped_44 (by decide) (by omega) (by omega) (fun b44 => ?_) (fun b44 => ?_)
      · refine x_goto 28 d1_helped_72 (by decide) ?_
        have hpe : p1 = s_np σ := by omega
        subst hpe
        by_cases hae : a = h0
        · subst hae
          refine x_iload_n d1_helped_28 rfl ?_
          refine x_iload_n d1_helped_29 rfl ?_
          refine x_icmp_eqN 75 d1_helped_30 (by decide) (by omega) (by omega) (fun _ => ?_) (fun z => absurd rfl z)
          rw [hS1.fin hσ hp]
          exact hend _ _ _
        · refine x_iload_n d1_helped_28 rfl ?_
          refine x_iload_n d1_helped_29 rfl ?_
          refine x_icmp_eqN 75 d1_helped_30 (by decide) (by omega) (by omega) (fun z => absurd z hae) (fun _ => ?_)
          exact hnext a (by have := sub_lt_of hS1.2.1 hae; omega) hS1.1 (fun q hq => hS1.2.1 q (hpt q hq)) _ _ _
      · refine x_iload_n d1_helped_47 rfl ?_
        refine x_iload d1_helped_48 rfl ?_
        refine x_ishrN d1_helped_50 (by omega) (by omega) ?_
        refine x_iconst (v := nI 1) d1_helped_51 (by decide) ?_
        refine x_tbN d1_helped_52 ?_
        have htb_ := tb_lt h0 p1
        refine x_iconst (v := nI 1) d1_helped_53 (by decide) ?_
        refine x_icmp_neN 66 d1_helped_54 (by decide) (by omega) (by omega) (fun b54 => ?_) (fun b54 => ?_)
        · refine x_iincN (c := 1) d1_helped_66 rfl (by decide) ?_
          refine x_goto 38 d1_helped_69 (by decide) ?_
          exact ih (by omega) a (hS1.skip2 (fun q hq => hS1.2.1 q (hpt q hq)) (tb_ne1.mp b54)) _
        · refine x_iload_n d1_helped_57 rfl ?_
          refine x_aload_n d1_helped_58 rfl ?_
          refine x_iload d1_helped_59 rfl ?_
          refine x_invV 100 1 d1_helped_61 (hS.T rfl) v1_222_1 (h_asks _ hS hσ (hsmI1.hp hP) (p := p1) b44) (Cont.p ?_) (hB := hB) (hS := hSl)
          have hab_ := asb_lt hσ b44
          refine x_iorN d1_helped_64 ?_
          refine x_istore_n d1_helped_65 ?_
          refine x_iincN (c := 1) d1_helped_66 rfl (by decide) ?_
          refine x_goto 38 d1_helped_69 (by decide) ?_
          exact ih (by omega) _ (hS1.all hσ b44 (Or.inr (hS1.1.2 p1 (hS1.2.1 p1 (tb1.mp b54))))) _
    have hwh : ∀ a, HpI σ p a → (∀ q, AskL σ p q → a.testBit q = true) → ∀ v3 v4 v5, RA G (d + 7) M1_helped 33 [.ref 100, .int (nI p), .int (nI a), v3, v4, v5] [] (t, I1, J, P, n, sl) (fun o h' => o = .inl (some (.int (qHelped σ (nI p)))) ∧ ∃ I', h' = (t, I', J, P, n, sl) ∧ HdS t I' P σ ρ ∧ HFq I I') := by
      refine wh_ind (fun a => 1024 - a) ?_
      intro a ih hI hpt v3 v4 v5
      refine x_iload_n d1_helped_33 rfl ?_
      refine x_istore_n d1_helped_34 ?_
      refine x_iconst (v := nI 0) d1_helped_35 (by decide) ?_
      refine x_istore d1_helped_36 ?_
      exact hpl a (fun z hz => ih z hz) hI.1 hpt 0 (Nat.zero_le _) a (HpS.init hI) _
    have hI0 : HpI σ p (asb σ p) := ⟨asb_lt hσ hp, fun q hq => Hlp.z (asb_bit.mp hq)⟩
    have ha0 := hI0.1
    by_cases h00 : asb σ p = 0
    · refine x_iload_n d1_helped_28 rfl ?_
      refine x_iload_n d1_helped_29 rfl ?_
      refine x_icmp_eqN 75 d1_helped_30 (by decide) (by omega) (by omega) (fun _ => ?_) (fun z => absurd h00 z)
      have hrc : asb σ p = rch σ p := HpS.fin hσ (h := ⟨hI0, fun _ h => h, fun p' _ hc q hq => by
        rcases hc with hc | hc
        · subst hc; exact asb_bit.mpr hq
        · rw [h00] at hc; simp at hc⟩) hp
      rw [hrc]
      exact hend _ _ _
    · refine x_iload_n d1_helped_28 rfl ?_
      refine x_iload_n d1_helped_29 rfl ?_
      refine x_icmp_eqN 75 d1_helped_30 (by decide) (by omega) (by omega) (fun z => absurd z h00) (fun _ => ?_)
      exact hwh _ hI0 (fun q hq => asb_bit.mpr hq) _ _ _
  · refine CA.w ?_
    show RA _ _ M1_helped 0 [.ref 100, .int (nI p), U0, U0, U0, U0] [] _ _
    refine x_aload_n d1_helped_0 rfl ?_
    refine x_iload_n d1_helped_1 rfl ?_
    refine x_invV 100 1 d1_helped_2 (hS.T rfl) v1_103_1 (h_isPart _ hS hP hσ (nI p) hB hSl) (Cont.p ?_) (hB := hB) (hS := hSl)
    refine x_top (congrArg Value.int (b2i_t hv)) ?_
    refine x_if_ne 10 d1_helped_5 (by decide) (fun b5 => ?_) (fun b5 => absurd b5 (by decide))
    refine x_aload_n d1_helped_10 rfl ?_
    refine x_iload_n d1_helped_11 rfl ?_
    refine x_invV 100 1 d1_helped_12 (hS.T rfl) v1_188_1 (h_isAsked _ hS hσ hP hF (p := p) (by omega) hB hSl) ?_ (hB := hB) (hS := hSl)
    rintro o h' ⟨rfl, I1, rfl, hsI1, hfwI1⟩
    have hsmI1 : HSm I I1 := (HSm.rf _).trans hsI1
    have hbp_ := bP_lt (Asked σ p)
    refine x_if_neN 20 d1_helped_15 (by decide) (by omega) (fun b15 => absurd b15 (fun q => q (bP_f hA))) (fun b15 => ?_)
    refine x_iconst (v := nI 0) d1_helped_18 (by decide) ?_
    exact x_ireturn d1_helped_19 ⟨by rw [qHelped_f e hA], I1, rfl, hsmI1.hds hfwI1 hD, hsmI1.fq⟩
theorem trp_sum (m : Nat → Nat) : sumN 16 (fun d => pop (trp m d)) = sumN 16 (fun s => pop (m s)) := by
  unfold pop
  rw [sumN_swap]
  exact sumN_congr (fun s hs => sumN_congr (fun d _ => by rw [trp_bit hs]))
set_option maxHeartbeats 4000000 in
theorem h_count (G : GG) (d : Nat) (v : Int32) (σ : Sg) (ρ : Rs) : HQ G (d + 1) M1_count [.ref 100, .int v] σ ρ (qCount σ ρ v) σ ρ := by
  intro t I J P n sl hS hD hB hSl
  have hσ := hD.1
  have hρ := hD.2.1
  obtain ⟨y, hP⟩ := hD.2.2.1
  have hR := hD.2.2.2.1
  have hF := hD.2.2.2.2
  have hnp := hσ.1
  rcases ix_cases v (n := 5) (by decide) with ⟨hv, e⟩ | ⟨p, hp, rfl, hv, e⟩
  · refine CA.w ?_
    show RA _ _ M1_count 0 [.ref 100, .int v, U0, U0] [] _ _
    refine x_iconst (v := nI 0) d1_count_0 (by decide) ?_
    refine x_istore_n d1_count_1 ?_
    refine x_iload_n d1_count_2 rfl ?_
    refine x_tableOut 137 d1_count_3 (by have := tout hv (by decide); omega) (by decide) ?_
    refine x_iconst (v := -1) d1_count_137 (by decide) ?_
    exact x_ireturn d1_count_138 ⟨by simp only [qCount, e], I, rfl, hD, fun _ _ => rfl⟩
  rcases (by omega : p = 0 ∨ p = 1 ∨ p = 2 ∨ p = 3 ∨ p = 4) with rfl | rfl | rfl | rfl | rfl
  · refine CA.w ?_
    show RA _ _ M1_count 0 [.ref 100, .int (nI 0), U0, U0] [] _ _
    refine x_iconst (v := nI 0) d1_count_0 (by decide) ?_
    refine x_istore_n d1_count_1 ?_
    refine x_iload_n d1_count_2 rfl ?_
    refine x_tableIn (off := 33) 36 d1_count_3 (by decide) (by decide) (by decide) (by decide) ?_
    refine x_aload_n d1_count_36 rfl ?_
    refine x_getI d1_count_37 f1_73 (hS.T rfl) ?_
    refine x_top (congrArg Value.int (show I 100 5 = nI (s_np σ) from hP.1)) ?_
    exact x_ireturn d1_count_40 ⟨by simp only [qCount, e], I, rfl, hD, fun _ _ => rfl⟩
  · refine CA.w ?_
    show RA _ _ M1_count 0 [.ref 100, .int (nI 1), U0, U0] [] _ _
    refine x_iconst (v := nI 0) d1_count_0 (by decide) ?_
    refine x_istore_n d1_count_1 ?_
    refine x_iload_n d1_count_2 rfl ?_
    refine x_tableIn (off := 38) 41 d1_count_3 (by decide) (by decide) (by decide) (by decide) ?_
    refine x_iconst (v := nI 0) d1_count_41 (by decide) ?_
    refine x_istore_n d1_count_42 ?_
    have hL : ∀ k, k ≤ s_np σ → RA G (d + 1) M1_count 43 [.ref 100, .int (nI 1), .int (nI (sumN k (s_ln σ))), .int (nI k)] [] (t, I, J, P, n, sl) (fun o h' => o = .inl (some (.int (qCount σ ρ (nI 1)))) ∧ ∃ I', h' = (t, I', J, P, n, sl) ∧ HdS t I' P σ ρ ∧ HFq I I') := by
      refine up_ind ?_
      intro k hk_ ih
      have hsum_ := sumN_le (n := k) (f := s_ln σ) (c := 16) (fun i hi => (Nat.le_trans (hσ.ln (by omega)) (by decide)))
      refine x_iload_n d1_count_43 rfl ?_
      refine x_aload_n d1_count_44 rfl ?_
      refine x_getI d1_count_45 f1_73 (hS.T rfl) ?_
      refine x_top (congrArg Value.int (show I 100 5 = nI (s_np σ) from hP.1)) ?_
      refine x_icmp_geN 69 d1_count_48 (by decide) (by omega) (by omega) (fun b48 => ?_) (fun b48 => ?_)
      · refine x_iload_n d1_count_69 rfl ?_
        exact x_ireturn d1_count_70 ⟨by rw [show k = s_np σ by omega]; simp only [qCount, e], I, rfl, hD, fun _ _ => rfl⟩
      · refine x_iload_n d1_count_51 rfl ?_
        refine x_aload_n d1_count_52 rfl ?_
        refine x_getP d1_count_53 f1_24 (hS.T rfl) (hS.P rfl) ?_
        refine x_iload_n d1_count_56 rfl ?_
        refine x_aald5N d1_count_57 (hS.T rfl) (by omega) (hP.at_ (by omega : k < s_np σ)) ?_
        refine x_getI d1_count_58 f1_133 (hP.ty (by omega : k < s_np σ)) ?_
        refine x_top (congrArg Value.int (show I (y.1 k) 1 = nI (s_ln σ k) from (hP.ln (by omega : k < s_np σ)))) ?_
        have hln_ := hσ.ln (by omega : k < s_np σ)
        refine x_iaddN d1_count_61 ?_
        refine x_istore_n d1_count_62 ?_
        refine x_iincN (c := 1) d1_count_63 rfl (by decide) ?_
        refine x_goto 43 d1_count_66 (by decide) ?_
        exact ih (by omega)
    exact hL 0 (Nat.zero_le _)
  · refine CA.w ?_
    show RA _ _ M1_count 0 [.ref 100, .int (nI 2), U0, U0] [] _ _
    refine x_iconst (v := nI 0) d1_count_0 (by decide) ?_
    refine x_istore_n d1_count_1 ?_
    refine x_iload_n d1_count_2 rfl ?_
    refine x_tableIn (off := 68) 71 d1_count_3 (by decide) (by decide) (by decide) (by decide) ?_
    refine x_iconst (v := nI 0) d1_count_71 (by decide) ?_
    refine x_istore_n d1_count_72 ?_
    have hL : ∀ k, k ≤ s_np σ → RA G (d + 1) M1_count 73 [.ref 100, .int (nI 2), .int (nI (sumN k ((fun p => pop (s_gr σ p))))), .int (nI k)] [] (t, I, J, P, n, sl) (fun o h' => o = .inl (some (.int (qCount σ ρ (nI 2)))) ∧ ∃ I', h' = (t, I', J, P, n, sl) ∧ HdS t I' P σ ρ ∧ HFq I I') := by
      refine up_ind ?_
      intro k hk_ ih
      have hsum_ := sumN_le (n := k) (f := (fun p => pop (s_gr σ p))) (c := 16) (fun i _ => pop_le _)
      refine x_iload_n d1_count_73 rfl ?_
      refine x_aload_n d1_count_74 rfl ?_
      refine x_getI d1_count_75 f1_73 (hS.T rfl) ?_
      refine x_top (congrArg Value.int (show I 100 5 = nI (s_np σ) from hP.1)) ?_
      refine x_icmp_geN 102 d1_count_78 (by decide) (by omega) (by omega) (fun b78 => ?_) (fun b78 => ?_)
      · refine x_iload_n d1_count_102 rfl ?_
        exact x_ireturn d1_count_103 ⟨by rw [show k = s_np σ by omega]; simp only [qCount, e], I, rfl, hD, fun _ _ => rfl⟩
      · refine x_iload_n d1_count_81 rfl ?_
        refine x_aload_n d1_count_82 rfl ?_
        refine x_getP d1_count_83 f1_24 (hS.T rfl) (hS.P rfl) ?_
        refine x_iload_n d1_count_86 rfl ?_
        refine x_aald5N d1_count_87 (hS.T rfl) (by omega) (hP.at_ (by omega : k < s_np σ)) ?_
        refine x_getI d1_count_88 f1_100 (hP.ty (by omega : k < s_np σ)) ?_
        refine x_top (congrArg Value.int (show I (y.1 k) 0 = nI (s_gr σ k) from (hP.gr (by omega : k < s_np σ)))) ?_
        have hgr_ := hσ.gr (by omega : k < s_np σ)
        refine x_invS 1 d1_count_91 s1_174 (h_ones G _ _ (s_gr σ k) (hσ.gr (by omega))) (Cont.p ?_) (hB := hB) (hS := hSl)
        have hpop_ := pop_le (s_gr σ k)
        refine x_iaddN d1_count_94 ?_
        refine x_istore_n d1_count_95 ?_
        refine x_iincN (c := 1) d1_count_96 rfl (by decide) ?_
        refine x_goto 73 d1_count_99 (by decide) ?_
        exact ih (by omega)
    exact hL 0 (Nat.zero_le _)
  · refine CA.w ?_
    show RA _ _ M1_count 0 [.ref 100, .int (nI 3), U0, U0] [] _ _
    refine x_iconst (v := nI 0) d1_count_0 (by decide) ?_
    refine x_istore_n d1_count_1 ?_
    refine x_iload_n d1_count_2 rfl ?_
    refine x_tableIn (off := 101) 104 d1_count_3 (by decide) (by decide) (by decide) (by decide) ?_
    refine x_iconst (v := nI 0) d1_count_104 (by decide) ?_
    refine x_istore_n d1_count_105 ?_
    have hL : ∀ k, k ≤ 16 → RA G (d + 1) M1_count 106 [.ref 100, .int (nI 3), .int (nI (sumN k ((fun d => pop (trp (r_mt ρ) d))))), .int (nI k)] [] (t, I, J, P, n, sl) (fun o h' => o = .inl (some (.int (qCount σ ρ (nI 3)))) ∧ ∃ I', h' = (t, I', J, P, n, sl) ∧ HdS t I' P σ ρ ∧ HFq I I') := by
      refine up_ind ?_
      intro k hk_ ih
      have hsum_ := sumN_le (n := k) (f := (fun d => pop (trp (r_mt ρ) d))) (c := 16) (fun i _ => pop_le _)
      refine x_iload_n d1_count_106 rfl ?_
      refine x_bipush (v := nI 16) d1_count_107 (by decide) ?_
      refine x_icmp_geN 130 d1_count_109 (by decide) (by omega) (by omega) (fun b109 => ?_) (fun b109 => ?_)
      · refine x_iload_n d1_count_130 rfl ?_
        exact x_ireturn d1_count_131 ⟨by rw [show k = 16 by omega, trp_sum]; simp only [qCount, e], I, rfl, hD, fun _ _ => rfl⟩
      · refine x_iload_n d1_count_112 rfl ?_
        refine x_aload_n d1_count_113 rfl ?_
        refine x_getP d1_count_114 f1_28 (hS.T rfl) (hS.P rfl) ?_
        refine x_iload_n d1_count_117 rfl ?_
        refine x_ialdN d1_count_118 (hS.T rfl) (by omega) ?_
        refine x_top (congrArg Value.int (show I 107 k = nI (trp (r_mt ρ) k) from (hR.2.2.1 _ (by omega)))) ?_
        have htr_ := trp_lt (r_mt ρ) k
        refine x_invS 1 d1_count_119 s1_174 (h_ones G _ _ (trp (r_mt ρ) k) (trp_lt _ _)) (Cont.p ?_) (hB := hB) (hS := hSl)
        have hpop_ := pop_le (trp (r_mt ρ) k)
        refine x_iaddN d1_count_122 ?_
        refine x_istore_n d1_count_123 ?_
        refine x_iincN (c := 1) d1_count_124 rfl (by decide) ?_
        refine x_goto 106 d1_count_127 (by decide) ?_
        exact ih (by omega)
    exact hL 0 (Nat.zero_le _)
  · refine CA.w ?_
    show RA _ _ M1_count 0 [.ref 100, .int (nI 4), U0, U0] [] _ _
    refine x_iconst (v := nI 0) d1_count_0 (by decide) ?_
    refine x_istore_n d1_count_1 ?_
    refine x_iload_n d1_count_2 rfl ?_
    refine x_tableIn (off := 129) 132 d1_count_3 (by decide) (by decide) (by decide) (by decide) ?_
    refine x_aload_n d1_count_132 rfl ?_
    refine x_getI d1_count_133 f1_107 (hS.T rfl) ?_
    refine x_top (congrArg Value.int (show I 100 1 = nI (r_td ρ) from hR.1)) ?_
    have htd_ := hρ.2.1
    exact x_ireturn d1_count_136 ⟨by simp only [qCount, e], I, rfl, hD, fun _ _ => rfl⟩
