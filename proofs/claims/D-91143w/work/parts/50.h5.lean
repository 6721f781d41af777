/-! the house: line, meant, feed, without, key -/
set_option maxRecDepth 100000
theorem lncs {k : Nat} (h : k ≤ 5) : 9 + k ∈ [9, 10, 11, 12, 13, 14] := by simp only [List.mem_cons, List.not_mem_nil, or_false]; omega
set_option maxHeartbeats 4000000 in
theorem h_secondN {G : GG} (d : Nat) {h : AH} {σ : Sg} {l a : Nat} (hkk : s_kk σ l ≠ 1 ∧ s_kk σ l ≠ 2) : CP G d M8_second [.ref a] h (.int (secv σ l)) := by
  refine CA.w ?_
  show RA _ _ M8_second 0 [.ref a] [] _ _
  refine x_iconst (v := -1) d8_second_0 (by decide) ?_
  exact x_ireturn d8_second_1 ⟨by rw [show secv σ l = -1 by unfold secv; rw [if_neg hkk.1, if_neg hkk.2]], rfl⟩
set_option maxHeartbeats 4000000 in
theorem h_second2 {G : GG} (d : Nat) {t : Nat → Option (Nat × Nat)} {J : Nat → Nat → Int64} {P : Nat → Nat → Value} {n sl : Nat} {I : Nat → Nat → Int32} (hS : SH t P) {σ : Sg} {l a : Nat} (ha : LnR t I P σ l a) (hkk : s_kk σ l = 2) : CP G d M11_second [.ref a] (t, I, J, P, n, sl) (.int (secv σ l)) := by
  refine CA.w ?_
  show RA _ _ M11_second 0 [.ref a] [] _ _
  have hta : t a = some (11, 0) := by rw [ha.2.1, hkk]
  refine x_aload_n d11_second_0 rfl ?_
  refine x_getI d11_second_1 f11_9 hta ?_
  refine x_top (congrArg Value.int (show I a 3 = nI (s_sc σ l) from (ha.2.2.2.2.2.1 hkk))) ?_
  exact x_ireturn d11_second_4 ⟨by rw [show secv σ l = nI (s_sc σ l) by unfold secv; rw [if_neg (by omega), if_pos hkk]], rfl⟩
set_option maxHeartbeats 4000000 in
theorem h_second1 {G : GG} (d : Nat) {t : Nat → Option (Nat × Nat)} {J : Nat → Nat → Int64} {P : Nat → Nat → Value} {n sl : Nat} {I : Nat → Nat → Int32} (hS : SH t P) {σ : Sg} {l a : Nat} (ha : LnR t I P σ l a) (hkk : s_kk σ l = 1) (h1 : 0 < s_nu σ l) : CP G d M10_second [.ref a] (t, I, J, P, n, sl) (.int (secv σ l)) := by
  refine CA.w ?_
  show RA _ _ M10_second 0 [.ref a] [] _ _
  have hta : t a = some (10, 0) := by rw [ha.2.1, hkk]
  refine x_aload_n d10_second_0 rfl ?_
  refine x_getP d10_second_1 f10_9 hta (ha.2.2.2.2.2.2 hkk).1 ?_
  refine x_iconst (v := nI 0) d10_second_4 (by decide) ?_
  refine x_ialdN d10_second_5 (ha.2.2.2.2.2.2 hkk).2.1 (by omega) ?_
  refine x_top (congrArg Value.int (show I (a + 1) 0 = nI (s_fr σ (4 * l)) from (by have h0 := (ha.2.2.2.2.2.2 hkk).2.2 0 h1; rw [Nat.add_zero] at h0; exact h0))) ?_
  exact x_ireturn d10_second_6 ⟨by rw [show secv σ l = nI (s_fr σ (4 * l)) by unfold secv; rw [if_pos hkk]], rfl⟩
set_option maxHeartbeats 4000000 in
theorem h_line (G : GG) (d : Nat) (v u w : Int32) (σ : Sg) (ρ : Rs) : HQ G (d + 2) M1_line [.ref 100, .int v, .int u, .int w] σ ρ (qLine σ v u w) σ ρ := by
  intro t I J P n sl hS hD hB hSl
  have hσ := hD.1
  have hρ := hD.2.1
  obtain ⟨y, hP⟩ := hD.2.2.1
  have hR := hD.2.2.2.1
  have hF := hD.2.2.2.2
  have hnp := hσ.1
  rcases ix_cases v (n := s_np σ) (by omega) with ⟨hv, e⟩ | ⟨p, hp, rfl, hv, e⟩
  · refine CA.w ?_
    show RA _ _ M1_line 0 [.ref 100, .int v, .int u, .int w, U0] [] _ _
    refine x_aload_n d1_line_0 rfl ?_
    refine x_iload_n d1_line_1 rfl ?_
    refine x_invV 100 1 d1_line_2 (hS.T rfl) v1_103_1 (h_isPart _ hS hP hσ (v) hB hSl) (Cont.p ?_) (hB := hB) (hS := hSl)
    refine x_top (congrArg Value.int (b2i_f hv)) ?_
    refine x_if_eq 27 d1_line_5 (by decide) (fun b5 => ?_) (fun b5 => absurd b5 (fun q => q rfl))
    refine x_iconst (v := -1) d1_line_27 (by decide) ?_
    exact x_ireturn d1_line_28 ⟨by simp only [qLine, e], I, rfl, hD, fun _ _ => rfl⟩
  have hln0 := hσ.ln hp
  rcases ix_cases u (n := s_ln σ p) (by omega) with ⟨hu, e2⟩ | ⟨k, hk, rfl, hu, e2⟩
  · refine CA.w ?_
    show RA _ _ M1_line 0 [.ref 100, .int (nI p), .int u, .int w, U0] [] _ _
    refine x_aload_n d1_line_0 rfl ?_
    refine x_iload_n d1_line_1 rfl ?_
    refine x_invV 100 1 d1_line_2 (hS.T rfl) v1_103_1 (h_isPart _ hS hP hσ (nI p) hB hSl) (Cont.p ?_) (hB := hB) (hS := hSl)
    refine x_top (congrArg Value.int (b2i_t hv)) ?_
    refine x_if_eq 27 d1_line_5 (by decide) (fun b5 => absurd b5 (by decide)) (fun b5 => ?_)
    refine x_iload_n d1_line_8 rfl ?_
    refine x_iconst (v := nI 0) d1_line_9 (by decide) ?_
    refine x_aload_n d1_line_10 rfl ?_
    refine x_getP d1_line_11 f1_24 (hS.T rfl) (hS.P rfl) ?_
    refine x_iload_n d1_line_14 rfl ?_
    refine x_aald5N d1_line_15 (hS.T rfl) (by omega) (hP.at_ hp) ?_
    refine x_getI d1_line_16 f1_133 (hP.ty hp) ?_
    refine x_top (congrArg Value.int (show I (y.1 p) 1 = nI (s_ln σ p) from (hP.ln hp))) ?_
    have hln_ := hσ.ln hp
    refine x_iconst (v := nI 1) d1_line_19 (by decide) ?_
    refine x_isub d1_line_20 ?_
    refine x_invS 3 d1_line_21 s1_76 (h_in G _ _ (u) (nI 0) ((nI (s_ln σ p)) - (nI 1))) (Cont.p ?_) (hB := hB) (hS := hSl)
    refine x_top (congrArg Value.int (b2i_f (fun z => hu ((ix_pm (by omega)).mp z)))) ?_
    refine x_if_ne 29 d1_line_24 (by decide) (fun b24 => absurd b24 (by decide)) (fun b24 => ?_)
    refine x_iconst (v := -1) d1_line_27 (by decide) ?_
    exact x_ireturn d1_line_28 ⟨by simp only [qLine, e, e2], I, rfl, hD, fun _ _ => rfl⟩
  rcases ix_cases w (n := 4) (by decide) with ⟨hw, e3⟩ | ⟨j, hj, rfl, hw, e3⟩
  · refine CA.w ?_
    show RA _ _ M1_line 0 [.ref 100, .int (nI p), .int (nI k), .int w, U0] [] _ _
    refine x_aload_n d1_line_0 rfl ?_
    refine x_iload_n d1_line_1 rfl ?_
    refine x_invV 100 1 d1_line_2 (hS.T rfl) v1_103_1 (h_isPart _ hS hP hσ (nI p) hB hSl) (Cont.p ?_) (hB := hB) (hS := hSl)
    refine x_top (congrArg Value.int (b2i_t hv)) ?_
    refine x_if_eq 27 d1_line_5 (by decide) (fun b5 => absurd b5 (by decide)) (fun b5 => ?_)
    refine x_iload_n d1_line_8 rfl ?_
    refine x_iconst (v := nI 0) d1_line_9 (by decide) ?_
    refine x_aload_n d1_line_10 rfl ?_
    refine x_getP d1_line_11 f1_24 (hS.T rfl) (hS.P rfl) ?_
    refine x_iload_n d1_line_14 rfl ?_
    refine x_aald5N d1_line_15 (hS.T rfl) (by omega) (hP.at_ hp) ?_
    refine x_getI d1_line_16 f1_133 (hP.ty hp) ?_
    refine x_top (congrArg Value.int (show I (y.1 p) 1 = nI (s_ln σ p) from (hP.ln hp))) ?_
    have hln_ := hσ.ln hp
    refine x_iconst (v := nI 1) d1_line_19 (by decide) ?_
    refine x_isub d1_line_20 ?_
    refine x_invS 3 d1_line_21 s1_76 (h_in G _ _ (nI k) (nI 0) ((nI (s_ln σ p)) - (nI 1))) (Cont.p ?_) (hB := hB) (hS := hSl)
    refine x_top (congrArg Value.int (b2i_t ((ix_pm (by omega)).mpr hu))) ?_
    refine x_if_ne 29 d1_line_24 (by decide) (fun b24 => ?_) (fun b24 => absurd b24 (by decide))
    refine x_aload_n d1_line_29 rfl ?_
    refine x_getP d1_line_30 f1_24 (hS.T rfl) (hS.P rfl) ?_
    refine x_iload_n d1_line_33 rfl ?_
    refine x_aald5N d1_line_34 (hS.T rfl) (by omega) (hP.at_ hp) ?_
    refine x_getP d1_line_35 f1_136 (hP.ty hp) (hP.pl hp) ?_
    refine x_iload_n d1_line_38 rfl ?_
    refine x_aald6N d1_line_39 (hP.tl hp) (by omega) (hP.lp hp hk) ?_
    refine x_astore d1_line_40 ?_
    refine x_iload_n d1_line_42 rfl ?_
    refine x_tableOut 96 d1_line_43 (by have := tout hw (by decide); omega) (by decide) ?_
    refine x_iconst (v := -1) d1_line_96 (by decide) ?_
    exact x_ireturn d1_line_97 ⟨by simp only [qLine, e, e2, e3], I, rfl, hD, fun _ _ => rfl⟩
  rcases (by omega : j = 0 ∨ j = 1 ∨ j = 2 ∨ j = 3) with rfl | rfl | rfl | rfl
  · refine CA.w ?_
    show RA _ _ M1_line 0 [.ref 100, .int (nI p), .int (nI k), .int (nI 0), U0] [] _ _
    refine x_aload_n d1_line_0 rfl ?_
    refine x_iload_n d1_line_1 rfl ?_
    refine x_invV 100 1 d1_line_2 (hS.T rfl) v1_103_1 (h_isPart _ hS hP hσ (nI p) hB hSl) (Cont.p ?_) (hB := hB) (hS := hSl)
    refine x_top (congrArg Value.int (b2i_t hv)) ?_
    refine x_if_eq 27 d1_line_5 (by decide) (fun b5 => absurd b5 (by decide)) (fun b5 => ?_)
    refine x_iload_n d1_line_8 rfl ?_
    refine x_iconst (v := nI 0) d1_line_9 (by decide) ?_
    refine x_aload_n d1_line_10 rfl ?_
    refine x_getP d1_line_11 f1_24 (hS.T rfl) (hS.P rfl) ?_
    refine x_iload_n d1_line_14 rfl ?_
    refine x_aald5N d1_line_15 (hS.T rfl) (by omega) (hP.at_ hp) ?_
    refine x_getI d1_line_16 f1_133 (hP.ty hp) ?_
    refine x_top (congrArg Value.int (show I (y.1 p) 1 = nI (s_ln σ p) from (hP.ln hp))) ?_
    have hln_ := hσ.ln hp
    refine x_iconst (v := nI 1) d1_line_19 (by decide) ?_
    refine x_isub d1_line_20 ?_
    refine x_invS 3 d1_line_21 s1_76 (h_in G _ _ (nI k) (nI 0) ((nI (s_ln σ p)) - (nI 1))) (Cont.p ?_) (hB := hB) (hS := hSl)
    refine x_top (congrArg Value.int (b2i_t ((ix_pm (by omega)).mpr hu))) ?_
    refine x_if_ne 29 d1_line_24 (by decide) (fun b24 => ?_) (fun b24 => absurd b24 (by decide))
    refine x_aload_n d1_line_29 rfl ?_
    refine x_getP d1_line_30 f1_24 (hS.T rfl) (hS.P rfl) ?_
    refine x_iload_n d1_line_33 rfl ?_
    refine x_aald5N d1_line_34 (hS.T rfl) (by omega) (hP.at_ hp) ?_
    refine x_getP d1_line_35 f1_136 (hP.ty hp) (hP.pl hp) ?_
    refine x_iload_n d1_line_38 rfl ?_
    refine x_aald6N d1_line_39 (hP.tl hp) (by omega) (hP.lp hp hk) ?_
    refine x_astore d1_line_40 ?_
    refine x_iload_n d1_line_42 rfl ?_
    refine x_tableIn (off := 29) 72 d1_line_43 (by decide) (by decide) (by decide) (by decide) ?_
    refine x_aload d1_line_72 rfl ?_
    refine x_getI d1_line_74 f1_140 (hP.lr hp hk).2.1 ?_ (hc := lncs (hσ.row hp hk).1)
    refine x_top (congrArg Value.int (show I (y.2.2 (12 * p + k)) 0 = nI (s_kk σ (12 * p + k)) from (hP.lr hp hk).2.2.1)) ?_
    have hkk_ := (hσ.row hp hk).1
    exact x_ireturn d1_line_77 ⟨by simp only [qLine, e, e2, e3], I, rfl, hD, fun _ _ => rfl⟩
  · refine CA.w ?_
    show RA _ _ M1_line 0 [.ref 100, .int (nI p), .int (nI k), .int (nI 1), U0] [] _ _
    refine x_aload_n d1_line_0 rfl ?_
    refine x_iload_n d1_line_1 rfl ?_
    refine x_invV 100 1 d1_line_2 (hS.T rfl) v1_103_1 (h_isPart _ hS hP hσ (nI p) hB hSl) (Cont.p ?_) (hB := hB) (hS := hSl)
    refine x_top (congrArg Value.int (b2i_t hv)) ?_
    refine x_if_eq 27 d1_line_5 (by decide) (fun b5 => absurd b5 (by decide)) (fun b5 => ?_)
    refine x_iload_n d1_line_8 rfl ?_
    refine x_iconst (v := nI 0) d1_line_9 (by decide) ?_
    refine x_aload_n d1_line_10 rfl ?_
    refine x_getP d1_line_11 f1_24 (hS.T rfl) (hS.P rfl) ?_
    refine x_iload_n d1_line_14 rfl ?_
    refine x_aald5N d1_line_15 (hS.T rfl) (by omega) (hP.at_ hp) ?_
    refine x_getI d1_line_16 f1_133 (hP.ty hp) ?_
    refine x_top (congrArg Value.int (show I (y.1 p) 1 = nI (s_ln σ p) from (hP.ln hp))) ?_
    have hln_ := hσ.ln hp
    refine x_iconst (v := nI 1) d1_line_19 (by decide) ?_
    refine x_isub d1_line_20 ?_
    refine x_invS 3 d1_line_21 s1_76 (h_in G _ _ (nI k) (nI 0) ((nI (s_ln σ p)) - (nI 1))) (Cont.p ?_) (hB := hB) (hS := hSl)
    refine x_top (congrArg Value.int (b2i_t ((ix_pm (by omega)).mpr hu))) ?_
    refine x_if_ne 29 d1_line_24 (by decide) (fun b24 => ?_) (fun b24 => absurd b24 (by decide))
    refine x_aload_n d1_line_29 rfl ?_
    refine x_getP d1_line_30 f1_24 (hS.T rfl) (hS.P rfl) ?_
    refine x_iload_n d1_line_33 rfl ?_
    refine x_aald5N d1_line_34 (hS.T rfl) (by omega) (hP.at_ hp) ?_
    refine x_getP d1_line_35 f1_136 (hP.ty hp) (hP.pl hp) ?_
    refine x_iload_n d1_line_38 rfl ?_
    refine x_aald6N d1_line_39 (hP.tl hp) (by omega) (hP.lp hp hk) ?_
    refine x_astore d1_line_40 ?_
    refine x_iload_n d1_line_42 rfl ?_
    refine x_tableIn (off := 35) 78 d1_line_43 (by decide) (by decide) (by decide) (by decide) ?_
    refine x_aload d1_line_78 rfl ?_
    refine x_getI d1_line_80 f1_143 (hP.lr hp hk).2.1 ?_ (hc := lncs (hσ.row hp hk).1)
    refine x_top (congrArg Value.int (show I (y.2.2 (12 * p + k)) 1 = nI (s_nu σ (12 * p + k)) from (hP.lr hp hk).2.2.2.1)) ?_
    have hnu_ := (hσ.row hp hk).2.1
    exact x_ireturn d1_line_83 ⟨by simp only [qLine, e, e2, e3], I, rfl, hD, fun _ _ => rfl⟩
  · refine CA.w ?_
    show RA _ _ M1_line 0 [.ref 100, .int (nI p), .int (nI k), .int (nI 2), U0] [] _ _
    refine x_aload_n d1_line_0 rfl ?_
    refine x_iload_n d1_line_1 rfl ?_
    refine x_invV 100 1 d1_line_2 (hS.T rfl) v1_103_1 (h_isPart _ hS hP hσ (nI p) hB hSl) (Cont.p ?_) (hB := hB) (hS := hSl)
    refine x_top (congrArg Value.int (b2i_t hv)) ?_
    refine x_if_eq 27 d1_line_5 (by decide) (fun b5 => absurd b5 (by decide)) (fun b5 => ?_)
    refine x_iload_n d1_line_8 rfl ?_
    refine x_iconst (v := nI 0) d1_line_9 (by decide) ?_
    refine x_aload_n d1_line_10 rfl ?_
    refine x_getP d1_line_11 f1_24 (hS.T rfl) (hS.P rfl) ?_
    refine x_iload_n d1_line_14 rfl ?_
    refine x_aald5N d1_line_15 (hS.T rfl) (by omega) (hP.at_ hp) ?_
    refine x_getI d1_line_16 f1_133 (hP.ty hp) ?_
    refine x_top (congrArg Value.int (show I (y.1 p) 1 = nI (s_ln σ p) from (hP.ln hp))) ?_
    have hln_ := hσ.ln hp
    refine x_iconst (v := nI 1) d1_line_19 (by decide) ?_
    refine x_isub d1_line_20 ?_
    refine x_invS 3 d1_line_21 s1_76 (h_in G _ _ (nI k) (nI 0) ((nI (s_ln σ p)) - (nI 1))) (Cont.p ?_) (hB := hB) (hS := hSl)
    refine x_top (congrArg Value.int (b2i_t ((ix_pm (by omega)).mpr hu))) ?_
    refine x_if_ne 29 d1_line_24 (by decide) (fun b24 => ?_) (fun b24 => absurd b24 (by decide))
    refine x_aload_n d1_line_29 rfl ?_
    refine x_getP d1_line_30 f1_24 (hS.T rfl) (hS.P rfl) ?_
    refine x_iload_n d1_line_33 rfl ?_
    refine x_aald5N d1_line_34 (hS.T rfl) (by omega) (hP.at_ hp) ?_
    refine x_getP d1_line_35 f1_136 (hP.ty hp) (hP.pl hp) ?_
    refine x_iload_n d1_line_38 rfl ?_
    refine x_aald6N d1_line_39 (hP.tl hp) (by omega) (hP.lp hp hk) ?_
    refine x_astore d1_line_40 ?_
    refine x_iload_n d1_line_42 rfl ?_
    refine x_tableIn (off := 41) 84 d1_line_43 (by decide) (by decide) (by decide) (by decide) ?_
    refine x_aload d1_line_84 rfl ?_
    refine x_getI d1_line_86 f1_146 (hP.lr hp hk).2.1 ?_ (hc := lncs (hσ.row hp hk).1)
    refine x_top (congrArg Value.int (show I (y.2.2 (12 * p + k)) 2 = nI (s_fs σ (12 * p + k)) from (hP.lr hp hk).2.2.2.2.1)) ?_
    have hfs_ := (hσ.row hp hk).2.2.1
    exact x_ireturn d1_line_89 ⟨by simp only [qLine, e, e2, e3], I, rfl, hD, fun _ _ => rfl⟩
  · refine CA.w ?_
    show RA _ _ M1_line 0 [.ref 100, .int (nI p), .int (nI k), .int (nI 3), U0] [] _ _
    refine x_aload_n d1_line_0 rfl ?_
    refine x_iload_n d1_line_1 rfl ?_
    refine x_invV 100 1 d1_line_2 (hS.T rfl) v1_103_1 (h_isPart _ hS hP hσ (nI p) hB hSl) (Cont.p ?_) (hB := hB) (hS := hSl)
    refine x_top (congrArg Value.int (b2i_t hv)) ?_
    refine x_if_eq 27 d1_line_5 (by decide) (fun b5 => absurd b5 (by decide)) (fun b5 => ?_)
    refine x_iload_n d1_line_8 rfl ?_
    refine x_iconst (v := nI 0) d1_line_9 (by decide) ?_
    refine x_aload_n d1_line_10 rfl ?_
    refine x_getP d1_line_11 f1_24 (hS.T rfl) (hS.P rfl) ?_
    refine x_iload_n d1_line_14 rfl ?_
    refine x_aald5N d1_line_15 (hS.T rfl) (by omega) (hP.at_ hp) ?_
    refine x_getI d1_line_16 f1_133 (hP.ty hp) ?_
    refine x_top (congrArg Value.int (show I (y.1 p) 1 = nI (s_ln σ p) from (hP.ln hp))) ?_
    have hln_ := hσ.ln hp
    refine x_iconst (v := nI 1) d1_line_19 (by decide) ?_
    refine x_isub d1_line_20 ?_
    refine x_invS 3 d1_line_21 s1_76 (h_in G _ _ (nI k) (nI 0) ((nI (s_ln σ p)) - (nI 1))) (Cont.p ?_) (hB := hB) (hS := hSl)
    refine x_top (congrArg Value.int (b2i_t ((ix_pm (by omega)).mpr hu))) ?_
    refine x_if_ne 29 d1_line_24 (by decide) (fun b24 => ?_) (fun b24 => absurd b24 (by decide))
    refine x_aload_n d1_line_29 rfl ?_
    refine x_getP d1_line_30 f1_24 (hS.T rfl) (hS.P rfl) ?_
    refine x_iload_n d1_line_33 rfl ?_
    refine x_aald5N d1_line_34 (hS.T rfl) (by omega) (hP.at_ hp) ?_
    refine x_getP d1_line_35 f1_136 (hP.ty hp) (hP.pl hp) ?_
    refine x_iload_n d1_line_38 rfl ?_
    refine x_aald6N d1_line_39 (hP.tl hp) (by omega) (hP.lp hp hk) ?_
    refine x_astore d1_line_40 ?_
    refine x_iload_n d1_line_42 rfl ?_
    refine x_tableIn (off := 47) 90 d1_line_43 (by decide) (by decide) (by decide) (by decide) ?_
    refine x_aload d1_line_90 rfl ?_
    rcases (by have := (hσ.row hp hk).1; omega : s_kk σ (12 * p + k) = 0 ∨ s_kk σ (12 * p + k) = 1 ∨ s_kk σ (12 * p + k) = 2 ∨ s_kk σ (12 * p + k) = 3 ∨ s_kk σ (12 * p + k) = 4 ∨ s_kk σ (12 * p + k) = 5) with hkk | hkk | hkk | hkk | hkk | hkk
    · refine x_invV (y.2.2 (12 * p + k)) 0 d1_line_92 (show t (y.2.2 (12 * p + k)) = some (9, 0) by rw [(hP.lr hp hk).2.1, hkk]) v1_149_9 (h_secondN _ (σ := σ) (l := 12 * p + k) (by omega)) (Cont.p ?_) (hB := hB) (hS := hSl)
      exact x_ireturn d1_line_95 ⟨by simp only [qLine, e, e2, e3], I, rfl, hD, fun _ _ => rfl⟩
    · refine x_invV (y.2.2 (12 * p + k)) 0 d1_line_92 (show t (y.2.2 (12 * p + k)) = some (10, 0) by rw [(hP.lr hp hk).2.1, hkk]) v1_149_10 (h_second1 _ hS (hP.lr hp hk) hkk (by have := (hσ.row hp hk).2.2.2.1 hkk; omega)) (Cont.p ?_) (hB := hB) (hS := hSl)
      exact x_ireturn d1_line_95 ⟨by simp only [qLine, e, e2, e3], I, rfl, hD, fun _ _ => rfl⟩
    · refine x_invV (y.2.2 (12 * p + k)) 0 d1_line_92 (show t (y.2.2 (12 * p + k)) = some (11, 0) by rw [(hP.lr hp hk).2.1, hkk]) v1_149_11 (h_second2 _ hS (hP.lr hp hk) hkk) (Cont.p ?_) (hB := hB) (hS := hSl)
      exact x_ireturn d1_line_95 ⟨by simp only [qLine, e, e2, e3], I, rfl, hD, fun _ _ => rfl⟩
    · refine x_invV (y.2.2 (12 * p + k)) 0 d1_line_92 (show t (y.2.2 (12 * p + k)) = some (12, 0) by rw [(hP.lr hp hk).2.1, hkk]) v1_149_12 (h_secondN _ (σ := σ) (l := 12 * p + k) (by omega)) (Cont.p ?_) (hB := hB) (hS := hSl)
      exact x_ireturn d1_line_95 ⟨by simp only [qLine, e, e2, e3], I, rfl, hD, fun _ _ => rfl⟩
    · refine x_invV (y.2.2 (12 * p + k)) 0 d1_line_92 (show t (y.2.2 (12 * p + k)) = some (13, 0) by rw [(hP.lr hp hk).2.1, hkk]) v1_149_13 (h_secondN _ (σ := σ) (l := 12 * p + k) (by omega)) (Cont.p ?_) (hB := hB) (hS := hSl)
      exact x_ireturn d1_line_95 ⟨by simp only [qLine, e, e2, e3], I, rfl, hD, fun _ _ => rfl⟩
    · refine x_invV (y.2.2 (12 * p + k)) 0 d1_line_92 (show t (y.2.2 (12 * p + k)) = some (14, 0) by rw [(hP.lr hp hk).2.1, hkk]) v1_149_14 (h_secondN _ (σ := σ) (l := 12 * p + k) (by omega)) (Cont.p ?_) (hB := hB) (hS := hSl)
      exact x_ireturn d1_line_95 ⟨by simp only [qLine, e, e2, e3], I, rfl, hD, fun _ _ => rfl⟩
theorem trp_up {m : Nat → Nat} {s d : Nat} (hs : s < 16) (hd : d < 16) (b : Bool) (hm : m s < 65536) (e : Nat) : trp (upN m s (if b then m s ||| 2 ^ d else adf (m s) (2 ^ d))) e = if e = d then (if b then trp m d ||| 2 ^ s else adf (trp m d) (2 ^ s)) else trp m e := by
  have hl : (if e = d then (if b then trp m d ||| 2 ^ s else adf (trp m d) (2 ^ s)) else trp m e) < 65536 := by
    split
    · split
      · exact or_lt (trp_lt m d) (p2_lt hs)
      · exact adf_lt (trp_lt m d)
    · exact trp_lt m e
  refine bit_ext (fun i => ?_)
  by_cases hi : i < 16
  · rw [trp_bit hi]
    by_cases ei : i = s
    · subst ei
      rw [upN_self]
      cases b with
      | true =>
        simp only [if_true]
        rw [Nat.testBit_or, p2_bit]
        by_cases ed : e = d
        · subst ed; rw [if_pos rfl, Nat.testBit_or, p2_bit]; simp
        · rw [if_neg ed, trp_bit hi, decide_eq_false (fun q => ed q.symm), Bool.or_false]
      | false =>
        simp only [Bool.false_eq_true, if_false]
        rw [adf_bit hm, p2_bit]
        by_cases ed : e = d
        · subst ed; rw [if_pos rfl, adf_bit (trp_lt m e), p2_bit]; simp
        · rw [if_neg ed, trp_bit hi, decide_eq_false (fun q => ed q.symm)]; simp
    · rw [upN_ne _ _ ei]
      by_cases ed : e = d
      · subst ed
        rw [if_pos rfl]
        cases b with
        | true => simp only [if_true]; rw [Nat.testBit_or, trp_bit hi, p2_bit, decide_eq_false (fun q => ei q.symm), Bool.or_false]
        | false => simp only [Bool.false_eq_true, if_false]; rw [adf_bit (trp_lt m e), trp_bit hi, p2_bit, decide_eq_false (fun q => ei q.symm)]; simp
      · rw [if_neg ed, trp_bit hi]
  · rw [bit_hi (trp_lt _ _) (by omega), bit_hi hl (by omega)]
theorem HdS.mt {t : Nat → Option (Nat × Nat)} {I I' : Nat → Nat → Int32} {P : Nat → Nat → Value} {σ : Sg} {ρ : Rs} {s d : Nat} {b : Bool} (hD : HdS t I P σ ρ) (hs : s < 16) (hd : d < 16) (hI : I' = u2 I 107 d (nI (if b then trp (r_mt ρ) d ||| 2 ^ s else adf (trp (r_mt ρ) d) (2 ^ s)))) : HdS t I' P σ (rMt ρ (upN (r_mt ρ) s (if b then r_mt ρ s ||| 2 ^ d else adf (r_mt ρ s) (2 ^ d)))) ∧ HFq I I' := by
  obtain ⟨h1, h2, ⟨y, hP⟩, h4, h5⟩ := hD
  have hr : ∀ b, b ≠ 107 → I' b = I b := fun b hb => by rw [hI, u2_row _ _ _ hb]
  refine ⟨⟨h1, ⟨fun j hj => ?_, h2.2⟩, ⟨y, hP.fr (by rw [hr 100 (by decide)]) (fun b hb => hr b (by omega))⟩, ?_, h5.keep (by rw [hr 100 (by decide)]) (fun b hb => hr b (by rintro rfl; revert hb; decide))⟩, fun b hb => hr b (by omega)⟩
  · show upN (r_mt ρ) s _ j < 65536
    unfold upN; split
    · split
      · exact or_lt (h2.1 s hs) (p2_lt hd)
      · exact adf_lt (h2.1 s hs)
    · exact h2.1 j hj
  · obtain ⟨a1, a2, a3, a4, a5, a6, a7, a8, a9, a10⟩ := h4
    refine ⟨by rw [hr 100 (by decide)]; exact a1, by rw [hr 101 (by decide)]; exact a2, fun e he => ?_, by rw [hr 100 (by decide)]; exact a4, by rw [hr 100 (by decide)]; exact a5, by rw [hr 100 (by decide)]; exact a6, by rw [hr 100 (by decide)]; exact a7, by rw [hr 118 (by decide)]; exact a8, by rw [hr 100 (by decide)]; exact a9, by rw [hr 120 (by decide)]; exact a10⟩
    show I' 107 e = nI (trp (upN (r_mt ρ) s (if b then r_mt ρ s ||| 2 ^ d else adf (r_mt ρ s) (2 ^ d))) e)
    rw [trp_up hs hd b (h2.1 s hs), hI, u2_at]
    by_cases ee : e = d
    · rw [if_pos ee, if_pos ee]
    · rw [if_neg ee, if_neg ee]; exact a3 e he
set_option maxHeartbeats 4000000 in
theorem h_meantT (G : GG) (d : Nat) (v u : Int32) (σ : Sg) (ρ : Rs) : HQ G (d + 2) M1_meant [.ref 100, .int v, .int u, .int (nI 1)] σ ρ ((qMeant ρ v u true).1) σ ((qMeant ρ v u true).2) := by
  intro t I J P n sl hS hD hB hSl
  have hσ := hD.1
  have hρ := hD.2.1
  obtain ⟨y, hP⟩ := hD.2.2.1
  have hR := hD.2.2.2.1
  have hF := hD.2.2.2.2
  have hnp := hσ.1
  rcases ix_cases v (n := 16) (by decide) with ⟨hv, e⟩ | ⟨p, hp, rfl, hv, e⟩
  · rw [show qMeant ρ v u true = (nI 0, rT ρ 2) by simp only [qMeant, e]]
    refine CA.w ?_
    show RA _ _ M1_meant 0 [.ref 100, .int v, .int u, .int (nI 1)] [] _ _
    refine x_aload_n d1_meant_0 rfl ?_
    refine x_invV 100 0 d1_meant_1 (hS.T rfl) v1_91_1 (h_begins _ hS) (Cont.ev ?_) (hB := hB) (hS := hSl)
    obtain ⟨I1, hI1⟩ : ∃ z, z = u2 (u2 I 100 10 (nI 0)) 100 12 (-1) := ⟨_, rfl⟩
    rw [← hI1]
    obtain ⟨hD0, hq0⟩ := hD.bg hI1
    have hρ := hD0.2.1
    obtain ⟨y, hP⟩ := hD0.2.2.1
    have hR := hD0.2.2.2.1
    have hF := hD0.2.2.2.2
    refine x_iload_n d1_meant_4 rfl ?_
    refine x_invS 1 d1_meant_5 s1_153 (h_isRight _ (v) hB hSl) (Cont.p ?_) (hB := hB) (hS := hSl)
    refine x_top (congrArg Value.int (b2i_f hv)) ?_
    refine x_if_eq 18 d1_meant_8 (by decide) (fun b8 => ?_) (fun b8 => absurd b8 (fun q => q rfl))
    refine x_aload_n d1_meant_18 rfl ?_
    refine x_iconst (v := nI 2) d1_meant_19 (by decide) ?_
    refine x_putIE d1_meant_20 p1_70 (hS.T rfl) (fun I2 hI2 => ?_)
    refine x_iconst (v := nI 0) d1_meant_23 (by decide) ?_
    exact x_ireturn d1_meant_24 ⟨rfl, I2, rfl, (HdS.no (k := 2) hD0 hI2 (by decide) (by decide)).1, hq0.trans (HdS.no (k := 2) hD0 hI2 (by decide) (by decide)).2⟩
  rcases ix_cases u (n := 16) (by decide) with ⟨hu, e2⟩ | ⟨q, hq, rfl, hu, e2⟩
  · rw [show qMeant ρ (nI p) u true = (nI 0, rT ρ 2) by simp only [qMeant, e, e2]]
    refine CA.w ?_
    show RA _ _ M1_meant 0 [.ref 100, .int (nI p), .int u, .int (nI 1)] [] _ _
    refine x_aload_n d1_meant_0 rfl ?_
    refine x_invV 100 0 d1_meant_1 (hS.T rfl) v1_91_1 (h_begins _ hS) (Cont.ev ?_) (hB := hB) (hS := hSl)
    obtain ⟨I1, hI1⟩ : ∃ z, z = u2 (u2 I 100 10 (nI 0)) 100 12 (-1) := ⟨_, rfl⟩
    rw [← hI1]
    obtain ⟨hD0, hq0⟩ := hD.bg hI1
    have hρ := hD0.2.1
    obtain ⟨y, hP⟩ := hD0.2.2.1
    have hR := hD0.2.2.2.1
    have hF := hD0.2.2.2.2
    refine x_iload_n d1_meant_4 rfl ?_
    refine x_invS 1 d1_meant_5 s1_153 (h_isRight _ (nI p) hB hSl) (Cont.p ?_) (hB := hB) (hS := hSl)
    refine x_top (congrArg Value.int (b2i_t hv)) ?_
    refine x_if_eq 18 d1_meant_8 (by decide) (fun b8 => absurd b8 (by decide)) (fun b8 => ?_)
    refine x_iload_n d1_meant_11 rfl ?_
    refine x_invS 1 d1_meant_12 s1_153 (h_isRight _ (u) hB hSl) (Cont.p ?_) (hB := hB) (hS := hSl)
    refine x_top (congrArg Value.int (b2i_f hu)) ?_
    refine x_if_ne 25 d1_meant_15 (by decide) (fun b15 => absurd b15 (by decide)) (fun b15 => ?_)
    refine x_aload_n d1_meant_18 rfl ?_
    refine x_iconst (v := nI 2) d1_meant_19 (by decide) ?_
    refine x_putIE d1_meant_20 p1_70 (hS.T rfl) (fun I2 hI2 => ?_)
    refine x_iconst (v := nI 0) d1_meant_23 (by decide) ?_
    exact x_ireturn d1_meant_24 ⟨rfl, I2, rfl, (HdS.no (k := 2) hD0 hI2 (by decide) (by decide)).1, hq0.trans (HdS.no (k := 2) hD0 hI2 (by decide) (by decide)).2⟩
  · rw [show qMeant ρ (nI p) (nI q) true = (nI 1, rT (rMt ρ (upN (r_mt ρ) p (if true then r_mt ρ p ||| 2 ^ q else adf (r_mt ρ p) (2 ^ q)))) 0) by simp only [qMeant, e, e2]]
    refine CA.w ?_
    show RA _ _ M1_meant 0 [.ref 100, .int (nI p), .int (nI q), .int (nI 1)] [] _ _
    refine x_aload_n d1_meant_0 rfl ?_
    refine x_invV 100 0 d1_meant_1 (hS.T rfl) v1_91_1 (h_begins _ hS) (Cont.ev ?_) (hB := hB) (hS := hSl)
    obtain ⟨I1, hI1⟩ : ∃ z, z = u2 (u2 I 100 10 (nI 0)) 100 12 (-1) := ⟨_, rfl⟩
    rw [← hI1]
    obtain ⟨hD0, hq0⟩ := hD.bg hI1
    have hρ := hD0.2.1
    obtain ⟨y, hP⟩ := hD0.2.2.1
    have hR := hD0.2.2.2.1
    have hF := hD0.2.2.2.2
    refine x_iload_n d1_meant_4 rfl ?_
    refine x_invS 1 d1_meant_5 s1_153 (h_isRight _ (nI p) hB hSl) (Cont.p ?_) (hB := hB) (hS := hSl)
    refine x_top (congrArg Value.int (b2i_t hv)) ?_
    refine x_if_eq 18 d1_meant_8 (by decide) (fun b8 => absurd b8 (by decide)) (fun b8 => ?_)
    refine x_iload_n d1_meant_11 rfl ?_
    refine x_invS 1 d1_meant_12 s1_153 (h_isRight _ (nI q) hB hSl) (Cont.p ?_) (hB := hB) (hS := hSl)
    refine x_top (congrArg Value.int (b2i_t hu)) ?_
    refine x_if_ne 25 d1_meant_15 (by decide) (fun b15 => ?_) (fun b15 => absurd b15 (by decide))
    refine x_aload_n d1_meant_25 rfl ?_
    refine x_getP d1_meant_26 f1_28 (hS.T rfl) (hS.P rfl) ?_
    refine x_iload_n d1_meant_29 rfl ?_
    refine x_iload_n d1_meant_30 rfl ?_
    refine x_if_eqN 47 d1_meant_31 (by decide) (by omega) (fun b31 => absurd b31 (by decide)) (fun b31 => ?_)
    refine x_aload_n d1_meant_34 rfl ?_
    refine x_getP d1_meant_35 f1_28 (hS.T rfl) (hS.P rfl) ?_
    refine x_iload_n d1_meant_38 rfl ?_
    refine x_ialdN d1_meant_39 (hS.T rfl) (by omega) ?_
    refine x_top (congrArg Value.int (show I1 107 q = nI (trp (r_mt ρ) q) from (hR.2.2.1 _ (by omega)))) ?_
    have htr_ := trp_lt (r_mt ρ) q
    refine x_iconst (v := nI 1) d1_meant_40 (by decide) ?_
    refine x_iload_n d1_meant_41 rfl ?_
    refine x_1shlN d1_meant_42 (by omega) ?_
    refine x_iorN d1_meant_43 ?_
    refine x_goto 59 d1_meant_44 (by decide) ?_
    refine x_iastN d1_meant_59 (hS.T rfl) (by omega) (fun I2 hI2 => ?_)
    refine x_iconst (v := nI 1) d1_meant_60 (by decide) ?_
    exact x_ireturn d1_meant_61 ⟨rfl, I2, rfl, (hD0.mt (b := true) hp hq hI2).1, hq0.trans (hD0.mt (b := true) hp hq hI2).2⟩
set_option maxHeartbeats 4000000 in
theorem h_meantF (G : GG) (d : Nat) (v u : Int32) (σ : Sg) (ρ : Rs) : HQ G (d + 2) M1_meant [.ref 100, .int v, .int u, .int (nI 0)] σ ρ ((qMeant ρ v u false).1) σ ((qMeant ρ v u false).2) := by
  intro t I J P n sl hS hD hB hSl
  have hσ := hD.1
  have hρ := hD.2.1
  obtain ⟨y, hP⟩ := hD.2.2.1
  have hR := hD.2.2.2.1
  have hF := hD.2.2.2.2
  have hnp := hσ.1
  rcases ix_cases v (n := 16) (by decide) with ⟨hv, e⟩ | ⟨p, hp, rfl, hv, e⟩
  · rw [show qMeant ρ v u false = (nI 0, rT ρ 2) by simp only [qMeant, e]]
    refine CA.w ?_
    show RA _ _ M1_meant 0 [.ref 100, .int v, .int u, .int (nI 0)] [] _ _
    refine x_aload_n d1_meant_0 rfl ?_
    refine x_invV 100 0 d1_meant_1 (hS.T rfl) v1_91_1 (h_begins _ hS) (Cont.ev ?_) (hB := hB) (hS := hSl)
    obtain ⟨I1, hI1⟩ : ∃ z, z = u2 (u2 I 100 10 (nI 0)) 100 12 (-1) := ⟨_, rfl⟩
    rw [← hI1]
    obtain ⟨hD0, hq0⟩ := hD.bg hI1
    have hρ := hD0.2.1
    obtain ⟨y, hP⟩ := hD0.2.2.1
    have hR := hD0.2.2.2.1
    have hF := hD0.2.2.2.2
    refine x_iload_n d1_meant_4 rfl ?_
    refine x_invS 1 d1_meant_5 s1_153 (h_isRight _ (v) hB hSl) (Cont.p ?_) (hB := hB) (hS := hSl)
    refine x_top (congrArg Value.int (b2i_f hv)) ?_
    refine x_if_eq 18 d1_meant_8 (by decide) (fun b8 => ?_) (fun b8 => absurd b8 (fun q => q rfl))
    refine x_aload_n d1_meant_18 rfl ?_
    refine x_iconst (v := nI 2) d1_meant_19 (by decide) ?_
    refine x_putIE d1_meant_20 p1_70 (hS.T rfl) (fun I2 hI2 => ?_)
    refine x_iconst (v := nI 0) d1_meant_23 (by decide) ?_
    exact x_ireturn d1_meant_24 ⟨rfl, I2, rfl, (HdS.no (k := 2) hD0 hI2 (by decide) (by decide)).1, hq0.trans (HdS.no (k := 2) hD0 hI2 (by decide) (by decide)).2⟩
  rcases ix_cases u (n := 16) (by decide) with ⟨hu, e2⟩ | ⟨q, hq, rfl, hu, e2⟩
  · rw [show qMeant ρ (nI p) u false = (nI 0, rT ρ 2) by simp only [qMeant, e, e2]]
    refine CA.w ?_
    show RA _ _ M1_meant 0 [.ref 100, .int (nI p), .int u, .int (nI 0)] [] _ _
    refine x_aload_n d1_meant_0 rfl ?_
    refine x_invV 100 0 d1_meant_1 (hS.T rfl) v1_91_1 (h_begins _ hS) (Cont.ev ?_) (hB := hB) (hS := hSl)
    obtain ⟨I1, hI1⟩ : ∃ z, z = u2 (u2 I 100 10 (nI 0)) 100 12 (-1) := ⟨_, rfl⟩
    rw [← hI1]
    obtain ⟨hD0, hq0⟩ := hD.bg hI1
    have hρ := hD0.2.1
    obtain ⟨y, hP⟩ := hD0.2.2.1
    have hR := hD0.2.2.2.1
    have hF := hD0.2.2.2.2
    refine x_iload_n d1_meant_4 rfl ?_
    refine x_invS 1 d1_meant_5 s1_153 (h_isRight _ (nI p) hB hSl) (Cont.p ?_) (hB := hB) (hS := hSl)
    refine x_top (congrArg Value.int (b2i_t hv)) ?_
    refine x_if_eq 18 d1_meant_8 (by decide) (fun b8 => absurd b8 (by decide)) (fun b8 => ?_)
    refine x_iload_n d1_meant_11 rfl ?_
    refine x_invS 1 d1_meant_12 s1_153 (h_isRight _ (u) hB hSl) (Cont.p ?_) (hB := hB) (hS := hSl)
    refine x_top (congrArg Value.int (b2i_f hu)) ?_
    refine x_if_ne 25 d1_meant_15 (by decide) (fun b15 => absurd b15 (by decide)) (fun b15 => ?_)
    refine x_aload_n d1_meant_18 rfl ?_
    refine x_iconst (v := nI 2) d1_meant_19 (by decide) ?_
    refine x_putIE d1_meant_20 p1_70 (hS.T rfl) (fun I2 hI2 => ?_)
    refine x_iconst (v := nI 0) d1_meant_23 (by decide) ?_
    exact x_ireturn d1_meant_24 ⟨rfl, I2, rfl, (HdS.no (k := 2) hD0 hI2 (by decide) (by decide)).1, hq0.trans (HdS.no (k := 2) hD0 hI2 (by decide) (by decide)).2⟩
  · rw [show qMeant ρ (nI p) (nI q) false = (nI 1, rT (rMt ρ (upN (r_mt ρ) p (if false then r_mt ρ p ||| 2 ^ q else adf (r_mt ρ p) (2 ^ q)))) 0) by simp only [qMeant, e, e2]]
    refine CA.w ?_
    show RA _ _ M1_meant 0 [.ref 100, .int (nI p), .int (nI q), .int (nI 0)] [] _ _
    refine x_aload_n d1_meant_0 rfl ?_
    refine x_invV 100 0 d1_meant_1 (hS.T rfl) v1_91_1 (h_begins _ hS) (Cont.ev ?_) (hB := hB) (hS := hSl)
    obtain ⟨I1, hI1⟩ : ∃ z, z = u2 (u2 I 100 10 (nI 0)) 100 12 (-1) := ⟨_, rfl⟩
    rw [← hI1]
    obtain ⟨hD0, hq0⟩ := hD.bg hI1
    have hρ := hD0.2.1
    obtain ⟨y, hP⟩ := hD0.2.2.1
    have hR := hD0.2.2.2.1
    have hF := hD0.2.2.2.2
    refine x_iload_n d1_meant_4 rfl ?_
    refine x_invS 1 d1_meant_5 s1_153 (h_isRight _ (nI p) hB hSl) (Cont.p ?_) (hB := hB) (hS := hSl)
    refine x_top (congrArg Value.int (b2i_t hv)) ?_
    refine x_if_eq 18 d1_meant_8 (by decide) (fun b8 => absurd b8 (by decide)) (fun b8 => ?_)
    refine x_iload_n d1_meant_11 rfl ?_
    refine x_invS 1 d1_meant_12 s1_153 (h_isRight _ (nI q) hB hSl) (Cont.p ?_) (hB := hB) (hS := hSl)
    refine x_top (congrArg Value.int (b2i_t hu)) ?_
    refine x_if_ne 25 d1_meant_15 (by decide) (fun b15 => ?_) (fun b15 => absurd b15 (by decide))
    refine x_aload_n d1_meant_25 rfl ?_
    refine x_getP d1_meant_26 f1_28 (hS.T rfl) (hS.P rfl) ?_
    refine x_iload_n d1_meant_29 rfl ?_
    refine x_iload_n d1_meant_30 rfl ?_
    refine x_if_eqN 47 d1_meant_31 (by decide) (by omega) (fun b31 => ?_) (fun b31 => absurd b31 (fun q => q rfl))
    refine x_aload_n d1_meant_47 rfl ?_
    refine x_getP d1_meant_48 f1_28 (hS.T rfl) (hS.P rfl) ?_
    refine x_iload_n d1_meant_51 rfl ?_
    refine x_ialdN d1_meant_52 (hS.T rfl) (by omega) ?_
    refine x_top (congrArg Value.int (show I1 107 q = nI (trp (r_mt ρ) q) from (hR.2.2.1 _ (by omega)))) ?_
    have htr_ := trp_lt (r_mt ρ) q
    refine x_iconst (v := nI 1) d1_meant_53 (by decide) ?_
    refine x_iload_n d1_meant_54 rfl ?_
    refine x_1shlN d1_meant_55 (by omega) ?_
    refine x_iconst (v := -1) d1_meant_56 (by decide) ?_
    refine x_ixor d1_meant_57 ?_
    refine x_andnN d1_meant_58 (trp_lt _ _) ?_
    refine x_iastN d1_meant_59 (hS.T rfl) (by omega) (fun I2 hI2 => ?_)
    refine x_iconst (v := nI 1) d1_meant_60 (by decide) ?_
    exact x_ireturn d1_meant_61 ⟨rfl, I2, rfl, (hD0.mt (b := false) hp hq hI2).1, hq0.trans (hD0.mt (b := false) hp hq hI2).2⟩
theorem HdS.feed {t : Nat → Option (Nat × Nat)} {I I' : Nat → Nat → Int32} {P : Nat → Nat → Value} {σ : Sg} {ρ : Rs} {f : Nat → Int32} {k : Nat} (hD : HdS t I P σ (fdT ρ f k)) (hI : I' = u2 (u2 I 101 (r_td ρ + k) (f k)) 100 1 (nI (r_td ρ + k + 1))) (hk : r_td ρ + k < 300) : HdS t I' P σ (fdT ρ f (k + 1)) ∧ HFq I I' := by
  obtain ⟨h1, h2, ⟨y, hP⟩, h4, h5⟩ := hD
  have hr : ∀ b, b ≠ 100 → b ≠ 101 → I' b = I b := fun b x z => by rw [hI, u2_row _ _ _ x, u2_row _ _ _ z]
  have hf : ∀ j, j ≠ 1 → I' 100 j = I 100 j := fun j x => by rw [hI, u2_ne _ _ x, u2_row _ _ _ (by decide)]
  refine ⟨⟨h1, ⟨h2.1, hk, h2.2.2⟩, ⟨y, hP.fr (hf 5 (by decide)) (fun b hb => hr b (by omega) (by omega))⟩, ?_, h5.keep (hf 8 (by decide)) (fun b hb => hr b (by rintro rfl; revert hb; decide) (by rintro rfl; revert hb; decide))⟩, fun b hb => hr b (by omega) (by omega)⟩
  obtain ⟨a1, a2, a3, a4, a5, a6, a7, a8, a9, a10⟩ := h4
  refine ⟨by rw [hI, u2_self]; rfl, fun j hj => ?_, by rw [hr 107 (by decide) (by decide)]; exact a3, (hf 10 (by decide)).trans a4, fun e => (hf 12 (by decide)).trans (a5 e), (hf 11 (by decide)).trans a6, (hf 15 (by decide)).trans a7, by rw [hr 118 (by decide) (by decide)]; exact a8, (hf 20 (by decide)).trans a9, by rw [hr 120 (by decide) (by decide)]; exact a10⟩
  rw [hI, u2_row _ _ _ (by decide), u2_at]
  have hj : j < r_td ρ + (k + 1) := hj
  by_cases e : j = r_td ρ + k
  · rw [if_pos e, e]
    show f k = if r_td ρ + k < r_td ρ then _ else f (r_td ρ + k - r_td ρ)
    rw [if_neg (by omega), Nat.add_sub_cancel_left]
  · rw [if_neg e]
    exact a2 j (show j < r_td ρ + k by omega)
theorem HdS.feed0 {t : Nat → Option (Nat × Nat)} {I : Nat → Nat → Int32} {P : Nat → Nat → Value} {σ : Sg} {ρ : Rs} {f : Nat → Int32} (h : HdS t I P σ ρ) : HdS t I P σ (fdT ρ f 0) := by
  obtain ⟨h1, h2, h3, ⟨a1, a2, a3⟩, h5⟩ := h
  refine ⟨h1, h2, h3, ⟨a1, fun j hj => ?_, a3⟩, h5⟩
  have hj : j < r_td ρ := hj
  show I 101 j = if j < r_td ρ then r_tp ρ j else _
  rw [if_pos hj]; exact a2 j hj
set_option maxHeartbeats 4000000 in
theorem h_bytes {G : GG} (d : Nat) {t : Nat → Option (Nat × Nat)} {J : Nat → Nat → Int64} {P : Nat → Nat → Value} {n sl : Nat} {I : Nat → Nat → Int32} (hS : SH t P) {σ : Sg} {ρ : Rs} {f : Nat → Int32} {k : Nat} {x : Int32} (hD : HdS t I P σ (fdT ρ f (k + 0))) (hk : r_td ρ + k + 4 ≤ 300) (hf0 : f (k + 0) = (x >>> (nI 24 &&& 31)).toInt8.toInt32) (hf1 : f (k + 1) = (x >>> (nI 16 &&& 31)).toInt8.toInt32) (hf2 : f (k + 2) = (x >>> (nI 8 &&& 31)).toInt8.toInt32) (hf3 : f (k + 3) = (x >>> (nI 0 &&& 31)).toInt8.toInt32) : CA G d M1_bytes [.ref 100, .int x] (t, I, J, P, n, sl) (fun o h' => o = .inl none ∧ ∃ I', h' = (t, I', J, P, n, sl) ∧ HdS t I' P σ (fdT ρ f (k + 4)) ∧ HFq I I') := by
  refine CA.w ?_
  show RA _ _ M1_bytes 0 [.ref 100, .int x, U0] [] _ _
  refine x_bipush (v := nI 24) d1_bytes_0 (by decide) ?_
  refine x_istore_n d1_bytes_2 ?_
  refine x_iload_n d1_bytes_3 rfl ?_
  refine x_if_ltN (tgt := 36) d1_bytes_4 (by omega) ?_ (by decide)
  refine x_aload_n d1_bytes_7 rfl ?_
  refine x_getP d1_bytes_8 f1_9 (hS.T rfl) (hS.P rfl) ?_
  refine x_aload_n d1_bytes_11 rfl ?_
  refine x_getI d1_bytes_12 f1_107 (hS.T rfl) ?_
  refine x_top (congrArg Value.int (show I 100 1 = nI (r_td ρ + (k + 0)) from (show I 100 1 = nI (r_td ρ + (k + 0)) from hD.2.2.2.1.1))) ?_
  refine x_iload_n d1_bytes_15 rfl ?_
  refine x_iload_n d1_bytes_16 rfl ?_
  refine x_ishr d1_bytes_17 ?_
  refine x_i2b d1_bytes_18 ?_
  refine x_bastN d1_bytes_19 (hS.T rfl) (by omega) (fun I1 hI1 => ?_)
  refine x_aload_n d1_bytes_20 rfl ?_
  refine x_dup d1_bytes_21 rfl ?_
  refine x_getI d1_bytes_22 f1_107 (hS.T rfl) ?_
  refine x_top (congrArg Value.int (show I1 100 1 = nI (r_td ρ + (k + 0)) from (show I1 100 1 = nI (r_td ρ + (k + 0)) by rw [hI1, u2_row _ _ _ (by decide)]; exact hD.2.2.2.1.1))) ?_
  refine x_iconst (v := nI 1) d1_bytes_25 (by decide) ?_
  refine x_iaddN d1_bytes_26 ?_
  refine x_putIE d1_bytes_27 p1_107 (hS.T rfl) (fun I2 hI2 => ?_)
  have hs0 := hD.feed (k := k + 0) (I' := I2) (by rw [hI2, hI1, hf0, i8i]) (by omega)
  refine x_iinc (v := nI 16) d1_bytes_30 rfl (by decide) ?_
  refine x_goto 3 d1_bytes_33 (by decide) ?_
  refine x_iload_n d1_bytes_3 rfl ?_
  refine x_if_ltN (tgt := 36) d1_bytes_4 (by omega) ?_ (by decide)
  refine x_aload_n d1_bytes_7 rfl ?_
  refine x_getP d1_bytes_8 f1_9 (hS.T rfl) (hS.P rfl) ?_
  refine x_aload_n d1_bytes_11 rfl ?_
  refine x_getI d1_bytes_12 f1_107 (hS.T rfl) ?_
  refine x_top (congrArg Value.int (show I2 100 1 = nI (r_td ρ + (k + 1)) from (show I2 100 1 = nI (r_td ρ + (k + 1)) from hs0.1.2.2.2.1.1))) ?_
  refine x_iload_n d1_bytes_15 rfl ?_
  refine x_iload_n d1_bytes_16 rfl ?_
  refine x_ishr d1_bytes_17 ?_
  refine x_i2b d1_bytes_18 ?_
  refine x_bastN d1_bytes_19 (hS.T rfl) (by omega) (fun I3 hI3 => ?_)
  refine x_aload_n d1_bytes_20 rfl ?_
  refine x_dup d1_bytes_21 rfl ?_
  refine x_getI d1_bytes_22 f1_107 (hS.T rfl) ?_
  refine x_top (congrArg Value.int (show I3 100 1 = nI (r_td ρ + (k + 1)) from (show I3 100 1 = nI (r_td ρ + (k + 1)) by rw [hI3, u2_row _ _ _ (by decide)]; exact hs0.1.2.2.2.1.1))) ?_
  refine x_iconst (v := nI 1) d1_bytes_25 (by decide) ?_
  refine x_iaddN d1_bytes_26 ?_
  refine x_putIE d1_bytes_27 p1_107 (hS.T rfl) (fun I4 hI4 => ?_)
  have hs1 := hs0.1.feed (k := k + 1) (I' := I4) (by rw [hI4, hI3, hf1, i8i]) (by omega)
  refine x_iinc (v := nI 8) d1_bytes_30 rfl (by decide) ?_
  refine x_goto 3 d1_bytes_33 (by decide) ?_
  refine x_iload_n d1_bytes_3 rfl ?_
  refine x_if_ltN (tgt := 36) d1_bytes_4 (by omega) ?_ (by decide)
  refine x_aload_n d1_bytes_7 rfl ?_
  refine x_getP d1_bytes_8 f1_9 (hS.T rfl) (hS.P rfl) ?_
  refine x_aload_n d1_bytes_11 rfl ?_
  refine x_getI d1_bytes_12 f1_107 (hS.T rfl) ?_
  refine x_top (congrArg Value.int (show I4 100 1 = nI (r_td ρ + (k + 2)) from (show I4 100 1 = nI (r_td ρ + (k + 2)) from hs1.1.2.2.2.1.1))) ?_
  refine x_iload_n d1_bytes_15 rfl ?_
  refine x_iload_n d1_bytes_16 rfl ?_
  refine x_ishr d1_bytes_17 ?_
  refine x_i2b d1_bytes_18 ?_
  refine x_bastN d1_bytes_19 (hS.T rfl) (by omega) (fun I5 hI5 => ?_)
  refine x_aload_n d1_bytes_20 rfl ?_
  refine x_dup d1_bytes_21 rfl ?_
  refine x_getI d1_bytes_22 f1_107 (hS.T rfl) ?_
  refine x_top (congrArg Value.int (show I5 100 1 = nI (r_td ρ + (k + 2)) from (show I5 100 1 = nI (r_td ρ + (k + 2)) by rw [hI5, u2_row _ _ _ (by decide)]; exact hs1.1.2.2.2.1.1))) ?_
  refine x_iconst (v := nI 1) d1_bytes_25 (by decide) ?_
  refine x_iaddN d1_bytes_26 ?_
  refine x_putIE d1_bytes_27 p1_107 (hS.T rfl) (fun I6 hI6 => ?_)
  have hs2 := hs1.1.feed (k := k + 2) (I' := I6) (by rw [hI6, hI5, hf2, i8i]) (by omega)
  refine x_iinc (v := nI 0) d1_bytes_30 rfl (by decide) ?_
  refine x_goto 3 d1_bytes_33 (by decide) ?_
  refine x_iload_n d1_bytes_3 rfl ?_
  refine x_if_ltN (tgt := 36) d1_bytes_4 (by omega) ?_ (by decide)
  refine x_aload_n d1_bytes_7 rfl ?_
  refine x_getP d1_bytes_8 f1_9 (hS.T rfl) (hS.P rfl) ?_
  refine x_aload_n d1_bytes_11 rfl ?_
  refine x_getI d1_bytes_12 f1_107 (hS.T rfl) ?_
  refine x_top (congrArg Value.int (show I6 100 1 = nI (r_td ρ + (k + 3)) from (show I6 100 1 = nI (r_td ρ + (k + 3)) from hs2.1.2.2.2.1.1))) ?_
  refine x_iload_n d1_bytes_15 rfl ?_
  refine x_iload_n d1_bytes_16 rfl ?_
  refine x_ishr d1_bytes_17 ?_
  refine x_i2b d1_bytes_18 ?_
  refine x_bastN d1_bytes_19 (hS.T rfl) (by omega) (fun I7 hI7 => ?_)
  refine x_aload_n d1_bytes_20 rfl ?_
  refine x_dup d1_bytes_21 rfl ?_
  refine x_getI d1_bytes_22 f1_107 (hS.T rfl) ?_
  refine x_top (congrArg Value.int (show I7 100 1 = nI (r_td ρ + (k + 3)) from (show I7 100 1 = nI (r_td ρ + (k + 3)) by rw [hI7, u2_row _ _ _ (by decide)]; exact hs2.1.2.2.2.1.1))) ?_
  refine x_iconst (v := nI 1) d1_bytes_25 (by decide) ?_
  refine x_iaddN d1_bytes_26 ?_
  refine x_putIE d1_bytes_27 p1_107 (hS.T rfl) (fun I8 hI8 => ?_)
  have hs3 := hs2.1.feed (k := k + 3) (I' := I8) (by rw [hI8, hI7, hf3, i8i]) (by omega)
  refine x_iinc (v := (-8)) d1_bytes_30 rfl (by decide) ?_
  refine x_goto 3 d1_bytes_33 (by decide) ?_
  refine x_iload_n d1_bytes_3 rfl ?_
  refine x_if_lt 36 d1_bytes_4 (by decide) (fun b4 => ?_) (fun b4 => absurd b4 (by decide))
  exact x_return d1_bytes_36 ⟨rfl, I8, rfl, hs3.1, (((((show HFq I I from fun _ _ => rfl).trans hs0.2).trans hs1.2).trans hs2.2).trans hs3.2)⟩
set_option maxHeartbeats 4000000 in
theorem h_feed (G : GG) (d : Nat) (a b c d0 e : Int32) (σ : Sg) (ρ : Rs) : HQ G (d + 1) M1_feed [.ref 100, .int a, .int b, .int c, .int d0, .int e] σ ρ ((qFeed ρ a b c d0 e).1) σ ((qFeed ρ a b c d0 e).2) := by
  intro t I J P n sl hS hD hB hSl
  have hσ := hD.1
  have hρ := hD.2.1
  obtain ⟨y, hP⟩ := hD.2.2.1
  have hR := hD.2.2.2.1
  have hF := hD.2.2.2.2
  have hnp := hσ.1
  have htd := hρ.2.1
  by_cases hfull : r_td ρ + 20 ≤ 300
  · rw [show qFeed ρ a b c d0 e = (nI (r_td ρ + 20), rTp ρ (r_td ρ + 20) (fun j => if j < r_td ρ then r_tp ρ j else fdB a b c d0 e (j - r_td ρ))) from if_pos hfull]
    refine CA.w ?_
    show RA _ _ M1_feed 0 [.ref 100, .int a, .int b, .int c, .int d0, .int e] [] _ _
    refine x_aload_n d1_feed_0 rfl ?_
    refine x_getI d1_feed_1 f1_107 (hS.T rfl) ?_
    refine x_top (congrArg Value.int (show I 100 1 = nI (r_td ρ) from hR.1)) ?_
    have htd_ := hρ.2.1
    refine x_bipush (v := nI 20) d1_feed_4 (by decide) ?_
    refine x_iaddN d1_feed_6 ?_
    refine x_sipush (v := nI 300) d1_feed_7 (by decide) ?_
    refine x_icmp_leN 15 d1_feed_10 (by decide) (by omega) (by omega) (fun b10 => ?_) (fun b10 => absurd b10 (by omega))
    refine x_aload_n d1_feed_15 rfl ?_
    refine x_iload_n d1_feed_16 rfl ?_
    refine x_invV 100 1 d1_feed_17 (hS.T rfl) v1_110_1 (h_bytes _ hS (ρ := ρ) (f := fdB a b c d0 e) (k := 0) (HdS.feed0 hD) (by omega) (show fdB a b c d0 e (0 + 0) = _ from rfl) (show fdB a b c d0 e (0 + 1) = _ from rfl) (show fdB a b c d0 e (0 + 2) = _ from rfl) (show fdB a b c d0 e (0 + 3) = _ from rfl)) ?_ (hB := hB) (hS := hSl)
    rintro o h' ⟨rfl, I1, rfl, hd1, hq1⟩
    refine x_aload_n d1_feed_20 rfl ?_
    refine x_iload_n d1_feed_21 rfl ?_
    refine x_invV 100 1 d1_feed_22 (hS.T rfl) v1_110_1 (h_bytes _ hS (ρ := ρ) (f := fdB a b c d0 e) (k := 4) hd1 (by omega) (show fdB a b c d0 e (4 + 0) = _ from rfl) (show fdB a b c d0 e (4 + 1) = _ from rfl) (show fdB a b c d0 e (4 + 2) = _ from rfl) (show fdB a b c d0 e (4 + 3) = _ from rfl)) ?_ (hB := hB) (hS := hSl)
    rintro o h' ⟨rfl, I2, rfl, hd2, hq2⟩
    refine x_aload_n d1_feed_25 rfl ?_
    refine x_iload_n d1_feed_26 rfl ?_
    refine x_invV 100 1 d1_feed_27 (hS.T rfl) v1_110_1 (h_bytes _ hS (ρ := ρ) (f := fdB a b c d0 e) (k := 8) hd2 (by omega) (show fdB a b c d0 e (8 + 0) = _ from rfl) (show fdB a b c d0 e (8 + 1) = _ from rfl) (show fdB a b c d0 e (8 + 2) = _ from rfl) (show fdB a b c d0 e (8 + 3) = _ from rfl)) ?_ (hB := hB) (hS := hSl)
    rintro o h' ⟨rfl, I3, rfl, hd3, hq3⟩
    refine x_aload_n d1_feed_30 rfl ?_
    refine x_iload d1_feed_31 rfl ?_
    refine x_invV 100 1 d1_feed_33 (hS.T rfl) v1_110_1 (h_bytes _ hS (ρ := ρ) (f := fdB a b c d0 e) (k := 12) hd3 (by omega) (show fdB a b c d0 e (12 + 0) = _ from rfl) (show fdB a b c d0 e (12 + 1) = _ from rfl) (show fdB a b c d0 e (12 + 2) = _ from rfl) (show fdB a b c d0 e (12 + 3) = _ from rfl)) ?_ (hB := hB) (hS := hSl)
    rintro o h' ⟨rfl, I4, rfl, hd4, hq4⟩
    refine x_aload_n d1_feed_36 rfl ?_
    refine x_iload d1_feed_37 rfl ?_
    refine x_invV 100 1 d1_feed_39 (hS.T rfl) v1_110_1 (h_bytes _ hS (ρ := ρ) (f := fdB a b c d0 e) (k := 16) hd4 (by omega) (show fdB a b c d0 e (16 + 0) = _ from rfl) (show fdB a b c d0 e (16 + 1) = _ from rfl) (show fdB a b c d0 e (16 + 2) = _ from rfl) (show fdB a b c d0 e (16 + 3) = _ from rfl)) ?_ (hB := hB) (hS := hSl)
    rintro o h' ⟨rfl, I5, rfl, hd5, hq5⟩
    refine x_aload_n d1_feed_42 rfl ?_
    refine x_getI d1_feed_43 f1_107 (hS.T rfl) ?_
    refine x_top (congrArg Value.int (show I5 100 1 = nI (r_td ρ + 20) from (show I5 100 1 = nI (r_td ρ + 20) from hd5.2.2.2.1.1))) ?_
    exact x_ireturn d1_feed_46 ⟨rfl, I5, rfl, hd5, hq1.trans (hq2.trans (hq3.trans (hq4.trans hq5)))⟩
  · rw [show qFeed ρ a b c d0 e = (-1, ρ) from if_neg hfull]
    refine CA.w ?_
    show RA _ _ M1_feed 0 [.ref 100, .int a, .int b, .int c, .int d0, .int e] [] _ _
    refine x_aload_n d1_feed_0 rfl ?_
    refine x_getI d1_feed_1 f1_107 (hS.T rfl) ?_
    refine x_top (congrArg Value.int (show I 100 1 = nI (r_td ρ) from hR.1)) ?_
    have htd_ := hρ.2.1
    refine x_bipush (v := nI 20) d1_feed_4 (by decide) ?_
    refine x_iaddN d1_feed_6 ?_
    refine x_sipush (v := nI 300) d1_feed_7 (by decide) ?_
    refine x_icmp_leN 15 d1_feed_10 (by decide) (by omega) (by omega) (fun b10 => absurd b10 (by omega)) (fun b10 => ?_)
    refine x_iconst (v := -1) d1_feed_13 (by decide) ?_
    exact x_ireturn d1_feed_14 ⟨rfl, I, rfl, hD, fun _ _ => rfl⟩
set_option maxHeartbeats 4000000 in
theorem h_misusesBy {G : GG} (d : Nat) {t : Nat → Option (Nat × Nat)} {J : Nat → Nat → Int64} {P : Nat → Nat → Value} {n sl : Nat} {I : Nat → Nat → Int32} (hS : SH t P) {σ : Sg} {ρ : Rs} {y : Lay} (hσ : SgOK σ) (hP : HP t I P σ y) (hR : HdR I ρ) {p r : Nat} (hp : p < s_np σ) (hr : r < 16) (hB : n ≤ 601124) (hSl : sl ≤ 7293033) : CA G (d + 4) M1_misusesBy [.ref 100, .int (nI p), .int (nI r)] (t, I, J, P, n, sl) (fun o h' => o = .inl (some (.int (nI (nMis (flp σ p r) ρ)))) ∧ ∃ I', h' = (t, I', J, P, n, sl) ∧ ∀ b, b ∉ [112, 113, 114, 115] → I' b = I b) := by
  refine CA.w ?_
  show RA _ _ M1_misusesBy 0 [.ref 100, .int (nI p), .int (nI r)] [] _ _
  have hnp := hσ.1
  refine x_aload_n d1_misusesBy_0 rfl ?_
  refine x_getP d1_misusesBy_1 f1_41 (hS.T rfl) (hS.P rfl) ?_
  refine x_invV 112 0 d1_misusesBy_4 (hS.T rfl) v1_84_4 (h_takesGrants _ hS (FlT.t hS) hσ hP) ?_ (hB := hB) (hS := hSl)
  rintro o h' ⟨rfl, I1, rfl, hF1, hg1⟩
  refine x_aload_n d1_misusesBy_7 rfl ?_
  refine x_getP d1_misusesBy_8 f1_41 (hS.T rfl) (hS.P rfl) ?_
  refine x_getP d1_misusesBy_11 f1_228 (hS.T rfl) (hS.P rfl) ?_
  refine x_iload_n d1_misusesBy_14 rfl ?_
  refine x_dup2 d1_misusesBy_15 rfl rfl ?_
  refine x_ialdN d1_misusesBy_16 (hS.T rfl) (by omega) ?_
  refine x_top (congrArg Value.int (show I1 113 p = nI (s_gr σ p) from (show I1 113 p = nI (s_gr σ p) by rw [hg1 p (by omega), if_pos hp]))) ?_
  have hgr_ := hσ.gr hp
  refine x_iconst (v := nI 1) d1_misusesBy_17 (by decide) ?_
  refine x_iload_n d1_misusesBy_18 rfl ?_
  refine x_1shlN d1_misusesBy_19 (by omega) ?_
  refine x_ixorN d1_misusesBy_20 ?_
  refine x_iastN d1_misusesBy_21 (hS.T rfl) (by omega) (fun I2 hI2 => ?_)
  have hP2 : HP t I2 P σ y := hP.fr (by rw [hI2, u2_row _ _ _ (by decide), hF1 100 (by decide)]) (fun b hb => by rw [hI2, u2_row _ _ _ (by omega)]; exact hF1 b (by omega))
  have hg2 : ∀ q, q < s_np σ → I2 (112 + 1) q = nI (upN (s_gr σ) p (s_gr σ p ^^^ 2 ^ r) q) ∧ upN (s_gr σ) p (s_gr σ p ^^^ 2 ^ r) q < 65536 := fun q hq => by
    refine ⟨?_, (flp_ok hσ hp hr).gr (σ := flp σ p r) hq⟩
    rw [hI2, u2_at]
    unfold upN
    by_cases e : q = p
    · rw [if_pos e, if_pos e]
    · rw [if_neg e, if_neg e, hg1 q (by omega), if_pos hq]
  refine x_aload_n d1_misusesBy_22 rfl ?_
  refine x_getP d1_misusesBy_23 f1_41 (hS.T rfl) (hS.P rfl) ?_
  refine x_aload_n d1_misusesBy_26 rfl ?_
  refine x_getI d1_misusesBy_27 f1_73 (hS.T rfl) ?_
  refine x_top (congrArg Value.int (show I2 100 5 = nI (s_np σ) from hP2.1)) ?_
  refine x_invV 112 1 d1_misusesBy_30 (hS.T rfl) v1_87_4 (h_goes _ hS (FlT.t hS) hσ hP2 hg2 hB hSl) ?_ (hB := hB) (hS := hSl)
  rintro o h' ⟨rfl, I9, rfl, hF9, hr9⟩
  have hk9 : ∀ b, b ∉ [112, 113, 114, 115] → I9 b = I b := fun b hb => by
    simp only [List.mem_cons, List.not_mem_nil, or_false] at hb
    rw [hF9.1 b (by omega) (by omega) (by omega), hI2, u2_row _ _ _ (by omega)]; exact hF1 b (by omega)
  refine x_aload_n d1_misusesBy_33 rfl ?_
  refine x_aload_n d1_misusesBy_34 rfl ?_
  refine x_getP d1_misusesBy_35 f1_41 (hS.T rfl) (hS.P rfl) ?_
  refine x_invV 100 1 d1_misusesBy_38 (hS.T rfl) v1_180_1 (h_misuses _ hS (FlT.t hS) (h := dr (flp σ p r)) (m := r_mt ρ) (fun e he => ⟨(hr9.2.1 e he).trans (by rw [show fin7 (sGr σ (upN (s_gr σ) p (s_gr σ p ^^^ 2 ^ r))) (90 + e) = dr (flp σ p r) e from fin7_d (σ := flp σ p r) he]), dr_lt _ e⟩) (fun e he => by rw [hk9 107 (by decide)]; exact hR.2.2.1 e he) hB hSl) (Cont.p ?_) (hB := hB) (hS := hSl)
  refine x_top (show _ = Value.int (nI (nMis (flp σ p r) ρ)) by rw [mis_sum (σ := flp σ p r) (r_mt ρ) (fun _ _ => rfl)]; rfl) ?_
  exact x_ireturn d1_misusesBy_41 ⟨rfl, I9, rfl, hk9⟩
theorem HSm.by_ {I I' : Nat → Nat → Int32} (h : ∀ b, b ∉ [112, 113, 114, 115] → I' b = I b) : HSm I I' :=
  ⟨fun b hb => h b (fun e => hb (by simp only [List.mem_cons, List.not_mem_nil, or_false] at e ⊢; omega)), fun k _ => by rw [h 100 (by decide)]⟩
theorem HdF.by_ {I I' : Nat → Nat → Int32} {σ : Sg} (hF : HdF I σ) (h : ∀ b, b ∉ [112, 113, 114, 115] → I' b = I b) : HdF I' σ := hF.keep (by rw [h 100 (by decide)]) (fun b hb => h b (fun e => by simp only [List.mem_cons, List.not_mem_nil, or_false] at e hb; omega))
theorem Fwn.by_ {I I' : Nat → Nat → Int32} {σ : Sg} (hF : Fwn I σ) (h : ∀ b, b ∉ [112, 113, 114, 115] → I' b = I b) : Fwn I' σ := hF.keep (by rw [h 100 (by decide)]) (fun b hb => h b (fun e => by simp only [List.mem_cons, List.not_mem_nil, or_false] at e hb; omega))
theorem HSm.hdsF {t : Nat → Option (Nat × Nat)} {I I' : Nat → Nat → Int32} {P : Nat → Nat → Value} {σ : Sg} {ρ : Rs} (h : HSm I I') (hf : HdF I' σ) (hD : HdS t I P σ ρ) : HdS t I' P σ ρ :=
  ⟨hD.1, hD.2.1, by obtain ⟨y, hP⟩ := hD.2.2.1; exact ⟨y, h.hp hP⟩, h.hr hD.2.2.2.1, hf⟩
set_option maxHeartbeats 4000000 in
theorem h_without (G : GG) (d : Nat) (v u : Int32) (σ : Sg) (ρ : Rs) : HQ G (d + 5) M1_without [.ref 100, .int v, .int u] σ ρ ((qWithout σ ρ v u).1) σ ((qWithout σ ρ v u).2) := by
  intro t I J P n sl hS hD hB hSl
  have hσ := hD.1
  have hρ := hD.2.1
  obtain ⟨y, hP⟩ := hD.2.2.1
  have hR := hD.2.2.2.1
  have hF := hD.2.2.2.2
  have hnp := hσ.1
  rcases ix_cases v (n := s_np σ) (by omega) with ⟨hv, e⟩ | ⟨p, hp, rfl, hv, e⟩
  · rw [show qWithout σ ρ v u = (-1, rT ρ 1) by simp only [qWithout, e]]
    refine CA.w ?_
    show RA _ _ M1_without 0 [.ref 100, .int v, .int u] [] _ _
    refine x_aload_n d1_without_0 rfl ?_
    refine x_invV 100 0 d1_without_1 (hS.T rfl) v1_91_1 (h_begins _ hS) (Cont.ev ?_) (hB := hB) (hS := hSl)
    obtain ⟨I1, hI1⟩ : ∃ z, z = u2 (u2 I 100 10 (nI 0)) 100 12 (-1) := ⟨_, rfl⟩
    rw [← hI1]
    obtain ⟨hD0, hq0⟩ := hD.bg hI1
    have hρ := hD0.2.1
    obtain ⟨y, hP⟩ := hD0.2.2.1
    have hR := hD0.2.2.2.1
    have hF := hD0.2.2.2.2
    refine x_aload_n d1_without_4 rfl ?_
    refine x_iload_n d1_without_5 rfl ?_
    refine x_invV 100 1 d1_without_6 (hS.T rfl) v1_103_1 (h_isPart _ hS hP hσ (v) hB hSl) (Cont.p ?_) (hB := hB) (hS := hSl)
    refine x_top (congrArg Value.int (b2i_f hv)) ?_
    refine x_if_ne 18 d1_without_9 (by decide) (fun b9 => absurd b9 (by decide)) (fun b9 => ?_)
    refine x_aload_n d1_without_12 rfl ?_
    refine x_iconst (v := nI 1) d1_without_13 (by decide) ?_
    refine x_invV 100 1 d1_without_14 (hS.T rfl) v1_95_1 (h_no _ hS (k := 1)) (Cont.e ?_) (hB := hB) (hS := hSl)
    have hno_ := HdS.no (k := 1) hD0 rfl (by decide) (by decide)
    exact x_ireturn d1_without_17 ⟨rfl, u2 I1 100 10 (nI 1), rfl, hno_.1, hq0.trans hno_.2⟩
  rcases ix_cases u (n := 16) (by decide) with ⟨hu, e2⟩ | ⟨r, hr, rfl, hu, e2⟩
  · rw [show qWithout σ ρ (nI p) u = (-1, rT ρ 2) by simp only [qWithout, e, e2]]
    refine CA.w ?_
    show RA _ _ M1_without 0 [.ref 100, .int (nI p), .int u] [] _ _
    refine x_aload_n d1_without_0 rfl ?_
    refine x_invV 100 0 d1_without_1 (hS.T rfl) v1_91_1 (h_begins _ hS) (Cont.ev ?_) (hB := hB) (hS := hSl)
    obtain ⟨I1, hI1⟩ : ∃ z, z = u2 (u2 I 100 10 (nI 0)) 100 12 (-1) := ⟨_, rfl⟩
    rw [← hI1]
    obtain ⟨hD0, hq0⟩ := hD.bg hI1
    have hρ := hD0.2.1
    obtain ⟨y, hP⟩ := hD0.2.2.1
    have hR := hD0.2.2.2.1
    have hF := hD0.2.2.2.2
    refine x_aload_n d1_without_4 rfl ?_
    refine x_iload_n d1_without_5 rfl ?_
    refine x_invV 100 1 d1_without_6 (hS.T rfl) v1_103_1 (h_isPart _ hS hP hσ (nI p) hB hSl) (Cont.p ?_) (hB := hB) (hS := hSl)
    refine x_top (congrArg Value.int (b2i_t hv)) ?_
    refine x_if_ne 18 d1_without_9 (by decide) (fun b9 => ?_) (fun b9 => absurd b9 (by decide))
    refine x_iload_n d1_without_18 rfl ?_
    refine x_invS 1 d1_without_19 s1_153 (h_isRight _ (u) hB hSl) (Cont.p ?_) (hB := hB) (hS := hSl)
    refine x_top (congrArg Value.int (b2i_f hu)) ?_
    refine x_if_ne 31 d1_without_22 (by decide) (fun b22 => absurd b22 (by decide)) (fun b22 => ?_)
    refine x_aload_n d1_without_25 rfl ?_
    refine x_iconst (v := nI 2) d1_without_26 (by decide) ?_
    refine x_invV 100 1 d1_without_27 (hS.T rfl) v1_95_1 (h_no _ hS (k := 2)) (Cont.e ?_) (hB := hB) (hS := hSl)
    have hno_ := HdS.no (k := 2) hD0 rfl (by decide) (by decide)
    exact x_ireturn d1_without_30 ⟨rfl, u2 I1 100 10 (nI 2), rfl, hno_.1, hq0.trans hno_.2⟩
  · rw [show qWithout σ ρ (nI p) (nI r) = (nI (nMis (flp σ p r) ρ), rT ρ 0) by simp only [qWithout, e, e2]]
    refine CA.w ?_
    show RA _ _ M1_without 0 [.ref 100, .int (nI p), .int (nI r)] [] _ _
    refine x_aload_n d1_without_0 rfl ?_
    refine x_invV 100 0 d1_without_1 (hS.T rfl) v1_91_1 (h_begins _ hS) (Cont.ev ?_) (hB := hB) (hS := hSl)
    obtain ⟨I1, hI1⟩ : ∃ z, z = u2 (u2 I 100 10 (nI 0)) 100 12 (-1) := ⟨_, rfl⟩
    rw [← hI1]
    obtain ⟨hD0, hq0⟩ := hD.bg hI1
    have hρ := hD0.2.1
    obtain ⟨y, hP⟩ := hD0.2.2.1
    have hR := hD0.2.2.2.1
    have hF := hD0.2.2.2.2
    refine x_aload_n d1_without_4 rfl ?_
    refine x_iload_n d1_without_5 rfl ?_
    refine x_invV 100 1 d1_without_6 (hS.T rfl) v1_103_1 (h_isPart _ hS hP hσ (nI p) hB hSl) (Cont.p ?_) (hB := hB) (hS := hSl)
    refine x_top (congrArg Value.int (b2i_t hv)) ?_
    refine x_if_ne 18 d1_without_9 (by decide) (fun b9 => ?_) (fun b9 => absurd b9 (by decide))
    refine x_iload_n d1_without_18 rfl ?_
    refine x_invS 1 d1_without_19 s1_153 (h_isRight _ (nI r) hB hSl) (Cont.p ?_) (hB := hB) (hS := hSl)
    refine x_top (congrArg Value.int (b2i_t hu)) ?_
    refine x_if_ne 31 d1_without_22 (by decide) (fun b22 => ?_) (fun b22 => absurd b22 (by decide))
    refine x_aload_n d1_without_31 rfl ?_
    refine x_iload_n d1_without_32 rfl ?_
    refine x_iload_n d1_without_33 rfl ?_
    refine x_invV 100 2 d1_without_34 (hS.T rfl) v1_242_1 (h_misusesBy _ hS hσ hP hR hp hr hB hSl) ?_ (hB := hB) (hS := hSl)
    rintro o h' ⟨rfl, I9, rfl, hk9⟩
    exact x_ireturn d1_without_37 ⟨rfl, I9, rfl, (HSm.by_ hk9).hdsF (hF.by_ hk9) hD0, hq0.trans (HSm.by_ hk9).fq⟩
set_option maxHeartbeats 4000000 in
theorem h_key (G : GG) (d : Nat)  (σ : Sg) (ρ : Rs) : HQ G (d + 5) M1_key [.ref 100] σ ρ ((qKey σ ρ).1) σ ((qKey σ ρ).2) := by
  intro t I J P n sl hS hD hB hSl
  have hσ := hD.1
  have hρ := hD.2.1
  obtain ⟨y, hP⟩ := hD.2.2.1
  have hR := hD.2.2.2.1
  have hF := hD.2.2.2.2
  have hnp := hσ.1
  by_cases h0 : nMis σ ρ = 0
  · rw [show qKey σ ρ = (-1, rT ρ 5) from if_pos h0]
    refine CA.w ?_
    show RA _ _ M1_key 0 [.ref 100, U0, U0, U0, U0, U0] [] _ _
    refine x_aload_n d1_key_0 rfl ?_
    refine x_invV 100 0 d1_key_1 (hS.T rfl) v1_91_1 (h_begins _ hS) (Cont.ev ?_) (hB := hB) (hS := hSl)
    obtain ⟨I1, hI1⟩ : ∃ z, z = u2 (u2 I 100 10 (nI 0)) 100 12 (-1) := ⟨_, rfl⟩
    rw [← hI1]
    obtain ⟨hD0, hq0⟩ := hD.bg hI1
    have hρ := hD0.2.1
    obtain ⟨y, hP⟩ := hD0.2.2.1
    have hR := hD0.2.2.2.1
    have hF := hD0.2.2.2.2
    refine x_aload_n d1_key_4 rfl ?_
    refine x_aload_n d1_key_5 rfl ?_
    refine x_invV 100 0 d1_key_6 (hS.T rfl) v1_156_1 (h_flow _ hS hσ hP hF hB hSl) ?_ (hB := hB) (hS := hSl)
    rintro o h' ⟨rfl, I2, rfl, hsI2, hfwI2⟩
    have hsmI2 : HSm I1 I2 := (HSm.rf _).trans hsI2
    refine x_invV 100 1 d1_key_9 (hS.T rfl) v1_180_1 (h_misuses _ hS (FlT.f hS) (h := dr σ) (m := r_mt ρ) (fun e he => ⟨(hfwI2.2.2.1 e he).trans (by rw [fin7_d he]), dr_lt σ e⟩) (hsmI2.hr hR).2.2.1 hB hSl) (Cont.p ?_) (hB := hB) (hS := hSl)
    refine x_top (show _ = Value.int (nI (nMis σ ρ)) by rw [mis_sum (σ := σ) (r_mt ρ) (fun _ _ => rfl)]; rfl) ?_
    have hnm0 := nMis_le σ ρ
    refine x_istore_n d1_key_12 ?_
    refine x_iload_n d1_key_13 rfl ?_
    refine x_if_neN 23 d1_key_14 (by decide) (by omega) (fun b14 => absurd b14 (fun q => q h0)) (fun b14 => ?_)
    refine x_aload_n d1_key_17 rfl ?_
    refine x_iconst (v := nI 5) d1_key_18 (by decide) ?_
    refine x_invV 100 1 d1_key_19 (hS.T rfl) v1_95_1 (h_no _ hS (k := 5)) (Cont.e ?_) (hB := hB) (hS := hSl)
    have hno_ := HdS.no (k := 5) (hsmI2.hds hfwI2 hD0) rfl (by decide) (by decide)
    exact x_ireturn d1_key_22 ⟨rfl, u2 I2 100 10 (nI 5), rfl, hno_.1, (hq0.trans hsmI2.fq).trans hno_.2⟩
  · rw [show qKey σ ρ = (kyJ (kyW σ) (kyM σ ρ) (16 * s_np σ) 0 (nMis σ ρ) (-2), rT ρ 0) from if_neg h0]
    generalize hRe : kyJ (kyW σ) (kyM σ ρ) (16 * s_np σ) 0 (nMis σ ρ) (-2) = R
    refine CA.w ?_
    show RA _ _ M1_key 0 [.ref 100, U0, U0, U0, U0, U0] [] _ _
    refine x_aload_n d1_key_0 rfl ?_
    refine x_invV 100 0 d1_key_1 (hS.T rfl) v1_91_1 (h_begins _ hS) (Cont.ev ?_) (hB := hB) (hS := hSl)
    obtain ⟨I1, hI1⟩ : ∃ z, z = u2 (u2 I 100 10 (nI 0)) 100 12 (-1) := ⟨_, rfl⟩
    rw [← hI1]
    obtain ⟨hD0, hq0⟩ := hD.bg hI1
    have hρ := hD0.2.1
    obtain ⟨y, hP⟩ := hD0.2.2.1
    have hR := hD0.2.2.2.1
    have hF := hD0.2.2.2.2
    refine x_aload_n d1_key_4 rfl ?_
    refine x_aload_n d1_key_5 rfl ?_
    refine x_invV 100 0 d1_key_6 (hS.T rfl) v1_156_1 (h_flow _ hS hσ hP hF hB hSl) ?_ (hB := hB) (hS := hSl)
    rintro o h' ⟨rfl, I2, rfl, hsI2, hfwI2⟩
    have hsmI2 : HSm I1 I2 := (HSm.rf _).trans hsI2
    refine x_invV 100 1 d1_key_9 (hS.T rfl) v1_180_1 (h_misuses _ hS (FlT.f hS) (h := dr σ) (m := r_mt ρ) (fun e he => ⟨(hfwI2.2.2.1 e he).trans (by rw [fin7_d he]), dr_lt σ e⟩) (hsmI2.hr hR).2.2.1 hB hSl) (Cont.p ?_) (hB := hB) (hS := hSl)
    refine x_top (show _ = Value.int (nI (nMis σ ρ)) by rw [mis_sum (σ := σ) (r_mt ρ) (fun _ _ => rfl)]; rfl) ?_
    have hnm0 := nMis_le σ ρ
    refine x_istore_n d1_key_12 ?_
    refine x_iload_n d1_key_13 rfl ?_
    refine x_if_neN 23 d1_key_14 (by decide) (by omega) (fun b14 => ?_) (fun b14 => absurd b14 h0)
    refine x_bipush (v := -2) d1_key_23 (by decide) ?_
    refine x_istore_n d1_key_25 ?_
    refine x_iconst (v := nI 0) d1_key_26 (by decide) ?_
    refine x_istore_n d1_key_27 ?_
    have hin : ∀ p, p < s_np σ → (p < s_np σ → ∀ f l x I9, 16 * (p + 1) + 0 + f = 16 * s_np σ → l ≤ 256 → HSm I1 I9 → Fwn I9 σ → kyJ (kyW σ) (kyM σ ρ) f (16 * (p + 1) + 0) l x = R → ∀ v4 v5, RA G (d + 5) M1_key 28 [.ref 100, .int (nI l), .int x, .int (nI (p + 1)), v4, v5] [] (t, I9, J, P, n, sl) (fun o h' => o = .inl (some (.int (R))) ∧ ∃ I', h' = (t, I', J, P, n, sl) ∧ HdS t I' P σ (rT ρ 0) ∧ HFq I I')) → ∀ r, r ≤ 16 → ∀ f l x I9, 16 * p + r + f = 16 * s_np σ → l ≤ 256 → HSm I1 I9 → Fwn I9 σ → kyJ (kyW σ) (kyM σ ρ) f (16 * p + r) l x = R → ∀ v5, RA G (d + 5) M1_key 39 [.ref 100, .int (nI l), .int x, .int (nI p), .int (nI r), v5] [] (t, I9, J, P, n, sl) (fun o h' => o = .inl (some (.int (R))) ∧ ∃ I', h' = (t, I', J, P, n, sl) ∧ HdS t I' P σ (rT ρ 0) ∧ HFq I I') := by
      intro p hp ihp
      refine up_ind ?_
      intro r hr_ ih f l x I9 hf hl hsm9 hfw9 hRe v5
      refine x_iload d1_key_39 rfl ?_
      refine x_bipush (v := nI 16) d1_key_41 (by decide) ?_
      refine x_icmp_geN 101 d1_key_43 (by decide) (by omega) (by omega) (fun b43 => ?_) (fun b43 => ?_)
      · refine x_iincN (c := 1) d1_key_101 rfl (by decide) ?_
        refine x_goto 28 d1_key_104 (by decide) ?_
        have hr16 : r = 16 := by omega
        subst hr16
        exact ihp hp f l x I9 (by omega) hl hsm9 hfw9 (by rw [show 16 * (p + 1) + 0 = 16 * p + 16 by omega]; exact hRe) _ _
      · obtain ⟨f, rfl⟩ : ∃ g, f = g + 1 := ⟨f - 1, by omega⟩
        rw [kyJ] at hRe
        have e1 : (16 * p + r) / 16 = p := by omega
        have e2 : (16 * p + r) % 16 = r := by omega
        have eM : kyM σ ρ (16 * p + r) = nMis (flp σ p r) ρ := by unfold kyM; rw [e1, e2]
        have eW : kyW σ (16 * p + r) = (s_gr σ p).testBit r := by unfold kyW; rw [e1, e2]
        refine x_aload_n d1_key_46 rfl ?_
        refine x_getP d1_key_47 f1_24 (hS.T rfl) (hS.P rfl) ?_
        refine x_iload_n d1_key_50 rfl ?_
        refine x_aald5N d1_key_51 (hS.T rfl) (by omega) ((hsm9.hp hP).at_ hp) ?_
        refine x_getI d1_key_52 f1_100 ((hsm9.hp hP).ty hp) ?_
        refine x_top (congrArg Value.int (show I9 (y.1 p) 0 = nI (s_gr σ p) from ((hsm9.hp hP).gr hp))) ?_
        have hgr_ := hσ.gr hp
        refine x_iload d1_key_55 rfl ?_
        refine x_ishrN d1_key_57 (by omega) (by omega) ?_
        refine x_iconst (v := nI 1) d1_key_58 (by decide) ?_
        refine x_tbN d1_key_59 ?_
        have htb_ := tb_lt (s_gr σ p) r
        refine x_if_neN 66 d1_key_60 (by decide) (by omega) (fun b60 => ?_) (fun b60 => ?_)
        · refine x_aload_n d1_key_66 rfl ?_
          refine x_iload_n d1_key_67 rfl ?_
          refine x_iload d1_key_68 rfl ?_
          refine x_invV 100 2 d1_key_70 (hS.T rfl) v1_242_1 (h_misusesBy _ hS hσ (hsm9.hp hP) (hsm9.hr hR) hp b43 hB hSl) ?_ (hB := hB) (hS := hSl)
          rintro o h' ⟨rfl, I8, rfl, hk8⟩
          have hsm8 := hsm9.trans (HSm.by_ hk8)
          have hfw8 := hfw9.by_ hk8
          have hnm_ := nMis_le (flp σ p r) ρ
          refine x_top (show _ = Value.int (nI (nMis (flp σ p r) ρ)) from rfl) ?_
          refine x_istore d1_key_73 ?_
          refine x_iload d1_key_75 rfl ?_
          refine x_iload_n d1_key_77 rfl ?_
          refine x_icmp_ltN 84 d1_key_78 (by decide) (by omega) (by omega) (fun b78 => ?_) (fun b78 => ?_)
          · refine x_iload d1_key_84 rfl ?_
            refine x_istore_n d1_key_86 ?_
            refine x_bipush (v := nI 100) d1_key_87 (by decide) ?_
            refine x_iload_n d1_key_89 rfl ?_
            refine x_imulN d1_key_90 ?_
            refine x_iload d1_key_91 rfl ?_
            refine x_iaddN d1_key_93 ?_
            refine x_istore_n d1_key_94 ?_
            refine x_iincN (c := 1) d1_key_95 rfl (by decide) ?_
            refine x_goto 39 d1_key_98 (by decide) ?_
            rw [if_pos (by rw [eW]; exact tb_ne0.mp b60), eM, if_pos b78, e1, e2] at hRe
            exact ih (by omega) f _ _ I8 (by omega) (by omega) hsm8 hfw8 hRe _
          · refine x_goto 95 d1_key_81 (by decide) ?_
            refine x_iincN (c := 1) d1_key_95 rfl (by decide) ?_
            refine x_goto 39 d1_key_98 (by decide) ?_
            rw [if_pos (by rw [eW]; exact tb_ne0.mp b60), eM, if_neg (by omega)] at hRe
            exact ih (by omega) f l x I8 (by omega) hl hsm8 hfw8 hRe _
        · refine x_goto 95 d1_key_63 (by decide) ?_
          refine x_iincN (c := 1) d1_key_95 rfl (by decide) ?_
          refine x_goto 39 d1_key_98 (by decide) ?_
          rw [if_neg (by rw [eW, tb0.mp b60]; decide)] at hRe
          exact ih (by omega) f l x I9 (by omega) hl hsm9 hfw9 hRe _
    have hout : ∀ p, p ≤ s_np σ → ∀ f l x I9, 16 * p + 0 + f = 16 * s_np σ → l ≤ 256 → HSm I1 I9 → Fwn I9 σ → kyJ (kyW σ) (kyM σ ρ) f (16 * p + 0) l x = R → ∀ v4 v5, RA G (d + 5) M1_key 28 [.ref 100, .int (nI l), .int x, .int (nI p), v4, v5] [] (t, I9, J, P, n, sl) (fun o h' => o = .inl (some (.int (R))) ∧ ∃ I', h' = (t, I', J, P, n, sl) ∧ HdS t I' P σ (rT ρ 0) ∧ HFq I I') := by
      refine up_ind ?_
      intro p hp_ ih f l x I9 hf hl hsm9 hfw9 hRe v4 v5
      refine x_iload_n d1_key_28 rfl ?_
      refine x_aload_n d1_key_29 rfl ?_
      refine x_getI d1_key_30 f1_73 (hS.T rfl) ?_
      refine x_top (congrArg Value.int (show I9 100 5 = nI (s_np σ) from (hsm9.hp hP).1)) ?_
      refine x_icmp_geN 107 d1_key_33 (by decide) (by omega) (by omega) (fun b33 => ?_) (fun b33 => ?_)
      · refine x_iload_n d1_key_107 rfl ?_
        exact x_ireturn d1_key_108 ⟨by rw [show f = 0 by omega, kyJ] at hRe; rw [hRe], I9, rfl, hsm9.hds hfw9 hD0, hq0.trans hsm9.fq⟩
      · refine x_iconst (v := nI 0) d1_key_36 (by decide) ?_
        refine x_istore d1_key_37 ?_
        exact hin p b33 ih 0 (Nat.zero_le _) f l x I9 (by omega) hl hsm9 hfw9 hRe _
    exact hout 0 (Nat.zero_le _) (16 * s_np σ) (nMis σ ρ) (-2) I2 (by omega) hnm0 hsmI2 hfwI2 hRe _ _
