/-! the house: flown; lines that lead; ways -/
set_option maxRecDepth 100000
theorem bPt_ne {x s : Nat} (h : bP (x.testBit s = true) ≠ 0) : ¬ x.testBit s = false := fun e => h (bP_f (by rw [e]; decide))
set_option maxHeartbeats 4000000 in
theorem h_flowF {G : GG} (d : Nat) {t : Nat → Option (Nat × Nat)} {J : Nat → Nat → Int64} {P : Nat → Nat → Value} {n sl : Nat} {I : Nat → Nat → Int32} (hS : SH t P) {σ : Sg} (hfw : Fwn I σ) : CP G d M1_flow [.ref 100] (t, I, J, P, n, sl) (.ref 108) := by
  refine CA.w ?_
  show RA _ _ M1_flow 0 [.ref 100] [] _ _
  refine x_aload_n d1_flow_0 rfl ?_
  refine x_getI d1_flow_1 f1_80 (hS.T rfl) ?_
  refine x_top (congrArg Value.int (show I 100 8 = nI 1 from hfw.1)) ?_
  refine x_if_neN 25 d1_flow_4 (by decide) (by omega) (fun b4 => ?_) (fun b4 => absurd b4 (by decide))
  refine x_aload_n d1_flow_25 rfl ?_
  refine x_iconst (v := nI 1) d1_flow_26 (by decide) ?_
  refine x_putIE d1_flow_27 p1_80 (hS.T rfl) (fun I1 hI1 => ?_)
  refine x_aload_n d1_flow_30 rfl ?_
  refine x_getP d1_flow_31 f1_37 (hS.T rfl) (hS.P rfl) ?_
  exact x_areturn d1_flow_34 ⟨rfl, by rw [hI1, hfw.same]⟩
set_option maxHeartbeats 4000000 in
theorem h_isAskedF {G : GG} (d : Nat) {t : Nat → Option (Nat × Nat)} {J : Nat → Nat → Int64} {P : Nat → Nat → Value} {n sl : Nat} {I : Nat → Nat → Int32} (hS : SH t P) {σ : Sg} (hσ : SgOK σ) (hfw : Fwn I σ) {p : Nat} (hp : p < 10) (hB : n ≤ 601124) (hSl : sl ≤ 7293033) : CP G (d + 1) M1_isAsked [.ref 100, .int (nI p)] (t, I, J, P, n, sl) (.int (nI (bP (Asked σ p)))) := by
  refine CA.w ?_
  show RA _ _ M1_isAsked 0 [.ref 100, .int (nI p)] [] _ _
  refine x_aload_n d1_isAsked_0 rfl ?_
  refine x_invV 100 0 d1_isAsked_1 (hS.T rfl) v1_156_1 (h_flowF _ hS hfw) (Cont.p ?_) (hB := hB) (hS := hSl)
  refine x_getI d1_isAsked_4 f1_168 (hS.T rfl) ?_
  refine x_top (congrArg Value.int (show I 108 4 = nI (askB σ) from (hfw.2.2.2.trans (by rw [fin7_a])))) ?_
  have hab_ := askB_lt σ
  refine x_iload_n d1_isAsked_7 rfl ?_
  refine x_ishrN d1_isAsked_8 (by omega) (by omega) ?_
  refine x_iconst (v := nI 1) d1_isAsked_9 (by decide) ?_
  refine x_tbN d1_isAsked_10 ?_
  have htb_ := tb_lt (askB σ) p
  refine x_iconst (v := nI 1) d1_isAsked_11 (by decide) ?_
  refine x_icmp_neN 19 d1_isAsked_12 (by decide) (by omega) (by omega) (fun b12 => ?_) (fun b12 => ?_)
  · refine x_iconst (v := nI 0) d1_isAsked_19 (by decide) ?_
    exact x_ireturn d1_isAsked_20 ⟨by rw [bP_f (fun z => by have := (askB_bit hσ).mpr z; rw [tb_ne1.mp b12] at this; cases this)], rfl⟩
  · refine x_iconst (v := nI 1) d1_isAsked_15 (by decide) ?_
    refine x_goto 20 d1_isAsked_16 (by decide) ?_
    exact x_ireturn d1_isAsked_20 ⟨by rw [bP_t ((askB_bit hσ).mp (tb1.mp b12))], rfl⟩
set_option maxHeartbeats 4000000 in
theorem h_leads5 {G : GG} (d : Nat) {t : Nat → Option (Nat × Nat)} {J : Nat → Nat → Int64} {P : Nat → Nat → Value} {n sl : Nat} {I : Nat → Nat → Int32} (hS : SH t P) {f : Nat} (hf : FlT t P f) {σ : Sg} {y : Lay} (hσ : SgOK σ) (hP : HP t I P σ y) {p k a q s dr : Nat} (hp : p < s_np σ) (hk : k < s_ln σ p) (ha : LnR t I P σ (12 * p + k) a) (hq : q < 90) (hs : s < 16) (hkk : s_kk σ (12 * p + k) = 5) (hB : n ≤ 601124) (hSl : sl ≤ 7293033) : CP G (d + 1) M14_leads [.ref a, .ref f, .int (nI p), .int (nI q), .int (nI s)] (t, I, J, P, n, sl) (.int (hlI σ s dr q p k)) := by
  refine CA.w ?_
  show RA _ _ M14_leads 0 [.ref a, .ref f, .int (nI p), .int (nI q), .int (nI s)] [] _ _
  have hnp := hσ.1
  obtain ⟨r1, r2, r3, r4, r5, r6, r7⟩ := hσ.row hp hk
  have hta : t a = some (14, 0) := by rw [ha.2.1, hkk]
  refine x_iload_n d14_leads_0 rfl ?_
  refine x_iload_n d14_leads_1 rfl ?_
  refine x_aload_n d14_leads_2 rfl ?_
  refine x_getI d14_leads_3 f14_19 hta ?_
  refine x_top (congrArg Value.int (show I a 2 = nI (s_fs σ (12 * p + k)) from ha.2.2.2.2.1)) ?_
  refine x_invS 2 d14_leads_6 s14_25 (h_place p (s_fs σ (12 * p + k))) (Cont.p ?_) (hB := hB) (hS := hSl)
  refine x_icmp_neN 19 d14_leads_9 (by decide) (by omega) (by omega) (fun b9 => ?_) (fun b9 => ?_)
  · refine x_iconst (v := -1) d14_leads_19 (by decide) ?_
    exact x_ireturn d14_leads_20 ⟨by rw [hlI_f (fun q' h => by rcases h with ⟨a1, a3, a4, a2⟩ | ⟨a1, a3, a4, a2⟩ | ⟨a1, a3, a4, a2⟩ | ⟨a1, a3, -, -, a2⟩ | ⟨a1, a3, a2⟩; omega; omega; omega; exact a2; omega)], rfl⟩
  · refine x_iload_n d14_leads_12 rfl ?_
    refine x_invS 1 d14_leads_13 s14_9 (h_resultOf p) (Cont.p ?_) (hB := hB) (hS := hSl)
    refine x_goto 20 d14_leads_16 (by decide) ?_
    exact x_ireturn d14_leads_20 ⟨by rw [hlI_t hσ hp hk (Or.inr (Or.inr (Or.inr (Or.inr ⟨hkk, b9, rfl⟩)))) (by omega)], rfl⟩
set_option maxHeartbeats 4000000 in
theorem h_leads2 {G : GG} (d : Nat) {t : Nat → Option (Nat × Nat)} {J : Nat → Nat → Int64} {P : Nat → Nat → Value} {n sl : Nat} {I : Nat → Nat → Int32} (hS : SH t P) {f : Nat} (hf : FlT t P f) {σ : Sg} {y : Lay} (hσ : SgOK σ) (hP : HP t I P σ y) {p k a q s dr : Nat} (hp : p < s_np σ) (hk : k < s_ln σ p) (ha : LnR t I P σ (12 * p + k) a) (hq : q < 90) (hs : s < 16) (hkk : s_kk σ (12 * p + k) = 2) (hB : n ≤ 601124) (hSl : sl ≤ 7293033) : CP G (d + 1) M11_leads [.ref a, .ref f, .int (nI p), .int (nI q), .int (nI s)] (t, I, J, P, n, sl) (.int (hlI σ s dr q p k)) := by
  refine CA.w ?_
  show RA _ _ M11_leads 0 [.ref a, .ref f, .int (nI p), .int (nI q), .int (nI s)] [] _ _
  have hnp := hσ.1
  obtain ⟨r1, r2, r3, r4, r5, r6, r7⟩ := hσ.row hp hk
  have hta : t a = some (11, 0) := by rw [ha.2.1, hkk]
  refine x_iload_n d11_leads_0 rfl ?_
  refine x_iload_n d11_leads_1 rfl ?_
  refine x_aload_n d11_leads_2 rfl ?_
  refine x_getI d11_leads_3 f11_28 hta ?_
  refine x_top (congrArg Value.int (show I a 2 = nI (s_fs σ (12 * p + k)) from ha.2.2.2.2.1)) ?_
  refine x_invS 2 d11_leads_6 s11_31 (h_place p (s_fs σ (12 * p + k))) (Cont.p ?_) (hB := hB) (hS := hSl)
  refine x_icmp_neN 39 d11_leads_9 (by decide) (by omega) (by omega) (fun b9 => ?_) (fun b9 => ?_)
  · have h52 := r5 hkk
    refine x_iload_n d11_leads_39 rfl ?_
    refine x_aload_n d11_leads_40 rfl ?_
    refine x_getI d11_leads_41 f11_15 hta ?_
    refine x_top (congrArg Value.int (show I a 1 = nI (s_nu σ (12 * p + k)) from ha.2.2.2.1)) ?_
    refine x_invS 1 d11_leads_44 s11_39 (h_resultOf (s_nu σ (12 * p + k))) (Cont.p ?_) (hB := hB) (hS := hSl)
    refine x_icmp_neN 75 d11_leads_47 (by decide) (by omega) (by omega) (fun b47 => ?_) (fun b47 => ?_)
    · refine x_iconst (v := -1) d11_leads_75 (by decide) ?_
      exact x_ireturn d11_leads_76 ⟨by rw [hlI_f (fun q' h => by rcases h with ⟨a1, a3, a4, a2⟩ | ⟨a1, a3, a4, a2⟩ | ⟨a1, a3, a4, a2⟩ | ⟨a1, a3, -, -, a2⟩ | ⟨a1, a3, a2⟩; omega; omega; omega; exact a2; omega)], rfl⟩
    · refine x_aload_n d11_leads_50 rfl ?_
      refine x_iload_n d11_leads_51 rfl ?_
      refine x_aload_n d11_leads_52 rfl ?_
      refine x_getI d11_leads_53 f11_9 hta ?_
      refine x_top (congrArg Value.int (show I a 3 = nI (s_sc σ (12 * p + k)) from (ha.2.2.2.2.2.1 hkk))) ?_
      refine x_iload d11_leads_56 rfl ?_
      refine x_invV f 3 d11_leads_58 hf.1 v11_43_4 (h_isWashed _ hS hf hσ hP (p := p) (m := s_sc σ (12 * p + k)) (s := s) hp (r5 hkk).2 hs) (Cont.p ?_) (hB := hB) (hS := hSl)
      have hbw58 := bP_lt ((wS σ (8 * p + (s_sc σ (12 * p + k)))).testBit s = true)
      refine x_if_neN 75 d11_leads_61 (by decide) (by omega) (fun b61 => ?_) (fun b61 => ?_)
      · refine x_iconst (v := -1) d11_leads_75 (by decide) ?_
        exact x_ireturn d11_leads_76 ⟨by rw [hlI_f (fun q' h => by rcases h with ⟨a1, a3, a4, a2⟩ | ⟨a1, a3, a4, a2⟩ | ⟨a1, a3, a4, a2⟩ | ⟨a1, a3, -, -, a2⟩ | ⟨a1, a3, a2⟩; omega; exact absurd ((wS_bit hσ hp (r5 hkk).2).mpr a4) (bPt_ne (by omega)); omega; exact a2; omega)], rfl⟩
      · refine x_iload_n d11_leads_64 rfl ?_
        refine x_aload_n d11_leads_65 rfl ?_
        refine x_getI d11_leads_66 f11_9 hta ?_
        refine x_top (congrArg Value.int (show I a 3 = nI (s_sc σ (12 * p + k)) from (ha.2.2.2.2.2.1 hkk))) ?_
        refine x_invS 2 d11_leads_69 s11_31 (h_place p (s_sc σ (12 * p + k))) (Cont.p ?_) (hB := hB) (hS := hSl)
        refine x_goto 76 d11_leads_72 (by decide) ?_
        exact x_ireturn d11_leads_76 ⟨by rw [hlI_t hσ hp hk (Or.inr (Or.inl ⟨hkk, b47, (wS_bit hσ hp (r5 hkk).2).mp (Bool.eq_false_iff.mpr (bP_0.mp (by omega))), rfl⟩)) (by omega)], rfl⟩
  · have h52 := r5 hkk
    refine x_aload_n d11_leads_12 rfl ?_
    refine x_aload_n d11_leads_13 rfl ?_
    refine x_getI d11_leads_14 f11_15 hta ?_
    refine x_top (congrArg Value.int (show I a 1 = nI (s_nu σ (12 * p + k)) from ha.2.2.2.1)) ?_
    refine x_iconst (v := nI 0) d11_leads_17 (by decide) ?_
    refine x_iload d11_leads_18 rfl ?_
    refine x_invV f 3 d11_leads_20 hf.1 v11_43_4 (h_isWashed _ hS hf hσ hP (p := s_nu σ (12 * p + k)) (m := 0) (s := s) (r5 hkk).1 (by decide) hs) (Cont.p ?_) (hB := hB) (hS := hSl)
    have hbw20 := bP_lt ((wS σ (8 * (s_nu σ (12 * p + k)) + 0)).testBit s = true)
    refine x_if_eqN 30 d11_leads_23 (by decide) (by omega) (fun b23 => ?_) (fun b23 => ?_)
    · refine x_aload_n d11_leads_30 rfl ?_
      refine x_getI d11_leads_31 f11_15 hta ?_
      refine x_top (congrArg Value.int (show I a 1 = nI (s_nu σ (12 * p + k)) from ha.2.2.2.1)) ?_
      refine x_iconst (v := nI 0) d11_leads_34 (by decide) ?_
      refine x_invS 2 d11_leads_35 s11_31 (h_place (s_nu σ (12 * p + k)) 0) (Cont.p ?_) (hB := hB) (hS := hSl)
      exact x_ireturn d11_leads_38 ⟨by rw [hlI_t hσ hp hk (Or.inr (Or.inr (Or.inl ⟨hkk, b9, (wS_bit hσ (r5 hkk).1 (n := 0) (by decide)).mp (Bool.eq_false_iff.mpr (bP_0.mp b23)), rfl⟩))) (by omega)]; rfl, rfl⟩
    · refine x_iconst (v := -1) d11_leads_26 (by decide) ?_
      refine x_goto 38 d11_leads_27 (by decide) ?_
      exact x_ireturn d11_leads_38 ⟨by rw [hlI_f (fun q' h => by rcases h with ⟨a1, a3, a4, a2⟩ | ⟨a1, a3, a4, a2⟩ | ⟨a1, a3, a4, a2⟩ | ⟨a1, a3, -, -, a2⟩ | ⟨a1, a3, a2⟩; omega; omega; exact absurd ((wS_bit hσ (r5 hkk).1 (n := 0) (by decide)).mpr a4) (bPt_ne (by omega)); exact a2; omega)], rfl⟩
set_option maxHeartbeats 4000000 in
theorem h_leads0 {G : GG} (d : Nat) {t : Nat → Option (Nat × Nat)} {J : Nat → Nat → Int64} {P : Nat → Nat → Value} {n sl : Nat} {I : Nat → Nat → Int32} (hS : SH t P) {f : Nat} (hf : FlT t P f) {σ : Sg} {y : Lay} (hσ : SgOK σ) (hP : HP t I P σ y) {p k a q s dr : Nat} (hp : p < s_np σ) (hk : k < s_ln σ p) (ha : LnR t I P σ (12 * p + k) a) (hq : q < 90) (hs : s < 16) (hkk : s_kk σ (12 * p + k) = 0) (hB : n ≤ 601124) (hSl : sl ≤ 7293033) : CP G (d + 1) M8_leads [.ref a, .ref f, .int (nI p), .int (nI q), .int (nI s)] (t, I, J, P, n, sl) (.int (hlI σ s dr q p k)) := by
  refine CA.w ?_
  show RA _ _ M8_leads 0 [.ref a, .ref f, .int (nI p), .int (nI q), .int (nI s)] [] _ _
  have hnp := hσ.1
  obtain ⟨r1, r2, r3, r4, r5, r6, r7⟩ := hσ.row hp hk
  have hta : t a = some (9, 0) := by rw [ha.2.1, hkk]
  refine x_iconst (v := -1) d8_leads_0 (by decide) ?_
  exact x_ireturn d8_leads_1 ⟨by rw [hlI_f (fun q' h => by rcases h with ⟨a1, a3, a4, a2⟩ | ⟨a1, a3, a4, a2⟩ | ⟨a1, a3, a4, a2⟩ | ⟨a1, a3, -, -, a2⟩ | ⟨a1, a3, a2⟩; omega; omega; omega; exact a2; omega)], rfl⟩
set_option maxHeartbeats 4000000 in
theorem h_leads3 {G : GG} (d : Nat) {t : Nat → Option (Nat × Nat)} {J : Nat → Nat → Int64} {P : Nat → Nat → Value} {n sl : Nat} {I : Nat → Nat → Int32} (hS : SH t P) {f : Nat} (hf : FlT t P f) {σ : Sg} {y : Lay} (hσ : SgOK σ) (hP : HP t I P σ y) {p k a q s dr : Nat} (hp : p < s_np σ) (hk : k < s_ln σ p) (ha : LnR t I P σ (12 * p + k) a) (hq : q < 90) (hs : s < 16) (hkk : s_kk σ (12 * p + k) = 3) (hB : n ≤ 601124) (hSl : sl ≤ 7293033) : CP G (d + 1) M8_leads [.ref a, .ref f, .int (nI p), .int (nI q), .int (nI s)] (t, I, J, P, n, sl) (.int (hlI σ s dr q p k)) := by
  refine CA.w ?_
  show RA _ _ M8_leads 0 [.ref a, .ref f, .int (nI p), .int (nI q), .int (nI s)] [] _ _
  have hnp := hσ.1
  obtain ⟨r1, r2, r3, r4, r5, r6, r7⟩ := hσ.row hp hk
  have hta : t a = some (12, 0) := by rw [ha.2.1, hkk]
  refine x_iconst (v := -1) d8_leads_0 (by decide) ?_
  exact x_ireturn d8_leads_1 ⟨by rw [hlI_f (fun q' h => by rcases h with ⟨a1, a3, a4, a2⟩ | ⟨a1, a3, a4, a2⟩ | ⟨a1, a3, a4, a2⟩ | ⟨a1, a3, -, -, a2⟩ | ⟨a1, a3, a2⟩; omega; omega; omega; exact a2; omega)], rfl⟩
set_option maxHeartbeats 4000000 in
theorem h_leads4 {G : GG} (d : Nat) {t : Nat → Option (Nat × Nat)} {J : Nat → Nat → Int64} {P : Nat → Nat → Value} {n sl : Nat} {I : Nat → Nat → Int32} (hS : SH t P) {f : Nat} (hf : FlT t P f) {σ : Sg} {y : Lay} (hσ : SgOK σ) (hP : HP t I P σ y) {p k a q s dr : Nat} (hp : p < s_np σ) (hk : k < s_ln σ p) (ha : LnR t I P σ (12 * p + k) a) (hq : q < 90) (hs : s < 16) (hkk : s_kk σ (12 * p + k) = 4) (hB : n ≤ 601124) (hSl : sl ≤ 7293033) : CP G (d + 1) M8_leads [.ref a, .ref f, .int (nI p), .int (nI q), .int (nI s)] (t, I, J, P, n, sl) (.int (hlI σ s dr q p k)) := by
  refine CA.w ?_
  show RA _ _ M8_leads 0 [.ref a, .ref f, .int (nI p), .int (nI q), .int (nI s)] [] _ _
  have hnp := hσ.1
  obtain ⟨r1, r2, r3, r4, r5, r6, r7⟩ := hσ.row hp hk
  have hta : t a = some (13, 0) := by rw [ha.2.1, hkk]
  refine x_iconst (v := -1) d8_leads_0 (by decide) ?_
  exact x_ireturn d8_leads_1 ⟨by rw [hlI_f (fun q' h => by rcases h with ⟨a1, a3, a4, a2⟩ | ⟨a1, a3, a4, a2⟩ | ⟨a1, a3, a4, a2⟩ | ⟨a1, a3, -, -, a2⟩ | ⟨a1, a3, a2⟩; omega; omega; omega; exact a2; omega)], rfl⟩
set_option maxHeartbeats 4000000 in
theorem h_leads1 {G : GG} (d : Nat) {t : Nat → Option (Nat × Nat)} {J : Nat → Nat → Int64} {P : Nat → Nat → Value} {n sl : Nat} {I : Nat → Nat → Int32} (hS : SH t P) {f : Nat} (hf : FlT t P f) {σ : Sg} {y : Lay} (hσ : SgOK σ) (hP : HP t I P σ y) {p k a q s dr : Nat} (hp : p < s_np σ) (hk : k < s_ln σ p) (ha : LnR t I P σ (12 * p + k) a) (hq : q < 90) (hs : s < 16) (hkk : s_kk σ (12 * p + k) = 1) (hB : n ≤ 601124) (hSl : sl ≤ 7293033) : CP G (d + 1) M10_leads [.ref a, .ref f, .int (nI p), .int (nI q), .int (nI s)] (t, I, J, P, n, sl) (.int (hlI σ s dr q p k)) := by
  refine CA.w ?_
  show RA _ _ M10_leads 0 [.ref a, .ref f, .int (nI p), .int (nI q), .int (nI s), U0, U0] [] _ _
  have hnp := hσ.1
  obtain ⟨r1, r2, r3, r4, r5, r6, r7⟩ := hσ.row hp hk
  have hta : t a = some (10, 0) := by rw [ha.2.1, hkk]
  refine x_iconst (v := nI 0) d10_leads_0 (by decide) ?_
  refine x_istore d10_leads_1 ?_
  refine x_iconst (v := nI 0) d10_leads_3 (by decide) ?_
  refine x_istore d10_leads_4 ?_
  have hL : ∀ i, i ≤ s_nu σ (12 * p + k) → RA G (d + 1) M10_leads 6 [.ref a, .ref f, .int (nI p), .int (nI q), .int (nI s), .int (nI (bP (∃ j, j < i ∧ q = 8 * p + s_fr σ (4 * (12 * p + k) + j)))), .int (nI i)] [] (t, I, J, P, n, sl) (fun o h' => o = .inl (some (.int (hlI σ s dr q p k))) ∧ h' = (t, I, J, P, n, sl)) := by
    refine up_ind ?_
    intro i hi ih
    have hbl := bP_lt (∃ j, j < i ∧ q = 8 * p + s_fr σ (4 * (12 * p + k) + j))
    refine x_iload d10_leads_6 rfl ?_
    refine x_aload_n d10_leads_8 rfl ?_
    refine x_getI d10_leads_9 f10_21 hta ?_
    refine x_top (congrArg Value.int (show I a 1 = nI (s_nu σ (12 * p + k)) from ha.2.2.2.1)) ?_
    refine x_icmp_geN 48 d10_leads_12 (by decide) (by omega) (by omega) (fun b12 => ?_) (fun b12 => ?_)
    · refine x_iload d10_leads_48 rfl ?_
      refine x_if_eqN 78 d10_leads_50 (by decide) (by omega) (fun b50 => ?_) (fun b50 => ?_)
      · refine x_iconst (v := -1) d10_leads_78 (by decide) ?_
        exact x_ireturn d10_leads_79 ⟨by rw [hlI_f (fun q' h => by rcases h with ⟨a1, a3, a4, a2⟩ | ⟨a1, a3, a4, a2⟩ | ⟨a1, a3, a4, a2⟩ | ⟨a1, a3, -, -, a2⟩ | ⟨a1, a3, a2⟩; obtain ⟨j, b3, b4⟩ := a3; exact absurd ⟨j, by omega, b4⟩ (bP_0.mp b50); omega; omega; exact a2; omega)], rfl⟩
      · refine x_aload_n d10_leads_53 rfl ?_
        refine x_iload_n d10_leads_54 rfl ?_
        refine x_aload_n d10_leads_55 rfl ?_
        refine x_getI d10_leads_56 f10_34 hta ?_
        refine x_top (congrArg Value.int (show I a 2 = nI (s_fs σ (12 * p + k)) from ha.2.2.2.2.1)) ?_
        refine x_iload d10_leads_59 rfl ?_
        refine x_invV f 3 d10_leads_61 hf.1 v10_41_4 (h_isWashed _ hS hf hσ hP (p := p) (m := s_fs σ (12 * p + k)) (s := s) hp r3 hs) (Cont.p ?_) (hB := hB) (hS := hSl)
        have hbw61 := bP_lt ((wS σ (8 * p + (s_fs σ (12 * p + k)))).testBit s = true)
        refine x_if_neN 78 d10_leads_64 (by decide) (by omega) (fun b64 => ?_) (fun b64 => ?_)
        · refine x_iconst (v := -1) d10_leads_78 (by decide) ?_
          exact x_ireturn d10_leads_79 ⟨by rw [hlI_f (fun q' h => by rcases h with ⟨a1, a3, a4, a2⟩ | ⟨a1, a3, a4, a2⟩ | ⟨a1, a3, a4, a2⟩ | ⟨a1, a3, -, -, a2⟩ | ⟨a1, a3, a2⟩; exact absurd ((wS_bit hσ hp r3).mpr a4) (bPt_ne (by omega)); omega; omega; exact a2; omega)], rfl⟩
        · refine x_iload_n d10_leads_67 rfl ?_
          refine x_aload_n d10_leads_68 rfl ?_
          refine x_getI d10_leads_69 f10_34 hta ?_
          refine x_top (congrArg Value.int (show I a 2 = nI (s_fs σ (12 * p + k)) from ha.2.2.2.2.1)) ?_
          refine x_invS 2 d10_leads_72 s10_30 (h_place p (s_fs σ (12 * p + k))) (Cont.p ?_) (hB := hB) (hS := hSl)
          refine x_goto 79 d10_leads_75 (by decide) ?_
          exact x_ireturn d10_leads_79 ⟨by rw [hlI_t hσ hp hk (Or.inl ⟨hkk, by obtain ⟨j, b3, b4⟩ := bP_1.mp (show bP (∃ j, j < i ∧ q = 8 * p + s_fr σ (4 * (12 * p + k) + j)) = 1 by omega); exact ⟨j, by omega, b4⟩, (wS_bit hσ hp r3).mp (Bool.eq_false_iff.mpr (bP_0.mp (by omega))), rfl⟩) (by omega)], rfl⟩
    · refine x_iload d10_leads_15 rfl ?_
      refine x_if_neN 35 d10_leads_17 (by decide) (by omega) (fun b17 => ?_) (fun b17 => ?_)
      · refine x_iconst (v := nI 1) d10_leads_35 (by decide) ?_
        refine x_goto 40 d10_leads_36 (by decide) ?_
        refine x_istore d10_leads_40 ?_
        refine x_iincN (c := 1) d10_leads_42 rfl (by decide) ?_
        refine x_goto 6 d10_leads_45 (by decide) ?_
        have hex := bP_1.mp (show bP (∃ j, j < i ∧ q = 8 * p + s_fr σ (4 * (12 * p + k) + j)) = 1 by omega)
        rw [show nI 1 = nI (bP (∃ j, j < i + 1 ∧ q = 8 * p + s_fr σ (4 * (12 * p + k) + j))) by rw [bP_t (by obtain ⟨j, a, b⟩ := hex; exact ⟨j, by omega, b⟩)]]
        exact ih (by omega)
      · refine x_iload_n d10_leads_20 rfl ?_
        refine x_iload_n d10_leads_21 rfl ?_
        refine x_aload_n d10_leads_22 rfl ?_
        refine x_getP d10_leads_23 f10_9 hta (ha.2.2.2.2.2.2 hkk).1 ?_
        refine x_iload d10_leads_26 rfl ?_
        refine x_ialdN d10_leads_28 (ha.2.2.2.2.2.2 hkk).2.1 (by omega) ?_
        refine x_top (congrArg Value.int (show I (a + 1) i = nI (s_fr σ (4 * (12 * p + k) + i)) from ((ha.2.2.2.2.2.2 hkk).2.2 i b12))) ?_
        have hfr_ := r7 hkk i b12
        refine x_invS 2 d10_leads_29 s10_30 (h_place p (s_fr σ (4 * (12 * p + k) + i))) (Cont.p ?_) (hB := hB) (hS := hSl)
        refine x_icmp_neN 39 d10_leads_32 (by decide) (by omega) (by omega) (fun b32 => ?_) (fun b32 => ?_)
        · refine x_iconst (v := nI 0) d10_leads_39 (by decide) ?_
          refine x_istore d10_leads_40 ?_
          refine x_iincN (c := 1) d10_leads_42 rfl (by decide) ?_
          refine x_goto 6 d10_leads_45 (by decide) ?_
          have hno := bP_0.mp b17
          rw [show nI 0 = nI (bP (∃ j, j < i + 1 ∧ q = 8 * p + s_fr σ (4 * (12 * p + k) + j))) by rw [bP_f (fun z => by obtain ⟨j, a, b⟩ := z; by_cases ej : j = i; exact b32 (by rw [← ej]; exact b); exact hno ⟨j, by omega, b⟩)]]
          exact ih (by omega)
        · refine x_iconst (v := nI 1) d10_leads_35 (by decide) ?_
          refine x_goto 40 d10_leads_36 (by decide) ?_
          refine x_istore d10_leads_40 ?_
          refine x_iincN (c := 1) d10_leads_42 rfl (by decide) ?_
          refine x_goto 6 d10_leads_45 (by decide) ?_
          rw [show nI 1 = nI (bP (∃ j, j < i + 1 ∧ q = 8 * p + s_fr σ (4 * (12 * p + k) + j))) by rw [bP_t ⟨i, by omega, b32⟩]]
          exact ih (by omega)
  have hL0 := hL 0 (Nat.zero_le _)
  rw [bP_f (fun z => by obtain ⟨j, a, -⟩ := z; omega)] at hL0
  exact hL0
theorem x_nextLd {G : GG} (d : Nat) {t : Nat → Option (Nat × Nat)} {J : Nat → Nat → Int64} {P : Nat → Nat → Value} {n sl : Nat} {I : Nat → Nat → Int32} (hS : SH t P) {σ : Sg} {y : Lay} (hσ : SgOK σ) (hP : HP t I P σ y) {p k q s dr : Nat} (hp : p < s_np σ) (hk : k < s_ln σ p) (hq : q < 90) (hs : s < 16) (hB : n ≤ 601124) (hSl : sl ≤ 7293033) {ls : List Value} {Q : AO → AH → Prop} (hc : RA G (d + 2) M1_next 97 ls [.int (hlI σ s dr q p k)] (t, I, J, P, n, sl) Q) : RA G (d + 2) M1_next 94 ls [.int (nI s), .int (nI q), .int (nI p), .ref 108, .ref (y.2.2 (12 * p + k))] (t, I, J, P, n, sl) Q := by
  rcases (by have := (hσ.row hp hk).1; omega : s_kk σ (12 * p + k) = 0 ∨ s_kk σ (12 * p + k) = 1 ∨ s_kk σ (12 * p + k) = 2 ∨ s_kk σ (12 * p + k) = 3 ∨ s_kk σ (12 * p + k) = 4 ∨ s_kk σ (12 * p + k) = 5) with hkk | hkk | hkk | hkk | hkk | hkk
  · exact x_invV (y.2.2 (12 * p + k)) 4 d1_next_94 (show t (y.2.2 (12 * p + k)) = some (9, 0) by rw [(hP.lr hp hk).2.1, hkk]) v1_195_9 (h_leads0 _ hS (FlT.f hS) (dr := dr) hσ hP hp hk (hP.lr hp hk) hq hs hkk hB hSl) (Cont.p hc) (hB := hB) (hS := hSl)
  · exact x_invV (y.2.2 (12 * p + k)) 4 d1_next_94 (show t (y.2.2 (12 * p + k)) = some (10, 0) by rw [(hP.lr hp hk).2.1, hkk]) v1_195_10 (h_leads1 _ hS (FlT.f hS) (dr := dr) hσ hP hp hk (hP.lr hp hk) hq hs hkk hB hSl) (Cont.p hc) (hB := hB) (hS := hSl)
  · exact x_invV (y.2.2 (12 * p + k)) 4 d1_next_94 (show t (y.2.2 (12 * p + k)) = some (11, 0) by rw [(hP.lr hp hk).2.1, hkk]) v1_195_11 (h_leads2 _ hS (FlT.f hS) (dr := dr) hσ hP hp hk (hP.lr hp hk) hq hs hkk hB hSl) (Cont.p hc) (hB := hB) (hS := hSl)
  · exact x_invV (y.2.2 (12 * p + k)) 4 d1_next_94 (show t (y.2.2 (12 * p + k)) = some (12, 0) by rw [(hP.lr hp hk).2.1, hkk]) v1_195_12 (h_leads3 _ hS (FlT.f hS) (dr := dr) hσ hP hp hk (hP.lr hp hk) hq hs hkk hB hSl) (Cont.p hc) (hB := hB) (hS := hSl)
  · exact x_invV (y.2.2 (12 * p + k)) 4 d1_next_94 (show t (y.2.2 (12 * p + k)) = some (13, 0) by rw [(hP.lr hp hk).2.1, hkk]) v1_195_13 (h_leads4 _ hS (FlT.f hS) (dr := dr) hσ hP hp hk (hP.lr hp hk) hq hs hkk hB hSl) (Cont.p hc) (hB := hB) (hS := hSl)
  · exact x_invV (y.2.2 (12 * p + k)) 4 d1_next_94 (show t (y.2.2 (12 * p + k)) = some (14, 0) by rw [(hP.lr hp hk).2.1, hkk]) v1_195_14 (h_leads5 _ hS (FlT.f hS) (dr := dr) hσ hP hp hk (hP.lr hp hk) hq hs hkk hB hSl) (Cont.p hc) (hB := hB) (hS := hSl)
theorem x_laysLd {G : GG} (d : Nat) {t : Nat → Option (Nat × Nat)} {J : Nat → Nat → Int64} {P : Nat → Nat → Value} {n sl : Nat} {I : Nat → Nat → Int32} (hS : SH t P) {σ : Sg} {y : Lay} (hσ : SgOK σ) (hP : HP t I P σ y) {p k q s dr : Nat} (hp : p < s_np σ) (hk : k < s_ln σ p) (hq : q < 90) (hs : s < 16) (hB : n ≤ 601124) (hSl : sl ≤ 7293033) {ls : List Value} {Q : AO → AH → Prop} (hc : RA G (d + 2) M1_lays 87 ls [.int (hlI σ s dr q p k)] (t, I, J, P, n, sl) Q) : RA G (d + 2) M1_lays 84 ls [.int (nI s), .int (nI q), .int (nI p), .ref 108, .ref (y.2.2 (12 * p + k))] (t, I, J, P, n, sl) Q := by
  rcases (by have := (hσ.row hp hk).1; omega : s_kk σ (12 * p + k) = 0 ∨ s_kk σ (12 * p + k) = 1 ∨ s_kk σ (12 * p + k) = 2 ∨ s_kk σ (12 * p + k) = 3 ∨ s_kk σ (12 * p + k) = 4 ∨ s_kk σ (12 * p + k) = 5) with hkk | hkk | hkk | hkk | hkk | hkk
  · exact x_invV (y.2.2 (12 * p + k)) 4 d1_lays_84 (show t (y.2.2 (12 * p + k)) = some (9, 0) by rw [(hP.lr hp hk).2.1, hkk]) v1_195_9 (h_leads0 _ hS (FlT.f hS) (dr := dr) hσ hP hp hk (hP.lr hp hk) hq hs hkk hB hSl) (Cont.p hc) (hB := hB) (hS := hSl)
  · exact x_invV (y.2.2 (12 * p + k)) 4 d1_lays_84 (show t (y.2.2 (12 * p + k)) = some (10, 0) by rw [(hP.lr hp hk).2.1, hkk]) v1_195_10 (h_leads1 _ hS (FlT.f hS) (dr := dr) hσ hP hp hk (hP.lr hp hk) hq hs hkk hB hSl) (Cont.p hc) (hB := hB) (hS := hSl)
  · exact x_invV (y.2.2 (12 * p + k)) 4 d1_lays_84 (show t (y.2.2 (12 * p + k)) = some (11, 0) by rw [(hP.lr hp hk).2.1, hkk]) v1_195_11 (h_leads2 _ hS (FlT.f hS) (dr := dr) hσ hP hp hk (hP.lr hp hk) hq hs hkk hB hSl) (Cont.p hc) (hB := hB) (hS := hSl)
  · exact x_invV (y.2.2 (12 * p + k)) 4 d1_lays_84 (show t (y.2.2 (12 * p + k)) = some (12, 0) by rw [(hP.lr hp hk).2.1, hkk]) v1_195_12 (h_leads3 _ hS (FlT.f hS) (dr := dr) hσ hP hp hk (hP.lr hp hk) hq hs hkk hB hSl) (Cont.p hc) (hB := hB) (hS := hSl)
  · exact x_invV (y.2.2 (12 * p + k)) 4 d1_lays_84 (show t (y.2.2 (12 * p + k)) = some (13, 0) by rw [(hP.lr hp hk).2.1, hkk]) v1_195_13 (h_leads4 _ hS (FlT.f hS) (dr := dr) hσ hP hp hk (hP.lr hp hk) hq hs hkk hB hSl) (Cont.p hc) (hB := hB) (hS := hSl)
  · exact x_invV (y.2.2 (12 * p + k)) 4 d1_lays_84 (show t (y.2.2 (12 * p + k)) = some (14, 0) by rw [(hP.lr hp hk).2.1, hkk]) v1_195_14 (h_leads5 _ hS (FlT.f hS) (dr := dr) hσ hP hp hk (hP.lr hp hk) hq hs hkk hB hSl) (Cont.p hc) (hB := hB) (hS := hSl)
set_option maxHeartbeats 4000000 in
theorem h_isOut {G : GG} (d : Nat) {t : Nat → Option (Nat × Nat)} {J : Nat → Nat → Int64} {P : Nat → Nat → Value} {n sl : Nat} {I : Nat → Nat → Int32} (hS : SH t P) {σ : Sg} {y : Lay} (hσ : SgOK σ) (hP : HP t I P σ y) {p k q s dr : Nat} (hp : p < s_np σ) (hk : k < s_ln σ p) (hq : q < 90) (hd : dr < 16) (hB : n ≤ 601124) (hSl : sl ≤ 7293033) : CP G (d + 1) M1_isOut [.ref 100, .ref (y.2.2 (12 * p + k)), .int (nI p), .int (nI q), .int (nI dr)] (t, I, J, P, n, sl) (.int (nI (bP (Ld σ s dr q p k 90)))) := by
  refine CA.w ?_
  show RA _ _ M1_isOut 0 [.ref 100, .ref (y.2.2 (12 * p + k)), .int (nI p), .int (nI q), .int (nI dr)] [] _ _
  have hnp := hσ.1
  refine x_aload_n d1_isOut_0 rfl ?_
  refine x_getI d1_isOut_1 f1_140 (hP.lr hp hk).2.1 ?_ (hc := lncs (hσ.row hp hk).1)
  refine x_top (congrArg Value.int (show I (y.2.2 (12 * p + k)) 0 = nI (s_kk σ (12 * p + k)) from (hP.lr hp hk).2.2.1)) ?_
  have hkk_ := (hσ.row hp hk).1
  refine x_iconst (v := nI 3) d1_isOut_4 (by decide) ?_
  refine x_icmp_neN 51 d1_isOut_5 (by decide) (by omega) (by omega) (fun b5 => ?_) (fun b5 => ?_)
  · refine x_iconst (v := nI 0) d1_isOut_51 (by decide) ?_
    exact x_ireturn d1_isOut_52 ⟨by rw [bP_f (fun z => (fun z => b5 z.1) ((Ld_90 hσ hp hk (s := s) (d := dr) (q := q)).mp z))], rfl⟩
  · refine x_aload_n d1_isOut_8 rfl ?_
    refine x_getI d1_isOut_9 f1_143 (hP.lr hp hk).2.1 ?_ (hc := lncs (hσ.row hp hk).1)
    refine x_top (congrArg Value.int (show I (y.2.2 (12 * p + k)) 1 = nI (s_nu σ (12 * p + k)) from (hP.lr hp hk).2.2.2.1)) ?_
    have hnu_ := (hσ.row hp hk).2.1
    refine x_iload d1_isOut_12 rfl ?_
    refine x_icmp_neN 51 d1_isOut_14 (by decide) (by omega) (by omega) (fun b14 => ?_) (fun b14 => ?_)
    · refine x_iconst (v := nI 0) d1_isOut_51 (by decide) ?_
      exact x_ireturn d1_isOut_52 ⟨by rw [bP_f (fun z => (fun z => b14 z.2.2.1) ((Ld_90 hσ hp hk (s := s) (d := dr) (q := q)).mp z))], rfl⟩
    · refine x_iload_n d1_isOut_17 rfl ?_
      refine x_iload_n d1_isOut_18 rfl ?_
      refine x_aload_n d1_isOut_19 rfl ?_
      refine x_getI d1_isOut_20 f1_146 (hP.lr hp hk).2.1 ?_ (hc := lncs (hσ.row hp hk).1)
      refine x_top (congrArg Value.int (show I (y.2.2 (12 * p + k)) 2 = nI (s_fs σ (12 * p + k)) from (hP.lr hp hk).2.2.2.2.1)) ?_
      have hfs_ := (hσ.row hp hk).2.2.1
      refine x_invS 2 d1_isOut_23 s1_162 (h_place p (s_fs σ (12 * p + k))) (Cont.p ?_) (hB := hB) (hS := hSl)
      refine x_icmp_neN 51 d1_isOut_26 (by decide) (by omega) (by omega) (fun b26 => ?_) (fun b26 => ?_)
      · refine x_iconst (v := nI 0) d1_isOut_51 (by decide) ?_
        exact x_ireturn d1_isOut_52 ⟨by rw [bP_f (fun z => (fun z => b26 z.2.1) ((Ld_90 hσ hp hk (s := s) (d := dr) (q := q)).mp z))], rfl⟩
      · refine x_aload_n d1_isOut_29 rfl ?_
        refine x_getP d1_isOut_30 f1_24 (hS.T rfl) (hS.P rfl) ?_
        refine x_iload_n d1_isOut_33 rfl ?_
        refine x_aald5N d1_isOut_34 (hS.T rfl) (by omega) (hP.at_ hp) ?_
        refine x_getI d1_isOut_35 f1_100 (hP.ty hp) ?_
        refine x_top (congrArg Value.int (show I (y.1 p) 0 = nI (s_gr σ p) from (hP.gr hp))) ?_
        have hgr_ := hσ.gr hp
        refine x_iload d1_isOut_38 rfl ?_
        refine x_ishrN d1_isOut_40 (by omega) (by omega) ?_
        refine x_iconst (v := nI 1) d1_isOut_41 (by decide) ?_
        refine x_tbN d1_isOut_42 ?_
        have htb_ := tb_lt (s_gr σ p) dr
        refine x_iconst (v := nI 1) d1_isOut_43 (by decide) ?_
        refine x_icmp_neN 51 d1_isOut_44 (by decide) (by omega) (by omega) (fun b44 => ?_) (fun b44 => ?_)
        · refine x_iconst (v := nI 0) d1_isOut_51 (by decide) ?_
          exact x_ireturn d1_isOut_52 ⟨by rw [bP_f (fun z => (fun z => by have z4 := z.2.2.2; rw [tb_ne1.mp b44] at z4; cases z4) ((Ld_90 hσ hp hk (s := s) (d := dr) (q := q)).mp z))], rfl⟩
        · refine x_iconst (v := nI 1) d1_isOut_47 (by decide) ?_
          refine x_goto 52 d1_isOut_48 (by decide) ?_
          exact x_ireturn d1_isOut_52 ⟨by rw [bP_t ((Ld_90 hσ hp hk (s := s) (d := dr) (q := q)).mpr ⟨b5, b26, b14, tb1.mp b44⟩)], rfl⟩
set_option maxHeartbeats 8000000 in
theorem h_next {G : GG} (d : Nat) {t : Nat → Option (Nat × Nat)} {J : Nat → Nat → Int64} {P : Nat → Nat → Value} {n sl : Nat} {I : Nat → Nat → Int32} (hS : SH t P) {σ : Sg} {y : Lay} (hσ : SgOK σ) (hP : HP t I P σ y) (hfw : Fwn I σ) {fr : Nat → Nat} (hfr : ∀ j, j < 90 → I 117 j = nI (fr j) ∧ fr j ≤ 1000) {q left s dr : Nat} (hq : q < 90) (hl : left ≤ 1000) (hs : s < 16) (hd : dr < 16) (hB : n ≤ 601124) (hSl : sl ≤ 7293033) : CP G (d + 2) M1_next [.ref 100, .int (nI q), .int (nI left), .int (nI s), .int (nI dr)] (t, I, J, P, n, sl) (.int (nfI σ s dr fr q left)) := by
  refine CA.w ?_
  show RA _ _ M1_next 0 [.ref 100, .int (nI q), .int (nI left), .int (nI s), .int (nI dr), U0, U0, U0, U0] [] _ _
  have hnp := hσ.1
  have h27 : ∀ p, p < s_np σ → Asked σ p → (p < s_np σ → (∀ l', l' < 12 * (p + 1) → ¬ NC σ s dr fr q left l') → ∀ v6 v7 v8, RA G (d + 2) M1_next 3 [.ref 100, .int (nI q), .int (nI left), .int (nI s), .int (nI dr), .int (nI (p + 1)), v6, v7, v8] [] (t, I, J, P, n, sl) (fun o h' => o = .inl (some (.int (nfI σ s dr fr q left))) ∧ h' = (t, I, J, P, n, sl))) → ∀ k, k ≤ s_ln σ p → (∀ l', l' < 12 * p + k → ¬ NC σ s dr fr q left l') → ∀ v7 v8, RA G (d + 2) M1_next 27 [.ref 100, .int (nI q), .int (nI left), .int (nI s), .int (nI dr), .int (nI p), .int (nI k), v7, v8] [] (t, I, J, P, n, sl) (fun o h' => o = .inl (some (.int (nfI σ s dr fr q left))) ∧ h' = (t, I, J, P, n, sl)) := by
    intro p hp hA ihp
    have hln := hσ.ln hp
    refine up_ind ?_
    intro k hk_ ih hno v7 v8
    refine x_iload d1_next_27 rfl ?_
    refine x_aload_n d1_next_29 rfl ?_
    refine x_getP d1_next_30 f1_24 (hS.T rfl) (hS.P rfl) ?_
    refine x_iload d1_next_33 rfl ?_
    refine x_aald5N d1_next_35 (hS.T rfl) (by omega) (hP.at_ hp) ?_
    refine x_getI d1_next_36 f1_133 (hP.ty hp) ?_
    refine x_top (congrArg Value.int (show I (y.1 p) 1 = nI (s_ln σ p) from (hP.ln hp))) ?_
    have hln_ := hσ.ln hp
    refine x_icmp_geN 135 d1_next_39 (by decide) (by omega) (by omega) (fun b39 => ?_) (fun b39 => ?_)
    · refine x_iincN (c := 1) d1_next_135 rfl (by decide) ?_
      refine x_goto 3 d1_next_138 (by decide) ?_
      exact ihp hp (fun l' hl' hr => by
        rcases Nat.lt_or_ge l' (12 * p + k) with z | z
        · exact hno l' z hr
        · have h3 : l' / 12 = p := by omega
          have h4 := hr.1.2.2
          rw [h3] at h4
          omega) _ _ _
    · have hk : k < s_ln σ p := b39
      have e1 : (12 * p + k) / 12 = p := by omega
      have e2 : (12 * p + k) % 12 = k := by omega
      have hRw : Rw σ (12 * p + k) := ⟨by rw [e1]; exact hp, by rw [e1]; exact hA, by rw [e1, e2]; exact hk⟩
      refine x_aload_n d1_next_42 rfl ?_
      refine x_getP d1_next_43 f1_24 (hS.T rfl) (hS.P rfl) ?_
      refine x_iload d1_next_46 rfl ?_
      refine x_aald5N d1_next_48 (hS.T rfl) (by omega) (hP.at_ hp) ?_
      refine x_getP d1_next_49 f1_136 (hP.ty hp) (hP.pl hp) ?_
      refine x_iload d1_next_52 rfl ?_
      refine x_aald6N d1_next_54 (hP.tl hp) (by omega) (hP.lp hp hk) ?_
      refine x_astore d1_next_55 ?_
      refine x_iload_n d1_next_57 rfl ?_
      refine x_if_neN 84 d1_next_58 (by decide) (by omega) (fun b58 => ?_) (fun b58 => ?_)
      · refine x_aload d1_next_84 rfl ?_
        refine x_aload_n d1_next_86 rfl ?_
        refine x_getP d1_next_87 f1_37 (hS.T rfl) (hS.P rfl) ?_
        refine x_iload d1_next_90 rfl ?_
        refine x_iload_n d1_next_92 rfl ?_
        refine x_iload_n d1_next_93 rfl ?_
        refine x_nextLd (dr := dr) _ hS hσ hP hp hk hq hs hB hSl ?_
        refine x_istore d1_next_97 ?_
        refine x_iload_n d1_next_99 rfl ?_
        refine x_if_leN 129 d1_next_100 (by decide) (by omega) (fun b100 => ?_) (fun b100 => ?_)
        · refine x_iincN (c := 1) d1_next_129 rfl (by decide) ?_
          refine x_goto 27 d1_next_132 (by decide) ?_
          omega
        · refine x_iload d1_next_103 rfl ?_
          refine x_iconst (v := -1) d1_next_105 (by decide) ?_
          refine x_icmp_eq 129 d1_next_106 (by decide) (fun b106 => ?_) (fun b106 => ?_)
          · refine x_iincN (c := 1) d1_next_129 rfl (by decide) ?_
            refine x_goto 27 d1_next_132 (by decide) ?_
            exact ih hk (fun l' hl' hr => by
              rcases Nat.lt_or_ge l' (12 * p + k) with z | z
              · exact hno l' z hr
              · have el : l' = 12 * p + k := by omega
                subst el
                obtain ⟨-, q', hL, hc⟩ := hr
                rw [e1, e2] at hL
                rcases hc with ⟨h0, h9⟩ | ⟨h0, h9, -⟩
                · omega
                · exact h9 (hlI_no hσ hp hk b106 q' hL)) _ _
          · obtain ⟨x, hLx, hx9⟩ := hlI_yes b106
            rw [hlI_t hσ hp hk hLx hx9]
            have hxl := (hLx.lt hσ hp hk).2
            refine x_aload_n d1_next_109 rfl ?_
            refine x_getP d1_next_110 f1_55 (hS.T rfl) (hS.P rfl) ?_
            refine x_iload d1_next_113 rfl ?_
            refine x_ialdN d1_next_115 (hS.T rfl) (by omega) ?_
            refine x_top (congrArg Value.int (show I 117 x = nI (fr x) from (hfr _ (by omega)).1)) ?_
            have hfr_ := (hfr x (by omega)).2
            refine x_iload_n d1_next_116 rfl ?_
            refine x_icmp_neN 129 d1_next_117 (by decide) (by omega) (by omega) (fun b117 => ?_) (fun b117 => ?_)
            · refine x_iincN (c := 1) d1_next_129 rfl (by decide) ?_
              refine x_goto 27 d1_next_132 (by decide) ?_
              exact ih hk (fun l' hl' hr => by
                rcases Nat.lt_or_ge l' (12 * p + k) with z | z
                · exact hno l' z hr
                · have el : l' = 12 * p + k := by omega
                  subst el
                  obtain ⟨-, q', hL, hc⟩ := hr
                  rw [e1, e2] at hL
                  rcases hc with ⟨h0, h9⟩ | ⟨h0, h9, h8⟩
                  · omega
                  · rw [Ld.fn hσ hp hk hL hLx] at h8; exact b117 h8) _ _
            · refine x_bipush (v := nI 100) d1_next_120 (by decide) ?_
              refine x_iload d1_next_122 rfl ?_
              refine x_imulN d1_next_124 ?_
              refine x_iload d1_next_125 rfl ?_
              refine x_iaddN d1_next_127 ?_
              refine x_ireturn d1_next_128 ?_
              have hNF : NF σ s dr fr q left (12 * p + k) := ⟨⟨hRw, x, by rw [e1, e2]; exact hLx, Or.inr ⟨by omega, hx9, b117⟩⟩, hno⟩
              refine ⟨?_, rfl⟩
              rw [nfI_t hNF]; unfold cdF; rw [e1, e2]
      · refine x_aload_n d1_next_61 rfl ?_
        refine x_aload d1_next_62 rfl ?_
        refine x_iload d1_next_64 rfl ?_
        refine x_iload_n d1_next_66 rfl ?_
        refine x_iload d1_next_67 rfl ?_
        refine x_invV 100 4 d1_next_69 (hS.T rfl) v1_191_1 (h_isOut _ hS (s := s) hσ hP hp hk hq hd hB hSl) (Cont.p ?_) (hB := hB) (hS := hSl)
        have hbo_ := bP_lt (Ld σ s dr q p k 90)
        refine x_if_eqN 84 d1_next_72 (by decide) (by omega) (fun b72 => ?_) (fun b72 => ?_)
        · refine x_aload d1_next_84 rfl ?_
          refine x_aload_n d1_next_86 rfl ?_
          refine x_getP d1_next_87 f1_37 (hS.T rfl) (hS.P rfl) ?_
          refine x_iload d1_next_90 rfl ?_
          refine x_iload_n d1_next_92 rfl ?_
          refine x_iload_n d1_next_93 rfl ?_
          refine x_nextLd (dr := dr) _ hS hσ hP hp hk hq hs hB hSl ?_
          refine x_istore d1_next_97 ?_
          refine x_iload_n d1_next_99 rfl ?_
          refine x_if_leN 129 d1_next_100 (by decide) (by omega) (fun b100 => ?_) (fun b100 => ?_)
          · refine x_iincN (c := 1) d1_next_129 rfl (by decide) ?_
            refine x_goto 27 d1_next_132 (by decide) ?_
            exact ih hk (fun l' hl' hr => by
              rcases Nat.lt_or_ge l' (12 * p + k) with z | z
              · exact hno l' z hr
              · have el : l' = 12 * p + k := by omega
                subst el
                obtain ⟨-, q', hL, hc⟩ := hr
                rw [e1, e2] at hL
                rcases hc with ⟨h0, h9⟩ | ⟨h0, -, -⟩
                · rw [h9] at hL; rw [bP_t hL] at b72; cases b72
                · omega) _ _
          · refine x_iload d1_next_103 rfl ?_
            refine x_iconst (v := -1) d1_next_105 (by decide) ?_
            refine x_icmp_eq 129 d1_next_106 (by decide) (fun b106 => ?_) (fun b106 => ?_)
            · refine x_iincN (c := 1) d1_next_129 rfl (by decide) ?_
              refine x_goto 27 d1_next_132 (by decide) ?_
              omega
            · obtain ⟨x, hLx, hx9⟩ := hlI_yes b106
              rw [hlI_t hσ hp hk hLx hx9]
              have hxl := (hLx.lt hσ hp hk).2
              refine x_aload_n d1_next_109 rfl ?_
              refine x_getP d1_next_110 f1_55 (hS.T rfl) (hS.P rfl) ?_
              refine x_iload d1_next_113 rfl ?_
              refine x_ialdN d1_next_115 (hS.T rfl) (by omega) ?_
              refine x_top (congrArg Value.int (show I 117 x = nI (fr x) from (hfr _ (by omega)).1)) ?_
              have hfr_ := (hfr x (by omega)).2
              refine x_iload_n d1_next_116 rfl ?_
              refine x_icmp_neN 129 d1_next_117 (by decide) (by omega) (by omega) (fun b117 => ?_) (fun b117 => ?_)
              · refine x_iincN (c := 1) d1_next_129 rfl (by decide) ?_
                refine x_goto 27 d1_next_132 (by decide) ?_
                omega
              · refine x_bipush (v := nI 100) d1_next_120 (by decide) ?_
                refine x_iload d1_next_122 rfl ?_
                refine x_imulN d1_next_124 ?_
                refine x_iload d1_next_125 rfl ?_
                refine x_iaddN d1_next_127 ?_
                refine x_ireturn d1_next_128 ?_
                omega
        · refine x_bipush (v := nI 100) d1_next_75 (by decide) ?_
          refine x_iload d1_next_77 rfl ?_
          refine x_imulN d1_next_79 ?_
          refine x_iload d1_next_80 rfl ?_
          refine x_iaddN d1_next_82 ?_
          refine x_ireturn d1_next_83 ?_
          have hNF : NF σ s dr fr q left (12 * p + k) := ⟨⟨hRw, 90, by rw [e1, e2]; exact bP_1.mp (by omega), Or.inl ⟨b58, rfl⟩⟩, hno⟩
          refine ⟨?_, rfl⟩
          rw [nfI_t hNF]; unfold cdF; rw [e1, e2]
  have h3 : ∀ p, p ≤ s_np σ → (∀ l', l' < 12 * p → ¬ NC σ s dr fr q left l') → ∀ v6 v7 v8, RA G (d + 2) M1_next 3 [.ref 100, .int (nI q), .int (nI left), .int (nI s), .int (nI dr), .int (nI p), v6, v7, v8] [] (t, I, J, P, n, sl) (fun o h' => o = .inl (some (.int (nfI σ s dr fr q left))) ∧ h' = (t, I, J, P, n, sl)) := by
    refine up_ind ?_
    intro p hp_ ih hno v6 v7 v8
    refine x_iload d1_next_3 rfl ?_
    refine x_aload_n d1_next_5 rfl ?_
    refine x_getI d1_next_6 f1_73 (hS.T rfl) ?_
    refine x_top (congrArg Value.int (show I 100 5 = nI (s_np σ) from hP.1)) ?_
    refine x_icmp_geN 141 d1_next_9 (by decide) (by omega) (by omega) (fun b9 => ?_) (fun b9 => ?_)
    · refine x_iconst (v := -1) d1_next_141 (by decide) ?_
      exact x_ireturn d1_next_142 ⟨by rw [nfI_f (fun l hl => hno l (by have := hl.1.lt hσ; omega) hl)], rfl⟩
    · have hp : p < s_np σ := b9
      refine x_aload_n d1_next_12 rfl ?_
      refine x_iload d1_next_13 rfl ?_
      refine x_invV 100 1 d1_next_15 (hS.T rfl) v1_188_1 (h_isAskedF _ hS hσ hfw (p := p) (by omega) hB hSl) (Cont.p ?_) (hB := hB) (hS := hSl)
      have hbp_ := bP_lt (Asked σ p)
      refine x_if_neN 24 d1_next_18 (by decide) (by omega) (fun b18 => ?_) (fun b18 => ?_)
      · refine x_iconst (v := nI 0) d1_next_24 (by decide) ?_
        refine x_istore d1_next_25 ?_
        have hA : Asked σ p := Classical.byContradiction (fun z => b18 (bP_f z))
        exact h27 p hp hA ih 0 (Nat.zero_le _) hno _ _
      · refine x_goto 135 d1_next_21 (by decide) ?_
        refine x_iincN (c := 1) d1_next_135 rfl (by decide) ?_
        refine x_goto 3 d1_next_138 (by decide) ?_
        exact ih hp (fun l' hl' hr => by
          rcases Nat.lt_or_ge l' (12 * p) with z | z
          · exact hno l' z hr
          · have h3 : l' / 12 = p := by omega
            have h4 := hr.1.2.1
            rw [h3] at h4
            rw [bP_t h4] at b18
            cases b18) _ _ _
  refine x_iconst (v := nI 0) d1_next_0 (by decide) ?_
  refine x_istore d1_next_1 ?_
  exact h3 0 (Nat.zero_le _) (fun l' h => absurd h (Nat.not_lt_zero _)) _ _ _
