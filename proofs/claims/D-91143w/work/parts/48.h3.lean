/-! the house: questions on what is held -/
set_option maxRecDepth 100000
theorem ix_pm {v : Int32} {m : Nat} (hm : m < 2 ^ 30) : (nI 0 ≤ v ∧ v ≤ nI m - nI 1) ↔ (0 ≤ v ∧ v < nI m) := by
  have h1 : (nI m - nI 1).toInt = (m : Int) - 1 := i32_sub hm (by decide)
  constructor
  · rintro ⟨a, b⟩
    refine ⟨a, Int32.lt_iff_toInt_lt.mpr ?_⟩
    have := Int32.le_iff_toInt_le.mp b
    rw [h1] at this
    rw [nI_toInt (by omega)]; omega
  · rintro ⟨a, b⟩
    refine ⟨a, Int32.le_iff_toInt_le.mpr ?_⟩
    have := Int32.lt_iff_toInt_lt.mp b
    rw [nI_toInt (by omega)] at this
    rw [h1]; omega
theorem nar_b2i {p : Prop} [Decidable p] : narrow .boolean (.int (b2i p)) = .int (b2i p) := by unfold b2i; split <;> rfl
set_option maxHeartbeats 4000000 in
theorem h_isPart {G : GG} (d : Nat) {t : Nat → Option (Nat × Nat)} {J : Nat → Nat → Int64} {P : Nat → Nat → Value} {n sl : Nat} {I : Nat → Nat → Int32} (hS : SH t P) {σ : Sg} {y : Lay} (hP : HP t I P σ y) (hσ : SgOK σ) (v : Int32) (hB : n ≤ 601124) (hSl : sl ≤ 7293033) : CP G (d + 1) M1_isPart [.ref 100, .int v] (t, I, J, P, n, sl) (.int (b2i (0 ≤ v ∧ v < nI (s_np σ)))) := by
  refine CA.w ?_
  show RA _ _ M1_isPart 0 [.ref 100, .int v] [] _ _
  refine x_iload_n d1_isPart_0 rfl ?_
  refine x_iconst (v := nI 0) d1_isPart_1 (by decide) ?_
  refine x_aload_n d1_isPart_2 rfl ?_
  refine x_getI d1_isPart_3 f1_73 (hS.T rfl) ?_
  refine x_top (congrArg Value.int (show I 100 5 = nI (s_np σ) from hP.1)) ?_
  refine x_iconst (v := nI 1) d1_isPart_6 (by decide) ?_
  refine x_isub d1_isPart_7 ?_
  refine x_invS 3 d1_isPart_8 s1_76 (h_in G _ _ v (nI 0) (nI (s_np σ) - nI 1)) (Cont.p ?_) (hB := hB) (hS := hSl)
  exact x_ireturn d1_isPart_11 ⟨by rw [b2i_congr (ix_pm (v := v) (m := s_np σ) (by have := hσ.1; omega))], rfl⟩ (hn := nar_b2i)
set_option maxHeartbeats 4000000 in
theorem h_isRight {G : GG} (d : Nat) {h : AH} (v : Int32) (hB : a_n h ≤ 601124) (hSl : a_s h ≤ 7293033) : CP G (d + 1) M1_isRight [.int v] h (.int (b2i (0 ≤ v ∧ v < nI 16))) := by
  refine CA.w ?_
  show RA _ _ M1_isRight 0 [.int v] [] _ _
  refine x_iload_n d1_isRight_0 rfl ?_
  refine x_iconst (v := nI 0) d1_isRight_1 (by decide) ?_
  refine x_bipush (v := nI 15) d1_isRight_2 (by decide) ?_
  refine x_invS 3 d1_isRight_4 s1_76 (h_in G _ _ v (nI 0) (nI 15)) (Cont.p ?_) (hB := hB) (hS := hSl)
  exact x_ireturn d1_isRight_7 ⟨by rw [b2i_congr (show (nI 0 ≤ v ∧ v ≤ nI 15) ↔ (0 ≤ v ∧ v < nI 16) from ix_le v (m := 15) (by decide))], rfl⟩ (hn := nar_b2i)
set_option maxHeartbeats 4000000 in
theorem h_begins {G : GG} (d : Nat) {t : Nat → Option (Nat × Nat)} {J : Nat → Nat → Int64} {P : Nat → Nat → Value} {n sl : Nat} {I : Nat → Nat → Int32} (hS : SH t P) : CA G d M1_begins [.ref 100] (t, I, J, P, n, sl) (fun o h' => o = .inl none ∧ h' = (t, u2 (u2 I 100 10 (nI 0)) 100 12 (-1), J, P, n, sl)) := by
  refine CA.w ?_
  show RA _ _ M1_begins 0 [.ref 100] [] _ _
  refine x_aload_n d1_begins_0 rfl ?_
  refine x_iconst (v := nI 0) d1_begins_1 (by decide) ?_
  refine x_putIE d1_begins_2 p1_70 (hS.T rfl) (fun I1 hI1 => ?_)
  refine x_aload_n d1_begins_5 rfl ?_
  refine x_iconst (v := -1) d1_begins_6 (by decide) ?_
  refine x_putIE d1_begins_7 p1_51 (hS.T rfl) (fun I2 hI2 => ?_)
  exact x_return d1_begins_10 ⟨rfl, by rw [hI2, hI1]⟩
set_option maxHeartbeats 4000000 in
theorem h_no {G : GG} (d : Nat) {t : Nat → Option (Nat × Nat)} {J : Nat → Nat → Int64} {P : Nat → Nat → Value} {n sl : Nat} {I : Nat → Nat → Int32} (hS : SH t P) {k : Nat} : CA G d M1_no [.ref 100, .int (nI k)] (t, I, J, P, n, sl) (fun o h' => o = .inl (some (.int (-1))) ∧ h' = (t, u2 I 100 10 (nI k), J, P, n, sl)) := by
  refine CA.w ?_
  show RA _ _ M1_no 0 [.ref 100, .int (nI k)] [] _ _
  refine x_aload_n d1_no_0 rfl ?_
  refine x_iload_n d1_no_1 rfl ?_
  refine x_putIE d1_no_2 p1_70 (hS.T rfl) (fun I1 hI1 => ?_)
  refine x_iconst (v := -1) d1_no_5 (by decide) ?_
  exact x_ireturn d1_no_6 ⟨rfl, by rw [hI1]⟩
/-- trouble told, where gone -/
theorem HdS.tr {t : Nat → Option (Nat × Nat)} {I I' : Nat → Nat → Int32} {P : Nat → Nat → Value} {σ : Sg} {ρ : Rs} {k : Nat} (hD : HdS t I P σ ρ) (hr : ∀ b, b ≠ 100 → I' b = I b) (hk : ∀ j, j ≠ 10 → j ≠ 12 → I' 100 j = I 100 j) (h10 : I' 100 10 = nI k) (hk9 : k < 100) (hk4 : k ≠ 4) : HdS t I' P σ (rT ρ k) := by
  obtain ⟨h1, h2, ⟨y, hP⟩, h4, h5⟩ := hD
  refine ⟨h1, ⟨h2.1, h2.2.1, hk9, h2.2.2.2.1, h2.2.2.2.2.1, h2.2.2.2.2.2.1, fun _ => rfl⟩, ⟨y, hP.fr (hk 5 (by decide) (by decide)) (fun b hb => hr b (by omega))⟩, ?_, h5.keep (hk 8 (by decide) (by decide)) (fun b hb => hr b (by rintro rfl; revert hb; decide))⟩
  obtain ⟨a1, a2, a3, a4, a5, a6, a7, a8, a9, a10⟩ := h4
  refine ⟨(hk 1 (by decide) (by decide)).trans a1, by rw [hr 101 (by decide)]; exact a2, by rw [hr 107 (by decide)]; exact a3, h10, fun e => absurd e hk4, (hk 11 (by decide) (by decide)).trans a6, (hk 15 (by decide) (by decide)).trans a7, by rw [hr 118 (by decide)]; exact a8, (hk 20 (by decide) (by decide)).trans a9, by rw [hr 120 (by decide)]; exact a10⟩
theorem HdS.bg {t : Nat → Option (Nat × Nat)} {I I' : Nat → Nat → Int32} {P : Nat → Nat → Value} {σ : Sg} {ρ : Rs} (hD : HdS t I P σ ρ) (hI : I' = u2 (u2 I 100 10 (nI 0)) 100 12 (-1)) : HdS t I' P σ (rT ρ 0) ∧ HFq I I' :=
  ⟨hD.tr (fun b hb => by rw [hI, u2_row _ _ _ hb, u2_row _ _ _ hb]) (fun j a b => by rw [hI, u2_ne _ _ b, u2_ne _ _ a]) (by rw [hI, u2_ne _ _ (by decide), u2_self]) (by decide) (by decide), fun b hb => by rw [hI, u2_row _ _ _ (by omega), u2_row _ _ _ (by omega)]⟩
theorem HdS.no {t : Nat → Option (Nat × Nat)} {I I' : Nat → Nat → Int32} {P : Nat → Nat → Value} {σ : Sg} {ρ : Rs} {j k : Nat} (hD : HdS t I P σ (rT ρ j)) (hI : I' = u2 I 100 10 (nI k)) (hk9 : k < 100) (hk4 : k ≠ 4) : HdS t I' P σ (rT ρ k) ∧ HFq I I' :=
  ⟨hD.tr (fun b hb => by rw [hI, u2_row _ _ _ hb]) (fun j a _ => by rw [hI, u2_ne _ _ a]) (by rw [hI, u2_self]) hk9 hk4, fun b hb => by rw [hI, u2_row _ _ _ (by omega)]⟩
theorem dr_sum (σ : Sg) : sumN 16 (fun d => pop (dr σ d)) = nLeaks σ := by
  unfold nLeaks pop
  rw [sumN_swap]
  exact sumN_congr (fun s hs => sumN_congr (fun d hd => by rw [lk_dr σ hs hd]))
theorem mis_sum {d0 : Nat → Nat} {σ : Sg} (m : Nat → Nat) (h : ∀ d, d < 16 → d0 d = dr σ d) : sumN 16 (fun d => pop (adf (d0 d) (trp m d))) = sumN 16 (fun s => pop (adf (lk σ s) (m s))) := by
  unfold pop
  rw [sumN_swap]
  exact sumN_congr (fun s hs => sumN_congr (fun d hd => by rw [h d hd, adf_bit (dr_lt σ d), adf_bit (lk_lt σ s), trp_bit hs, lk_dr σ hs hd]))
theorem pop_split (a b : Nat) (ha : a < 65536) : pop a = pop (adf a b) + pop (a &&& b) := by
  unfold pop
  rw [← sumN_add]
  exact sumN_congr (fun i _ => by rw [adf_bit ha, Nat.testBit_and]; cases a.testBit i <;> cases b.testBit i <;> rfl)
theorem leak_split (σ : Sg) (ρ : Rs) : nLeaks σ = nMis σ ρ + nServ σ ρ := by
  unfold nLeaks nMis nServ
  rw [← sumN_add]
  exact sumN_congr (fun s _ => pop_split _ _ (lk_lt σ s))
theorem nLeaks_le (σ : Sg) : nLeaks σ ≤ 256 := sumN_le (n := 16) (c := 16) (fun _ _ => pop_le _)
theorem askB_tb {σ : Sg} (hσ : SgOK σ) (p : Nat) : tb (askB σ) p = bP (Asked σ p) := by
  by_cases h : Asked σ p
  · rw [bP_t h]; exact tb1.mpr ((askB_bit hσ).mpr h)
  · rw [bP_f h]; exact tb0.mpr (by cases hb : (askB σ).testBit p with | false => rfl | true => exact absurd ((askB_bit hσ).mp hb) h)
set_option maxHeartbeats 4000000 in
theorem h_holds (G : GG) (d : Nat) (v u : Int32) (σ : Sg) (ρ : Rs) : HQ G (d + 5) M1_holds [.ref 100, .int v, .int u] σ ρ (qHolds σ v u) σ ρ := by
  intro t I J P n sl hS hD hB hSl
  have hσ := hD.1
  have hρ := hD.2.1
  obtain ⟨y, hP⟩ := hD.2.2.1
  have hR := hD.2.2.2.1
  have hF := hD.2.2.2.2
  have hnp := hσ.1
  rcases ix_cases v (n := s_np σ) (by omega) with ⟨hv, e⟩ | ⟨p, hp, rfl, hv, e⟩
  · refine CA.w ?_
    show RA _ _ M1_holds 0 [.ref 100, .int v, .int u] [] _ _
    refine x_aload_n d1_holds_0 rfl ?_
    refine x_iload_n d1_holds_1 rfl ?_
    refine x_invV 100 1 d1_holds_2 (hS.T rfl) v1_103_1 (h_isPart _ hS hP hσ (v) hB hSl) (Cont.p ?_) (hB := hB) (hS := hSl)
    refine x_top (congrArg Value.int (b2i_f hv)) ?_
    refine x_if_eq 34 d1_holds_5 (by decide) (fun b5 => ?_) (fun b5 => absurd b5 (fun q => q rfl))
    refine x_iconst (v := -1) d1_holds_34 (by decide) ?_
    exact x_ireturn d1_holds_35 ⟨by simp only [qHolds, e], I, rfl, hD, fun _ _ => rfl⟩
  rcases ix_cases u (n := 8) (by decide) with ⟨hu, e2⟩ | ⟨k, hk, rfl, hu, e2⟩
  · refine CA.w ?_
    show RA _ _ M1_holds 0 [.ref 100, .int (nI p), .int u] [] _ _
    refine x_aload_n d1_holds_0 rfl ?_
    refine x_iload_n d1_holds_1 rfl ?_
    refine x_invV 100 1 d1_holds_2 (hS.T rfl) v1_103_1 (h_isPart _ hS hP hσ (nI p) hB hSl) (Cont.p ?_) (hB := hB) (hS := hSl)
    refine x_top (congrArg Value.int (b2i_t hv)) ?_
    refine x_if_eq 34 d1_holds_5 (by decide) (fun b5 => absurd b5 (by decide)) (fun b5 => ?_)
    refine x_iload_n d1_holds_8 rfl ?_
    refine x_iconst (v := nI 0) d1_holds_9 (by decide) ?_
    refine x_bipush (v := nI 7) d1_holds_10 (by decide) ?_
    refine x_invS 3 d1_holds_12 s1_76 (h_in G _ _ (u) (nI 0) (nI 7)) (Cont.p ?_) (hB := hB) (hS := hSl)
    refine x_top (congrArg Value.int (b2i_f (fun z => hu ((ix_le u (m := 7) (by decide)).mp z)))) ?_
    refine x_if_eq 34 d1_holds_15 (by decide) (fun b15 => ?_) (fun b15 => absurd b15 (fun q => q rfl))
    refine x_iconst (v := -1) d1_holds_34 (by decide) ?_
    exact x_ireturn d1_holds_35 ⟨by simp only [qHolds, e, e2], I, rfl, hD, fun _ _ => rfl⟩
  · refine CA.w ?_
    show RA _ _ M1_holds 0 [.ref 100, .int (nI p), .int (nI k)] [] _ _
    refine x_aload_n d1_holds_0 rfl ?_
    refine x_iload_n d1_holds_1 rfl ?_
    refine x_invV 100 1 d1_holds_2 (hS.T rfl) v1_103_1 (h_isPart _ hS hP hσ (nI p) hB hSl) (Cont.p ?_) (hB := hB) (hS := hSl)
    refine x_top (congrArg Value.int (b2i_t hv)) ?_
    refine x_if_eq 34 d1_holds_5 (by decide) (fun b5 => absurd b5 (by decide)) (fun b5 => ?_)
    refine x_iload_n d1_holds_8 rfl ?_
    refine x_iconst (v := nI 0) d1_holds_9 (by decide) ?_
    refine x_bipush (v := nI 7) d1_holds_10 (by decide) ?_
    refine x_invS 3 d1_holds_12 s1_76 (h_in G _ _ (nI k) (nI 0) (nI 7)) (Cont.p ?_) (hB := hB) (hS := hSl)
    refine x_top (congrArg Value.int (b2i_t ((ix_le _ (m := 7) (by decide)).mpr hu))) ?_
    refine x_if_eq 34 d1_holds_15 (by decide) (fun b15 => absurd b15 (by decide)) (fun b15 => ?_)
    refine x_aload_n d1_holds_18 rfl ?_
    refine x_invV 100 0 d1_holds_19 (hS.T rfl) v1_156_1 (h_flow _ hS hσ hP hF hB hSl) ?_ (hB := hB) (hS := hSl)
    rintro o h' ⟨rfl, I1, rfl, hsI1, hfwI1⟩
    have hsmI1 : HSm I I1 := (HSm.rf _).trans hsI1
    refine x_getP d1_holds_22 f1_159 (hS.T rfl) (hS.P rfl) ?_
    refine x_iload_n d1_holds_25 rfl ?_
    refine x_iload_n d1_holds_26 rfl ?_
    refine x_invS 2 d1_holds_27 s1_162 (h_place p k) (Cont.p ?_) (hB := hB) (hS := hSl)
    refine x_ialdN d1_holds_30 (hS.T rfl) (by omega) ?_
    refine x_top (congrArg Value.int (show I1 110 (8 * p + k) = nI (mk16 (Held σ (8 * p + k))) from ((hfwI1.2.1 _ (by omega)).trans (by rw [fin7_h (by omega)])))) ?_
    refine x_goto 35 d1_holds_31 (by decide) ?_
    exact x_ireturn d1_holds_35 ⟨by simp only [qHolds, e, e2], I1, rfl, hsmI1.hds hfwI1 hD, hsmI1.fq⟩
set_option maxHeartbeats 4000000 in
theorem h_result (G : GG) (d : Nat) (v : Int32) (σ : Sg) (ρ : Rs) : HQ G (d + 9) M1_result [.ref 100, .int v] σ ρ (qResult σ v) σ ρ := by
  intro t I J P n sl hS hD hB hSl
  have hσ := hD.1
  have hρ := hD.2.1
  obtain ⟨y, hP⟩ := hD.2.2.1
  have hR := hD.2.2.2.1
  have hF := hD.2.2.2.2
  have hnp := hσ.1
  rcases ix_cases v (n := s_np σ) (by omega) with ⟨hv, e⟩ | ⟨p, hp, rfl, hv, e⟩
  · refine CA.w ?_
    show RA _ _ M1_result 0 [.ref 100, .int v] [] _ _
    refine x_aload_n d1_result_0 rfl ?_
    refine x_iload_n d1_result_1 rfl ?_
    refine x_invV 100 1 d1_result_2 (hS.T rfl) v1_103_1 (h_isPart _ hS hP hσ (v) hB hSl) (Cont.p ?_) (hB := hB) (hS := hSl)
    refine x_top (congrArg Value.int (b2i_f hv)) ?_
    refine x_if_eq 23 d1_result_5 (by decide) (fun b5 => ?_) (fun b5 => absurd b5 (fun q => q rfl))
    refine x_iconst (v := -1) d1_result_23 (by decide) ?_
    exact x_ireturn d1_result_24 ⟨by simp only [qResult, e], I, rfl, hD, fun _ _ => rfl⟩
  · refine CA.w ?_
    show RA _ _ M1_result 0 [.ref 100, .int (nI p)] [] _ _
    refine x_aload_n d1_result_0 rfl ?_
    refine x_iload_n d1_result_1 rfl ?_
    refine x_invV 100 1 d1_result_2 (hS.T rfl) v1_103_1 (h_isPart _ hS hP hσ (nI p) hB hSl) (Cont.p ?_) (hB := hB) (hS := hSl)
    refine x_top (congrArg Value.int (b2i_t hv)) ?_
    refine x_if_eq 23 d1_result_5 (by decide) (fun b5 => absurd b5 (by decide)) (fun b5 => ?_)
    refine x_aload_n d1_result_8 rfl ?_
    refine x_invV 100 0 d1_result_9 (hS.T rfl) v1_156_1 (h_flow _ hS hσ hP hF hB hSl) ?_ (hB := hB) (hS := hSl)
    rintro o h' ⟨rfl, I1, rfl, hsI1, hfwI1⟩
    have hsmI1 : HSm I I1 := (HSm.rf _).trans hsI1
    refine x_getP d1_result_12 f1_159 (hS.T rfl) (hS.P rfl) ?_
    refine x_iload_n d1_result_15 rfl ?_
    refine x_invS 1 d1_result_16 s1_165 (h_resultOf p) (Cont.p ?_) (hB := hB) (hS := hSl)
    refine x_ialdN d1_result_19 (hS.T rfl) (by omega) ?_
    refine x_top (congrArg Value.int (show I1 110 (80 + p) = nI (mk16 (Held σ (80 + p))) from ((hfwI1.2.1 _ (by omega)).trans (by rw [fin7_h (by omega)])))) ?_
    refine x_goto 24 d1_result_20 (by decide) ?_
    exact x_ireturn d1_result_24 ⟨by simp only [qResult, e], I1, rfl, hsmI1.hds hfwI1 hD, hsmI1.fq⟩
set_option maxHeartbeats 4000000 in
theorem h_asked (G : GG) (d : Nat) (v : Int32) (σ : Sg) (ρ : Rs) : HQ G (d + 9) M1_asked [.ref 100, .int v] σ ρ (qAsked σ v) σ ρ := by
  intro t I J P n sl hS hD hB hSl
  have hσ := hD.1
  have hρ := hD.2.1
  obtain ⟨y, hP⟩ := hD.2.2.1
  have hR := hD.2.2.2.1
  have hF := hD.2.2.2.2
  have hnp := hσ.1
  rcases ix_cases v (n := s_np σ) (by omega) with ⟨hv, e⟩ | ⟨p, hp, rfl, hv, e⟩
  · refine CA.w ?_
    show RA _ _ M1_asked 0 [.ref 100, .int v] [] _ _
    refine x_aload_n d1_asked_0 rfl ?_
    refine x_iload_n d1_asked_1 rfl ?_
    refine x_invV 100 1 d1_asked_2 (hS.T rfl) v1_103_1 (h_isPart _ hS hP hσ (v) hB hSl) (Cont.p ?_) (hB := hB) (hS := hSl)
    refine x_top (congrArg Value.int (b2i_f hv)) ?_
    refine x_if_eq 22 d1_asked_5 (by decide) (fun b5 => ?_) (fun b5 => absurd b5 (fun q => q rfl))
    refine x_iconst (v := -1) d1_asked_22 (by decide) ?_
    exact x_ireturn d1_asked_23 ⟨by simp only [qAsked, e], I, rfl, hD, fun _ _ => rfl⟩
  · refine CA.w ?_
    show RA _ _ M1_asked 0 [.ref 100, .int (nI p)] [] _ _
    refine x_aload_n d1_asked_0 rfl ?_
    refine x_iload_n d1_asked_1 rfl ?_
    refine x_invV 100 1 d1_asked_2 (hS.T rfl) v1_103_1 (h_isPart _ hS hP hσ (nI p) hB hSl) (Cont.p ?_) (hB := hB) (hS := hSl)
    refine x_top (congrArg Value.int (b2i_t hv)) ?_
    refine x_if_eq 22 d1_asked_5 (by decide) (fun b5 => absurd b5 (by decide)) (fun b5 => ?_)
    refine x_aload_n d1_asked_8 rfl ?_
    refine x_invV 100 0 d1_asked_9 (hS.T rfl) v1_156_1 (h_flow _ hS hσ hP hF hB hSl) ?_ (hB := hB) (hS := hSl)
    rintro o h' ⟨rfl, I1, rfl, hsI1, hfwI1⟩
    have hsmI1 : HSm I I1 := (HSm.rf _).trans hsI1
    refine x_getI d1_asked_12 f1_168 (hS.T rfl) ?_
    refine x_top (congrArg Value.int (show I1 108 4 = nI (askB σ) from (hfwI1.2.2.2.trans (by rw [fin7_a])))) ?_
    have hab_ := askB_lt σ
    refine x_iload_n d1_asked_15 rfl ?_
    refine x_ishrN d1_asked_16 (by omega) (by omega) ?_
    refine x_iconst (v := nI 1) d1_asked_17 (by decide) ?_
    refine x_tbN d1_asked_18 ?_
    have htb_ := tb_lt (askB σ) p
    refine x_goto 23 d1_asked_19 (by decide) ?_
    exact x_ireturn d1_asked_23 ⟨by rw [askB_tb hσ]; simp only [qAsked, e], I1, rfl, hsmI1.hds hfwI1 hD, hsmI1.fq⟩
set_option maxHeartbeats 4000000 in
theorem h_door (G : GG) (d : Nat) (v : Int32) (σ : Sg) (ρ : Rs) : HQ G (d + 5) M1_door [.ref 100, .int v] σ ρ (qDoor σ v) σ ρ := by
  intro t I J P n sl hS hD hB hSl
  have hσ := hD.1
  have hρ := hD.2.1
  obtain ⟨y, hP⟩ := hD.2.2.1
  have hR := hD.2.2.2.1
  have hF := hD.2.2.2.2
  have hnp := hσ.1
  rcases ix_cases v (n := 16) (by decide) with ⟨hv, e⟩ | ⟨p, hp, rfl, hv, e⟩
  · refine CA.w ?_
    show RA _ _ M1_door 0 [.ref 100, .int v] [] _ _
    refine x_iload_n d1_door_0 rfl ?_
    refine x_invS 1 d1_door_1 s1_153 (h_isRight _ (v) hB hSl) (Cont.p ?_) (hB := hB) (hS := hSl)
    refine x_top (congrArg Value.int (b2i_f hv)) ?_
    refine x_if_eq 19 d1_door_4 (by decide) (fun b4 => ?_) (fun b4 => absurd b4 (fun q => q rfl))
    refine x_iconst (v := -1) d1_door_19 (by decide) ?_
    exact x_ireturn d1_door_20 ⟨by simp only [qDoor, e], I, rfl, hD, fun _ _ => rfl⟩
  · refine CA.w ?_
    show RA _ _ M1_door 0 [.ref 100, .int (nI p)] [] _ _
    refine x_iload_n d1_door_0 rfl ?_
    refine x_invS 1 d1_door_1 s1_153 (h_isRight _ (nI p) hB hSl) (Cont.p ?_) (hB := hB) (hS := hSl)
    refine x_top (congrArg Value.int (b2i_t hv)) ?_
    refine x_if_eq 19 d1_door_4 (by decide) (fun b4 => absurd b4 (by decide)) (fun b4 => ?_)
    refine x_aload_n d1_door_7 rfl ?_
    refine x_invV 100 0 d1_door_8 (hS.T rfl) v1_156_1 (h_flow _ hS hσ hP hF hB hSl) ?_ (hB := hB) (hS := hSl)
    rintro o h' ⟨rfl, I1, rfl, hsI1, hfwI1⟩
    have hsmI1 : HSm I I1 := (HSm.rf _).trans hsI1
    refine x_getP d1_door_11 f1_171 (hS.T rfl) (hS.P rfl) ?_
    refine x_iload_n d1_door_14 rfl ?_
    refine x_ialdN d1_door_15 (hS.T rfl) (by omega) ?_
    refine x_top (congrArg Value.int (show I1 111 p = nI (dr σ p) from ((hfwI1.2.2.1 _ (by omega)).trans (by rw [fin7_d (by omega)])))) ?_
    have hdr_ := dr_lt σ p
    refine x_goto 20 d1_door_16 (by decide) ?_
    exact x_ireturn d1_door_20 ⟨by simp only [qDoor, e], I1, rfl, hsmI1.hds hfwI1 hD, hsmI1.fq⟩
set_option maxHeartbeats 4000000 in
theorem h_leaksC {G : GG} (d : Nat) {t : Nat → Option (Nat × Nat)} {J : Nat → Nat → Int64} {P : Nat → Nat → Value} {n sl : Nat} {I : Nat → Nat → Int32} (hS : SH t P) {σ : Sg} {y : Lay} (hσ : SgOK σ) (hP : HP t I P σ y) (hF : HdF I σ) (hB : n ≤ 601124) (hSl : sl ≤ 7293033) : CA G (d + 5) M1_leaks [.ref 100] (t, I, J, P, n, sl) (fun o h' => o = .inl (some (.int (nI (nLeaks σ)))) ∧ ∃ I', h' = (t, I', J, P, n, sl) ∧ HSm I I' ∧ Fwn I' σ) := by
  refine CA.w ?_
  show RA _ _ M1_leaks 0 [.ref 100, U0, U0] [] _ _
  refine x_iconst (v := nI 0) d1_leaks_0 (by decide) ?_
  refine x_istore_n d1_leaks_1 ?_
  refine x_iconst (v := nI 0) d1_leaks_2 (by decide) ?_
  refine x_istore_n d1_leaks_3 ?_
  have hL : ∀ k, k ≤ 16 → ∀ I9, HSm I I9 → HdF I9 σ → (0 < k → Fwn I9 σ) → RA G (d + 5) M1_leaks 4 [.ref 100, .int (nI (sumN k (fun d => pop (dr σ d)))), .int (nI k)] [] (t, I9, J, P, n, sl) (fun o h' => o = .inl (some (.int (nI (nLeaks σ)))) ∧ ∃ I', h' = (t, I', J, P, n, sl) ∧ HSm I I' ∧ Fwn I' σ) := by
    refine up_ind ?_
    intro k hk_ ih I9 hsm9 hF9 hfw9
    have hsum_ := sumN_le (n := k) (f := fun d => pop (dr σ d)) (c := 16) (fun i _ => pop_le _)
    refine x_iload_n d1_leaks_4 rfl ?_
    refine x_bipush (v := nI 16) d1_leaks_5 (by decide) ?_
    refine x_icmp_geN 31 d1_leaks_7 (by decide) (by omega) (by omega) (fun b7 => ?_) (fun b7 => ?_)
    · refine x_iload_n d1_leaks_31 rfl ?_
      exact x_ireturn d1_leaks_32 ⟨by rw [show k = 16 by omega, dr_sum], I9, rfl, hsm9, hfw9 (by omega)⟩
    · refine x_iload_n d1_leaks_10 rfl ?_
      refine x_aload_n d1_leaks_11 rfl ?_
      refine x_invV 100 0 d1_leaks_12 (hS.T rfl) v1_156_1 (h_flow _ hS hσ (hsm9.hp hP) hF9 hB hSl) ?_ (hB := hB) (hS := hSl)
      rintro o h' ⟨rfl, I21, rfl, hsI21, hfwI21⟩
      have hsmI21 : HSm I I21 := hsm9.trans hsI21
      refine x_getP d1_leaks_15 f1_171 (hS.T rfl) (hS.P rfl) ?_
      refine x_iload_n d1_leaks_18 rfl ?_
      refine x_ialdN d1_leaks_19 (hS.T rfl) (by omega) ?_
      refine x_top (congrArg Value.int (show I21 111 k = nI (dr σ k) from ((hfwI21.2.2.1 _ (by omega)).trans (by rw [fin7_d (by omega)])))) ?_
      have hdr_ := dr_lt σ k
      refine x_invS 1 d1_leaks_20 s1_174 (h_ones G _ _ (dr σ k) (dr_lt σ _)) (Cont.p ?_) (hB := hB) (hS := hSl)
      have hpop_ := pop_le (dr σ k)
      refine x_iaddN d1_leaks_23 ?_
      refine x_istore_n d1_leaks_24 ?_
      refine x_iincN (c := 1) d1_leaks_25 rfl (by decide) ?_
      refine x_goto 4 d1_leaks_28 (by decide) ?_
      exact ih (by omega) I21 hsmI21 hfwI21.f (fun _ => hfwI21)
  exact hL 0 (Nat.zero_le _) I (HSm.rf I) hF (fun h => absurd h (Nat.lt_irrefl _))
theorem h_leaks (G : GG) (d : Nat) (σ : Sg) (ρ : Rs) : HQ G (d + 5) M1_leaks [.ref 100] σ ρ (nI (nLeaks σ)) σ ρ := by
  intro t I J P n sl hS hD hB hSl
  have hσ := hD.1
  have hρ := hD.2.1
  obtain ⟨y, hP⟩ := hD.2.2.1
  have hR := hD.2.2.2.1
  have hF := hD.2.2.2.2
  have hnp := hσ.1
  exact (h_leaksC d hS hσ hP hF hB hSl).mono (fun o h' ⟨a, I', b, c, e⟩ => ⟨a, I', b, c.hds e hD, c.fq⟩)
set_option maxHeartbeats 4000000 in
theorem h_misuses {G : GG} (d : Nat) {t : Nat → Option (Nat × Nat)} {J : Nat → Nat → Int64} {P : Nat → Nat → Value} {n sl : Nat} {I : Nat → Nat → Int32} (hS : SH t P) {f : Nat} (hf : FlT t P f) {h m : Nat → Nat} (hh : ∀ e, e < 16 → I (f + 3) e = nI (h e) ∧ h e < 65536) (hm : ∀ e, e < 16 → I 107 e = nI (trp m e)) (hB : n ≤ 601124) (hSl : sl ≤ 7293033) : CP G (d + 1) M1_misuses [.ref 100, .ref f] (t, I, J, P, n, sl) (.int (nI (sumN 16 (fun d => pop (adf (h d) (trp m d)))))) := by
  refine CA.w ?_
  show RA _ _ M1_misuses 0 [.ref 100, .ref f, U0, U0] [] _ _
  refine x_iconst (v := nI 0) d1_misuses_0 (by decide) ?_
  refine x_istore_n d1_misuses_1 ?_
  refine x_iconst (v := nI 0) d1_misuses_2 (by decide) ?_
  refine x_istore_n d1_misuses_3 ?_
  have hL : ∀ k, k ≤ 16 → RA G (d + 1) M1_misuses 4 [.ref 100, .ref f, .int (nI (sumN k (fun d => pop (adf (h d) (trp m d))))), .int (nI k)] [] (t, I, J, P, n, sl) (fun o h' => o = .inl (some (.int (nI (sumN 16 (fun d => pop (adf (h d) (trp m d))))))) ∧ h' = (t, I, J, P, n, sl)) := by
    refine up_ind ?_
    intro k hk_ ih
    have hsum_ := sumN_le (n := k) (f := fun d => pop (adf (h d) (trp m d))) (c := 16) (fun i _ => pop_le _)
    refine x_iload_n d1_misuses_4 rfl ?_
    refine x_bipush (v := nI 16) d1_misuses_5 (by decide) ?_
    refine x_icmp_geN 37 d1_misuses_7 (by decide) (by omega) (by omega) (fun b7 => ?_) (fun b7 => ?_)
    · refine x_iload_n d1_misuses_37 rfl ?_
      exact x_ireturn d1_misuses_38 ⟨by rw [show k = 16 by omega], rfl⟩
    · refine x_iload_n d1_misuses_10 rfl ?_
      refine x_aload_n d1_misuses_11 rfl ?_
      refine x_getP d1_misuses_12 f1_171 hf.1 hf.2.2.2.2.2.2.1 ?_
      refine x_iload_n d1_misuses_15 rfl ?_
      refine x_ialdN d1_misuses_16 hf.2.2.2.2.2.2.2.1 (by omega) ?_
      refine x_top (congrArg Value.int (show I (f + 3) k = nI (h k) from (hh _ (by omega)).1)) ?_
      have hh_ := (hh k (by omega)).2
      refine x_aload_n d1_misuses_17 rfl ?_
      refine x_getP d1_misuses_18 f1_28 (hS.T rfl) (hS.P rfl) ?_
      refine x_iload_n d1_misuses_21 rfl ?_
      refine x_ialdN d1_misuses_22 (hS.T rfl) (by omega) ?_
      refine x_top (congrArg Value.int (show I 107 k = nI (trp m k) from (hm _ (by omega)))) ?_
      refine x_iconst (v := -1) d1_misuses_23 (by decide) ?_
      refine x_ixor d1_misuses_24 ?_
      refine x_andnN d1_misuses_25 (by omega) ?_
      refine x_invS 1 d1_misuses_26 s1_174 (h_ones G _ _ (adf (h k) (trp m k)) (adf_lt (hh _ (by omega)).2)) (Cont.p ?_) (hB := hB) (hS := hSl)
      have hpop_ := pop_le (adf (h k) (trp m k))
      refine x_iaddN d1_misuses_29 ?_
      refine x_istore_n d1_misuses_30 ?_
      refine x_iincN (c := 1) d1_misuses_31 rfl (by decide) ?_
      refine x_goto 4 d1_misuses_34 (by decide) ?_
      exact ih (by omega)
  exact hL 0 (Nat.zero_le _)
set_option maxHeartbeats 4000000 in
theorem h_misuseT (G : GG) (d : Nat)  (σ : Sg) (ρ : Rs) : HQ G (d + 6) M1_misuse [.ref 100, .int (nI 1)] σ ρ (nI (nServ σ ρ)) σ ρ := by
  intro t I J P n sl hS hD hB hSl
  have hσ := hD.1
  have hρ := hD.2.1
  obtain ⟨y, hP⟩ := hD.2.2.1
  have hR := hD.2.2.2.1
  have hF := hD.2.2.2.2
  have hnp := hσ.1
  refine CA.w ?_
  show RA _ _ M1_misuse 0 [.ref 100, .int (nI 1)] [] _ _
  refine x_iload_n d1_misuse_0 rfl ?_
  refine x_if_eqN 20 d1_misuse_1 (by decide) (by omega) (fun b1 => absurd b1 (by decide)) (fun b1 => ?_)
  refine x_aload_n d1_misuse_4 rfl ?_
  refine x_invV 100 0 d1_misuse_5 (hS.T rfl) v1_177_1 (h_leaksC _ hS hσ hP hF hB hSl) ?_ (hB := hB) (hS := hSl)
  rintro o h' ⟨rfl, I1, rfl, hsI1, hfwI1⟩
  have hsmI1 : HSm I I1 := (HSm.rf _).trans hsI1
  have hlk_ := nLeaks_le σ
  have hls_ := leak_split σ ρ
  refine x_aload_n d1_misuse_8 rfl ?_
  refine x_aload_n d1_misuse_9 rfl ?_
  refine x_invV 100 0 d1_misuse_10 (hS.T rfl) v1_156_1 (h_flow _ hS hσ (hsmI1.hp hP) hfwI1.f hB hSl) ?_ (hB := hB) (hS := hSl)
  rintro o h' ⟨rfl, I2, rfl, hsI2, hfwI2⟩
  have hsmI2 : HSm I I2 := hsmI1.trans hsI2
  refine x_invV 100 1 d1_misuse_13 (hS.T rfl) v1_180_1 (h_misuses _ hS (FlT.f hS) (h := dr σ) (m := r_mt ρ) (fun e he => ⟨(hfwI2.2.2.1 e he).trans (by rw [fin7_d he]), dr_lt σ e⟩) (hsmI2.hr hR).2.2.1 hB hSl) (Cont.p ?_) (hB := hB) (hS := hSl)
  refine x_top (show _ = Value.int (nI (nMis σ ρ)) by rw [mis_sum (σ := σ) (r_mt ρ) (fun _ _ => rfl)]; rfl) ?_
  have hnm_ := nMis_le σ ρ
  refine x_isubN d1_misuse_16 (by omega) ?_
  refine x_goto 28 d1_misuse_17 (by decide) ?_
  exact x_ireturn d1_misuse_28 ⟨by rw [show nLeaks σ - nMis σ ρ = nServ σ ρ by omega], I2, rfl, hsmI2.hds hfwI2 hD, hsmI2.fq⟩
set_option maxHeartbeats 4000000 in
theorem h_misuseF (G : GG) (d : Nat)  (σ : Sg) (ρ : Rs) : HQ G (d + 6) M1_misuse [.ref 100, .int (nI 0)] σ ρ (nI (nMis σ ρ)) σ ρ := by
  intro t I J P n sl hS hD hB hSl
  have hσ := hD.1
  have hρ := hD.2.1
  obtain ⟨y, hP⟩ := hD.2.2.1
  have hR := hD.2.2.2.1
  have hF := hD.2.2.2.2
  have hnp := hσ.1
  refine CA.w ?_
  show RA _ _ M1_misuse 0 [.ref 100, .int (nI 0)] [] _ _
  refine x_iload_n d1_misuse_0 rfl ?_
  refine x_if_eqN 20 d1_misuse_1 (by decide) (by omega) (fun b1 => ?_) (fun b1 => absurd b1 (fun q => q rfl))
  refine x_aload_n d1_misuse_20 rfl ?_
  refine x_aload_n d1_misuse_21 rfl ?_
  refine x_invV 100 0 d1_misuse_22 (hS.T rfl) v1_156_1 (h_flow _ hS hσ hP hF hB hSl) ?_ (hB := hB) (hS := hSl)
  rintro o h' ⟨rfl, I1, rfl, hsI1, hfwI1⟩
  have hsmI1 : HSm I I1 := (HSm.rf _).trans hsI1
  refine x_invV 100 1 d1_misuse_25 (hS.T rfl) v1_180_1 (h_misuses _ hS (FlT.f hS) (h := dr σ) (m := r_mt ρ) (fun e he => ⟨(hfwI1.2.2.1 e he).trans (by rw [fin7_d he]), dr_lt σ e⟩) (hsmI1.hr hR).2.2.1 hB hSl) (Cont.p ?_) (hB := hB) (hS := hSl)
  refine x_top (show _ = Value.int (nI (nMis σ ρ)) by rw [mis_sum (σ := σ) (r_mt ρ) (fun _ _ => rfl)]; rfl) ?_
  have hnm_ := nMis_le σ ρ
  exact x_ireturn d1_misuse_28 ⟨rfl, I1, rfl, hsmI1.hds hfwI1 hD, hsmI1.fq⟩
set_option maxHeartbeats 4000000 in
theorem h_wrong (G : GG) (d : Nat) (v : Int32) (σ : Sg) (ρ : Rs) : HQ G (d + 5) M1_wrong [.ref 100, .int v] σ ρ (qWrong σ ρ v) σ ρ := by
  intro t I J P n sl hS hD hB hSl
  have hσ := hD.1
  have hρ := hD.2.1
  obtain ⟨y, hP⟩ := hD.2.2.1
  have hR := hD.2.2.2.1
  have hF := hD.2.2.2.2
  have hnp := hσ.1
  unfold qWrong
  generalize hRe : wrJ (wrW σ ρ) v 256 0 0 = R
  refine CA.w ?_
  show RA _ _ M1_wrong 0 [.ref 100, .int v, U0, U0, U0] [] _ _
  refine x_iload_n d1_wrong_0 rfl ?_
  refine x_istore_n d1_wrong_1 ?_
  refine x_iconst (v := nI 0) d1_wrong_2 (by decide) ?_
  refine x_istore_n d1_wrong_3 ?_
  have hin : ∀ s, s < 16 → (s < 16 → ∀ f c I9 lf, 16 * (s + 1) + 0 + f = 256 → c ≤ 16 * (s + 1) + 0 → HSm I I9 → HdF I9 σ → (0 < 16 * (s + 1) + 0 → Fwn I9 σ) → lf = v - nI c → wrJ (wrW σ ρ) v f (16 * (s + 1) + 0) c = R → ∀ v4, RA G (d + 5) M1_wrong 4 [.ref 100, .int v, .int lf, .int (nI (s + 1)), v4] [] (t, I9, J, P, n, sl) (fun o h' => o = .inl (some (.int (wrV R))) ∧ ∃ I', h' = (t, I', J, P, n, sl) ∧ HdS t I' P σ ρ ∧ HFq I I')) → ∀ q, q ≤ 16 → ∀ f c I9 lf, 16 * s + q + f = 256 → c ≤ 16 * s + q → HSm I I9 → HdF I9 σ → (0 < 16 * s + q → Fwn I9 σ) → lf = v - nI c → wrJ (wrW σ ρ) v f (16 * s + q) c = R → RA G (d + 5) M1_wrong 13 [.ref 100, .int v, .int lf, .int (nI s), .int (nI q)] [] (t, I9, J, P, n, sl) (fun o h' => o = .inl (some (.int (wrV R))) ∧ ∃ I', h' = (t, I', J, P, n, sl) ∧ HdS t I' P σ ρ ∧ HFq I I') := by
    intro s hs ihs
    refine up_ind ?_
    intro q hq ih f c I9 lf hf hc hsm9 hF9 hfw9 hlf hRe
    refine x_iload d1_wrong_13 rfl ?_
    refine x_bipush (v := nI 16) d1_wrong_15 (by decide) ?_
    refine x_icmp_geN 71 d1_wrong_17 (by decide) (by omega) (by omega) (fun b17 => ?_) (fun b17 => ?_)
    · refine x_iincN (c := 1) d1_wrong_71 rfl (by decide) ?_
      refine x_goto 4 d1_wrong_74 (by decide) ?_
      have hq16 : q = 16 := by omega
      subst hq16
      exact ihs (by omega) f c I9 lf (by omega) (by omega) hsm9 hF9 (fun _ => hfw9 (by omega)) hlf (by rw [show 16 * (s + 1) + 0 = 16 * s + 16 by omega]; exact hRe) _
    · obtain ⟨f, rfl⟩ : ∃ g, f = g + 1 := ⟨f - 1, by omega⟩
      rw [wrJ] at hRe
      have e1 : (16 * s + q) / 16 = s := by omega
      have e2 : (16 * s + q) % 16 = q := by omega
      have eW : wrW σ ρ (16 * s + q) = (adf (dr σ q) (trp (r_mt ρ) q)).testBit s := by unfold wrW; rw [e1, e2, adf_bit (lk_lt σ s), adf_bit (dr_lt σ q), trp_bit (by omega), lk_dr σ (by omega) (by omega)]
      refine x_aload_n d1_wrong_20 rfl ?_
      refine x_invV 100 0 d1_wrong_21 (hS.T rfl) v1_156_1 (h_flow _ hS hσ (hsm9.hp hP) hF9 hB hSl) ?_ (hB := hB) (hS := hSl)
      rintro o h' ⟨rfl, I21, rfl, hsI21, hfwI21⟩
      have hsmI21 : HSm I I21 := hsm9.trans hsI21
      refine x_getP d1_wrong_24 f1_171 (hS.T rfl) (hS.P rfl) ?_
      refine x_iload d1_wrong_27 rfl ?_
      refine x_ialdN d1_wrong_29 (hS.T rfl) (by omega) ?_
      refine x_top (congrArg Value.int (show I21 111 q = nI (dr σ q) from ((hfwI21.2.2.1 _ (by omega)).trans (by rw [fin7_d (by omega)])))) ?_
      have hdr_ := dr_lt σ q
      refine x_aload_n d1_wrong_30 rfl ?_
      refine x_getP d1_wrong_31 f1_28 (hS.T rfl) (hS.P rfl) ?_
      refine x_iload d1_wrong_34 rfl ?_
      refine x_ialdN d1_wrong_36 (hS.T rfl) (by omega) ?_
      refine x_top (congrArg Value.int (show I21 107 q = nI (trp (r_mt ρ) q) from ((hsmI21.hr hR).2.2.1 _ (by omega)))) ?_
      have htr_ := trp_lt (r_mt ρ) q
      refine x_iconst (v := -1) d1_wrong_37 (by decide) ?_
      refine x_ixor d1_wrong_38 ?_
      refine x_andnN d1_wrong_39 (dr_lt σ _) ?_
      refine x_iconst (v := nI 1) d1_wrong_40 (by decide) ?_
      refine x_iload_n d1_wrong_41 rfl ?_
      refine x_1shlN d1_wrong_42 (by omega) ?_
      refine x_iandN d1_wrong_43 ?_
      have hx_ := and_lt (b := 2 ^ s) (adf_lt (b := trp (r_mt ρ) q) (dr_lt σ q))
      refine x_if_neN 50 d1_wrong_44 (by decide) (by omega) (fun b44 => ?_) (fun b44 => ?_)
      · refine x_iload_n d1_wrong_50 rfl ?_
        refine x_if_ne 62 d1_wrong_51 (by decide) (fun b51 => ?_) (fun b51 => ?_)
        · refine x_iinc d1_wrong_62 rfl rfl ?_
          refine x_iincN (c := 1) d1_wrong_65 rfl (by decide) ?_
          refine x_goto 13 d1_wrong_68 (by decide) ?_
          rw [if_pos (by rw [eW]; exact and2_ne.mp b44), if_neg (fun z => b51 (by rw [hlf, ← z, Int32.sub_self]))] at hRe
          exact ih (by omega) f (c + 1) I21 _ (by omega) (by omega) hsmI21 hfwI21.f (fun _ => hfwI21) (by rw [hlf, show Int32.ofInt (-1) = -1 from rfl, Int32.add_neg_eq_sub, Int32.sub_sub, nI_succ]) hRe
        · refine x_bipush (v := nI 100) d1_wrong_54 (by decide) ?_
          refine x_iload_n d1_wrong_56 rfl ?_
          refine x_imulN d1_wrong_57 ?_
          refine x_iload d1_wrong_58 rfl ?_
          refine x_iaddN d1_wrong_60 ?_
          refine x_ireturn d1_wrong_61 ?_
          rw [if_pos (by rw [eW]; exact and2_ne.mp b44), if_pos (by rw [hlf] at b51; have h0 := Int32.sub_eq_iff_eq_add.mp b51; rw [Int32.zero_add] at h0; exact h0.symm)] at hRe
          exact ⟨by rw [← hRe]; show _ = Sum.inl (some (Value.int (nI (100 * ((16 * s + q) / 16) + (16 * s + q) % 16)))); rw [e1, e2], I21, rfl, hsmI21.hds hfwI21 hD, hsmI21.fq⟩
      · refine x_goto 65 d1_wrong_47 (by decide) ?_
        refine x_iincN (c := 1) d1_wrong_65 rfl (by decide) ?_
        refine x_goto 13 d1_wrong_68 (by decide) ?_
        rw [if_neg (by rw [eW, and2_0.mp b44]; decide)] at hRe
        exact ih (by omega) f c I21 lf (by omega) (by omega) hsmI21 hfwI21.f (fun _ => hfwI21) hlf hRe
  have hout : ∀ s, s ≤ 16 → ∀ f c I9 lf, 16 * s + 0 + f = 256 → c ≤ 16 * s + 0 → HSm I I9 → HdF I9 σ → (0 < 16 * s + 0 → Fwn I9 σ) → lf = v - nI c → wrJ (wrW σ ρ) v f (16 * s + 0) c = R → ∀ v4, RA G (d + 5) M1_wrong 4 [.ref 100, .int v, .int lf, .int (nI s), v4] [] (t, I9, J, P, n, sl) (fun o h' => o = .inl (some (.int (wrV R))) ∧ ∃ I', h' = (t, I', J, P, n, sl) ∧ HdS t I' P σ ρ ∧ HFq I I') := by
    refine up_ind ?_
    intro s hs ih f c I9 lf hf hc hsm9 hF9 hfw9 hlf hRe v4
    refine x_iload_n d1_wrong_4 rfl ?_
    refine x_bipush (v := nI 16) d1_wrong_5 (by decide) ?_
    refine x_icmp_geN 77 d1_wrong_7 (by decide) (by omega) (by omega) (fun b7 => ?_) (fun b7 => ?_)
    · refine x_iconst (v := -1) d1_wrong_77 (by decide) ?_
      refine x_ireturn d1_wrong_78 ?_
      rw [show f = 0 by omega, wrJ] at hRe
      exact ⟨by rw [← hRe]; rfl, I9, rfl, hsm9.hds (hfw9 (by omega)) hD, hsm9.fq⟩
    · refine x_iconst (v := nI 0) d1_wrong_10 (by decide) ?_
      refine x_istore d1_wrong_11 ?_
      exact hin s (by omega) ih 0 (Nat.zero_le _) f c I9 lf (by omega) (by omega) hsm9 hF9 (fun h => hfw9 (by omega)) hlf hRe
  exact hout 0 (Nat.zero_le _) 256 0 I v rfl (Nat.zero_le _) (HSm.rf I) hF (fun h => by omega) (by rw [show nI 0 = 0 from rfl, Int32.sub_zero]) hRe _
set_option maxHeartbeats 4000000 in
theorem h_fault (G : GG) (d : Nat)  (σ : Sg) (ρ : Rs) : HQ G (d + 0) M1_fault [.ref 100] σ ρ (nI (r_fa ρ)) σ ρ := by
  intro t I J P n sl hS hD hB hSl
  have hσ := hD.1
  have hρ := hD.2.1
  obtain ⟨y, hP⟩ := hD.2.2.1
  have hR := hD.2.2.2.1
  have hF := hD.2.2.2.2
  have hnp := hσ.1
  refine CA.w ?_
  show RA _ _ M1_fault 0 [.ref 100] [] _ _
  refine x_aload_n d1_fault_0 rfl ?_
  refine x_getI d1_fault_1 f1_113 (hS.T rfl) ?_
  refine x_top (congrArg Value.int (show I 100 11 = nI (r_fa ρ) from hR.2.2.2.2.2.1)) ?_
  exact x_ireturn d1_fault_4 ⟨rfl, I, rfl, hD, fun _ _ => rfl⟩
set_option maxHeartbeats 4000000 in
theorem h_trouble (G : GG) (d : Nat)  (σ : Sg) (ρ : Rs) : HQ G (d + 0) M1_trouble [.ref 100] σ ρ (nI (r_tr ρ)) σ ρ := by
  intro t I J P n sl hS hD hB hSl
  have hσ := hD.1
  have hρ := hD.2.1
  obtain ⟨y, hP⟩ := hD.2.2.1
  have hR := hD.2.2.2.1
  have hF := hD.2.2.2.2
  have hnp := hσ.1
  refine CA.w ?_
  show RA _ _ M1_trouble 0 [.ref 100] [] _ _
  refine x_aload_n d1_trouble_0 rfl ?_
  refine x_getI d1_trouble_1 f1_70 (hS.T rfl) ?_
  refine x_top (congrArg Value.int (show I 100 10 = nI (r_tr ρ) from hR.2.2.2.1)) ?_
  have htr_ := hρ.2.2.1
  exact x_ireturn d1_trouble_4 ⟨rfl, I, rfl, hD, fun _ _ => rfl⟩
set_option maxHeartbeats 4000000 in
theorem h_where (G : GG) (d : Nat)  (σ : Sg) (ρ : Rs) : HQ G (d + 0) M1_where [.ref 100] σ ρ (r_wh ρ) σ ρ := by
  intro t I J P n sl hS hD hB hSl
  have hσ := hD.1
  have hρ := hD.2.1
  obtain ⟨y, hP⟩ := hD.2.2.1
  have hR := hD.2.2.2.1
  have hF := hD.2.2.2.2
  have hnp := hσ.1
  refine CA.w ?_
  show RA _ _ M1_where 0 [.ref 100] [] _ _
  refine x_aload_n d1_where_0 rfl ?_
  refine x_getI d1_where_1 f1_70 (hS.T rfl) ?_
  refine x_top (congrArg Value.int (show I 100 10 = nI (r_tr ρ) from hR.2.2.2.1)) ?_
  have htr_ := hρ.2.2.1
  refine x_iconst (v := nI 4) d1_where_4 (by decide) ?_
  refine x_icmp_neN 15 d1_where_5 (by decide) (by omega) (by omega) (fun b5 => ?_) (fun b5 => ?_)
  · refine x_iconst (v := -1) d1_where_15 (by decide) ?_
    exact x_ireturn d1_where_16 ⟨by rw [hρ.2.2.2.2.2.2 b5], I, rfl, hD, fun _ _ => rfl⟩
  · refine x_aload_n d1_where_8 rfl ?_
    refine x_getI d1_where_9 f1_51 (hS.T rfl) ?_
    refine x_top (congrArg Value.int (show I 100 12 = r_wh ρ from (hR.2.2.2.2.1 b5))) ?_
    refine x_goto 16 d1_where_12 (by decide) ?_
    exact x_ireturn d1_where_16 ⟨rfl, I, rfl, hD, fun _ _ => rfl⟩
set_option maxHeartbeats 4000000 in
theorem h_cured (G : GG) (d : Nat) (v : Int32) (σ : Sg) (ρ : Rs) : HQ G (d + 1) M1_cured [.ref 100, .int v] σ ρ (qCured ρ v) σ ρ := by
  intro t I J P n sl hS hD hB hSl
  have hσ := hD.1
  have hρ := hD.2.1
  obtain ⟨y, hP⟩ := hD.2.2.1
  have hR := hD.2.2.2.1
  have hF := hD.2.2.2.2
  have hnp := hσ.1
  have hcn := hρ.2.2.2.2.2.1
  rcases ix_cases v (n := r_cn ρ) (by omega) with ⟨hv, e⟩ | ⟨p, hp, rfl, hv, e⟩
  · refine CA.w ?_
    show RA _ _ M1_cured 0 [.ref 100, .int v] [] _ _
    refine x_iload_n d1_cured_0 rfl ?_
    refine x_iconst (v := nI 0) d1_cured_1 (by decide) ?_
    refine x_aload_n d1_cured_2 rfl ?_
    refine x_getI d1_cured_3 f1_239 (hS.T rfl) ?_
    refine x_top (congrArg Value.int (show I 100 20 = nI (r_cn ρ) from hR.2.2.2.2.2.2.2.2.1)) ?_
    have hcn_ := hρ.2.2.2.2.2.1
    refine x_iconst (v := nI 1) d1_cured_6 (by decide) ?_
    refine x_isub d1_cured_7 ?_
    refine x_invS 3 d1_cured_8 s1_76 (h_in G _ _ (v) (nI 0) ((nI (r_cn ρ)) - (nI 1))) (Cont.p ?_) (hB := hB) (hS := hSl)
    refine x_top (congrArg Value.int (b2i_f (fun z => hv ((ix_pm (by omega)).mp z)))) ?_
    refine x_if_eq 23 d1_cured_11 (by decide) (fun b11 => ?_) (fun b11 => absurd b11 (fun q => q rfl))
    refine x_iconst (v := -1) d1_cured_23 (by decide) ?_
    exact x_ireturn d1_cured_24 ⟨by simp only [qCured, e], I, rfl, hD, fun _ _ => rfl⟩
  · refine CA.w ?_
    show RA _ _ M1_cured 0 [.ref 100, .int (nI p)] [] _ _
    refine x_iload_n d1_cured_0 rfl ?_
    refine x_iconst (v := nI 0) d1_cured_1 (by decide) ?_
    refine x_aload_n d1_cured_2 rfl ?_
    refine x_getI d1_cured_3 f1_239 (hS.T rfl) ?_
    refine x_top (congrArg Value.int (show I 100 20 = nI (r_cn ρ) from hR.2.2.2.2.2.2.2.2.1)) ?_
    have hcn_ := hρ.2.2.2.2.2.1
    refine x_iconst (v := nI 1) d1_cured_6 (by decide) ?_
    refine x_isub d1_cured_7 ?_
    refine x_invS 3 d1_cured_8 s1_76 (h_in G _ _ (nI p) (nI 0) ((nI (r_cn ρ)) - (nI 1))) (Cont.p ?_) (hB := hB) (hS := hSl)
    refine x_top (congrArg Value.int (b2i_t ((ix_pm (by omega)).mpr hv))) ?_
    refine x_if_eq 23 d1_cured_11 (by decide) (fun b11 => absurd b11 (by decide)) (fun b11 => ?_)
    refine x_aload_n d1_cured_14 rfl ?_
    refine x_getP d1_cured_15 f1_64 (hS.T rfl) (hS.P rfl) ?_
    refine x_iload_n d1_cured_18 rfl ?_
    refine x_ialdN d1_cured_19 (hS.T rfl) (by omega) ?_
    refine x_top (congrArg Value.int (show I 120 p = nI (r_cd ρ p) from (hR.2.2.2.2.2.2.2.2.2 _ (by omega)))) ?_
    refine x_goto 24 d1_cured_20 (by decide) ?_
    exact x_ireturn d1_cured_24 ⟨by simp only [qCured, e], I, rfl, hD, fun _ _ => rfl⟩
