/-! the house: ways -/
set_option maxRecDepth 100000
theorem bf_q (σ : Sg) (s d n q : Nat) : bfF σ s d n q q = if dF σ s d q < n then dF σ s d q else 0 := by
  unfold bfF; by_cases h : dF σ s d q < n
  · rw [if_pos (Or.inl h), if_pos h]
  · rw [if_neg (by omega), if_neg h]
theorem bf_skip {σ : Sg} {s d n q : Nat} (h : dF σ s d q ≠ n) (j : Nat) : bfF σ s d n (q + 1) j = bfF σ s d n q j := by
  have e : (dF σ s d j < n ∨ (dF σ s d j = n ∧ j < q + 1)) ↔ (dF σ s d j < n ∨ (dF σ s d j = n ∧ j < q)) := by
    by_cases ej : j = q
    · subst ej; omega
    · omega
  unfold bfF; simp only [e]
theorem bf_set {σ : Sg} {s d n q : Nat} (h : dF σ s d q = n) (j : Nat) : bfF σ s d n (q + 1) j = upN (bfF σ s d n q) q n j := by
  unfold upN
  by_cases ej : j = q
  · subst ej; rw [if_pos rfl]; unfold bfF; rw [if_pos (by omega), h]
  · rw [if_neg ej]
    have e : (dF σ s d j < n ∨ (dF σ s d j = n ∧ j < q + 1)) ↔ (dF σ s d j < n ∨ (dF σ s d j = n ∧ j < q)) := by omega
    unfold bfF; simp only [e]
theorem bf_next {σ : Sg} {s d n j : Nat} (hj : j < 90) : bfF σ s d n 90 j = bfF σ s d (n + 1) 0 j := by
  have e : (dF σ s d j < n ∨ (dF σ s d j = n ∧ j < 90)) ↔ (dF σ s d j < n + 1 ∨ (dF σ s d j = n + 1 ∧ j < 0)) := by omega
  unfold bfF; simp only [e]
theorem bf_0 {σ : Sg} (hσ : SgOK σ) {s d j : Nat} (hj : j < 90) : bfF σ s d 1 0 j = 0 := by
  have := dF_pos hσ (s := s) (d := d) hj
  unfold bfF; rw [if_neg (by omega)]
theorem bf_le (σ : Sg) (s d n q j : Nat) : bfF σ s d n q j ≤ n := by unfold bfF; split <;> omega
theorem bf_fin {σ : Sg} (hσ : SgOK σ) {s d n j : Nat} (hn : 1 ≤ n) (hn9 : n ≤ 1000) (h : ∀ q, q < 90 → dF σ s d q ≠ n) (hj : j < 90) : bfF σ s d n 90 j = hfF σ s d j := by
  have a := bf_none hσ hn h j hj
  have b := h j hj
  unfold bfF hfF
  rcases a with a | a
  · rw [if_pos (Or.inl a), if_neg (by omega)]
  · rw [if_neg (by omega), if_pos a]
set_option maxHeartbeats 8000000 in
theorem h_measures {G : GG} (d : Nat) {t : Nat → Option (Nat × Nat)} {J : Nat → Nat → Int64} {P : Nat → Nat → Value} {n sl : Nat} {I0 : Nat → Nat → Int32} (hS : SH t P) {σ : Sg} {y : Lay} (hσ : SgOK σ) (hP : HP t I0 P σ y) (hfw : Fwn I0 σ) {s dr : Nat} (hs : s < 16) (hd : dr < 16) (hB : n ≤ 601124) (hSl : sl ≤ 7293033) : CA G (d + 3) M1_measures [.ref 100, .int (nI s), .int (nI dr)] (t, I0, J, P, n, sl) (fun o h' => o = .inl none ∧ ∃ I', h' = (t, I', J, P, n, sl) ∧ (∀ b, b ≠ 117 → I' b = I0 b) ∧ ∀ j, j < 90 → I' 117 j = nI (hfF σ s dr j)) := by
  refine CA.w ?_
  show RA _ _ M1_measures 0 [.ref 100, .int (nI s), .int (nI dr), U0, U0, U0] [] _ _
  have h35 : ∀ c, 1 ≤ c → c ≤ 91 → (∀ z, 100 - z < 100 - c → ∀ I, 1 ≤ z → z ≤ 91 → (∀ b, b ≠ 117 → I b = I0 b) → (∀ j, j < 90 → I 117 j = nI (bfF σ s dr z 0 j)) → ∀ v5, RA G (d + 3) M1_measures 26 [.ref 100, .int (nI s), .int (nI dr), .int (nI 1), .int (nI z), v5] [] (t, I, J, P, n, sl) (fun o h' => o = .inl none ∧ ∃ I', h' = (t, I', J, P, n, sl) ∧ (∀ b, b ≠ 117 → I' b = I0 b) ∧ ∀ j, j < 90 → I' 117 j = nI (hfF σ s dr j))) → ∀ q, q ≤ 90 → ∀ I m, (∀ b, b ≠ 117 → I b = I0 b) → (∀ j, j < 90 → I 117 j = nI (bfF σ s dr c q j)) → ((m = 0 → ∀ j, j < q → dF σ s dr j ≠ c) ∧ (m = 1 → ∃ j, j < q ∧ dF σ s dr j = c) ∧ m ≤ 1) → RA G (d + 3) M1_measures 35 [.ref 100, .int (nI s), .int (nI dr), .int (nI m), .int (nI c), .int (nI q)] [] (t, I, J, P, n, sl) (fun o h' => o = .inl none ∧ ∃ I', h' = (t, I', J, P, n, sl) ∧ (∀ b, b ≠ 117 → I' b = I0 b) ∧ ∀ j, j < 90 → I' 117 j = nI (hfF σ s dr j)) := by
    intro c hc1 hc9 hnx
    refine up_ind ?_
    intro q hq_ ihq I m hF hfr hm
    have hm1 := hm.2.2
    refine x_iload d1_measures_35 rfl ?_
    refine x_bipush (v := nI 90) d1_measures_37 (by decide) ?_
    refine x_icmp_geN 88 d1_measures_39 (by decide) (by omega) (by omega) (fun b39 => ?_) (fun b39 => ?_)
    · refine x_iincN (c := 1) d1_measures_88 rfl (by decide) ?_
      refine x_goto 26 d1_measures_91 (by decide) ?_
      have hqe : q = 90 := by omega
      subst hqe
      rcases (by have := hm.2.2; omega : m = 0 ∨ m = 1) with rfl | rfl
      · refine x_iload_n d1_measures_26 rfl ?_
        refine x_if_eqN 94 d1_measures_27 (by decide) (by decide) (fun _ => ?_) (fun h => absurd rfl h)
        exact x_return d1_measures_94 ⟨rfl, I, rfl, hF, fun j hj => by rw [hfr j hj, bf_fin hσ hc1 (by omega) (fun q hq => hm.1 rfl q hq) hj]⟩
      · obtain ⟨j, hj, hdj⟩ := hm.2.1 rfl
        have hc90 : c ≤ 90 := by rcases dF_cases hσ s dr j with ⟨z, -⟩ | ⟨z, -⟩ <;> omega
        exact hnx (c + 1) (by omega) I (by omega) (by omega) hF (fun j hj => by rw [hfr j hj, bf_next hj]) _
    · refine x_aload_n d1_measures_42 rfl ?_
      refine x_getP d1_measures_43 f1_55 (hS.T rfl) (hS.P rfl) ?_
      refine x_iload d1_measures_46 rfl ?_
      refine x_ialdN d1_measures_48 (hS.T rfl) (by omega) ?_
      refine x_top (congrArg Value.int (show I 117 q = nI (bfF σ s dr c q q) from (hfr _ (by omega)))) ?_
      have hbl_ := bf_le σ s dr c q q
      refine x_if_neN 82 d1_measures_49 (by decide) (by omega) (fun b49 => ?_) (fun b49 => ?_)
      · refine x_iincN (c := 1) d1_measures_82 rfl (by decide) ?_
        refine x_goto 35 d1_measures_85 (by decide) ?_
        have hsk : dF σ s dr q ≠ c := by rw [bf_q] at b49; split at b49; omega; exact absurd rfl b49
        exact ihq (by omega) I m hF (fun j hj => by rw [bf_skip hsk]; exact hfr j hj) ⟨fun e j hj => (by
          by_cases ej : j = q
          · rw [ej]; exact hsk
          · exact hm.1 e j (by omega)), fun e => (by obtain ⟨j, a, b⟩ := hm.2.1 e; exact ⟨j, by omega, b⟩), hm.2.2⟩
      · refine x_aload_n d1_measures_52 rfl ?_
        refine x_iload d1_measures_53 rfl ?_
        refine x_iload d1_measures_55 rfl ?_
        refine x_iconst (v := nI 1) d1_measures_57 (by decide) ?_
        refine x_isubN d1_measures_58 (by omega) ?_
        refine x_iload_n d1_measures_59 rfl ?_
        refine x_iload_n d1_measures_60 rfl ?_
        have hP1 : HP t I P σ y := hP.fr (by rw [hF 100 (by decide)]) (fun b hb => hF b (by omega))
        have hfw1 : Fwn I σ := hfw.keep (by rw [hF 100 (by decide)]) (fun b hb => hF b (by rintro rfl; revert hb; decide))
        have hnc := bf_nc hσ (s := s) (d := dr) (n := c) (q := q) (at_ := q) (fun j _ => rfl) hc1 (by omega) b39 (by rw [bf_q] at b49; split at b49; have := dF_pos hσ (s := s) (d := dr) b39; omega; omega)
        refine x_invV 100 4 d1_measures_61 (hS.T rfl) v1_184_1 (h_next _ hS hσ hP1 hfw1 (fr := bfF σ s dr c q) (fun j hj => ⟨hfr j hj, Nat.le_trans (bf_le _ _ _ _ _ _) (by omega)⟩) (q := q) (left := c - 1) b39 (by omega) hs hd hB hSl) (Cont.p ?_) (hB := hB) (hS := hSl)
        refine x_iconst (v := -1) d1_measures_64 (by decide) ?_
        refine x_icmp_ne 71 d1_measures_65 (by decide) (fun b65 => ?_) (fun b65 => ?_)
        · refine x_aload_n d1_measures_71 rfl ?_
          refine x_getP d1_measures_72 f1_55 (hS.T rfl) (hS.P rfl) ?_
          refine x_iload d1_measures_75 rfl ?_
          refine x_iload d1_measures_77 rfl ?_
          refine x_iastN d1_measures_79 (hS.T rfl) (by omega) (fun I1 hI1 => ?_)
          have hFI1 : ∀ b, b ≠ 117 → I1 b = I0 b := fun b hb => by rw [hI1, u2_row _ _ _ hb]; exact hF b hb
          refine x_iconst (v := nI 1) d1_measures_80 (by decide) ?_
          refine x_istore_n d1_measures_81 ?_
          refine x_iincN (c := 1) d1_measures_82 rfl (by decide) ?_
          refine x_goto 35 d1_measures_85 (by decide) ?_
          have hsk : dF σ s dr q = c := hnc.mp (nfI_yes b65)
          exact ihq (by omega) I1 1 hFI1 (fun j hj => by rw [bf_set hsk]; exact row_set hfr hI1 rfl j hj) ⟨fun e => absurd e (by decide), fun _ => ⟨q, by omega, hsk⟩, by decide⟩
        · refine x_goto 82 d1_measures_68 (by decide) ?_
          refine x_iincN (c := 1) d1_measures_82 rfl (by decide) ?_
          refine x_goto 35 d1_measures_85 (by decide) ?_
          have hsk : dF σ s dr q ≠ c := fun z => by obtain ⟨l, hl⟩ := hnc.mpr z; exact nfI_no hσ b65 l hl
          exact ihq (by omega) I m hF (fun j hj => by rw [bf_skip hsk]; exact hfr j hj) ⟨fun e j hj => (by
            by_cases ej : j = q
            · rw [ej]; exact hsk
            · exact hm.1 e j (by omega)), fun e => (by obtain ⟨j, a, b⟩ := hm.2.1 e; exact ⟨j, by omega, b⟩), hm.2.2⟩
  have h26 : ∀ c, ∀ I, 1 ≤ c → c ≤ 91 → (∀ b, b ≠ 117 → I b = I0 b) → (∀ j, j < 90 → I 117 j = nI (bfF σ s dr c 0 j)) → ∀ v5, RA G (d + 3) M1_measures 26 [.ref 100, .int (nI s), .int (nI dr), .int (nI 1), .int (nI c), v5] [] (t, I, J, P, n, sl) (fun o h' => o = .inl none ∧ ∃ I', h' = (t, I', J, P, n, sl) ∧ (∀ b, b ≠ 117 → I' b = I0 b) ∧ ∀ j, j < 90 → I' 117 j = nI (hfF σ s dr j)) := by
    refine wh_ind (fun c => 100 - c) ?_
    intro c ih I hc1 hc9 hF hfr v5
    refine x_iload_n d1_measures_26 rfl ?_
    refine x_if_eqN 94 d1_measures_27 (by decide) (by omega) (fun b27 => absurd b27 (by decide)) (fun b27 => ?_)
    refine x_iconst (v := nI 0) d1_measures_30 (by decide) ?_
    refine x_istore_n d1_measures_31 ?_
    refine x_iconst (v := nI 0) d1_measures_32 (by decide) ?_
    refine x_istore d1_measures_33 ?_
    exact h35 c hc1 hc9 ih 0 (Nat.zero_le _) I 0 hF hfr ⟨fun _ j hj => absurd hj (Nat.not_lt_zero _), fun e => absurd e (by decide), by decide⟩
  have h1 : ∀ k, k ≤ 90 → ∀ I, (∀ b, b ≠ 117 → I b = I0 b) → (∀ j, j < k → I 117 j = nI 0) → RA G (d + 3) M1_measures 2 [.ref 100, .int (nI s), .int (nI dr), .int (nI k), U0, U0] [] (t, I, J, P, n, sl) (fun o h' => o = .inl none ∧ ∃ I', h' = (t, I', J, P, n, sl) ∧ (∀ b, b ≠ 117 → I' b = I0 b) ∧ ∀ j, j < 90 → I' 117 j = nI (hfF σ s dr j)) := by
    refine up_ind ?_
    intro k hk ih I hF z1
    refine x_iload_n d1_measures_2 rfl ?_
    refine x_bipush (v := nI 90) d1_measures_3 (by decide) ?_
    refine x_icmp_geN 21 d1_measures_5 (by decide) (by omega) (by omega) (fun b5 => ?_) (fun b5 => ?_)
    · refine x_iconst (v := nI 1) d1_measures_21 (by decide) ?_
      refine x_istore_n d1_measures_22 ?_
      refine x_iconst (v := nI 1) d1_measures_23 (by decide) ?_
      refine x_istore d1_measures_24 ?_
      exact h26 1 I (by decide) (by decide) hF (fun j hj => by rw [z1 j (by omega), bf_0 hσ hj]) _
    · refine x_aload_n d1_measures_8 rfl ?_
      refine x_getP d1_measures_9 f1_55 (hS.T rfl) (hS.P rfl) ?_
      refine x_iload_n d1_measures_12 rfl ?_
      refine x_iconst (v := nI 0) d1_measures_13 (by decide) ?_
      refine x_iastN d1_measures_14 (hS.T rfl) (by omega) (fun I1 hI1 => ?_)
      have hFI1 : ∀ b, b ≠ 117 → I1 b = I0 b := fun b hb => by rw [hI1, u2_row _ _ _ hb]; exact hF b hb
      refine x_iincN (c := 1) d1_measures_15 rfl (by decide) ?_
      refine x_goto 2 d1_measures_18 (by decide) ?_
      exact ih (by omega) I1 hFI1 (fun j hj => by rw [hI1, u2_at]; split; rfl; exact z1 j (by omega))
  refine x_iconst (v := nI 0) d1_measures_0 (by decide) ?_
  refine x_istore_n d1_measures_1 ?_
  exact h1 0 (Nat.zero_le _) I0 (fun _ _ => rfl) (fun j hj => absurd hj (Nat.not_lt_zero _))
set_option maxHeartbeats 4000000 in
theorem h_lineAt {G : GG} (d : Nat) {t : Nat → Option (Nat × Nat)} {J : Nat → Nat → Int64} {P : Nat → Nat → Value} {n sl : Nat} {I : Nat → Nat → Int32} (hS : SH t P) {σ : Sg} {y : Lay} (hσ : SgOK σ) (hP : HP t I P σ y) {p k : Nat} (hp : p < s_np σ) (hk : k < s_ln σ p) : CP G d M1_lineAt [.ref 100, .int (nI (100 * p + k))] (t, I, J, P, n, sl) (.ref (y.2.2 (12 * p + k))) := by
  refine CA.w ?_
  show RA _ _ M1_lineAt 0 [.ref 100, .int (nI (100 * p + k))] [] _ _
  have hnp := hσ.1
  have hln := hσ.ln hp
  refine x_aload_n d1_lineAt_0 rfl ?_
  refine x_getP d1_lineAt_1 f1_24 (hS.T rfl) (hS.P rfl) ?_
  refine x_iload_n d1_lineAt_4 rfl ?_
  refine x_bipush (v := nI 100) d1_lineAt_5 (by decide) ?_
  refine x_idivN d1_lineAt_7 (by omega) (by omega) ?_
  rw [show (100 * p + k) / 100 = p by omega]
  refine x_aald5N d1_lineAt_8 (hS.T rfl) (by omega) (hP.at_ hp) ?_
  refine x_getP d1_lineAt_9 f1_136 (hP.ty hp) (hP.pl hp) ?_
  refine x_iload_n d1_lineAt_12 rfl ?_
  refine x_bipush (v := nI 100) d1_lineAt_13 (by decide) ?_
  refine x_iremN d1_lineAt_15 (by omega) (by omega) ?_
  rw [show (100 * p + k) % 100 = k by omega]
  refine x_aald6N d1_lineAt_16 (hP.tl hp) (by omega) (hP.lp hp hk) ?_
  exact x_areturn d1_lineAt_17 ⟨rfl, rfl⟩
/-- while the steps are laid -/
def LyM (σ : Sg) (s d l : Nat) (I0 I : Nat → Nat → Int32) (c : Nat) : Prop := (∀ b, b ≠ 100 → b ≠ 118 → I b = I0 b) ∧ (∀ k, k ≠ 15 → I 100 k = I0 100 k) ∧ I 100 15 = nI c ∧ ∀ j, j < c → I 118 j = nI (match j with | 0 => cdF l | i + 1 => cdF (nxL σ s d (wq σ s d (plc σ l) i)))
theorem LyM.hp {t : Nat → Option (Nat × Nat)} {P : Nat → Nat → Value} {σ : Sg} {s d l c : Nat} {I0 I : Nat → Nat → Int32} (h : LyM σ s d l I0 I c) {y : Lay} (hP : HP t I0 P σ y) : HP t I P σ y := hP.fr (h.2.1 5 (by decide)) (fun b hb => h.1 b (by omega) (by omega))
theorem LyM.fw {σ : Sg} {s d l c : Nat} {I0 I : Nat → Nat → Int32} (h : LyM σ s d l I0 I c) (hf : Fwn I0 σ) : Fwn I σ := hf.keep (h.2.1 8 (by decide)) (fun b hb => h.1 b (by rintro rfl; revert hb; decide) (by rintro rfl; revert hb; decide))
theorem LyM.set {σ : Sg} {s d l c : Nat} {I0 I I' I'' : Nat → Nat → Int32} (h : LyM σ s d l I0 I (c + 1)) (h1 : I' = u2 I 118 (c + 1) (nI (cdF (nxL σ s d (wq σ s d (plc σ l) c))))) (h2 : I'' = u2 I' 100 15 (nI (c + 1 + 1))) : LyM σ s d l I0 I'' (c + 2) := by
  refine ⟨fun b a e => ?_, fun k hk => ?_, ?_, fun j hj => ?_⟩
  · rw [h2, u2_row _ _ _ a, h1, u2_row _ _ _ e]; exact h.1 b a e
  · rw [h2, u2_ne _ _ hk, h1, u2_row _ _ _ (by decide)]; exact h.2.1 k hk
  · rw [h2, u2_self]
  · rw [h2, u2_row _ _ _ (by decide), h1, u2_at]
    by_cases ej : j = c + 1
    · subst ej; rw [if_pos rfl]
    · rw [if_neg ej]; exact h.2.2.2 j (by omega)
theorem nI_dec (k : Nat) : nI (k + 1) + Int32.ofInt (-1) = nI k := by
  rw [← nI_add, Int32.add_assoc]; rw [show nI 1 + Int32.ofInt (-1) = 0 by decide, Int32.add_zero]
set_option maxHeartbeats 8000000 in
theorem h_lays {G : GG} (d : Nat) {t : Nat → Option (Nat × Nat)} {J : Nat → Nat → Int64} {P : Nat → Nat → Value} {n sl : Nat} {I0 : Nat → Nat → Int32} (hS : SH t P) {σ : Sg} {y : Lay} (hσ : SgOK σ) (hP : HP t I0 P σ y) (hfw : Fwn I0 σ) {s dr p k c : Nat} (hs : s < 16) (hd : dr < 16) (hp : p < s_np σ) (hk : k < s_ln σ p) (hfar : ∀ j, j < 90 → I0 117 j = nI (hfF σ s dr j)) (hc : dF σ s dr (plc σ (12 * p + k)) = c) (hc1 : 1 ≤ c) (hc9 : c ≤ 90) (hM : LyM σ s dr (12 * p + k) I0 I0 1) (hB : n ≤ 601124) (hSl : sl ≤ 7293033) : CA G (d + 3) M1_lays [.ref 100, .int (nI (100 * p + k)), .int (nI c), .int (nI s), .int (nI dr)] (t, I0, J, P, n, sl) (fun o h' => o = .inl none ∧ ∃ I', h' = (t, I', J, P, n, sl) ∧ LyM σ s dr (12 * p + k) I0 I' (c + 1)) := by
  refine CA.w ?_
  show RA _ _ M1_lays 0 [.ref 100, .int (nI (100 * p + k)), .int (nI c), .int (nI s), .int (nI dr), U0, U0, U0] [] _ _
  have hnp := hσ.1
  have hln := hσ.ln hp
  have hpl : wq σ s dr (plc σ (12 * p + k)) 0 = 8 * p + s_fs σ (12 * p + k) := by show plc σ (12 * p + k) = _; unfold plc; rw [show (12 * p + k) / 12 = p by omega]
  have h22 : ∀ i, i ≤ c - 1 → ∀ I, LyM σ s dr (12 * p + k) I0 I (i + 1) → ∀ v7, RA G (d + 3) M1_lays 22 [.ref 100, .int (nI (100 * p + k)), .int (nI c), .int (nI s), .int (nI dr), .int (nI (wq σ s dr (plc σ (12 * p + k)) i)), .int (nI (c - 1 - i)), v7] [] (t, I, J, P, n, sl) (fun o h' => o = .inl none ∧ ∃ I', h' = (t, I', J, P, n, sl) ∧ LyM σ s dr (12 * p + k) I0 I' (c + 1)) := by
    refine up_ind ?_
    intro i hi ih I hM v7
    have hdi := wq_d hσ hc hc9 i (by omega)
    refine x_iload d1_lays_22 rfl ?_
    refine x_if_ltN (tgt := 95) d1_lays_24 (by omega) ?_ (by decide)
    refine x_aload_n d1_lays_27 rfl ?_
    refine x_iload d1_lays_28 rfl ?_
    refine x_iload d1_lays_30 rfl ?_
    refine x_iload_n d1_lays_32 rfl ?_
    refine x_iload d1_lays_33 rfl ?_
    obtain ⟨l2, hl2⟩ := Nx.ex hσ (s := s) (d := dr) (q := wq σ s dr (plc σ (12 * p + k)) i) (n := c - 1 - i) (by omega) (by omega)
    have hNF := nf_nx hσ (left := c - 1 - i) (fr := hfF σ s dr) (fun _ _ => rfl) (by omega) (by omega) hl2
    have hq2 := (hl2.q hσ)
    have hq3 := (hq2.1.lt hσ hl2.1.1 hl2.1.2.2)
    have hp2 := hl2.1.1
    have hk2 := hl2.1.2.2
    have hln2 := hσ.ln hp2
    have hcd := cdF_d l2
    refine x_invV 100 4 d1_lays_35 (hS.T rfl) v1_184_1 (h_next _ hS hσ (hM.hp hP) (hM.fw hfw) (fr := hfF σ s dr) (fun j hj => ⟨by rw [hM.1 117 (by decide) (by decide)]; exact hfar j hj, Nat.le_trans (hfF_lt hσ s dr j) (by decide)⟩) (left := c - 1 - i) hq3.1 (by omega) hs hd hB hSl) (Cont.p ?_) (hB := hB) (hS := hSl)
    refine x_top (congrArg Value.int (nfI_t hNF)) ?_
    refine x_istore d1_lays_38 ?_
    refine x_aload_n d1_lays_40 rfl ?_
    refine x_getP d1_lays_41 f1_58 (hS.T rfl) (hS.P rfl) ?_
    refine x_aload_n d1_lays_44 rfl ?_
    refine x_getI d1_lays_45 f1_203 (hS.T rfl) ?_
    refine x_top (congrArg Value.int (show I 100 15 = nI (i + 1) from hM.2.2.1)) ?_
    refine x_iload d1_lays_48 rfl ?_
    refine x_iastN d1_lays_50 (hS.T rfl) (by omega) (fun I1 hI1 => ?_)
    refine x_aload_n d1_lays_51 rfl ?_
    refine x_dup d1_lays_52 rfl ?_
    refine x_getI d1_lays_53 f1_203 (hS.T rfl) ?_
    refine x_top (congrArg Value.int (show I1 100 15 = nI (i + 1) from (by rw [hI1, u2_row _ _ _ (by decide)]; exact hM.2.2.1))) ?_
    refine x_iconst (v := nI 1) d1_lays_56 (by decide) ?_
    refine x_iaddN d1_lays_57 ?_
    refine x_putIE d1_lays_58 p1_203 (hS.T rfl) (fun I2 hI2 => ?_)
    have hM2 : LyM σ s dr (12 * p + k) I0 I2 (i + 2) := hM.set (by rw [hI1, nxL_eq hl2]) hI2
    refine x_iload d1_lays_61 rfl ?_
    refine x_if_leN 89 d1_lays_63 (by decide) (by omega) (fun b63 => ?_) (fun b63 => ?_)
    · have hce : c = i + 1 := by omega
      subst hce
      refine x_iinc (v := -1) d1_lays_89 rfl (by rw [show i + 1 - 1 - i = 0 by omega]; decide) ?_
      refine x_goto 22 d1_lays_92 (by decide) ?_
      refine x_iload d1_lays_22 rfl ?_
      refine x_if_lt 95 d1_lays_24 (by decide) (fun _ => ?_) (fun h => absurd (by decide) h)
      exact x_return d1_lays_95 ⟨rfl, I2, rfl, hM2⟩
    · refine x_aload_n d1_lays_66 rfl ?_
      refine x_iload d1_lays_67 rfl ?_
      refine x_invV 100 1 d1_lays_69 (hS.T rfl) v1_210_1 (show CP G (d + 2) M1_lineAt [.ref 100, .int (nI (cdF l2))] _ _ from h_lineAt _ hS hσ (hM2.hp hP) (p := l2 / 12) (k := l2 % 12) hp2 hk2) (Cont.p ?_) (hB := hB) (hS := hSl)
      refine x_aload_n d1_lays_72 rfl ?_
      refine x_getP d1_lays_73 f1_37 (hS.T rfl) (hS.P rfl) ?_
      refine x_iload d1_lays_76 rfl ?_
      refine x_bipush (v := nI 100) d1_lays_78 (by decide) ?_
      refine x_idivN d1_lays_80 (by omega) (by omega) ?_
      rw [hcd.1]
      refine x_iload d1_lays_81 rfl ?_
      refine x_iload_n d1_lays_83 rfl ?_
      refine x_laysLd (dr := dr) (d + 1) hS hσ (hM2.hp hP) hp2 hk2 hq3.1 hs hB hSl ?_
      refine x_top (congrArg Value.int (hlI_t hσ hp2 hk2 hq2.1 (by rintro e9; rw [e9, dF_90] at hq2; omega))) ?_
      refine x_istore d1_lays_87 ?_
      refine x_iinc (v := nI (c - 1 - (i + 1))) d1_lays_89 rfl (by rw [show c - 1 - i = (c - 1 - (i + 1)) + 1 by omega]; exact nI_dec _) ?_
      refine x_goto 22 d1_lays_92 (by decide) ?_
      exact ih (by omega) I2 hM2 _
  refine x_iload_n d1_lays_0 rfl ?_
  refine x_bipush (v := nI 100) d1_lays_1 (by decide) ?_
  refine x_idivN d1_lays_3 (by omega) (by omega) ?_
  rw [show (100 * p + k) / 100 = p by omega]
  refine x_aload_n d1_lays_4 rfl ?_
  refine x_iload_n d1_lays_5 rfl ?_
  refine x_invV 100 1 d1_lays_6 (hS.T rfl) v1_210_1 (h_lineAt _ hS hσ hP (p := p) (k := k) hp hk) (Cont.p ?_) (hB := hB) (hS := hSl)
  refine x_getI d1_lays_9 f1_146 (hP.lr hp hk).2.1 ?_ (hc := lncs (hσ.row hp hk).1)
  refine x_top (congrArg Value.int (show I0 (y.2.2 (12 * p + k)) 2 = nI (s_fs σ (12 * p + k)) from (hP.lr hp hk).2.2.2.2.1)) ?_
  have hfs_ := (hσ.row hp hk).2.2.1
  refine x_invS 2 d1_lays_12 s1_162 (h_place p (s_fs σ (12 * p + k))) (Cont.p ?_) (hB := hB) (hS := hSl)
  refine x_istore d1_lays_15 ?_
  refine x_iload_n d1_lays_17 rfl ?_
  refine x_iconst (v := nI 1) d1_lays_18 (by decide) ?_
  refine x_isubN d1_lays_19 (by omega) ?_
  refine x_istore d1_lays_20 ?_
  have h0 := h22 0 (by omega) I0 hM U0
  rw [hpl] at h0
  exact h0
