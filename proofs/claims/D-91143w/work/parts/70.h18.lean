/-! the house: the reader: words that begin lines; lines are made -/
set_option maxRecDepth 100000
theorem hsV_cg {c c2 : Nat → Nat} {n m : Nat} (h : StrEq n m c c2) : hsV c n = hsV c2 m := by
  obtain ⟨rfl, h2⟩ := h
  induction n with
  | zero => rfl
  | succ n ih => rw [hsV, hsV, ih (fun i hi => h2 i (by omega)), h2 n (by omega)]
theorem StrT.u {t : Nat → Option (Nat × Nat)} {I : Nat → Nat → Int32} {P : Nat → Nat → Value} {a v v2 n m : Nat} {c c2 : Nat → Nat} (h : StrT t I P a v n c) (h2 : StrT t I P a v2 m c2) : StrEq n m c c2 := by
  have e1 := h.2.1.symm.trans h2.2.1
  injection e1 with e1
  subst e1
  have e2 := h.2.2.1.symm.trans h2.2.2.1
  injection e2 with e2
  injection e2 with _ e2
  subst e2
  refine ⟨rfl, fun i hi => ?_⟩
  have h3 := (h.2.2.2.2.1 i hi).1.symm.trans (h2.2.2.2.2.1 i hi).1
  have h4 := (h.2.2.2.2.1 i hi).2
  have h5 := (h2.2.2.2.2.1 i hi).2
  have h6 := congrArg Int32.toInt h3
  rw [nI_toInt (by omega), nI_toInt (by omega)] at h6
  omega
theorem StrT.ne {t : Nat → Option (Nat × Nat)} {I : Nat → Nat → Int32} {P : Nat → Nat → Value} {a v n : Nat} {c : Nat → Nat} (h : StrT t I P a v n c) {b : Nat} (hb : t b = some (15, 0)) : v ≠ b := fun e => by
  have h1 := h.2.2.1
  rw [e, hb] at h1
  injection h1 with h1
  injection h1 with h1
  exact absurd h1 (by decide)
/-- a hash has been asked for -/
theorem StrT.hash {t : Nat → Option (Nat × Nat)} {I I' : Nat → Nat → Int32} {P : Nat → Nat → Value} {a w v n : Nat} {c : Nat → Nat} (hw : StrT t I P w v n c) (ha : t a = some (15, 0)) (h1 : ∀ b, b ≠ a → I' b = I b) (h2 : ∀ j, j ≠ 3 → j ≠ 2 → I' a j = I a j) : StrT t I' P w v n c := by
  refine ⟨hw.1, hw.2.1, hw.2.2.1, ?_, by rw [h1 v (hw.ne ha)]; exact hw.2.2.2.2.1, hw.2.2.2.2.2⟩
  by_cases e : w = a
  · rw [e, h2 1 (by decide) (by decide), ← e]; exact hw.2.2.2.1
  · rw [h1 w e]; exact hw.2.2.2.1
theorem HRd.hash {t : Nat → Option (Nat × Nat)} {I I' : Nat → Nat → Int32} {P : Nat → Nat → Value} {z p : Nat} {f : Nat → Nat} {a v n : Nat} {c : Nat → Nat} (h : HRd t I P z f p) (ha : StrT t I P a v n c) (h144 : 144 ≤ a) (h1 : ∀ b, b ≠ a → I' b = I b) (h2 : ∀ j, j ≠ 3 → j ≠ 2 → I' a j = I a j) (hk : HsK I' a (hsV c n)) : HRd t I' P z f p := by
  obtain ⟨a1, a2, a3, a4, a5, a6⟩ := h
  have r2 := h1 102 (by omega)
  have r1 := h1 101 (by omega)
  refine ⟨by rw [r2]; exact a1, by rw [r2]; exact a2, by rw [r2]; exact a3, fun e => by rw [r2]; exact a4 e, fun e => ?_, by rw [r2]; exact a6.1, by rw [r1]; exact a6.2.1, a6.2.2⟩
  obtain ⟨w, v2, w1, w2, w3, w4⟩ := a5 e
  refine ⟨w, v2, w1, w2.hash ha.1 h1 h2, w3, ?_⟩
  by_cases ew : w = a
  · subst ew; rw [hsV_cg (w2.u ha)]; exact hk
  · unfold HsK; rw [h1 w ew]; exact w4
theorem GR.hash {t : Nat → Option (Nat × Nat)} {I I' : Nat → Nat → Int32} {J : Nat → Nat → Int64} {P : Nat → Nat → Value} {n a : Nat} (hT : TyB t n) (ha : t a = some (15, 0)) (h144 : 144 ≤ a) (h1 : ∀ b, b ≠ a → I' b = I b) : GR False t I J P t I' J P n :=
  ⟨fun _ _ e => e, fun b tg h h2 _ => h1 b (fun e => h2 (by rw [e, ha] at h; injection h with h; exact h.symm)), fun b h _ => h1 b (by omega), fun _ _ => rfl, fun _ _ _ _ => rfl, fun _ _ => rfl, hT⟩
theorem StrT.gr {t t' : Nat → Option (Nat × Nat)} {I I' : Nat → Nat → Int32} {J J' : Nat → Nat → Int64} {P P' : Nat → Nat → Value} {n' a v n : Nat} {c : Nat → Nat} (h : StrT t I P a v n c) (g : GR True t I J P t' I' J' P' n') (ha : 144 ≤ a) (hS : SH t P) : StrT t' I' P' a v n c := by
  obtain ⟨a1, a2, a3, a4, a5, a6⟩ := h
  have hv : ¬ (102 ≤ v ∧ v ≤ 105) := fun q => by
    have e1 : v = 102 ∨ v = 103 ∨ v = 104 ∨ v = 105 := by omega
    rcases e1 with e | e | e | e <;> rw [e, hS.T rfl] at a3 <;> cases a3
  exact ⟨g.1 _ _ a1, by rw [g.2.2.2.2.1 _ _ a1 (by omega)]; exact a2, g.1 _ _ a3, by rw [g.2.1 _ _ a1 (fun _ => trivial) (by omega)]; exact a4, by rw [g.2.1 _ _ a3 (fun _ => trivial) hv]; exact a5, a6⟩
theorem lk_none {h : Int32} {ps : List (Int × Int)} {df : Int} (hn : ∀ q ∈ ps, q.1 ≠ h.toInt) : Op.lookupswitch.offset ps df h.toInt = df := by
  induction ps with
  | nil => rfl
  | cons q r ih =>
    obtain ⟨a, o⟩ := q
    show (if a = h.toInt then o else Op.lookupswitch.offset r df h.toInt) = df
    rw [if_neg (hn (a, o) List.mem_cons_self)]
    exact ih (fun q hq => hn q (List.mem_cons_of_mem _ hq))
theorem hs_get : hsV (lt_ kw_get) 3 = 102230 := by decide
theorem hs_let : hsV (lt_ kw_let) 3 = 107035 := by decide
theorem hs_ask : hsV (lt_ kw_ask) 3 = 96889 := by decide
theorem hs_put : hsV (lt_ kw_put) 3 = 111375 := by decide
theorem hs_wash : hsV (lt_ kw_wash) 4 = 3642015 := by decide
theorem hs_result : hsV (lt_ kw_result) 6 = (-934426595) := by decide
theorem rK_0 {z p : Nat} {f : Nat → Nat}  (h0 : wIs z f p kw_get) : psK z f p = some 0 := by unfold psK; rw [@if_pos _ (Classical.propDecidable _) h0]
theorem rK_1 {z p : Nat} {f : Nat → Nat} (h0 : ¬ wIs z f p kw_get) (h1 : wIs z f p kw_let) : psK z f p = some 1 := by unfold psK; rw [@if_neg _ (Classical.propDecidable _) h0, @if_pos _ (Classical.propDecidable _) h1]
theorem rK_2 {z p : Nat} {f : Nat → Nat} (h0 : ¬ wIs z f p kw_get) (h1 : ¬ wIs z f p kw_let) (h2 : wIs z f p kw_ask) : psK z f p = some 2 := by unfold psK; rw [@if_neg _ (Classical.propDecidable _) h0, @if_neg _ (Classical.propDecidable _) h1, @if_pos _ (Classical.propDecidable _) h2]
theorem rK_3 {z p : Nat} {f : Nat → Nat} (h0 : ¬ wIs z f p kw_get) (h1 : ¬ wIs z f p kw_let) (h2 : ¬ wIs z f p kw_ask) (h3 : wIs z f p kw_put) : psK z f p = some 3 := by unfold psK; rw [@if_neg _ (Classical.propDecidable _) h0, @if_neg _ (Classical.propDecidable _) h1, @if_neg _ (Classical.propDecidable _) h2, @if_pos _ (Classical.propDecidable _) h3]
theorem rK_4 {z p : Nat} {f : Nat → Nat} (h0 : ¬ wIs z f p kw_get) (h1 : ¬ wIs z f p kw_let) (h2 : ¬ wIs z f p kw_ask) (h3 : ¬ wIs z f p kw_put) (h4 : wIs z f p kw_wash) : psK z f p = some 4 := by unfold psK; rw [@if_neg _ (Classical.propDecidable _) h0, @if_neg _ (Classical.propDecidable _) h1, @if_neg _ (Classical.propDecidable _) h2, @if_neg _ (Classical.propDecidable _) h3, @if_pos _ (Classical.propDecidable _) h4]
theorem rK_5 {z p : Nat} {f : Nat → Nat} (h0 : ¬ wIs z f p kw_get) (h1 : ¬ wIs z f p kw_let) (h2 : ¬ wIs z f p kw_ask) (h3 : ¬ wIs z f p kw_put) (h4 : ¬ wIs z f p kw_wash) (h5 : wIs z f p kw_result) : psK z f p = some 5 := by unfold psK; rw [@if_neg _ (Classical.propDecidable _) h0, @if_neg _ (Classical.propDecidable _) h1, @if_neg _ (Classical.propDecidable _) h2, @if_neg _ (Classical.propDecidable _) h3, @if_neg _ (Classical.propDecidable _) h4, @if_pos _ (Classical.propDecidable _) h5]
theorem rK_no {z p : Nat} {f : Nat → Nat} (h0 : ¬ wIs z f p kw_get) (h1 : ¬ wIs z f p kw_let) (h2 : ¬ wIs z f p kw_ask) (h3 : ¬ wIs z f p kw_put) (h4 : ¬ wIs z f p kw_wash) (h5 : ¬ wIs z f p kw_result) : psK z f p = none := by unfold psK; rw [@if_neg _ (Classical.propDecidable _) h0, @if_neg _ (Classical.propDecidable _) h1, @if_neg _ (Classical.propDecidable _) h2, @if_neg _ (Classical.propDecidable _) h3, @if_neg _ (Classical.propDecidable _) h4, @if_neg _ (Classical.propDecidable _) h5]
theorem rK_get {z p w : Nat} {f : Nat → Nat} (h : psK z f p = some w) : (w = 0 ∧ wIs z f p kw_get) ∨ (w = 1 ∧ wIs z f p kw_let) ∨ (w = 2 ∧ wIs z f p kw_ask) ∨ (w = 3 ∧ wIs z f p kw_put) ∨ (w = 4 ∧ wIs z f p kw_wash) ∨ (w = 5 ∧ wIs z f p kw_result) := by
  by_cases h0 : wIs z f p kw_get
  · rw [rK_0 h0] at h; injection h with h; exact Or.inl ⟨h.symm, h0⟩
  by_cases h1 : wIs z f p kw_let
  · rw [rK_1 h0 h1] at h; injection h with h; exact Or.inr (Or.inl ⟨h.symm, h1⟩)
  by_cases h2 : wIs z f p kw_ask
  · rw [rK_2 h0 h1 h2] at h; injection h with h; exact Or.inr (Or.inr (Or.inl ⟨h.symm, h2⟩))
  by_cases h3 : wIs z f p kw_put
  · rw [rK_3 h0 h1 h2 h3] at h; injection h with h; exact Or.inr (Or.inr (Or.inr (Or.inl ⟨h.symm, h3⟩)))
  by_cases h4 : wIs z f p kw_wash
  · rw [rK_4 h0 h1 h2 h3 h4] at h; injection h with h; exact Or.inr (Or.inr (Or.inr (Or.inr (Or.inl ⟨h.symm, h4⟩))))
  by_cases h5 : wIs z f p kw_result
  · rw [rK_5 h0 h1 h2 h3 h4 h5] at h; injection h with h; exact Or.inr (Or.inr (Or.inr (Or.inr (Or.inr (⟨h.symm, h5⟩)))))
  rw [rK_no h0 h1 h2 h3 h4 h5] at h; cases h
set_option maxHeartbeats 8000000 in
theorem h_rbegins {G : GG} (d : Nat) {t : Nat → Option (Nat × Nat)} {J : Nat → Nat → Int64} {P : Nat → Nat → Value} {n sl : Nat} {I : Nat → Nat → Int32} (hS : SH t P) (hC : CSt t I P) (hT : TyB t n) (hn : 144 ≤ n) {z p : Nat} {f : Nat → Nat} (hR : HRd t I P z f p) (hp : p ≤ z) (hB0 : n + 2 ≤ 601124) (hSl0 : sl + 12 ≤ 7293033) : CA G (d + 4) M2_begins [.ref 102] (t, I, J, P, n, sl) (fun o h' => o = .inl (some (.int (nI (if psK z f p = none then 0 else 1)))) ∧ ∃ I', h' = (t, I', J, P, n, sl) ∧ GR False t I J P t I' J P n ∧ HRd t I' P z f p ∧ I' 105 = I 105) := by
  refine CA.w ?_
  show RA _ _ M2_begins 0 [.ref 102, U0, U0] [] _ _
  have hB : n ≤ 601124 := by omega
  have hSl : sl ≤ 7293033 := by omega
  have hz3 := hR.x.2.2
  have hE := tE_le (f := f) hp
  have hKl := tK_lt z f p
  by_cases hK2 : tK z f p = 2
  · obtain ⟨w, v, hw1, hw2, ⟨hw3, hwv⟩, hw4⟩ := hR.2.2.2.2.1 hK2
    by_cases h0 : wIs z f p kw_get
    · refine x_aload_n d2_begins_0 rfl ?_
      refine x_getI d2_begins_1 f2_47 (hS.T rfl) ?_
      refine x_top (congrArg Value.int (show I 102 6 = nI (tK z f p) from hR.2.1)) ?_
      refine x_iconst (v := nI 2) d2_begins_4 (by decide) ?_
      refine x_icmp_eqN 10 d2_begins_5 (by decide) (by omega) (by omega) (fun b5 => ?_) (fun b5 => absurd b5 (fun q => q hK2))
      refine x_aload_n d2_begins_10 rfl ?_
      refine x_getP d2_begins_11 f2_61 (hS.T rfl) hw1 ?_
      refine x_astore_n d2_begins_14 ?_
      refine x_iconst (v := -1) d2_begins_15 (by decide) ?_
      refine x_istore_n d2_begins_16 ?_
      refine x_aload_n d2_begins_17 rfl ?_
      refine x_invV w 0 d2_begins_18 hw2.1 v2_93_15 (j_hash hw2 (by omega) hwv hw4 hB hSl) ?_ (hB := hB) (hS := hSl)
      rintro o h' ⟨rfl, I9, rfl, hq1, hq2, hq3⟩
      have g9 : GR False t I J P t I9 J P n := GR.hash hT hw2.1 hw3 hq1
      have hR9 : HRd t I9 P z f p := hR.hash hw2 hw3 hq1 hq2 hq3
      have hw29 := hw2.hash hw2.1 hq1 hq2
      have hC9 := hC.gr g9
      have r59 : I9 105 = I 105 := hq1 105 (by omega)
      show RA _ _ _ _ _ [Value.int (hsV (tW z f p) (tL z f p))] _ _
      refine x_top (congrArg Value.int ((hsV_cg h0.2).trans hs_get)) ?_
      refine x_lookup (off := 59) 80 d2_begins_21 (by decide) (by decide) (by decide) ?_
      refine x_aload_n d2_begins_80 rfl ?_
      refine x_ldcS (k := 3) d2_begins_81 (List.mem_of_getElem? (i := 2) rfl) ?_
      refine x_invV w 1 d2_begins_83 hw2.1 v2_74_15 (j_equals hw29 (hC9 (3, kw_get) (List.mem_of_getElem? (i := 2) rfl)) (by omega) (by show w ≠ 3; omega) hB hSl) (Cont.p ?_) (hB := hB) (hS := hSl)
      have hbl := bP_lt (StrEq (tL z f p) kw_get.length (tW z f p) (lt_ kw_get))
      show RA _ _ _ _ _ [Value.int (nI (bP (StrEq (tL z f p) kw_get.length (tW z f p) (lt_ kw_get))))] _ _
      refine x_if_eqN 161 d2_begins_86 (by decide) (by omega) (fun b86 => absurd b86 (by rw [bP_t h0.2]; decide)) (fun b86 => ?_)
      refine x_iconst (v := nI 0) d2_begins_89 (by decide) ?_
      refine x_istore_n d2_begins_90 ?_
      refine x_goto 161 d2_begins_91 (by decide) ?_
      refine x_iload_n d2_begins_161 rfl ?_
      refine x_tableIn (off := 38) 200 d2_begins_162 (by decide) (by decide) (by decide) (by decide) ?_
      refine x_iconst (v := nI 1) d2_begins_200 (by decide) ?_
      exact x_ireturn d2_begins_201 ⟨by rw [rK_0 h0, if_neg (by decide)], I9, rfl, g9, hR9, r59⟩
    by_cases h1 : wIs z f p kw_let
    · refine x_aload_n d2_begins_0 rfl ?_
      refine x_getI d2_begins_1 f2_47 (hS.T rfl) ?_
      refine x_top (congrArg Value.int (show I 102 6 = nI (tK z f p) from hR.2.1)) ?_
      refine x_iconst (v := nI 2) d2_begins_4 (by decide) ?_
      refine x_icmp_eqN 10 d2_begins_5 (by decide) (by omega) (by omega) (fun b5 => ?_) (fun b5 => absurd b5 (fun q => q hK2))
      refine x_aload_n d2_begins_10 rfl ?_
      refine x_getP d2_begins_11 f2_61 (hS.T rfl) hw1 ?_
      refine x_astore_n d2_begins_14 ?_
      refine x_iconst (v := -1) d2_begins_15 (by decide) ?_
      refine x_istore_n d2_begins_16 ?_
      refine x_aload_n d2_begins_17 rfl ?_
      refine x_invV w 0 d2_begins_18 hw2.1 v2_93_15 (j_hash hw2 (by omega) hwv hw4 hB hSl) ?_ (hB := hB) (hS := hSl)
      rintro o h' ⟨rfl, I9, rfl, hq1, hq2, hq3⟩
      have g9 : GR False t I J P t I9 J P n := GR.hash hT hw2.1 hw3 hq1
      have hR9 : HRd t I9 P z f p := hR.hash hw2 hw3 hq1 hq2 hq3
      have hw29 := hw2.hash hw2.1 hq1 hq2
      have hC9 := hC.gr g9
      have r59 : I9 105 = I 105 := hq1 105 (by omega)
      show RA _ _ _ _ _ [Value.int (hsV (tW z f p) (tL z f p))] _ _
      refine x_top (congrArg Value.int ((hsV_cg h1.2).trans hs_let)) ?_
      refine x_lookup (off := 73) 94 d2_begins_21 (by decide) (by decide) (by decide) ?_
      refine x_aload_n d2_begins_94 rfl ?_
      refine x_ldcS (k := 4) d2_begins_95 (List.mem_of_getElem? (i := 3) rfl) ?_
      refine x_invV w 1 d2_begins_97 hw2.1 v2_74_15 (j_equals hw29 (hC9 (4, kw_let) (List.mem_of_getElem? (i := 3) rfl)) (by omega) (by show w ≠ 4; omega) hB hSl) (Cont.p ?_) (hB := hB) (hS := hSl)
      have hbl := bP_lt (StrEq (tL z f p) kw_let.length (tW z f p) (lt_ kw_let))
      show RA _ _ _ _ _ [Value.int (nI (bP (StrEq (tL z f p) kw_let.length (tW z f p) (lt_ kw_let))))] _ _
      refine x_if_eqN 161 d2_begins_100 (by decide) (by omega) (fun b100 => absurd b100 (by rw [bP_t h1.2]; decide)) (fun b100 => ?_)
      refine x_iconst (v := nI 1) d2_begins_103 (by decide) ?_
      refine x_istore_n d2_begins_104 ?_
      refine x_goto 161 d2_begins_105 (by decide) ?_
      refine x_iload_n d2_begins_161 rfl ?_
      refine x_tableIn (off := 38) 200 d2_begins_162 (by decide) (by decide) (by decide) (by decide) ?_
      refine x_iconst (v := nI 1) d2_begins_200 (by decide) ?_
      exact x_ireturn d2_begins_201 ⟨by rw [rK_1 h0 h1, if_neg (by decide)], I9, rfl, g9, hR9, r59⟩
    by_cases h2 : wIs z f p kw_ask
    · refine x_aload_n d2_begins_0 rfl ?_
      refine x_getI d2_begins_1 f2_47 (hS.T rfl) ?_
      refine x_top (congrArg Value.int (show I 102 6 = nI (tK z f p) from hR.2.1)) ?_
      refine x_iconst (v := nI 2) d2_begins_4 (by decide) ?_
      refine x_icmp_eqN 10 d2_begins_5 (by decide) (by omega) (by omega) (fun b5 => ?_) (fun b5 => absurd b5 (fun q => q hK2))
      refine x_aload_n d2_begins_10 rfl ?_
      refine x_getP d2_begins_11 f2_61 (hS.T rfl) hw1 ?_
      refine x_astore_n d2_begins_14 ?_
      refine x_iconst (v := -1) d2_begins_15 (by decide) ?_
      refine x_istore_n d2_begins_16 ?_
      refine x_aload_n d2_begins_17 rfl ?_
      refine x_invV w 0 d2_begins_18 hw2.1 v2_93_15 (j_hash hw2 (by omega) hwv hw4 hB hSl) ?_ (hB := hB) (hS := hSl)
      rintro o h' ⟨rfl, I9, rfl, hq1, hq2, hq3⟩
      have g9 : GR False t I J P t I9 J P n := GR.hash hT hw2.1 hw3 hq1
      have hR9 : HRd t I9 P z f p := hR.hash hw2 hw3 hq1 hq2 hq3
      have hw29 := hw2.hash hw2.1 hq1 hq2
      have hC9 := hC.gr g9
      have r59 : I9 105 = I 105 := hq1 105 (by omega)
      show RA _ _ _ _ _ [Value.int (hsV (tW z f p) (tL z f p))] _ _
      refine x_top (congrArg Value.int ((hsV_cg h2.2).trans hs_ask)) ?_
      refine x_lookup (off := 87) 108 d2_begins_21 (by decide) (by decide) (by decide) ?_
      refine x_aload_n d2_begins_108 rfl ?_
      refine x_ldcS (k := 5) d2_begins_109 (List.mem_of_getElem? (i := 4) rfl) ?_
      refine x_invV w 1 d2_begins_111 hw2.1 v2_74_15 (j_equals hw29 (hC9 (5, kw_ask) (List.mem_of_getElem? (i := 4) rfl)) (by omega) (by show w ≠ 5; omega) hB hSl) (Cont.p ?_) (hB := hB) (hS := hSl)
      have hbl := bP_lt (StrEq (tL z f p) kw_ask.length (tW z f p) (lt_ kw_ask))
      show RA _ _ _ _ _ [Value.int (nI (bP (StrEq (tL z f p) kw_ask.length (tW z f p) (lt_ kw_ask))))] _ _
      refine x_if_eqN 161 d2_begins_114 (by decide) (by omega) (fun b114 => absurd b114 (by rw [bP_t h2.2]; decide)) (fun b114 => ?_)
      refine x_iconst (v := nI 2) d2_begins_117 (by decide) ?_
      refine x_istore_n d2_begins_118 ?_
      refine x_goto 161 d2_begins_119 (by decide) ?_
      refine x_iload_n d2_begins_161 rfl ?_
      refine x_tableIn (off := 38) 200 d2_begins_162 (by decide) (by decide) (by decide) (by decide) ?_
      refine x_iconst (v := nI 1) d2_begins_200 (by decide) ?_
      exact x_ireturn d2_begins_201 ⟨by rw [rK_2 h0 h1 h2, if_neg (by decide)], I9, rfl, g9, hR9, r59⟩
    by_cases h3 : wIs z f p kw_put
    · refine x_aload_n d2_begins_0 rfl ?_
      refine x_getI d2_begins_1 f2_47 (hS.T rfl) ?_
      refine x_top (congrArg Value.int (show I 102 6 = nI (tK z f p) from hR.2.1)) ?_
      refine x_iconst (v := nI 2) d2_begins_4 (by decide) ?_
      refine x_icmp_eqN 10 d2_begins_5 (by decide) (by omega) (by omega) (fun b5 => ?_) (fun b5 => absurd b5 (fun q => q hK2))
      refine x_aload_n d2_begins_10 rfl ?_
      refine x_getP d2_begins_11 f2_61 (hS.T rfl) hw1 ?_
      refine x_astore_n d2_begins_14 ?_
      refine x_iconst (v := -1) d2_begins_15 (by decide) ?_
      refine x_istore_n d2_begins_16 ?_
      refine x_aload_n d2_begins_17 rfl ?_
      refine x_invV w 0 d2_begins_18 hw2.1 v2_93_15 (j_hash hw2 (by omega) hwv hw4 hB hSl) ?_ (hB := hB) (hS := hSl)
      rintro o h' ⟨rfl, I9, rfl, hq1, hq2, hq3⟩
      have g9 : GR False t I J P t I9 J P n := GR.hash hT hw2.1 hw3 hq1
      have hR9 : HRd t I9 P z f p := hR.hash hw2 hw3 hq1 hq2 hq3
      have hw29 := hw2.hash hw2.1 hq1 hq2
      have hC9 := hC.gr g9
      have r59 : I9 105 = I 105 := hq1 105 (by omega)
      show RA _ _ _ _ _ [Value.int (hsV (tW z f p) (tL z f p))] _ _
      refine x_top (congrArg Value.int ((hsV_cg h3.2).trans hs_put)) ?_
      refine x_lookup (off := 101) 122 d2_begins_21 (by decide) (by decide) (by decide) ?_
      refine x_aload_n d2_begins_122 rfl ?_
      refine x_ldcS (k := 6) d2_begins_123 (List.mem_of_getElem? (i := 5) rfl) ?_
      refine x_invV w 1 d2_begins_125 hw2.1 v2_74_15 (j_equals hw29 (hC9 (6, kw_put) (List.mem_of_getElem? (i := 5) rfl)) (by omega) (by show w ≠ 6; omega) hB hSl) (Cont.p ?_) (hB := hB) (hS := hSl)
      have hbl := bP_lt (StrEq (tL z f p) kw_put.length (tW z f p) (lt_ kw_put))
      show RA _ _ _ _ _ [Value.int (nI (bP (StrEq (tL z f p) kw_put.length (tW z f p) (lt_ kw_put))))] _ _
      refine x_if_eqN 161 d2_begins_128 (by decide) (by omega) (fun b128 => absurd b128 (by rw [bP_t h3.2]; decide)) (fun b128 => ?_)
      refine x_iconst (v := nI 3) d2_begins_131 (by decide) ?_
      refine x_istore_n d2_begins_132 ?_
      refine x_goto 161 d2_begins_133 (by decide) ?_
      refine x_iload_n d2_begins_161 rfl ?_
      refine x_tableIn (off := 38) 200 d2_begins_162 (by decide) (by decide) (by decide) (by decide) ?_
      refine x_iconst (v := nI 1) d2_begins_200 (by decide) ?_
      exact x_ireturn d2_begins_201 ⟨by rw [rK_3 h0 h1 h2 h3, if_neg (by decide)], I9, rfl, g9, hR9, r59⟩
    by_cases h4 : wIs z f p kw_wash
    · refine x_aload_n d2_begins_0 rfl ?_
      refine x_getI d2_begins_1 f2_47 (hS.T rfl) ?_
      refine x_top (congrArg Value.int (show I 102 6 = nI (tK z f p) from hR.2.1)) ?_
      refine x_iconst (v := nI 2) d2_begins_4 (by decide) ?_
      refine x_icmp_eqN 10 d2_begins_5 (by decide) (by omega) (by omega) (fun b5 => ?_) (fun b5 => absurd b5 (fun q => q hK2))
      refine x_aload_n d2_begins_10 rfl ?_
      refine x_getP d2_begins_11 f2_61 (hS.T rfl) hw1 ?_
      refine x_astore_n d2_begins_14 ?_
      refine x_iconst (v := -1) d2_begins_15 (by decide) ?_
      refine x_istore_n d2_begins_16 ?_
      refine x_aload_n d2_begins_17 rfl ?_
      refine x_invV w 0 d2_begins_18 hw2.1 v2_93_15 (j_hash hw2 (by omega) hwv hw4 hB hSl) ?_ (hB := hB) (hS := hSl)
      rintro o h' ⟨rfl, I9, rfl, hq1, hq2, hq3⟩
      have g9 : GR False t I J P t I9 J P n := GR.hash hT hw2.1 hw3 hq1
      have hR9 : HRd t I9 P z f p := hR.hash hw2 hw3 hq1 hq2 hq3
      have hw29 := hw2.hash hw2.1 hq1 hq2
      have hC9 := hC.gr g9
      have r59 : I9 105 = I 105 := hq1 105 (by omega)
      show RA _ _ _ _ _ [Value.int (hsV (tW z f p) (tL z f p))] _ _
      refine x_top (congrArg Value.int ((hsV_cg h4.2).trans hs_wash)) ?_
      refine x_lookup (off := 115) 136 d2_begins_21 (by decide) (by decide) (by decide) ?_
      refine x_aload_n d2_begins_136 rfl ?_
      refine x_ldcS (k := 7) d2_begins_137 (List.mem_of_getElem? (i := 6) rfl) ?_
      refine x_invV w 1 d2_begins_139 hw2.1 v2_74_15 (j_equals hw29 (hC9 (7, kw_wash) (List.mem_of_getElem? (i := 6) rfl)) (by omega) (by show w ≠ 7; omega) hB hSl) (Cont.p ?_) (hB := hB) (hS := hSl)
      have hbl := bP_lt (StrEq (tL z f p) kw_wash.length (tW z f p) (lt_ kw_wash))
      show RA _ _ _ _ _ [Value.int (nI (bP (StrEq (tL z f p) kw_wash.length (tW z f p) (lt_ kw_wash))))] _ _
      refine x_if_eqN 161 d2_begins_142 (by decide) (by omega) (fun b142 => absurd b142 (by rw [bP_t h4.2]; decide)) (fun b142 => ?_)
      refine x_iconst (v := nI 4) d2_begins_145 (by decide) ?_
      refine x_istore_n d2_begins_146 ?_
      refine x_goto 161 d2_begins_147 (by decide) ?_
      refine x_iload_n d2_begins_161 rfl ?_
      refine x_tableIn (off := 38) 200 d2_begins_162 (by decide) (by decide) (by decide) (by decide) ?_
      refine x_iconst (v := nI 1) d2_begins_200 (by decide) ?_
      exact x_ireturn d2_begins_201 ⟨by rw [rK_4 h0 h1 h2 h3 h4, if_neg (by decide)], I9, rfl, g9, hR9, r59⟩
    by_cases h5 : wIs z f p kw_result
    · refine x_aload_n d2_begins_0 rfl ?_
      refine x_getI d2_begins_1 f2_47 (hS.T rfl) ?_
      refine x_top (congrArg Value.int (show I 102 6 = nI (tK z f p) from hR.2.1)) ?_
      refine x_iconst (v := nI 2) d2_begins_4 (by decide) ?_
      refine x_icmp_eqN 10 d2_begins_5 (by decide) (by omega) (by omega) (fun b5 => ?_) (fun b5 => absurd b5 (fun q => q hK2))
      refine x_aload_n d2_begins_10 rfl ?_
      refine x_getP d2_begins_11 f2_61 (hS.T rfl) hw1 ?_
      refine x_astore_n d2_begins_14 ?_
      refine x_iconst (v := -1) d2_begins_15 (by decide) ?_
      refine x_istore_n d2_begins_16 ?_
      refine x_aload_n d2_begins_17 rfl ?_
      refine x_invV w 0 d2_begins_18 hw2.1 v2_93_15 (j_hash hw2 (by omega) hwv hw4 hB hSl) ?_ (hB := hB) (hS := hSl)
      rintro o h' ⟨rfl, I9, rfl, hq1, hq2, hq3⟩
      have g9 : GR False t I J P t I9 J P n := GR.hash hT hw2.1 hw3 hq1
      have hR9 : HRd t I9 P z f p := hR.hash hw2 hw3 hq1 hq2 hq3
      have hw29 := hw2.hash hw2.1 hq1 hq2
      have hC9 := hC.gr g9
      have r59 : I9 105 = I 105 := hq1 105 (by omega)
      show RA _ _ _ _ _ [Value.int (hsV (tW z f p) (tL z f p))] _ _
      refine x_top (congrArg Value.int ((hsV_cg h5.2).trans hs_result)) ?_
      refine x_lookup (off := 129) 150 d2_begins_21 (by decide) (by decide) (by decide) ?_
      refine x_aload_n d2_begins_150 rfl ?_
      refine x_ldcS (k := 8) d2_begins_151 (List.mem_of_getElem? (i := 7) rfl) ?_
      refine x_invV w 1 d2_begins_153 hw2.1 v2_74_15 (j_equals hw29 (hC9 (8, kw_result) (List.mem_of_getElem? (i := 7) rfl)) (by omega) (by show w ≠ 8; omega) hB hSl) (Cont.p ?_) (hB := hB) (hS := hSl)
      have hbl := bP_lt (StrEq (tL z f p) kw_result.length (tW z f p) (lt_ kw_result))
      show RA _ _ _ _ _ [Value.int (nI (bP (StrEq (tL z f p) kw_result.length (tW z f p) (lt_ kw_result))))] _ _
      refine x_if_eqN 161 d2_begins_156 (by decide) (by omega) (fun b156 => absurd b156 (by rw [bP_t h5.2]; decide)) (fun b156 => ?_)
      refine x_iconst (v := nI 5) d2_begins_159 (by decide) ?_
      refine x_istore_n d2_begins_160 ?_
      refine x_iload_n d2_begins_161 rfl ?_
      refine x_tableIn (off := 38) 200 d2_begins_162 (by decide) (by decide) (by decide) (by decide) ?_
      refine x_iconst (v := nI 1) d2_begins_200 (by decide) ?_
      exact x_ireturn d2_begins_201 ⟨by rw [rK_5 h0 h1 h2 h3 h4 h5, if_neg (by decide)], I9, rfl, g9, hR9, r59⟩
    by_cases e0 : hsV (tW z f p) (tL z f p) = 102230
    · refine x_aload_n d2_begins_0 rfl ?_
      refine x_getI d2_begins_1 f2_47 (hS.T rfl) ?_
      refine x_top (congrArg Value.int (show I 102 6 = nI (tK z f p) from hR.2.1)) ?_
      refine x_iconst (v := nI 2) d2_begins_4 (by decide) ?_
      refine x_icmp_eqN 10 d2_begins_5 (by decide) (by omega) (by omega) (fun b5 => ?_) (fun b5 => absurd b5 (fun q => q hK2))
      refine x_aload_n d2_begins_10 rfl ?_
      refine x_getP d2_begins_11 f2_61 (hS.T rfl) hw1 ?_
      refine x_astore_n d2_begins_14 ?_
      refine x_iconst (v := -1) d2_begins_15 (by decide) ?_
      refine x_istore_n d2_begins_16 ?_
      refine x_aload_n d2_begins_17 rfl ?_
      refine x_invV w 0 d2_begins_18 hw2.1 v2_93_15 (j_hash hw2 (by omega) hwv hw4 hB hSl) ?_ (hB := hB) (hS := hSl)
      rintro o h' ⟨rfl, I9, rfl, hq1, hq2, hq3⟩
      have g9 : GR False t I J P t I9 J P n := GR.hash hT hw2.1 hw3 hq1
      have hR9 : HRd t I9 P z f p := hR.hash hw2 hw3 hq1 hq2 hq3
      have hw29 := hw2.hash hw2.1 hq1 hq2
      have hC9 := hC.gr g9
      have r59 : I9 105 = I 105 := hq1 105 (by omega)
      show RA _ _ _ _ _ [Value.int (hsV (tW z f p) (tL z f p))] _ _
      refine x_top (congrArg Value.int e0) ?_
      refine x_lookup (off := 59) 80 d2_begins_21 (by decide) (by decide) (by decide) ?_
      refine x_aload_n d2_begins_80 rfl ?_
      refine x_ldcS (k := 3) d2_begins_81 (List.mem_of_getElem? (i := 2) rfl) ?_
      refine x_invV w 1 d2_begins_83 hw2.1 v2_74_15 (j_equals hw29 (hC9 (3, kw_get) (List.mem_of_getElem? (i := 2) rfl)) (by omega) (by show w ≠ 3; omega) hB hSl) (Cont.p ?_) (hB := hB) (hS := hSl)
      have hbl := bP_lt (StrEq (tL z f p) kw_get.length (tW z f p) (lt_ kw_get))
      show RA _ _ _ _ _ [Value.int (nI (bP (StrEq (tL z f p) kw_get.length (tW z f p) (lt_ kw_get))))] _ _
      refine x_if_eqN 161 d2_begins_86 (by decide) (by omega) (fun b86 => ?_) (fun b86 => absurd b86 (fun q => q (bP_f (fun y => h0 ⟨hK2, y⟩))))
      refine x_iload_n d2_begins_161 rfl ?_
      refine x_tableOut 202 d2_begins_162 (by decide) (by decide) ?_
      refine x_iconst (v := nI 0) d2_begins_202 (by decide) ?_
      exact x_ireturn d2_begins_203 ⟨by rw [rK_no h0 h1 h2 h3 h4 h5, if_pos rfl], I9, rfl, g9, hR9, r59⟩
    by_cases e1 : hsV (tW z f p) (tL z f p) = 107035
    · refine x_aload_n d2_begins_0 rfl ?_
      refine x_getI d2_begins_1 f2_47 (hS.T rfl) ?_
      refine x_top (congrArg Value.int (show I 102 6 = nI (tK z f p) from hR.2.1)) ?_
      refine x_iconst (v := nI 2) d2_begins_4 (by decide) ?_
      refine x_icmp_eqN 10 d2_begins_5 (by decide) (by omega) (by omega) (fun b5 => ?_) (fun b5 => absurd b5 (fun q => q hK2))
      refine x_aload_n d2_begins_10 rfl ?_
      refine x_getP d2_begins_11 f2_61 (hS.T rfl) hw1 ?_
      refine x_astore_n d2_begins_14 ?_
      refine x_iconst (v := -1) d2_begins_15 (by decide) ?_
      refine x_istore_n d2_begins_16 ?_
      refine x_aload_n d2_begins_17 rfl ?_
      refine x_invV w 0 d2_begins_18 hw2.1 v2_93_15 (j_hash hw2 (by omega) hwv hw4 hB hSl) ?_ (hB := hB) (hS := hSl)
      rintro o h' ⟨rfl, I9, rfl, hq1, hq2, hq3⟩
      have g9 : GR False t I J P t I9 J P n := GR.hash hT hw2.1 hw3 hq1
      have hR9 : HRd t I9 P z f p := hR.hash hw2 hw3 hq1 hq2 hq3
      have hw29 := hw2.hash hw2.1 hq1 hq2
      have hC9 := hC.gr g9
      have r59 : I9 105 = I 105 := hq1 105 (by omega)
      show RA _ _ _ _ _ [Value.int (hsV (tW z f p) (tL z f p))] _ _
      refine x_top (congrArg Value.int e1) ?_
      refine x_lookup (off := 73) 94 d2_begins_21 (by decide) (by decide) (by decide) ?_
      refine x_aload_n d2_begins_94 rfl ?_
      refine x_ldcS (k := 4) d2_begins_95 (List.mem_of_getElem? (i := 3) rfl) ?_
      refine x_invV w 1 d2_begins_97 hw2.1 v2_74_15 (j_equals hw29 (hC9 (4, kw_let) (List.mem_of_getElem? (i := 3) rfl)) (by omega) (by show w ≠ 4; omega) hB hSl) (Cont.p ?_) (hB := hB) (hS := hSl)
      have hbl := bP_lt (StrEq (tL z f p) kw_let.length (tW z f p) (lt_ kw_let))
      show RA _ _ _ _ _ [Value.int (nI (bP (StrEq (tL z f p) kw_let.length (tW z f p) (lt_ kw_let))))] _ _
      refine x_if_eqN 161 d2_begins_100 (by decide) (by omega) (fun b100 => ?_) (fun b100 => absurd b100 (fun q => q (bP_f (fun y => h1 ⟨hK2, y⟩))))
      refine x_iload_n d2_begins_161 rfl ?_
      refine x_tableOut 202 d2_begins_162 (by decide) (by decide) ?_
      refine x_iconst (v := nI 0) d2_begins_202 (by decide) ?_
      exact x_ireturn d2_begins_203 ⟨by rw [rK_no h0 h1 h2 h3 h4 h5, if_pos rfl], I9, rfl, g9, hR9, r59⟩
    by_cases e2 : hsV (tW z f p) (tL z f p) = 96889
    · refine x_aload_n d2_begins_0 rfl ?_
      refine x_getI d2_begins_1 f2_47 (hS.T rfl) ?_
      refine x_top (congrArg Value.int (show I 102 6 = nI (tK z f p) from hR.2.1)) ?_
      refine x_iconst (v := nI 2) d2_begins_4 (by decide) ?_
      refine x_icmp_eqN 10 d2_begins_5 (by decide) (by omega) (by omega) (fun b5 => ?_) (fun b5 => absurd b5 (fun q => q hK2))
      refine x_aload_n d2_begins_10 rfl ?_
      refine x_getP d2_begins_11 f2_61 (hS.T rfl) hw1 ?_
      refine x_astore_n d2_begins_14 ?_
      refine x_iconst (v := -1) d2_begins_15 (by decide) ?_
      refine x_istore_n d2_begins_16 ?_
      refine x_aload_n d2_begins_17 rfl ?_
      refine x_invV w 0 d2_begins_18 hw2.1 v2_93_15 (j_hash hw2 (by omega) hwv hw4 hB hSl) ?_ (hB := hB) (hS := hSl)
      rintro o h' ⟨rfl, I9, rfl, hq1, hq2, hq3⟩
      have g9 : GR False t I J P t I9 J P n := GR.hash hT hw2.1 hw3 hq1
      have hR9 : HRd t I9 P z f p := hR.hash hw2 hw3 hq1 hq2 hq3
      have hw29 := hw2.hash hw2.1 hq1 hq2
      have hC9 := hC.gr g9
      have r59 : I9 105 = I 105 := hq1 105 (by omega)
      show RA _ _ _ _ _ [Value.int (hsV (tW z f p) (tL z f p))] _ _
      refine x_top (congrArg Value.int e2) ?_
      refine x_lookup (off := 87) 108 d2_begins_21 (by decide) (by decide) (by decide) ?_
      refine x_aload_n d2_begins_108 rfl ?_
      refine x_ldcS (k := 5) d2_begins_109 (List.mem_of_getElem? (i := 4) rfl) ?_
      refine x_invV w 1 d2_begins_111 hw2.1 v2_74_15 (j_equals hw29 (hC9 (5, kw_ask) (List.mem_of_getElem? (i := 4) rfl)) (by omega) (by show w ≠ 5; omega) hB hSl) (Cont.p ?_) (hB := hB) (hS := hSl)
      have hbl := bP_lt (StrEq (tL z f p) kw_ask.length (tW z f p) (lt_ kw_ask))
      show RA _ _ _ _ _ [Value.int (nI (bP (StrEq (tL z f p) kw_ask.length (tW z f p) (lt_ kw_ask))))] _ _
      refine x_if_eqN 161 d2_begins_114 (by decide) (by omega) (fun b114 => ?_) (fun b114 => absurd b114 (fun q => q (bP_f (fun y => h2 ⟨hK2, y⟩))))
      refine x_iload_n d2_begins_161 rfl ?_
      refine x_tableOut 202 d2_begins_162 (by decide) (by decide) ?_
      refine x_iconst (v := nI 0) d2_begins_202 (by decide) ?_
      exact x_ireturn d2_begins_203 ⟨by rw [rK_no h0 h1 h2 h3 h4 h5, if_pos rfl], I9, rfl, g9, hR9, r59⟩
    by_cases e3 : hsV (tW z f p) (tL z f p) = 111375
    · refine x_aload_n d2_begins_0 rfl ?_
      refine x_getI d2_begins_1 f2_47 (hS.T rfl) ?_
      refine x_top (congrArg Value.int (show I 102 6 = nI (tK z f p) from hR.2.1)) ?_
      refine x_iconst (v := nI 2) d2_begins_4 (by decide) ?_
      refine x_icmp_eqN 10 d2_begins_5 (by decide) (by omega) (by omega) (fun b5 => ?_) (fun b5 => absurd b5 (fun q => q hK2))
      refine x_aload_n d2_begins_10 rfl ?_
      refine x_getP d2_begins_11 f2_61 (hS.T rfl) hw1 ?_
      refine x_astore_n d2_begins_14 ?_
      refine x_iconst (v := -1) d2_begins_15 (by decide) ?_
      refine x_istore_n d2_begins_16 ?_
      refine x_aload_n d2_begins_17 rfl ?_
      refine x_invV w 0 d2_begins_18 hw2.1 v2_93_15 (j_hash hw2 (by omega) hwv hw4 hB hSl) ?_ (hB := hB) (hS := hSl)
      rintro o h' ⟨rfl, I9, rfl, hq1, hq2, hq3⟩
      have g9 : GR False t I J P t I9 J P n := GR.hash hT hw2.1 hw3 hq1
      have hR9 : HRd t I9 P z f p := hR.hash hw2 hw3 hq1 hq2 hq3
      have hw29 := hw2.hash hw2.1 hq1 hq2
      have hC9 := hC.gr g9
      have r59 : I9 105 = I 105 := hq1 105 (by omega)
      show RA _ _ _ _ _ [Value.int (hsV (tW z f p) (tL z f p))] _ _
      refine x_top (congrArg Value.int e3) ?_
      refine x_lookup (off := 101) 122 d2_begins_21 (by decide) (by decide) (by decide) ?_
      refine x_aload_n d2_begins_122 rfl ?_
      refine x_ldcS (k := 6) d2_begins_123 (List.mem_of_getElem? (i := 5) rfl) ?_
      refine x_invV w 1 d2_begins_125 hw2.1 v2_74_15 (j_equals hw29 (hC9 (6, kw_put) (List.mem_of_getElem? (i := 5) rfl)) (by omega) (by show w ≠ 6; omega) hB hSl) (Cont.p ?_) (hB := hB) (hS := hSl)
      have hbl := bP_lt (StrEq (tL z f p) kw_put.length (tW z f p) (lt_ kw_put))
      show RA _ _ _ _ _ [Value.int (nI (bP (StrEq (tL z f p) kw_put.length (tW z f p) (lt_ kw_put))))] _ _
      refine x_if_eqN 161 d2_begins_128 (by decide) (by omega) (fun b128 => ?_) (fun b128 => absurd b128 (fun q => q (bP_f (fun y => h3 ⟨hK2, y⟩))))
      refine x_iload_n d2_begins_161 rfl ?_
      refine x_tableOut 202 d2_begins_162 (by decide) (by decide) ?_
      refine x_iconst (v := nI 0) d2_begins_202 (by decide) ?_
      exact x_ireturn d2_begins_203 ⟨by rw [rK_no h0 h1 h2 h3 h4 h5, if_pos rfl], I9, rfl, g9, hR9, r59⟩
    by_cases e4 : hsV (tW z f p) (tL z f p) = 3642015
    · refine x_aload_n d2_begins_0 rfl ?_
      refine x_getI d2_begins_1 f2_47 (hS.T rfl) ?_
      refine x_top (congrArg Value.int (show I 102 6 = nI (tK z f p) from hR.2.1)) ?_
      refine x_iconst (v := nI 2) d2_begins_4 (by decide) ?_
      refine x_icmp_eqN 10 d2_begins_5 (by decide) (by omega) (by omega) (fun b5 => ?_) (fun b5 => absurd b5 (fun q => q hK2))
      refine x_aload_n d2_begins_10 rfl ?_
      refine x_getP d2_begins_11 f2_61 (hS.T rfl) hw1 ?_
      refine x_astore_n d2_begins_14 ?_
      refine x_iconst (v := -1) d2_begins_15 (by decide) ?_
      refine x_istore_n d2_begins_16 ?_
      refine x_aload_n d2_begins_17 rfl ?_
      refine x_invV w 0 d2_begins_18 hw2.1 v2_93_15 (j_hash hw2 (by omega) hwv hw4 hB hSl) ?_ (hB := hB) (hS := hSl)
      rintro o h' ⟨rfl, I9, rfl, hq1, hq2, hq3⟩
      have g9 : GR False t I J P t I9 J P n := GR.hash hT hw2.1 hw3 hq1
      have hR9 : HRd t I9 P z f p := hR.hash hw2 hw3 hq1 hq2 hq3
      have hw29 := hw2.hash hw2.1 hq1 hq2
      have hC9 := hC.gr g9
      have r59 : I9 105 = I 105 := hq1 105 (by omega)
      show RA _ _ _ _ _ [Value.int (hsV (tW z f p) (tL z f p))] _ _
      refine x_top (congrArg Value.int e4) ?_
      refine x_lookup (off := 115) 136 d2_begins_21 (by decide) (by decide) (by decide) ?_
      refine x_aload_n d2_begins_136 rfl ?_
      refine x_ldcS (k := 7) d2_begins_137 (List.mem_of_getElem? (i := 6) rfl) ?_
      refine x_invV w 1 d2_begins_139 hw2.1 v2_74_15 (j_equals hw29 (hC9 (7, kw_wash) (List.mem_of_getElem? (i := 6) rfl)) (by omega) (by show w ≠ 7; omega) hB hSl) (Cont.p ?_) (hB := hB) (hS := hSl)
      have hbl := bP_lt (StrEq (tL z f p) kw_wash.length (tW z f p) (lt_ kw_wash))
      show RA _ _ _ _ _ [Value.int (nI (bP (StrEq (tL z f p) kw_wash.length (tW z f p) (lt_ kw_wash))))] _ _
      refine x_if_eqN 161 d2_begins_142 (by decide) (by omega) (fun b142 => ?_) (fun b142 => absurd b142 (fun q => q (bP_f (fun y => h4 ⟨hK2, y⟩))))
      refine x_iload_n d2_begins_161 rfl ?_
      refine x_tableOut 202 d2_begins_162 (by decide) (by decide) ?_
      refine x_iconst (v := nI 0) d2_begins_202 (by decide) ?_
      exact x_ireturn d2_begins_203 ⟨by rw [rK_no h0 h1 h2 h3 h4 h5, if_pos rfl], I9, rfl, g9, hR9, r59⟩
    by_cases e5 : hsV (tW z f p) (tL z f p) = (-934426595)
    · refine x_aload_n d2_begins_0 rfl ?_
      refine x_getI d2_begins_1 f2_47 (hS.T rfl) ?_
      refine x_top (congrArg Value.int (show I 102 6 = nI (tK z f p) from hR.2.1)) ?_
      refine x_iconst (v := nI 2) d2_begins_4 (by decide) ?_
      refine x_icmp_eqN 10 d2_begins_5 (by decide) (by omega) (by omega) (fun b5 => ?_) (fun b5 => absurd b5 (fun q => q hK2))
      refine x_aload_n d2_begins_10 rfl ?_
      refine x_getP d2_begins_11 f2_61 (hS.T rfl) hw1 ?_
      refine x_astore_n d2_begins_14 ?_
      refine x_iconst (v := -1) d2_begins_15 (by decide) ?_
      refine x_istore_n d2_begins_16 ?_
      refine x_aload_n d2_begins_17 rfl ?_
      refine x_invV w 0 d2_begins_18 hw2.1 v2_93_15 (j_hash hw2 (by omega) hwv hw4 hB hSl) ?_ (hB := hB) (hS := hSl)
      rintro o h' ⟨rfl, I9, rfl, hq1, hq2, hq3⟩
      have g9 : GR False t I J P t I9 J P n := GR.hash hT hw2.1 hw3 hq1
      have hR9 : HRd t I9 P z f p := hR.hash hw2 hw3 hq1 hq2 hq3
      have hw29 := hw2.hash hw2.1 hq1 hq2
      have hC9 := hC.gr g9
      have r59 : I9 105 = I 105 := hq1 105 (by omega)
      show RA _ _ _ _ _ [Value.int (hsV (tW z f p) (tL z f p))] _ _
      refine x_top (congrArg Value.int e5) ?_
      refine x_lookup (off := 129) 150 d2_begins_21 (by decide) (by decide) (by decide) ?_
      refine x_aload_n d2_begins_150 rfl ?_
      refine x_ldcS (k := 8) d2_begins_151 (List.mem_of_getElem? (i := 7) rfl) ?_
      refine x_invV w 1 d2_begins_153 hw2.1 v2_74_15 (j_equals hw29 (hC9 (8, kw_result) (List.mem_of_getElem? (i := 7) rfl)) (by omega) (by show w ≠ 8; omega) hB hSl) (Cont.p ?_) (hB := hB) (hS := hSl)
      have hbl := bP_lt (StrEq (tL z f p) kw_result.length (tW z f p) (lt_ kw_result))
      show RA _ _ _ _ _ [Value.int (nI (bP (StrEq (tL z f p) kw_result.length (tW z f p) (lt_ kw_result))))] _ _
      refine x_if_eqN 161 d2_begins_156 (by decide) (by omega) (fun b156 => ?_) (fun b156 => absurd b156 (fun q => q (bP_f (fun y => h5 ⟨hK2, y⟩))))
      refine x_iload_n d2_begins_161 rfl ?_
      refine x_tableOut 202 d2_begins_162 (by decide) (by decide) ?_
      refine x_iconst (v := nI 0) d2_begins_202 (by decide) ?_
      exact x_ireturn d2_begins_203 ⟨by rw [rK_no h0 h1 h2 h3 h4 h5, if_pos rfl], I9, rfl, g9, hR9, r59⟩
    refine x_aload_n d2_begins_0 rfl ?_
    refine x_getI d2_begins_1 f2_47 (hS.T rfl) ?_
    refine x_top (congrArg Value.int (show I 102 6 = nI (tK z f p) from hR.2.1)) ?_
    refine x_iconst (v := nI 2) d2_begins_4 (by decide) ?_
    refine x_icmp_eqN 10 d2_begins_5 (by decide) (by omega) (by omega) (fun b5 => ?_) (fun b5 => absurd b5 (fun q => q hK2))
    refine x_aload_n d2_begins_10 rfl ?_
    refine x_getP d2_begins_11 f2_61 (hS.T rfl) hw1 ?_
    refine x_astore_n d2_begins_14 ?_
    refine x_iconst (v := -1) d2_begins_15 (by decide) ?_
    refine x_istore_n d2_begins_16 ?_
    refine x_aload_n d2_begins_17 rfl ?_
    refine x_invV w 0 d2_begins_18 hw2.1 v2_93_15 (j_hash hw2 (by omega) hwv hw4 hB hSl) ?_ (hB := hB) (hS := hSl)
    rintro o h' ⟨rfl, I9, rfl, hq1, hq2, hq3⟩
    have g9 : GR False t I J P t I9 J P n := GR.hash hT hw2.1 hw3 hq1
    have hR9 : HRd t I9 P z f p := hR.hash hw2 hw3 hq1 hq2 hq3
    have hw29 := hw2.hash hw2.1 hq1 hq2
    have hC9 := hC.gr g9
    have r59 : I9 105 = I 105 := hq1 105 (by omega)
    show RA _ _ _ _ _ [Value.int (hsV (tW z f p) (tL z f p))] _ _
    refine x_lookup (off := 140) 161 d2_begins_21 (by decide) (lk_none (fun q hq => by simp only [List.mem_cons, List.not_mem_nil, or_false] at hq; rcases hq with rfl | rfl | rfl | rfl | rfl | rfl; exact fun y => e5 (Int32.toInt_inj.mp y.symm); exact fun y => e2 (Int32.toInt_inj.mp y.symm); exact fun y => e0 (Int32.toInt_inj.mp y.symm); exact fun y => e1 (Int32.toInt_inj.mp y.symm); exact fun y => e3 (Int32.toInt_inj.mp y.symm); exact fun y => e4 (Int32.toInt_inj.mp y.symm))) (by decide) ?_
    refine x_iload_n d2_begins_161 rfl ?_
    refine x_tableOut 202 d2_begins_162 (by decide) (by decide) ?_
    refine x_iconst (v := nI 0) d2_begins_202 (by decide) ?_
    exact x_ireturn d2_begins_203 ⟨by rw [rK_no h0 h1 h2 h3 h4 h5, if_pos rfl], I9, rfl, g9, hR9, r59⟩
  · refine x_aload_n d2_begins_0 rfl ?_
    refine x_getI d2_begins_1 f2_47 (hS.T rfl) ?_
    refine x_top (congrArg Value.int (show I 102 6 = nI (tK z f p) from hR.2.1)) ?_
    refine x_iconst (v := nI 2) d2_begins_4 (by decide) ?_
    refine x_icmp_eqN 10 d2_begins_5 (by decide) (by omega) (by omega) (fun b5 => absurd b5 hK2) (fun b5 => ?_)
    refine x_iconst (v := nI 0) d2_begins_8 (by decide) ?_
    exact x_ireturn d2_begins_9 ⟨by rw [rK_no (fun q => hK2 q.1) (fun q => hK2 q.1) (fun q => hK2 q.1) (fun q => hK2 q.1) (fun q => hK2 q.1) (fun q => hK2 q.1), if_pos rfl], I, rfl, GR.rf hT, hR, rfl⟩
