/-! the house: the reader takes, must, wholes, names -/
set_option maxRecDepth 100000
/-- the reader has thrown -/
def RdE (I' : Nat → Nat → Int32) (e : Nat × Nat) : Prop := I' 103 6 = nI 4 ∧ I' 103 7 = nI e.1 ∧ I' 103 8 = nI e.2
/-- what a reading leaves -/
def RdQ {α : Type} (s : Prop) (t : Nat → Option (Nat × Nat)) (I : Nat → Nat → Int32) (J : Nat → Nat → Int64) (P : Nat → Nat → Value) (n sl c1 c2 : Nat) (z : Nat) (f : Nat → Nat) (r : RR α) (val : α → Option Value) (pos : α → Nat) : AO → AH → Prop := fun o h' =>
  ∃ t' I' J' P' n' sl', h' = (t', I', J', P', n', sl') ∧ GR s t I J P t' I' J' P' n' ∧ I' 105 = I 105 ∧ n ≤ n' ∧ n' ≤ n + c1 ∧ sl ≤ sl' ∧ sl' ≤ sl + c2 ∧ match r with
    | .inl e => o = .inr 103 ∧ RdE I' e
    | .inr b => o = .inl (val b) ∧ HRd t' I' P' z f (pos b)
theorem CSt.gr {s : Prop} {t t' : Nat → Option (Nat × Nat)} {I I' : Nat → Nat → Int32} {J J' : Nat → Nat → Int64} {P P' : Nat → Nat → Value} {n' : Nat} (h : CSt t I P) (g : GR s t I J P t' I' J' P' n') : CSt t' I' P' := by
  intro e he
  obtain ⟨a1, a2, a3, a4, a5, a6⟩ := h e he
  have hlt : e.1 ≤ 24 := (by decide : ∀ e ∈ cstT, e.1 ≤ 24) e he
  have r1 : I' e.1 = I e.1 := g.2.2.1 _ (by omega) (by omega)
  have r2 : I' (e.1 + 30) = I (e.1 + 30) := g.2.2.1 _ (by omega) (by omega)
  exact ⟨g.1 _ _ a1, by rw [g.2.2.2.2.1 _ _ a1 (by omega)]; exact a2, g.1 _ _ a3, by rw [r1]; exact a4, by rw [r2]; exact a5, a6⟩
theorem HRd.e {t : Nat → Option (Nat × Nat)} {I : Nat → Nat → Int32} {P : Nat → Nat → Value} {z p : Nat} {f : Nat → Nat} (h : HRd t I P z f p) : I 102 5 = nI (tE z f p) := h.1
theorem HRd.x {t : Nat → Option (Nat × Nat)} {I : Nat → Nat → Int32} {P : Nat → Nat → Value} {z p : Nat} {f : Nat → Nat} (h : HRd t I P z f p) : HdX I z f := h.2.2.2.2.2
set_option maxHeartbeats 4000000 in
theorem h_by {G : GG} (d : Nat) {t : Nat → Option (Nat × Nat)} {J : Nat → Nat → Int64} {P : Nat → Nat → Value} {n sl : Nat} {I : Nat → Nat → Int32} (hS : SH t P) : CA G d M3_by [.ref 103, .int (nI 4)] (t, I, J, P, n, sl) (fun o h' => o = .inl (some (.ref 103)) ∧ ∃ I', h' = (t, I', J, P, n, sl) ∧ (∀ b, b ≠ 103 → I' b = I b) ∧ I' 103 6 = nI 4) := by
  refine CA.w ?_
  show RA _ _ M3_by 0 [.ref 103, .int (nI 4)] [] _ _
  refine x_aload_n d3_by_0 rfl ?_
  refine x_iload_n d3_by_1 rfl ?_
  refine x_putIE d3_by_2 p3_15 (hS.T rfl) (fun I1 hI1 => ?_)
  refine x_aload_n d3_by_5 rfl ?_
  refine x_iconst (v := nI 0) d3_by_6 (by decide) ?_
  refine x_putIE d3_by_7 p3_18 (hS.T rfl) (fun I2 hI2 => ?_)
  refine x_aload_n d3_by_10 rfl ?_
  refine x_iconst (v := -1) d3_by_11 (by decide) ?_
  refine x_putIE d3_by_12 p3_9 (hS.T rfl) (fun I3 hI3 => ?_)
  refine x_aload_n d3_by_15 rfl ?_
  exact x_areturn d3_by_16 ⟨rfl, I3, rfl, fun b hb => by rw [hI3, u2_row _ _ _ hb, hI2, u2_row _ _ _ hb, hI1, u2_row _ _ _ hb], by rw [hI3, u2_ne _ _ (by decide), hI2, u2_ne _ _ (by decide), hI1, u2_self]⟩
set_option maxHeartbeats 4000000 in
theorem h_at {G : GG} (d : Nat) {t : Nat → Option (Nat × Nat)} {J : Nat → Nat → Int64} {P : Nat → Nat → Value} {n sl : Nat} {I : Nat → Nat → Int32} (hS : SH t P) {F a : Nat} (hB : n ≤ 601124) (hSl : sl ≤ 7293033) : CA G (d + 1) M3_at [.ref 103, .int (nI F), .int (nI a)] (t, I, J, P, n, sl) (fun o h' => o = .inl (some (.ref 103)) ∧ ∃ I', h' = (t, I', J, P, n, sl) ∧ (∀ b, b ≠ 103 → I' b = I b) ∧ RdE I' (F, a)) := by
  refine CA.w ?_
  show RA _ _ M3_at 0 [.ref 103, .int (nI F), .int (nI a)] [] _ _
  refine x_aload_n d3_at_0 rfl ?_
  refine x_iconst (v := nI 4) d3_at_1 (by decide) ?_
  refine x_invV 103 1 d3_at_2 (hS.T rfl) v3_21_3 (h_by _ hS) ?_ (hB := hB) (hS := hSl)
  rintro o h' ⟨rfl, I9, rfl, hF9, h69⟩
  show RA _ _ _ _ _ [Value.ref 103] _ _
  refine x_pop d3_at_5 rfl ?_
  refine x_aload_n d3_at_6 rfl ?_
  refine x_iload_n d3_at_7 rfl ?_
  refine x_putIE d3_at_8 p3_18 (hS.T rfl) (fun I11 hI11 => ?_)
  refine x_aload_n d3_at_11 rfl ?_
  refine x_iload_n d3_at_12 rfl ?_
  refine x_putIE d3_at_13 p3_9 (hS.T rfl) (fun I12 hI12 => ?_)
  refine x_aload_n d3_at_16 rfl ?_
  exact x_areturn d3_at_17 ⟨rfl, I12, rfl, fun b hb => by rw [hI12, u2_row _ _ _ hb, hI11, u2_row _ _ _ hb]; exact hF9 b hb, by rw [hI12, u2_ne _ _ (by decide), hI11, u2_ne _ _ (by decide)]; exact h69, by rw [hI12, u2_ne _ _ (by decide), hI11, u2_self], by rw [hI12, u2_self]⟩
set_option maxHeartbeats 4000000 in
theorem h_fail {G : GG} (d : Nat) {t : Nat → Option (Nat × Nat)} {J : Nat → Nat → Int64} {P : Nat → Nat → Value} {n sl : Nat} {I : Nat → Nat → Int32} (hS : SH t P) {F a : Nat} (ha : I 102 7 = nI a) (hB : n ≤ 601124) (hSl : sl ≤ 7293033) : CA G (d + 2) M2_fail [.ref 102, .int (nI F)] (t, I, J, P, n, sl) (fun o h' => o = .inl (some (.ref 103)) ∧ ∃ I', h' = (t, I', J, P, n, sl) ∧ (∀ b, b ≠ 103 → I' b = I b) ∧ RdE I' (F, a)) := by
  refine CA.w ?_
  show RA _ _ M2_fail 0 [.ref 102, .int (nI F)] [] _ _
  refine x_aload_n d2_fail_0 rfl ?_
  refine x_getP d2_fail_1 f2_12 (hS.T rfl) (hS.P rfl) ?_
  refine x_iload_n d2_fail_4 rfl ?_
  refine x_aload_n d2_fail_5 rfl ?_
  refine x_getI d2_fail_6 f2_30 (hS.T rfl) ?_
  refine x_top (congrArg Value.int (show I 102 7 = nI a from ha)) ?_
  refine x_invV 103 2 d2_fail_9 (hS.T rfl) v2_34_3 (h_at _ hS (F := F) (a := a) hB hSl) ?_ (hB := hB) (hS := hSl)
  rintro o h' ⟨rfl, q⟩
  show RA _ _ _ _ _ [Value.ref 103] _ _
  exact x_areturn d2_fail_12 ⟨rfl, q⟩
set_option maxHeartbeats 4000000 in
theorem h_takes {G : GG} (d : Nat) {t : Nat → Option (Nat × Nat)} {J : Nat → Nat → Int64} {P : Nat → Nat → Value} {n sl : Nat} {I : Nat → Nat → Int32} (hS : SH t P) (hC : CSt t I P) (hT : TyB t n) (hn : 144 ≤ n) {z p : Nat} {f : Nat → Nat} (hR : HRd t I P z f p) (hp : p ≤ z) {g : Nat} (hg : g < 60) (hB0 : n + 2 ≤ 601124) (hSl0 : sl + 12 ≤ 7293033) : CA G (d + 6) M2_takes [.ref 102, .int (nI g)] (t, I, J, P, n, sl) (fun o h' => ∃ t' I' J' P' n' sl', h' = (t', I', J', P', n', sl') ∧ GR True t I J P t' I' J' P' n' ∧ I' 105 = I 105 ∧ n ≤ n' ∧ n' ≤ n + 2 ∧ sl ≤ sl' ∧ sl' ≤ sl + 12 ∧ o = .inl (some (.int (nI (if tK z f p = g then 1 else 0)))) ∧ HRd t' I' P' z f (if tK z f p = g then tE z f p else p)) := by
  refine CA.w ?_
  show RA _ _ M2_takes 0 [.ref 102, .int (nI g)] [] _ _
  have hB : n ≤ 601124 := by omega
  have hSl : sl ≤ 7293033 := by omega
  have hz3 := hR.x.2.2
  have hE := tE_le (f := f) hp
  have hKl := tK_lt z f p
  refine x_aload_n d2_takes_0 rfl ?_
  refine x_getI d2_takes_1 f2_47 (hS.T rfl) ?_
  refine x_top (congrArg Value.int (show I 102 6 = nI (tK z f p) from hR.2.1)) ?_
  refine x_iload_n d2_takes_4 rfl ?_
  refine x_icmp_eqN 10 d2_takes_5 (by decide) (by omega) (by omega) (fun b5 => ?_) (fun b5 => ?_)
  · refine x_aload_n d2_takes_10 rfl ?_
    refine x_invV 102 0 d2_takes_11 (hS.T rfl) v2_71_2 (h_rnext _ hS hT hn hR.x hR.e hE.2 hB0 hSl0) ?_ (hB := hB) (hS := hSl)
    rintro o h' ⟨rfl, t8, I8, J8, P8, n8, sl8, rfl, g8, hR8, r58, hn81, hn82, hs81, hs82⟩
    show RA _ _ _ _ _ _ _ _
    refine x_iconst (v := nI 1) d2_takes_14 (by decide) ?_
    exact x_ireturn d2_takes_15 ⟨t8, I8, J8, P8, n8, sl8, rfl, g8, r58, hn81, by omega, hs81, by omega, by rw [if_pos b5], by rw [if_pos b5]; exact hR8⟩
  · refine x_iconst (v := nI 0) d2_takes_8 (by decide) ?_
    exact x_ireturn d2_takes_9 ⟨t, I, J, P, n, sl, rfl, GR.rf hT, rfl, by omega, by omega, by omega, by omega, by rw [if_neg b5], by rw [if_neg b5]; exact hR⟩
set_option maxHeartbeats 4000000 in
theorem h_must {G : GG} (d : Nat) {t : Nat → Option (Nat × Nat)} {J : Nat → Nat → Int64} {P : Nat → Nat → Value} {n sl : Nat} {I : Nat → Nat → Int32} (hS : SH t P) (hC : CSt t I P) (hT : TyB t n) (hn : 144 ≤ n) {z p : Nat} {f : Nat → Nat} (hR : HRd t I P z f p) (hp : p ≤ z) {kc vc : Nat} {L : List Nat} (hk : StrT t I P kc vc L.length (lt_ L)) (hkc : kc < 100) (hB0 : n + 2 ≤ 601124) (hSl0 : sl + 12 ≤ 7293033) : CA G (d + 6) M2_must [.ref 102, .ref kc] (t, I, J, P, n, sl) (RdQ True t I J P n sl 2 12 z f (psW z f L p) (fun _ => none) (fun q => q)) := by
  refine CA.w ?_
  show RA _ _ M2_must 0 [.ref 102, .ref kc] [] _ _
  have hB : n ≤ 601124 := by omega
  have hSl : sl ≤ 7293033 := by omega
  have hz3 := hR.x.2.2
  have hE := tE_le (f := f) hp
  have hKl := tK_lt z f p
  refine x_aload_n d2_must_0 rfl ?_
  refine x_getI d2_must_1 f2_47 (hS.T rfl) ?_
  refine x_top (congrArg Value.int (show I 102 6 = nI (tK z f p) from hR.2.1)) ?_
  refine x_iconst (v := nI 2) d2_must_4 (by decide) ?_
  refine x_icmp_neN 19 d2_must_5 (by decide) (by omega) (by omega) (fun b5 => ?_) (fun b5 => ?_)
  · refine x_aload_n d2_must_19 rfl ?_
    refine x_iconst (v := nI 1) d2_must_20 (by decide) ?_
    refine x_invV 102 1 d2_must_21 (hS.T rfl) v2_78_2 (h_fail _ hS (F := 1) hR.2.2.1 hB hSl) ?_ (hB := hB) (hS := hSl)
    rintro o h' ⟨rfl, I9, rfl, hF9, he9⟩
    refine x_athrow d2_must_24 ⟨by decide, Or.inl ⟨rfl, t, I9, J, P, n, sl, rfl, ⟨fun _ _ q => q, fun b tg _ _ h3 => hF9 b (by omega), fun b _ h3 => hF9 b (by omega), fun _ _ => rfl, fun _ _ _ _ => rfl, fun _ _ => rfl, hT⟩, hF9 105 (by decide), by omega, by omega, by omega, by omega, ?_⟩⟩
    rw [show psW z f L p = .inl (1, tA z f p) from @if_neg _ (Classical.propDecidable _) (fun q => b5 q.1) _ _ _]
    exact ⟨rfl, he9⟩
  · obtain ⟨w, v, hw1, hw2, hw3, hw4⟩ := hR.2.2.2.2.1 b5
    refine x_aload_n d2_must_8 rfl ?_
    refine x_getP d2_must_9 f2_61 (hS.T rfl) hw1 ?_
    refine x_aload_n d2_must_12 rfl ?_
    refine x_invV w 1 d2_must_13 hw2.1 v2_74_15 (j_equals hw2 hk (by omega) (by omega) hB hSl) (Cont.p ?_) (hB := hB) (hS := hSl)
    have hbl := bP_lt (StrEq (tL z f p) L.length (tW z f p) (lt_ L))
    refine x_if_neN 25 d2_must_16 (by decide) (by omega) (fun b16 => ?_) (fun b16 => ?_)
    · refine x_aload_n d2_must_25 rfl ?_
      refine x_invV 102 0 d2_must_26 (hS.T rfl) v2_71_2 (h_rnext _ hS hT hn hR.x hR.e hE.2 hB0 hSl0) ?_ (hB := hB) (hS := hSl)
      rintro o h' ⟨rfl, t8, I8, J8, P8, n8, sl8, rfl, g8, hR8, r58, hn81, hn82, hs81, hs82⟩
      show RA _ _ _ _ _ _ _ _
      refine x_return d2_must_29 ?_
      refine ⟨t8, I8, J8, P8, n8, sl8, rfl, g8, r58, hn81, by omega, hs81, by omega, ?_⟩
      rw [show psW z f L p = .inr (tE z f p) from @if_pos _ (Classical.propDecidable _) ⟨b5, bP_1.mp (by omega)⟩ _ _ _]
      exact ⟨rfl, hR8⟩
    · refine x_aload_n d2_must_19 rfl ?_
      refine x_iconst (v := nI 1) d2_must_20 (by decide) ?_
      refine x_invV 102 1 d2_must_21 (hS.T rfl) v2_78_2 (h_fail _ hS (F := 1) hR.2.2.1 hB hSl) ?_ (hB := hB) (hS := hSl)
      rintro o h' ⟨rfl, I9, rfl, hF9, he9⟩
      refine x_athrow d2_must_24 ⟨by decide, Or.inl ⟨rfl, t, I9, J, P, n, sl, rfl, ⟨fun _ _ q => q, fun b tg _ _ h3 => hF9 b (by omega), fun b _ h3 => hF9 b (by omega), fun _ _ => rfl, fun _ _ _ _ => rfl, fun _ _ => rfl, hT⟩, hF9 105 (by decide), by omega, by omega, by omega, by omega, ?_⟩⟩
      rw [show psW z f L p = .inl (1, tA z f p) from @if_neg _ (Classical.propDecidable _) (fun q => bP_0.mp b16 q.2) _ _ _]
      exact ⟨rfl, he9⟩
set_option maxHeartbeats 4000000 in
theorem h_whole {G : GG} (d : Nat) {t : Nat → Option (Nat × Nat)} {J : Nat → Nat → Int64} {P : Nat → Nat → Value} {n sl : Nat} {I : Nat → Nat → Int32} (hS : SH t P) (hC : CSt t I P) (hT : TyB t n) (hn : 144 ≤ n) {z p : Nat} {f : Nat → Nat} (hR : HRd t I P z f p) (hp : p ≤ z) {m : Nat} (hm : m < 100) (hB0 : n + 2 ≤ 601124) (hSl0 : sl + 12 ≤ 7293033) : CA G (d + 6) M2_whole [.ref 102, .int (nI m)] (t, I, J, P, n, sl) (RdQ True t I J P n sl 2 12 z f (psV z f (m + 1) p) (fun q => some (.int (nI q.1))) (fun q => q.2)) := by
  refine CA.w ?_
  show RA _ _ M2_whole 0 [.ref 102, .int (nI m), U0] [] _ _
  have hB : n ≤ 601124 := by omega
  have hSl : sl ≤ 7293033 := by omega
  have hz3 := hR.x.2.2
  have hE := tE_le (f := f) hp
  have hKl := tK_lt z f p
  refine x_aload_n d2_whole_0 rfl ?_
  refine x_getI d2_whole_1 f2_47 (hS.T rfl) ?_
  refine x_top (congrArg Value.int (show I 102 6 = nI (tK z f p) from hR.2.1)) ?_
  refine x_iconst (v := nI 3) d2_whole_4 (by decide) ?_
  refine x_icmp_eqN 14 d2_whole_5 (by decide) (by omega) (by omega) (fun b5 => ?_) (fun b5 => ?_)
  · refine x_aload_n d2_whole_14 rfl ?_
    refine x_getI d2_whole_15 f2_68 (hS.T rfl) ?_
    refine x_top (congrArg Value.int (show I 102 8 = nI (tV z f p) from (hR.2.2.2.1 (by omega)))) ?_
    have htv_ := tV_lt z f p hp (by omega)
    refine x_iload_n d2_whole_18 rfl ?_
    refine x_icmp_leN 28 d2_whole_19 (by decide) (by omega) (by omega) (fun b19 => ?_) (fun b19 => ?_)
    · refine x_aload_n d2_whole_28 rfl ?_
      refine x_getI d2_whole_29 f2_68 (hS.T rfl) ?_
      refine x_top (congrArg Value.int (show I 102 8 = nI (tV z f p) from (hR.2.2.2.1 (by omega)))) ?_
      have htv_ := tV_lt z f p hp (by omega)
      refine x_istore_n d2_whole_32 ?_
      refine x_aload_n d2_whole_33 rfl ?_
      refine x_invV 102 0 d2_whole_34 (hS.T rfl) v2_71_2 (h_rnext _ hS hT hn hR.x hR.e hE.2 hB0 hSl0) ?_ (hB := hB) (hS := hSl)
      rintro o h' ⟨rfl, t8, I8, J8, P8, n8, sl8, rfl, g8, hR8, r58, hn81, hn82, hs81, hs82⟩
      show RA _ _ _ _ _ _ _ _
      refine x_iload_n d2_whole_37 rfl ?_
      refine x_ireturn d2_whole_38 ?_
      refine ⟨t8, I8, J8, P8, n8, sl8, rfl, g8, r58, hn81, by omega, hs81, by omega, ?_⟩
      rw [show psV z f (m + 1) p = .inr (tV z f p, tE z f p) by unfold psV; rw [if_pos b5, if_pos (by omega)]]
      exact ⟨rfl, hR8⟩
    · refine x_aload_n d2_whole_22 rfl ?_
      refine x_iconst (v := nI 3) d2_whole_23 (by decide) ?_
      refine x_invV 102 1 d2_whole_24 (hS.T rfl) v2_78_2 (h_fail _ hS (F := 3) hR.2.2.1 hB hSl) ?_ (hB := hB) (hS := hSl)
      rintro o h' ⟨rfl, I9, rfl, hF9, he9⟩
      refine x_athrow d2_whole_27 ⟨by decide, Or.inl ⟨rfl, t, I9, J, P, n, sl, rfl, ⟨fun _ _ q => q, fun b tg _ _ h3 => hF9 b (by omega), fun b _ h3 => hF9 b (by omega), fun _ _ => rfl, fun _ _ _ _ => rfl, fun _ _ => rfl, hT⟩, hF9 105 (by decide), by omega, by omega, by omega, by omega, ?_⟩⟩
      rw [show psV z f (m + 1) p = .inl (3, tA z f p) by unfold psV; rw [if_pos b5, if_neg (by omega)]]
      exact ⟨rfl, he9⟩
  · refine x_aload_n d2_whole_8 rfl ?_
    refine x_iconst (v := nI 1) d2_whole_9 (by decide) ?_
    refine x_invV 102 1 d2_whole_10 (hS.T rfl) v2_78_2 (h_fail _ hS (F := 1) hR.2.2.1 hB hSl) ?_ (hB := hB) (hS := hSl)
    rintro o h' ⟨rfl, I9, rfl, hF9, he9⟩
    refine x_athrow d2_whole_13 ⟨by decide, Or.inl ⟨rfl, t, I9, J, P, n, sl, rfl, ⟨fun _ _ q => q, fun b tg _ _ h3 => hF9 b (by omega), fun b _ h3 => hF9 b (by omega), fun _ _ => rfl, fun _ _ _ _ => rfl, fun _ _ => rfl, hT⟩, hF9 105 (by decide), by omega, by omega, by omega, by omega, ?_⟩⟩
    rw [show psV z f (m + 1) p = .inl (1, tA z f p) from if_neg b5]
    exact ⟨rfl, he9⟩
set_option maxHeartbeats 4000000 in
theorem h_seeName {G : GG} (d : Nat) {t : Nat → Option (Nat × Nat)} {J : Nat → Nat → Int64} {P : Nat → Nat → Value} {n sl : Nat} {I : Nat → Nat → Int32} (hS : SH t P) (hC : CSt t I P) (hT : TyB t n) (hn : 144 ≤ n) {z p : Nat} {f : Nat → Nat} (hR : HRd t I P z f p) (hp : p ≤ z) (hB0 : n + 2 ≤ 601124) (hSl0 : sl + 12 ≤ 7293033) : CA G (d + 6) M2_seeName [.ref 102] (t, I, J, P, n, sl) (RdQ True t I J P n sl 0 0 z f (psN z f p) (fun q => some (.int (nI q))) (fun _ => p)) := by
  refine CA.w ?_
  show RA _ _ M2_seeName 0 [.ref 102] [] _ _
  have hB : n ≤ 601124 := by omega
  have hSl : sl ≤ 7293033 := by omega
  have hz3 := hR.x.2.2
  have hE := tE_le (f := f) hp
  have hKl := tK_lt z f p
  refine x_aload_n d2_seeName_0 rfl ?_
  refine x_getI d2_seeName_1 f2_47 (hS.T rfl) ?_
  refine x_top (congrArg Value.int (show I 102 6 = nI (tK z f p) from hR.2.1)) ?_
  refine x_iconst (v := nI 2) d2_seeName_4 (by decide) ?_
  refine x_icmp_eqN 14 d2_seeName_5 (by decide) (by omega) (by omega) (fun b5 => ?_) (fun b5 => ?_)
  · obtain ⟨w, v, hw1, hw2, hw3, hw4⟩ := hR.2.2.2.2.1 b5
    have hW := tW_ok hp b5
    have hW0 := hW.2.2 0 (by omega)
    refine x_aload_n d2_seeName_14 rfl ?_
    refine x_getP d2_seeName_15 f2_61 (hS.T rfl) hw1 ?_
    refine x_invV w 0 d2_seeName_18 hw2.1 v2_82_15 (j_length hw2 hB hSl) (Cont.p ?_) (hB := hB) (hS := hSl)
    refine x_iconst (v := nI 1) d2_seeName_21 (by decide) ?_
    refine x_icmp_neN 38 d2_seeName_22 (by decide) (by omega) (by omega) (fun b22 => ?_) (fun b22 => ?_)
    · refine x_aload_n d2_seeName_38 rfl ?_
      refine x_iconst (v := nI 2) d2_seeName_39 (by decide) ?_
      refine x_invV 102 1 d2_seeName_40 (hS.T rfl) v2_78_2 (h_fail _ hS (F := 2) hR.2.2.1 hB hSl) ?_ (hB := hB) (hS := hSl)
      rintro o h' ⟨rfl, I9, rfl, hF9, he9⟩
      refine x_athrow d2_seeName_43 ⟨by decide, Or.inl ⟨rfl, t, I9, J, P, n, sl, rfl, ⟨fun _ _ q => q, fun b tg _ _ h3 => hF9 b (by omega), fun b _ h3 => hF9 b (by omega), fun _ _ => rfl, fun _ _ _ _ => rfl, fun _ _ => rfl, hT⟩, hF9 105 (by decide), by omega, by omega, by omega, by omega, ?_⟩⟩
      rw [show psN z f p = .inl (2, tA z f p) by unfold psN; rw [if_pos b5, if_neg (fun q => b22 q.1)]]
      exact ⟨rfl, he9⟩
    · refine x_aload_n d2_seeName_25 rfl ?_
      refine x_getP d2_seeName_26 f2_61 (hS.T rfl) hw1 ?_
      refine x_iconst (v := nI 0) d2_seeName_29 (by decide) ?_
      refine x_invV w 1 d2_seeName_30 hw2.1 v2_86_15 (j_charAt hw2 (i := 0) (by omega) hB hSl) (Cont.p ?_) (hB := hB) (hS := hSl)
      refine x_bipush (v := nI 104) d2_seeName_33 (by decide) ?_
      refine x_icmp_leN 44 d2_seeName_35 (by decide) (by omega) (by omega) (fun b35 => ?_) (fun b35 => ?_)
      · refine x_aload_n d2_seeName_44 rfl ?_
        refine x_getP d2_seeName_45 f2_61 (hS.T rfl) hw1 ?_
        refine x_iconst (v := nI 0) d2_seeName_48 (by decide) ?_
        refine x_invV w 1 d2_seeName_49 hw2.1 v2_86_15 (j_charAt hw2 (i := 0) (by omega) hB hSl) (Cont.p ?_) (hB := hB) (hS := hSl)
        refine x_bipush (v := nI 97) d2_seeName_52 (by decide) ?_
        refine x_isubN d2_seeName_54 (by omega) ?_
        refine x_ireturn d2_seeName_55 ?_
        refine ⟨t, I, J, P, n, sl, rfl, GR.rf hT, rfl, by omega, by omega, by omega, by omega, ?_⟩
        rw [show psN z f p = .inr (tW z f p 0 - 97) by unfold psN; rw [if_pos b5, if_pos ⟨b22, b35⟩]]
        exact ⟨rfl, hR⟩
      · refine x_aload_n d2_seeName_38 rfl ?_
        refine x_iconst (v := nI 2) d2_seeName_39 (by decide) ?_
        refine x_invV 102 1 d2_seeName_40 (hS.T rfl) v2_78_2 (h_fail _ hS (F := 2) hR.2.2.1 hB hSl) ?_ (hB := hB) (hS := hSl)
        rintro o h' ⟨rfl, I9, rfl, hF9, he9⟩
        refine x_athrow d2_seeName_43 ⟨by decide, Or.inl ⟨rfl, t, I9, J, P, n, sl, rfl, ⟨fun _ _ q => q, fun b tg _ _ h3 => hF9 b (by omega), fun b _ h3 => hF9 b (by omega), fun _ _ => rfl, fun _ _ _ _ => rfl, fun _ _ => rfl, hT⟩, hF9 105 (by decide), by omega, by omega, by omega, by omega, ?_⟩⟩
        rw [show psN z f p = .inl (2, tA z f p) by unfold psN; rw [if_pos b5, if_neg (fun q => by have := q.2; omega)]]
        exact ⟨rfl, he9⟩
  · refine x_aload_n d2_seeName_8 rfl ?_
    refine x_iconst (v := nI 1) d2_seeName_9 (by decide) ?_
    refine x_invV 102 1 d2_seeName_10 (hS.T rfl) v2_78_2 (h_fail _ hS (F := 1) hR.2.2.1 hB hSl) ?_ (hB := hB) (hS := hSl)
    rintro o h' ⟨rfl, I9, rfl, hF9, he9⟩
    refine x_athrow d2_seeName_13 ⟨by decide, Or.inl ⟨rfl, t, I9, J, P, n, sl, rfl, ⟨fun _ _ q => q, fun b tg _ _ h3 => hF9 b (by omega), fun b _ h3 => hF9 b (by omega), fun _ _ => rfl, fun _ _ _ _ => rfl, fun _ _ => rfl, hT⟩, hF9 105 (by decide), by omega, by omega, by omega, by omega, ?_⟩⟩
    rw [show psN z f p = .inl (1, tA z f p) from if_neg b5]
    exact ⟨rfl, he9⟩
theorem psN_lt {z p x : Nat} {f : Nat → Nat} (hp : p ≤ z) (h : psN z f p = .inr x) : x < 8 := by
  unfold psN at h
  split at h
  · next h2 =>
    split at h
    · next h3 =>
      have h4 : tW z f p 0 - 97 = x := by injection h
      omega
    · cases h
  · cases h
set_option maxHeartbeats 4000000 in
theorem h_name {G : GG} (d : Nat) {t : Nat → Option (Nat × Nat)} {J : Nat → Nat → Int64} {P : Nat → Nat → Value} {n sl : Nat} {I : Nat → Nat → Int32} (hS : SH t P) (hC : CSt t I P) (hT : TyB t n) (hn : 144 ≤ n) {z p : Nat} {f : Nat → Nat} (hR : HRd t I P z f p) (hp : p ≤ z) (hB0 : n + 2 ≤ 601124) (hSl0 : sl + 12 ≤ 7293033) : CA G (d + 7) M2_name [.ref 102] (t, I, J, P, n, sl) (RdQ True t I J P n sl 2 12 z f (psM z f p) (fun q => some (.int (nI q.1))) (fun q => q.2)) := by
  refine CA.w ?_
  show RA _ _ M2_name 0 [.ref 102, U0] [] _ _
  have hB : n ≤ 601124 := by omega
  have hSl : sl ≤ 7293033 := by omega
  have hz3 := hR.x.2.2
  have hE := tE_le (f := f) hp
  have hKl := tK_lt z f p
  refine x_aload_n d2_name_0 rfl ?_
  refine x_invV 102 0 d2_name_1 (hS.T rfl) v2_90_2 (h_seeName (d + 0) hS hC hT hn hR hp hB0 hSl0) ?_ (hB := hB) (hS := hSl)
  rintro o h' ⟨t7, I7, J7, P7, n7, sl7, rfl, g7, r57, hn71, hn72, hs71, hs72, hm⟩
  cases hN : psN z f p with
  | inl e =>
    rw [hN] at hm
    obtain ⟨rfl, he⟩ := hm
    refine ⟨by decide, Or.inl ⟨rfl, t7, I7, J7, P7, n7, sl7, rfl, g7, r57, hn71, by omega, hs71, by omega, ?_⟩⟩
    rw [show psM z f p = .inl e by unfold psM; rw [hN]]
    exact ⟨rfl, he⟩
  | inr x =>
  rw [hN] at hm
  obtain ⟨rfl, hR7⟩ := hm
  have hxl : x < 8 := psN_lt hp hN
  have hn7 : n7 = n := by omega
  have hs7 : sl7 = sl := by omega
  subst hn7; subst hs7
  show RA _ _ _ _ _ [Value.int (nI x)] _ _
  refine x_istore_n d2_name_4 ?_
  refine x_aload_n d2_name_5 rfl ?_
  refine x_invV 102 0 d2_name_6 ((g7.sh hS).T rfl) v2_71_2 (h_rnext _ (g7.sh hS) g7.2.2.2.2.2.2 hn hR7.x hR7.e hE.2 hB0 hSl0) ?_ (hB := hB) (hS := hSl)
  rintro o h' ⟨rfl, t8, I8, J8, P8, n8, sl8, rfl, g8, hR8, r58, hn81, hn82, hs81, hs82⟩
  show RA _ _ _ _ _ _ _ _
  refine x_iload_n d2_name_9 rfl ?_
  refine x_ireturn d2_name_10 ?_
  refine ⟨t8, I8, J8, P8, n8, sl8, rfl, g7.trans g8, r58.trans r57, hn81, by omega, hs81, by omega, ?_⟩
  rw [show psM z f p = .inr (x, tE z f p) by unfold psM; rw [hN]]
  exact ⟨rfl, hR8⟩
