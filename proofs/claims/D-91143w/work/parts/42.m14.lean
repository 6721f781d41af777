/-! the reference: reads, lines -/
set_option maxRecDepth 100000
/-- but the reader's fields and the rows of the eleventh part nothing has changed -/
def RdX (I I' : Nat → Nat → Int32) : Prop := (∀ b, b ∉ [122, 124, 126, 127, 128, 129, 130, 131] → I' b = I b) ∧ (∀ k, k ∉ [17, 18, 19, 20, 21] → I' 122 k = I 122 k) ∧ (∀ j, j ≠ 10 → I' 124 j = I 124 j) ∧ (∀ b, b ∈ [126, 127, 128, 129] → ∀ j, j < 120 → I' b j = I b j) ∧ ∀ j, j < 480 → I' 130 j = I 130 j
theorem RdX.rf (I : Nat → Nat → Int32) : RdX I I := ⟨fun _ _ => rfl, fun _ _ => rfl, fun _ _ => rfl, fun _ _ _ _ => rfl, fun _ _ => rfl⟩
theorem RdX.trans {I1 I2 I3 : Nat → Nat → Int32} (h : RdX I1 I2) (h' : RdX I2 I3) : RdX I1 I3 := ⟨fun b hb => (h'.1 b hb).trans (h.1 b hb), fun k hk => (h'.2.1 k hk).trans (h.2.1 k hk), fun j hj => (h'.2.2.1 j hj).trans (h.2.2.1 j hj), fun b hb j hj => (h'.2.2.2.1 b hb j hj).trans (h.2.2.2.1 b hb j hj), fun j hj => (h'.2.2.2.2 j hj).trans (h.2.2.2.2 j hj)⟩
theorem RdY.x {l : Nat} {I I' : Nat → Nat → Int32} (h : RdY l I I') (hl : 120 ≤ l) : RdX I I' :=
  ⟨fun b hb => h.1 b (fun e => hb (by simp only [List.mem_cons, List.not_mem_nil, or_false] at e ⊢; omega)), h.2.1, fun j _ => by rw [h.1 124 (by decide)], fun b hb j hj => h.2.2.1 b hb j (by omega), fun j hj => h.2.2.2 j (by omega)⟩
theorem RdZ.x {I I' : Nat → Nat → Int32} (h : RdZ I I') : RdX I I' := (h.y 120).x (Nat.le_refl _)
theorem RdX.u124 {I I' : Nat → Nat → Int32} {v : Int32} (hI : I' = u2 I 124 10 v) : RdX I I' :=
  ⟨fun b hb => by rw [hI, u2_row _ _ _ (fun e => hb (by rw [e]; decide))], fun k _ => by rw [hI, u2_row _ _ _ (by decide)], fun j hj => by rw [hI, u2_ne _ _ hj], fun b hb j _ => by rw [hI, u2_row _ _ _ (fun e => by rw [e] at hb; revert hb; decide)], fun j _ => by rw [hI, u2_row _ _ _ (by decide)]⟩
theorem RdX.c {I I' : Nat → Nat → Int32} (h : RdX I I') {t : Nat → Option (Nat × Nat)} {P : Nat → Nat → Value} (hC : CSt t I P) : CSt t I' P := hC.fr (fun b hb => h.1 b (fun e => by simp only [List.mem_cons, List.not_mem_nil, or_false] at e; omega))
theorem psK_0 {z p : Nat} {f : Nat → Nat}  (h : wIs z f p kw_get) : psK z f p = some 0 := by unfold psK; rw [@if_pos _ (Classical.propDecidable _) h]
theorem psK_1 {z p : Nat} {f : Nat → Nat} (h0 : ¬ wIs z f p kw_get) (h : wIs z f p kw_let) : psK z f p = some 1 := by unfold psK; rw [@if_neg _ (Classical.propDecidable _) h0, @if_pos _ (Classical.propDecidable _) h]
theorem psK_2 {z p : Nat} {f : Nat → Nat} (h0 : ¬ wIs z f p kw_get) (h1 : ¬ wIs z f p kw_let) (h : wIs z f p kw_ask) : psK z f p = some 2 := by unfold psK; rw [@if_neg _ (Classical.propDecidable _) h0, @if_neg _ (Classical.propDecidable _) h1, @if_pos _ (Classical.propDecidable _) h]
theorem psK_3 {z p : Nat} {f : Nat → Nat} (h0 : ¬ wIs z f p kw_get) (h1 : ¬ wIs z f p kw_let) (h2 : ¬ wIs z f p kw_ask) (h : wIs z f p kw_put) : psK z f p = some 3 := by unfold psK; rw [@if_neg _ (Classical.propDecidable _) h0, @if_neg _ (Classical.propDecidable _) h1, @if_neg _ (Classical.propDecidable _) h2, @if_pos _ (Classical.propDecidable _) h]
theorem psK_4 {z p : Nat} {f : Nat → Nat} (h0 : ¬ wIs z f p kw_get) (h1 : ¬ wIs z f p kw_let) (h2 : ¬ wIs z f p kw_ask) (h3 : ¬ wIs z f p kw_put) (h : wIs z f p kw_wash) : psK z f p = some 4 := by unfold psK; rw [@if_neg _ (Classical.propDecidable _) h0, @if_neg _ (Classical.propDecidable _) h1, @if_neg _ (Classical.propDecidable _) h2, @if_neg _ (Classical.propDecidable _) h3, @if_pos _ (Classical.propDecidable _) h]
theorem psK_5 {z p : Nat} {f : Nat → Nat} (h0 : ¬ wIs z f p kw_get) (h1 : ¬ wIs z f p kw_let) (h2 : ¬ wIs z f p kw_ask) (h3 : ¬ wIs z f p kw_put) (h4 : ¬ wIs z f p kw_wash) (h : wIs z f p kw_result) : psK z f p = some 5 := by unfold psK; rw [@if_neg _ (Classical.propDecidable _) h0, @if_neg _ (Classical.propDecidable _) h1, @if_neg _ (Classical.propDecidable _) h2, @if_neg _ (Classical.propDecidable _) h3, @if_neg _ (Classical.propDecidable _) h4, @if_pos _ (Classical.propDecidable _) h]
theorem psK_n {z p : Nat} {f : Nat → Nat} (h0 : ¬ wIs z f p kw_get) (h1 : ¬ wIs z f p kw_let) (h2 : ¬ wIs z f p kw_ask) (h3 : ¬ wIs z f p kw_put) (h4 : ¬ wIs z f p kw_wash) (h5 : ¬ wIs z f p kw_result) : psK z f p = none := by unfold psK; rw [@if_neg _ (Classical.propDecidable _) h0, @if_neg _ (Classical.propDecidable _) h1, @if_neg _ (Classical.propDecidable _) h2, @if_neg _ (Classical.propDecidable _) h3, @if_neg _ (Classical.propDecidable _) h4, @if_neg _ (Classical.propDecidable _) h5]
set_option maxHeartbeats 8000000 in
theorem m_reads {G : GG} (d : Nat) {t : Nat → Option (Nat × Nat)} {J : Nat → Nat → Int64} {P : Nat → Nat → Value} {n sl : Nat} {I : Nat → Nat → Int32} {z : Nat} {f : Nat → Nat} (hS : SH t P) (hC : CSt t I P) (hT : TxM z f I) (hat : I 122 17 = nI 0) (hB : n ≤ 601124) (hSl : sl ≤ 7293033) {np : Nat} (hnp : I 122 4 = nI np) (hn10 : np ≤ 10) : CA G (d + 8) M5_reads [.ref 122] (t, I, J, P, n, sl) (PQ t P n sl (RdX I) J (psA z f np 12 0 (fun _ => (0, 0, 0, 0, fun _ => 0)) 0) (fun x o I' J' => o = .inl none ∧ I' 124 10 = nI x.1 ∧ ∀ k, k < x.1 → RowM (120 + k) (x.2 k) I')) := by
  refine CA.w ?_
  show RA _ _ M5_reads 0 [.ref 122, U0, U0] [] _ _
  have hL : ∀ nn m (rs : Nat → Lne) p I9 J9, nn + m = 12 → Rd z f p I9 J9 → RdX I I9 → JF J J9 → I9 124 10 = nI m → (∀ k, k < m → RowM (120 + k) (rs k) I9) → (∀ k, k < m → LneOK np (rs k)) → ∀ v2, RA G (d + 8) M5_reads 14 [.ref 122, .int (nI 1), v2] [] (t, I9, J9, P, n, sl) (PQ t P n sl (RdX I) J (psA z f np nn m rs p) (fun x o I' J' => o = .inl none ∧ I' 124 10 = nI x.1 ∧ ∀ k, k < x.1 → RowM (120 + k) (x.2 k) I')) := by
    intro nn
    induction nn with
    | zero =>
      intro m rs p I9 J9 hm hR9 hf9 hj9 h124 hrs hok v2
      have hgo : ∀ w, psK z f p = some w → ∀ v2, RA G (d + 8) M5_reads 97 [.ref 122, .int (nI 1), v2] [.int (nI w)] (t, I9, J9, P, n, sl) (PQ t P n sl (RdX I) J (psA z f np 0 m rs p) (fun x o I' J' => o = .inl none ∧ I' 124 10 = nI x.1 ∧ ∀ k, k < x.1 → RowM (120 + k) (x.2 k) I')) := by
        intro w hk v2
        have hw5 := (psK_ok hk).2
        refine x_istore_n d5_reads_97 ?_
        refine x_iload_n d5_reads_98 rfl ?_
        refine x_iconst (v := -1) d5_reads_99 (by decide) ?_
        refine x_icmp_ne 109 d5_reads_100 (by decide) (fun b100 => ?_) (fun b100 => absurd b100 (nI_m1 (by omega)))
        refine x_aload_n d5_reads_109 rfl ?_
        refine x_getP d5_reads_110 f5_17 (hS.T rfl) (hS.P rfl) ?_
        refine x_bipush (v := nI 10) d5_reads_113 (by decide) ?_
        refine x_ialdN d5_reads_115 (hS.T rfl) (by omega) ?_
        refine x_top (congrArg Value.int (show I9 124 10 = nI m from h124)) ?_
        refine x_bipush (v := nI 12) d5_reads_116 (by decide) ?_
        refine x_icmp_neN 127 d5_reads_118 (by decide) (by omega) (by omega) (fun b118 => absurd b118 (fun q => q (by omega))) (fun b118 => ?_)
        refine x_aload_n d5_reads_121 rfl ?_
        refine x_iconst (v := nI 4) d5_reads_122 (by decide) ?_
        refine x_invV 122 1 d5_reads_123 (hS.T rfl) v5_166_5 (m_stop _ hS (k := 4)) (Cont.e ?_) (hB := hB) (hS := hSl)
        obtain ⟨I1, hI1⟩ : ∃ z, z = u2 (u2 I9 131 6 (nI 4)) 131 7 (I9 122 19) := ⟨_, rfl⟩
        rw [← hI1]
        have he1 := stop_err hI1 hR9.2.1.1
        have hz1 := RdZ.stop hI1
        exact x_athrow d5_reads_126 ⟨by decide, Or.inl ⟨rfl, ⟨I1, J9, rfl, (hf9.trans hz1.x), hj9, by rw [show psA z f np 0 m rs p = .inl (4, tA z f p) from by simp only [psA, hk]]; exact ⟨rfl, he1⟩⟩⟩⟩
      by_cases k0 : wIs z f p kw_get
      · refine x_iload_n d5_reads_14 rfl ?_
        refine x_if_eqN 175 d5_reads_15 (by decide) (by omega) (fun b15 => absurd b15 (by decide)) (fun b15 => ?_)
        refine x_aload_n d5_reads_18 rfl ?_
        refine x_ldcS (k := 14) d5_reads_19 (List.mem_of_getElem? (i := 13) rfl) ?_
        refine x_invV 122 1 d5_reads_21 (hS.T rfl) v5_162_5 (m_isWord _ hS (hf9.c hC) hR9 hB hSl (L := kw_get) (List.mem_of_getElem? (i := 13) rfl)) (Cont.p ?_) (hB := hB) (hS := hSl)
        refine x_top (congrArg Value.int (show nI (bP (wIs z f p kw_get)) = nI 1 by rw [bP_t k0])) ?_
        refine x_if_eqN 31 d5_reads_24 (by decide) (by omega) (fun b24 => absurd b24 (by decide)) (fun b24 => ?_)
        refine x_iconst (v := nI 0) d5_reads_27 (by decide) ?_
        refine x_goto 97 d5_reads_28 (by decide) ?_
        exact hgo 0 (psK_0  k0) _
      by_cases k1 : wIs z f p kw_let
      · refine x_iload_n d5_reads_14 rfl ?_
        refine x_if_eqN 175 d5_reads_15 (by decide) (by omega) (fun b15 => absurd b15 (by decide)) (fun b15 => ?_)
        refine x_aload_n d5_reads_18 rfl ?_
        refine x_ldcS (k := 14) d5_reads_19 (List.mem_of_getElem? (i := 13) rfl) ?_
        refine x_invV 122 1 d5_reads_21 (hS.T rfl) v5_162_5 (m_isWord _ hS (hf9.c hC) hR9 hB hSl (L := kw_get) (List.mem_of_getElem? (i := 13) rfl)) (Cont.p ?_) (hB := hB) (hS := hSl)
        refine x_top (congrArg Value.int (show nI (bP (wIs z f p kw_get)) = nI 0 by rw [bP_f k0])) ?_
        refine x_if_eqN 31 d5_reads_24 (by decide) (by omega) (fun b24 => ?_) (fun b24 => absurd b24 (fun q => q rfl))
        refine x_aload_n d5_reads_31 rfl ?_
        refine x_ldcS (k := 15) d5_reads_32 (List.mem_of_getElem? (i := 14) rfl) ?_
        refine x_invV 122 1 d5_reads_34 (hS.T rfl) v5_162_5 (m_isWord _ hS (hf9.c hC) hR9 hB hSl (L := kw_let) (List.mem_of_getElem? (i := 14) rfl)) (Cont.p ?_) (hB := hB) (hS := hSl)
        refine x_top (congrArg Value.int (show nI (bP (wIs z f p kw_let)) = nI 1 by rw [bP_t k1])) ?_
        refine x_if_eqN 44 d5_reads_37 (by decide) (by omega) (fun b37 => absurd b37 (by decide)) (fun b37 => ?_)
        refine x_iconst (v := nI 1) d5_reads_40 (by decide) ?_
        refine x_goto 97 d5_reads_41 (by decide) ?_
        exact hgo 1 (psK_1 k0 k1) _
      by_cases k2 : wIs z f p kw_ask
      · refine x_iload_n d5_reads_14 rfl ?_
        refine x_if_eqN 175 d5_reads_15 (by decide) (by omega) (fun b15 => absurd b15 (by decide)) (fun b15 => ?_)
        refine x_aload_n d5_reads_18 rfl ?_
        refine x_ldcS (k := 14) d5_reads_19 (List.mem_of_getElem? (i := 13) rfl) ?_
        refine x_invV 122 1 d5_reads_21 (hS.T rfl) v5_162_5 (m_isWord _ hS (hf9.c hC) hR9 hB hSl (L := kw_get) (List.mem_of_getElem? (i := 13) rfl)) (Cont.p ?_) (hB := hB) (hS := hSl)
        refine x_top (congrArg Value.int (show nI (bP (wIs z f p kw_get)) = nI 0 by rw [bP_f k0])) ?_
        refine x_if_eqN 31 d5_reads_24 (by decide) (by omega) (fun b24 => ?_) (fun b24 => absurd b24 (fun q => q rfl))
        refine x_aload_n d5_reads_31 rfl ?_
        refine x_ldcS (k := 15) d5_reads_32 (List.mem_of_getElem? (i := 14) rfl) ?_
        refine x_invV 122 1 d5_reads_34 (hS.T rfl) v5_162_5 (m_isWord _ hS (hf9.c hC) hR9 hB hSl (L := kw_let) (List.mem_of_getElem? (i := 14) rfl)) (Cont.p ?_) (hB := hB) (hS := hSl)
        refine x_top (congrArg Value.int (show nI (bP (wIs z f p kw_let)) = nI 0 by rw [bP_f k1])) ?_
        refine x_if_eqN 44 d5_reads_37 (by decide) (by omega) (fun b37 => ?_) (fun b37 => absurd b37 (fun q => q rfl))
        refine x_aload_n d5_reads_44 rfl ?_
        refine x_ldcS (k := 16) d5_reads_45 (List.mem_of_getElem? (i := 15) rfl) ?_
        refine x_invV 122 1 d5_reads_47 (hS.T rfl) v5_162_5 (m_isWord _ hS (hf9.c hC) hR9 hB hSl (L := kw_ask) (List.mem_of_getElem? (i := 15) rfl)) (Cont.p ?_) (hB := hB) (hS := hSl)
        refine x_top (congrArg Value.int (show nI (bP (wIs z f p kw_ask)) = nI 1 by rw [bP_t k2])) ?_
        refine x_if_eqN 57 d5_reads_50 (by decide) (by omega) (fun b50 => absurd b50 (by decide)) (fun b50 => ?_)
        refine x_iconst (v := nI 2) d5_reads_53 (by decide) ?_
        refine x_goto 97 d5_reads_54 (by decide) ?_
        exact hgo 2 (psK_2 k0 k1 k2) _
      by_cases k3 : wIs z f p kw_put
      · refine x_iload_n d5_reads_14 rfl ?_
        refine x_if_eqN 175 d5_reads_15 (by decide) (by omega) (fun b15 => absurd b15 (by decide)) (fun b15 => ?_)
        refine x_aload_n d5_reads_18 rfl ?_
        refine x_ldcS (k := 14) d5_reads_19 (List.mem_of_getElem? (i := 13) rfl) ?_
        refine x_invV 122 1 d5_reads_21 (hS.T rfl) v5_162_5 (m_isWord _ hS (hf9.c hC) hR9 hB hSl (L := kw_get) (List.mem_of_getElem? (i := 13) rfl)) (Cont.p ?_) (hB := hB) (hS := hSl)
        refine x_top (congrArg Value.int (show nI (bP (wIs z f p kw_get)) = nI 0 by rw [bP_f k0])) ?_
        refine x_if_eqN 31 d5_reads_24 (by decide) (by omega) (fun b24 => ?_) (fun b24 => absurd b24 (fun q => q rfl))
        refine x_aload_n d5_reads_31 rfl ?_
        refine x_ldcS (k := 15) d5_reads_32 (List.mem_of_getElem? (i := 14) rfl) ?_
        refine x_invV 122 1 d5_reads_34 (hS.T rfl) v5_162_5 (m_isWord _ hS (hf9.c hC) hR9 hB hSl (L := kw_let) (List.mem_of_getElem? (i := 14) rfl)) (Cont.p ?_) (hB := hB) (hS := hSl)
        refine x_top (congrArg Value.int (show nI (bP (wIs z f p kw_let)) = nI 0 by rw [bP_f k1])) ?_
        refine x_if_eqN 44 d5_reads_37 (by decide) (by omega) (fun b37 => ?_) (fun b37 => absurd b37 (fun q => q rfl))
        refine x_aload_n d5_reads_44 rfl ?_
        refine x_ldcS (k := 16) d5_reads_45 (List.mem_of_getElem? (i := 15) rfl) ?_
        refine x_invV 122 1 d5_reads_47 (hS.T rfl) v5_162_5 (m_isWord _ hS (hf9.c hC) hR9 hB hSl (L := kw_ask) (List.mem_of_getElem? (i := 15) rfl)) (Cont.p ?_) (hB := hB) (hS := hSl)
        refine x_top (congrArg Value.int (show nI (bP (wIs z f p kw_ask)) = nI 0 by rw [bP_f k2])) ?_
        refine x_if_eqN 57 d5_reads_50 (by decide) (by omega) (fun b50 => ?_) (fun b50 => absurd b50 (fun q => q rfl))
        refine x_aload_n d5_reads_57 rfl ?_
        refine x_ldcS (k := 17) d5_reads_58 (List.mem_of_getElem? (i := 16) rfl) ?_
        refine x_invV 122 1 d5_reads_60 (hS.T rfl) v5_162_5 (m_isWord _ hS (hf9.c hC) hR9 hB hSl (L := kw_put) (List.mem_of_getElem? (i := 16) rfl)) (Cont.p ?_) (hB := hB) (hS := hSl)
        refine x_top (congrArg Value.int (show nI (bP (wIs z f p kw_put)) = nI 1 by rw [bP_t k3])) ?_
        refine x_if_eqN 70 d5_reads_63 (by decide) (by omega) (fun b63 => absurd b63 (by decide)) (fun b63 => ?_)
        refine x_iconst (v := nI 3) d5_reads_66 (by decide) ?_
        refine x_goto 97 d5_reads_67 (by decide) ?_
        exact hgo 3 (psK_3 k0 k1 k2 k3) _
      by_cases k4 : wIs z f p kw_wash
      · refine x_iload_n d5_reads_14 rfl ?_
        refine x_if_eqN 175 d5_reads_15 (by decide) (by omega) (fun b15 => absurd b15 (by decide)) (fun b15 => ?_)
        refine x_aload_n d5_reads_18 rfl ?_
        refine x_ldcS (k := 14) d5_reads_19 (List.mem_of_getElem? (i := 13) rfl) ?_
        refine x_invV 122 1 d5_reads_21 (hS.T rfl) v5_162_5 (m_isWord _ hS (hf9.c hC) hR9 hB hSl (L := kw_get) (List.mem_of_getElem? (i := 13) rfl)) (Cont.p ?_) (hB := hB) (hS := hSl)
        refine x_top (congrArg Value.int (show nI (bP (wIs z f p kw_get)) = nI 0 by rw [bP_f k0])) ?_
        refine x_if_eqN 31 d5_reads_24 (by decide) (by omega) (fun b24 => ?_) (fun b24 => absurd b24 (fun q => q rfl))
        refine x_aload_n d5_reads_31 rfl ?_
        refine x_ldcS (k := 15) d5_reads_32 (List.mem_of_getElem? (i := 14) rfl) ?_
        refine x_invV 122 1 d5_reads_34 (hS.T rfl) v5_162_5 (m_isWord _ hS (hf9.c hC) hR9 hB hSl (L := kw_let) (List.mem_of_getElem? (i := 14) rfl)) (Cont.p ?_) (hB := hB) (hS := hSl)
        refine x_top (congrArg Value.int (show nI (bP (wIs z f p kw_let)) = nI 0 by rw [bP_f k1])) ?_
        refine x_if_eqN 44 d5_reads_37 (by decide) (by omega) (fun b37 => ?_) (fun b37 => absurd b37 (fun q => q rfl))
        refine x_aload_n d5_reads_44 rfl ?_
        refine x_ldcS (k := 16) d5_reads_45 (List.mem_of_getElem? (i := 15) rfl) ?_
        refine x_invV 122 1 d5_reads_47 (hS.T rfl) v5_162_5 (m_isWord _ hS (hf9.c hC) hR9 hB hSl (L := kw_ask) (List.mem_of_getElem? (i := 15) rfl)) (Cont.p ?_) (hB := hB) (hS := hSl)
        refine x_top (congrArg Value.int (show nI (bP (wIs z f p kw_ask)) = nI 0 by rw [bP_f k2])) ?_
        refine x_if_eqN 57 d5_reads_50 (by decide) (by omega) (fun b50 => ?_) (fun b50 => absurd b50 (fun q => q rfl))
        refine x_aload_n d5_reads_57 rfl ?_
        refine x_ldcS (k := 17) d5_reads_58 (List.mem_of_getElem? (i := 16) rfl) ?_
        refine x_invV 122 1 d5_reads_60 (hS.T rfl) v5_162_5 (m_isWord _ hS (hf9.c hC) hR9 hB hSl (L := kw_put) (List.mem_of_getElem? (i := 16) rfl)) (Cont.p ?_) (hB := hB) (hS := hSl)
        refine x_top (congrArg Value.int (show nI (bP (wIs z f p kw_put)) = nI 0 by rw [bP_f k3])) ?_
        refine x_if_eqN 70 d5_reads_63 (by decide) (by omega) (fun b63 => ?_) (fun b63 => absurd b63 (fun q => q rfl))
        refine x_aload_n d5_reads_70 rfl ?_
        refine x_ldcS (k := 18) d5_reads_71 (List.mem_of_getElem? (i := 17) rfl) ?_
        refine x_invV 122 1 d5_reads_73 (hS.T rfl) v5_162_5 (m_isWord _ hS (hf9.c hC) hR9 hB hSl (L := kw_wash) (List.mem_of_getElem? (i := 17) rfl)) (Cont.p ?_) (hB := hB) (hS := hSl)
        refine x_top (congrArg Value.int (show nI (bP (wIs z f p kw_wash)) = nI 1 by rw [bP_t k4])) ?_
        refine x_if_eqN 83 d5_reads_76 (by decide) (by omega) (fun b76 => absurd b76 (by decide)) (fun b76 => ?_)
        refine x_iconst (v := nI 4) d5_reads_79 (by decide) ?_
        refine x_goto 97 d5_reads_80 (by decide) ?_
        exact hgo 4 (psK_4 k0 k1 k2 k3 k4) _
      by_cases k5 : wIs z f p kw_result
      · refine x_iload_n d5_reads_14 rfl ?_
        refine x_if_eqN 175 d5_reads_15 (by decide) (by omega) (fun b15 => absurd b15 (by decide)) (fun b15 => ?_)
        refine x_aload_n d5_reads_18 rfl ?_
        refine x_ldcS (k := 14) d5_reads_19 (List.mem_of_getElem? (i := 13) rfl) ?_
        refine x_invV 122 1 d5_reads_21 (hS.T rfl) v5_162_5 (m_isWord _ hS (hf9.c hC) hR9 hB hSl (L := kw_get) (List.mem_of_getElem? (i := 13) rfl)) (Cont.p ?_) (hB := hB) (hS := hSl)
        refine x_top (congrArg Value.int (show nI (bP (wIs z f p kw_get)) = nI 0 by rw [bP_f k0])) ?_
        refine x_if_eqN 31 d5_reads_24 (by decide) (by omega) (fun b24 => ?_) (fun b24 => absurd b24 (fun q => q rfl))
        refine x_aload_n d5_reads_31 rfl ?_
        refine x_ldcS (k := 15) d5_reads_32 (List.mem_of_getElem? (i := 14) rfl) ?_
        refine x_invV 122 1 d5_reads_34 (hS.T rfl) v5_162_5 (m_isWord _ hS (hf9.c hC) hR9 hB hSl (L := kw_let) (List.mem_of_getElem? (i := 14) rfl)) (Cont.p ?_) (hB := hB) (hS := hSl)
        refine x_top (congrArg Value.int (show nI (bP (wIs z f p kw_let)) = nI 0 by rw [bP_f k1])) ?_
        refine x_if_eqN 44 d5_reads_37 (by decide) (by omega) (fun b37 => ?_) (fun b37 => absurd b37 (fun q => q rfl))
        refine x_aload_n d5_reads_44 rfl ?_
        refine x_ldcS (k := 16) d5_reads_45 (List.mem_of_getElem? (i := 15) rfl) ?_
        refine x_invV 122 1 d5_reads_47 (hS.T rfl) v5_162_5 (m_isWord _ hS (hf9.c hC) hR9 hB hSl (L := kw_ask) (List.mem_of_getElem? (i := 15) rfl)) (Cont.p ?_) (hB := hB) (hS := hSl)
        refine x_top (congrArg Value.int (show nI (bP (wIs z f p kw_ask)) = nI 0 by rw [bP_f k2])) ?_
        refine x_if_eqN 57 d5_reads_50 (by decide) (by omega) (fun b50 => ?_) (fun b50 => absurd b50 (fun q => q rfl))
        refine x_aload_n d5_reads_57 rfl ?_
        refine x_ldcS (k := 17) d5_reads_58 (List.mem_of_getElem? (i := 16) rfl) ?_
        refine x_invV 122 1 d5_reads_60 (hS.T rfl) v5_162_5 (m_isWord _ hS (hf9.c hC) hR9 hB hSl (L := kw_put) (List.mem_of_getElem? (i := 16) rfl)) (Cont.p ?_) (hB := hB) (hS := hSl)
        refine x_top (congrArg Value.int (show nI (bP (wIs z f p kw_put)) = nI 0 by rw [bP_f k3])) ?_
        refine x_if_eqN 70 d5_reads_63 (by decide) (by omega) (fun b63 => ?_) (fun b63 => absurd b63 (fun q => q rfl))
        refine x_aload_n d5_reads_70 rfl ?_
        refine x_ldcS (k := 18) d5_reads_71 (List.mem_of_getElem? (i := 17) rfl) ?_
        refine x_invV 122 1 d5_reads_73 (hS.T rfl) v5_162_5 (m_isWord _ hS (hf9.c hC) hR9 hB hSl (L := kw_wash) (List.mem_of_getElem? (i := 17) rfl)) (Cont.p ?_) (hB := hB) (hS := hSl)
        refine x_top (congrArg Value.int (show nI (bP (wIs z f p kw_wash)) = nI 0 by rw [bP_f k4])) ?_
        refine x_if_eqN 83 d5_reads_76 (by decide) (by omega) (fun b76 => ?_) (fun b76 => absurd b76 (fun q => q rfl))
        refine x_aload_n d5_reads_83 rfl ?_
        refine x_ldcS (k := 19) d5_reads_84 (List.mem_of_getElem? (i := 18) rfl) ?_
        refine x_invV 122 1 d5_reads_86 (hS.T rfl) v5_162_5 (m_isWord _ hS (hf9.c hC) hR9 hB hSl (L := kw_result) (List.mem_of_getElem? (i := 18) rfl)) (Cont.p ?_) (hB := hB) (hS := hSl)
        refine x_top (congrArg Value.int (show nI (bP (wIs z f p kw_result)) = nI 1 by rw [bP_t k5])) ?_
        refine x_if_eqN 96 d5_reads_89 (by decide) (by omega) (fun b89 => absurd b89 (by decide)) (fun b89 => ?_)
        refine x_iconst (v := nI 5) d5_reads_92 (by decide) ?_
        refine x_goto 97 d5_reads_93 (by decide) ?_
        exact hgo 5 (psK_5 k0 k1 k2 k3 k4 k5) _
      refine x_iload_n d5_reads_14 rfl ?_
      refine x_if_eqN 175 d5_reads_15 (by decide) (by omega) (fun b15 => absurd b15 (by decide)) (fun b15 => ?_)
      refine x_aload_n d5_reads_18 rfl ?_
      refine x_ldcS (k := 14) d5_reads_19 (List.mem_of_getElem? (i := 13) rfl) ?_
      refine x_invV 122 1 d5_reads_21 (hS.T rfl) v5_162_5 (m_isWord _ hS (hf9.c hC) hR9 hB hSl (L := kw_get) (List.mem_of_getElem? (i := 13) rfl)) (Cont.p ?_) (hB := hB) (hS := hSl)
      refine x_top (congrArg Value.int (show nI (bP (wIs z f p kw_get)) = nI 0 by rw [bP_f k0])) ?_
      refine x_if_eqN 31 d5_reads_24 (by decide) (by omega) (fun b24 => ?_) (fun b24 => absurd b24 (fun q => q rfl))
      refine x_aload_n d5_reads_31 rfl ?_
      refine x_ldcS (k := 15) d5_reads_32 (List.mem_of_getElem? (i := 14) rfl) ?_
      refine x_invV 122 1 d5_reads_34 (hS.T rfl) v5_162_5 (m_isWord _ hS (hf9.c hC) hR9 hB hSl (L := kw_let) (List.mem_of_getElem? (i := 14) rfl)) (Cont.p ?_) (hB := hB) (hS := hSl)
      refine x_top (congrArg Value.int (show nI (bP (wIs z f p kw_let)) = nI 0 by rw [bP_f k1])) ?_
      refine x_if_eqN 44 d5_reads_37 (by decide) (by omega) (fun b37 => ?_) (fun b37 => absurd b37 (fun q => q rfl))
      refine x_aload_n d5_reads_44 rfl ?_
      refine x_ldcS (k := 16) d5_reads_45 (List.mem_of_getElem? (i := 15) rfl) ?_
      refine x_invV 122 1 d5_reads_47 (hS.T rfl) v5_162_5 (m_isWord _ hS (hf9.c hC) hR9 hB hSl (L := kw_ask) (List.mem_of_getElem? (i := 15) rfl)) (Cont.p ?_) (hB := hB) (hS := hSl)
      refine x_top (congrArg Value.int (show nI (bP (wIs z f p kw_ask)) = nI 0 by rw [bP_f k2])) ?_
      refine x_if_eqN 57 d5_reads_50 (by decide) (by omega) (fun b50 => ?_) (fun b50 => absurd b50 (fun q => q rfl))
      refine x_aload_n d5_reads_57 rfl ?_
      refine x_ldcS (k := 17) d5_reads_58 (List.mem_of_getElem? (i := 16) rfl) ?_
      refine x_invV 122 1 d5_reads_60 (hS.T rfl) v5_162_5 (m_isWord _ hS (hf9.c hC) hR9 hB hSl (L := kw_put) (List.mem_of_getElem? (i := 16) rfl)) (Cont.p ?_) (hB := hB) (hS := hSl)
      refine x_top (congrArg Value.int (show nI (bP (wIs z f p kw_put)) = nI 0 by rw [bP_f k3])) ?_
      refine x_if_eqN 70 d5_reads_63 (by decide) (by omega) (fun b63 => ?_) (fun b63 => absurd b63 (fun q => q rfl))
      refine x_aload_n d5_reads_70 rfl ?_
      refine x_ldcS (k := 18) d5_reads_71 (List.mem_of_getElem? (i := 17) rfl) ?_
      refine x_invV 122 1 d5_reads_73 (hS.T rfl) v5_162_5 (m_isWord _ hS (hf9.c hC) hR9 hB hSl (L := kw_wash) (List.mem_of_getElem? (i := 17) rfl)) (Cont.p ?_) (hB := hB) (hS := hSl)
      refine x_top (congrArg Value.int (show nI (bP (wIs z f p kw_wash)) = nI 0 by rw [bP_f k4])) ?_
      refine x_if_eqN 83 d5_reads_76 (by decide) (by omega) (fun b76 => ?_) (fun b76 => absurd b76 (fun q => q rfl))
      refine x_aload_n d5_reads_83 rfl ?_
      refine x_ldcS (k := 19) d5_reads_84 (List.mem_of_getElem? (i := 18) rfl) ?_
      refine x_invV 122 1 d5_reads_86 (hS.T rfl) v5_162_5 (m_isWord _ hS (hf9.c hC) hR9 hB hSl (L := kw_result) (List.mem_of_getElem? (i := 18) rfl)) (Cont.p ?_) (hB := hB) (hS := hSl)
      refine x_top (congrArg Value.int (show nI (bP (wIs z f p kw_result)) = nI 0 by rw [bP_f k5])) ?_
      refine x_if_eqN 96 d5_reads_89 (by decide) (by omega) (fun b89 => ?_) (fun b89 => absurd b89 (fun q => q rfl))
      refine x_iconst (v := -1) d5_reads_96 (by decide) ?_
      refine x_istore_n d5_reads_97 ?_
      refine x_iload_n d5_reads_98 rfl ?_
      refine x_iconst (v := -1) d5_reads_99 (by decide) ?_
      refine x_icmp_ne 109 d5_reads_100 (by decide) (fun b100 => absurd b100 (fun q => q rfl)) (fun b100 => ?_)
      refine x_aload_n d5_reads_103 rfl ?_
      refine x_iconst (v := nI 1) d5_reads_104 (by decide) ?_
      refine x_invV 122 1 d5_reads_105 (hS.T rfl) v5_166_5 (m_stop _ hS (k := 1)) (Cont.e ?_) (hB := hB) (hS := hSl)
      obtain ⟨I1, hI1⟩ : ∃ z, z = u2 (u2 I9 131 6 (nI 1)) 131 7 (I9 122 19) := ⟨_, rfl⟩
      rw [← hI1]
      have he1 := stop_err hI1 hR9.2.1.1
      have hz1 := RdZ.stop hI1
      exact x_athrow d5_reads_108 ⟨by decide, Or.inl ⟨rfl, ⟨I1, J9, rfl, (hf9.trans hz1.x), hj9, by rw [show psA z f np 0 m rs p = .inl (1, tA z f p) from by simp only [psA, psK_n k0 k1 k2 k3 k4 k5]]; exact ⟨rfl, he1⟩⟩⟩⟩
    | succ nn ihn =>
      intro m rs p I9 J9 hm hR9 hf9 hj9 h124 hrs hok v2
      have hgo : ∀ w, psK z f p = some w → ∀ v2, RA G (d + 8) M5_reads 97 [.ref 122, .int (nI 1), v2] [.int (nI w)] (t, I9, J9, P, n, sl) (PQ t P n sl (RdX I) J (psA z f np (nn + 1) m rs p) (fun x o I' J' => o = .inl none ∧ I' 124 10 = nI x.1 ∧ ∀ k, k < x.1 → RowM (120 + k) (x.2 k) I')) := by
        intro w hk v2
        have hw5 := (psK_ok hk).2
        refine x_istore_n d5_reads_97 ?_
        refine x_iload_n d5_reads_98 rfl ?_
        refine x_iconst (v := -1) d5_reads_99 (by decide) ?_
        refine x_icmp_ne 109 d5_reads_100 (by decide) (fun b100 => ?_) (fun b100 => absurd b100 (nI_m1 (by omega)))
        refine x_aload_n d5_reads_109 rfl ?_
        refine x_getP d5_reads_110 f5_17 (hS.T rfl) (hS.P rfl) ?_
        refine x_bipush (v := nI 10) d5_reads_113 (by decide) ?_
        refine x_ialdN d5_reads_115 (hS.T rfl) (by omega) ?_
        refine x_top (congrArg Value.int (show I9 124 10 = nI m from h124)) ?_
        refine x_bipush (v := nI 12) d5_reads_116 (by decide) ?_
        refine x_icmp_neN 127 d5_reads_118 (by decide) (by omega) (by omega) (fun b118 => ?_) (fun b118 => absurd b118 (by omega))
        refine x_aload_n d5_reads_127 rfl ?_
        refine x_invV 122 0 d5_reads_128 (hS.T rfl) v5_169_5 (m_next _ hS hR9.1 (tE_le hR9.2.2).2 (hR9.2.1.2.2.2.2.2.2 (by rw [(psK_ok hk).1]; decide)) hB hSl) ?_ (hB := hB) (hS := hSl)
        rintro o h' ⟨rfl, I1, J1, rfl, hs1, hj1, ht1⟩
        have hRd1 : Rd z f (tE z f p) I1 J1 := ⟨hs1.tx hR9.1, ht1, (tE_le hR9.2.2).2⟩
        have h124n1 : I1 124 10 = nI m := by rw [hs1.1 124 (by decide)]; exact h124
        have hron1 : ∀ k, k < m → RowM (120 + k) (rs k) I1 := fun k hk => (hrs k hk).z (fun b hb => hs1.1 b (fun e => by rw [e] at hb; revert hb; decide))
        refine x_aload_n d5_reads_131 rfl ?_
        refine x_bipush (v := nI 120) d5_reads_132 (by decide) ?_
        refine x_aload_n d5_reads_134 rfl ?_
        refine x_getP d5_reads_135 f5_17 (hS.T rfl) (hS.P rfl) ?_
        refine x_bipush (v := nI 10) d5_reads_138 (by decide) ?_
        refine x_ialdN d5_reads_140 (hS.T rfl) (by omega) ?_
        refine x_top (congrArg Value.int (show I1 124 10 = nI m from h124n1)) ?_
        refine x_iaddN d5_reads_141 ?_
        refine x_iload_n d5_reads_142 rfl ?_
        rcases hps143 : psL z f np w (tE z f p) with ⟨F143, pl143⟩ | ⟨l5, p5⟩
        · refine x_invV 122 2 d5_reads_143 (hS.T rfl) v5_189_5 (m_readLine _ hS ((hf9.trans hs1.z.x).c hC) hRd1 hB hSl (l := 120 + m) (by omega) (((hf9.trans hs1.z.x).2.1 4 (by decide)).trans hnp) hn10 (psK_ok hk).2) ?_ (hB := hB) (hS := hSl)
          rintro o h' ⟨I2, J2, rfl, hy2, hj2, hr2⟩
          rw [hps143] at hr2
          obtain ⟨rfl, he2⟩ := hr2
          exact ⟨by decide, Or.inl ⟨rfl, ⟨I2, J2, rfl, ((hf9.trans hs1.z.x).trans (hy2.x (by omega))), ((hj9.trans hj1).trans hj2), by rw [show psA z f np (nn + 1) m rs p = .inl (F143, pl143) from by simp only [psA, hk, hps143]]; exact ⟨rfl, he2⟩⟩⟩⟩
        · refine x_invV 122 2 d5_reads_143 (hS.T rfl) v5_189_5 (m_readLine _ hS ((hf9.trans hs1.z.x).c hC) hRd1 hB hSl (l := 120 + m) (by omega) (((hf9.trans hs1.z.x).2.1 4 (by decide)).trans hnp) hn10 (psK_ok hk).2) ?_ (hB := hB) (hS := hSl)
          rintro o h' ⟨I2, J2, rfl, hy2, hj2, hr2⟩
          rw [hps143] at hr2
          obtain ⟨rfl, hRd2, hrow2⟩ := hr2
          replace hRd2 : Rd z f p5 I2 J2 := hRd2
          have hLk := psL_ok hn10 (psK_ok hk).2 hRd1.2.2 hps143
          have h124r : I2 124 10 = nI m := by rw [hy2.1 124 (by decide)]; exact h124n1
          have hror : ∀ k, k < m + 1 → RowM (120 + k) (if k = m then l5 else rs k) I2 := fun k hk => by
            by_cases e : k = m
            · rw [if_pos e, e]; exact hrow2
            · rw [if_neg e]; exact (hron1 k (by omega)).fr hy2 (by omega) (fun h1 => ((hok k (by omega)).2.2.2.1 h1).2)
          refine x_aload_n d5_reads_146 rfl ?_
          refine x_getP d5_reads_147 f5_17 (hS.T rfl) (hS.P rfl) ?_
          refine x_bipush (v := nI 10) d5_reads_150 (by decide) ?_
          refine x_dup2 d5_reads_152 rfl rfl ?_
          refine x_ialdN d5_reads_153 (hS.T rfl) (by omega) ?_
          refine x_top (congrArg Value.int (show I2 124 10 = nI m from h124r)) ?_
          refine x_iconst (v := nI 1) d5_reads_154 (by decide) ?_
          refine x_iaddN d5_reads_155 ?_
          refine x_iastN d5_reads_156 (hS.T rfl) (by omega) (fun I3 hI3 => ?_)
          have hRdI3 := hRd2.row hI3 (by decide)
          have hfI3 := ((hf9.trans hs1.z.x).trans (hy2.x (by omega))).trans (RdX.u124 hI3)
          have h124I3 : I3 124 10 = nI (m + 1) := by rw [hI3, u2_self]
          have hroI3 : ∀ k, k < m + 1 → RowM (120 + k) (if k = m then l5 else rs k) I3 := fun k hk => (hror k hk).z (fun b hb => by rw [hI3, u2_row _ _ _ (fun e => by rw [e] at hb; revert hb; decide)])
          refine x_aload_n d5_reads_157 rfl ?_
          refine x_bipush (v := nI 59) d5_reads_158 (by decide) ?_
          refine x_invV 122 1 d5_reads_160 (hS.T rfl) v5_193_5 (m_is _ hS hRdI3 hB hSl (Or.inr rfl)) (Cont.p ?_) (hB := hB) (hS := hSl)
          have hbl := bP_lt (tK z f p5 = 59)
          refine x_istore_n d5_reads_163 ?_
          refine x_iload_n d5_reads_164 rfl ?_
          refine x_if_eqN 172 d5_reads_165 (by decide) (by omega) (fun b165 => ?_) (fun b165 => ?_)
          · refine x_goto 14 d5_reads_172 (by decide) ?_
            refine x_iload_n d5_reads_14 rfl ?_
            refine x_if_eqN 175 d5_reads_15 (by decide) (by omega) (fun b15 => ?_) (fun b15 => absurd b15 (fun q => q b165))
            refine x_aload_n d5_reads_175 rfl ?_
            refine x_getI d5_reads_176 f5_139 (hS.T rfl) ?_
            refine x_top (congrArg Value.int (show I3 122 18 = nI (srt (tK z f p5)) from hRdI3.2.1.srt)) ?_
            have hsr_ := srt_lt (tK z f p5)
            refine x_iconst (v := nI 1) d5_reads_179 (by decide) ?_
            refine x_icmp_eqN 189 d5_reads_180 (by decide) (by omega) (by omega) (fun b180 => ?_) (fun b180 => ?_)
            · exact x_return d5_reads_189 ⟨I3, J2, rfl, hfI3, ((hj9.trans hj1).trans hj2), by rw [show psA z f np (nn + 1) m rs p = .inr (m + 1, fun j => if j = m then l5 else rs j) by simp only [psA, hk, hps143]; rw [if_neg (bP_0.mp b165), if_pos (srt_1.mp b180)]]; exact ⟨rfl, h124I3, hroI3⟩⟩
            · refine x_aload_n d5_reads_183 rfl ?_
              refine x_iconst (v := nI 1) d5_reads_184 (by decide) ?_
              refine x_invV 122 1 d5_reads_185 (hS.T rfl) v5_166_5 (m_stop _ hS (k := 1)) (Cont.e ?_) (hB := hB) (hS := hSl)
              obtain ⟨I4, hI4⟩ : ∃ z, z = u2 (u2 I3 131 6 (nI 1)) 131 7 (I3 122 19) := ⟨_, rfl⟩
              rw [← hI4]
              have he4 := stop_err hI4 hRdI3.2.1.1
              have hz4 := RdZ.stop hI4
              exact x_athrow d5_reads_188 ⟨by decide, Or.inl ⟨rfl, ⟨I4, J2, rfl, (hfI3.trans hz4.x), ((hj9.trans hj1).trans hj2), by rw [show psA z f np (nn + 1) m rs p = .inl (1, tA z f p5) from by simp only [psA, hk, hps143]; rw [if_neg (bP_0.mp b165), if_neg (fun h => b180 (srt_1.mpr h))]]; exact ⟨rfl, he4⟩⟩⟩⟩
          · refine x_aload_n d5_reads_168 rfl ?_
            refine x_invV 122 0 d5_reads_169 (hS.T rfl) v5_169_5 (m_next _ hS hRdI3.1 (tE_le hRdI3.2.2).2 (hRdI3.2.1.2.2.2.2.2.2 (by rw [bP_1.mp (show bP (tK z f p5 = 59) = 1 by omega)]; decide)) hB hSl) ?_ (hB := hB) (hS := hSl)
            rintro o h' ⟨rfl, I5, J5, rfl, hs5, hj5, ht5⟩
            have hRd5 : Rd z f (tE z f p5) I5 J5 := ⟨hs5.tx hRdI3.1, ht5, (tE_le hRdI3.2.2).2⟩
            have h124n5 : I5 124 10 = nI (m + 1) := by rw [hs5.1 124 (by decide)]; exact h124I3
            have hron5 : ∀ k, k < m + 1 → RowM (120 + k) (if k = m then l5 else rs k) I5 := fun k hk => (hroI3 k hk).z (fun b hb => hs5.1 b (fun e => by rw [e] at hb; revert hb; decide))
            refine x_goto 14 d5_reads_172 (by decide) ?_
            rw [show bP (tK z f p5 = 59) = 1 by omega, show psA z f np (nn + 1) m rs p = psA z f np nn (m + 1) (fun j => if j = m then l5 else rs j) (tE z f p5) by simp only [psA, hk, hps143]; exact if_pos (bP_1.mp (by omega))]
            exact ihn (m + 1) _ _ I5 J5 (by omega) hRd5 (hfI3.trans hs5.z.x) (((hj9.trans hj1).trans hj2).trans hj5) h124n5 hron5 (fun k hk => by
              by_cases e : k = m
              · rw [if_pos e]; exact hLk.1
              · rw [if_neg e]; exact hok k (by omega)) _
      by_cases k0 : wIs z f p kw_get
      · refine x_iload_n d5_reads_14 rfl ?_
        refine x_if_eqN 175 d5_reads_15 (by decide) (by omega) (fun b15 => absurd b15 (by decide)) (fun b15 => ?_)
        refine x_aload_n d5_reads_18 rfl ?_
        refine x_ldcS (k := 14) d5_reads_19 (List.mem_of_getElem? (i := 13) rfl) ?_
        refine x_invV 122 1 d5_reads_21 (hS.T rfl) v5_162_5 (m_isWord _ hS (hf9.c hC) hR9 hB hSl (L := kw_get) (List.mem_of_getElem? (i := 13) rfl)) (Cont.p ?_) (hB := hB) (hS := hSl)
        refine x_top (congrArg Value.int (show nI (bP (wIs z f p kw_get)) = nI 1 by rw [bP_t k0])) ?_
        refine x_if_eqN 31 d5_reads_24 (by decide) (by omega) (fun b24 => absurd b24 (by decide)) (fun b24 => ?_)
        refine x_iconst (v := nI 0) d5_reads_27 (by decide) ?_
        refine x_goto 97 d5_reads_28 (by decide) ?_
        exact hgo 0 (psK_0  k0) _
      by_cases k1 : wIs z f p kw_let
      · refine x_iload_n d5_reads_14 rfl ?_
        refine x_if_eqN 175 d5_reads_15 (by decide) (by omega) (fun b15 => absurd b15 (by decide)) (fun b15 => ?_)
        refine x_aload_n d5_reads_18 rfl ?_
        refine x_ldcS (k := 14) d5_reads_19 (List.mem_of_getElem? (i := 13) rfl) ?_
        refine x_invV 122 1 d5_reads_21 (hS.T rfl) v5_162_5 (m_isWord _ hS (hf9.c hC) hR9 hB hSl (L := kw_get) (List.mem_of_getElem? (i := 13) rfl)) (Cont.p ?_) (hB := hB) (hS := hSl)
        refine x_top (congrArg Value.int (show nI (bP (wIs z f p kw_get)) = nI 0 by rw [bP_f k0])) ?_
        refine x_if_eqN 31 d5_reads_24 (by decide) (by omega) (fun b24 => ?_) (fun b24 => absurd b24 (fun q => q rfl))
        refine x_aload_n d5_reads_31 rfl ?_
        refine x_ldcS (k := 15) d5_reads_32 (List.mem_of_getElem? (i := 14) rfl) ?_
        refine x_invV 122 1 d5_reads_34 (hS.T rfl) v5_162_5 (m_isWord _ hS (hf9.c hC) hR9 hB hSl (L := kw_let) (List.mem_of_getElem? (i := 14) rfl)) (Cont.p ?_) (hB := hB) (hS := hSl)
        refine x_top (congrArg Value.int (show nI (bP (wIs z f p kw_let)) = nI 1 by rw [bP_t k1])) ?_
        refine x_if_eqN 44 d5_reads_37 (by decide) (by omega) (fun b37 => absurd b37 (by decide)) (fun b37 => ?_)
        refine x_iconst (v := nI 1) d5_reads_40 (by decide) ?_
        refine x_goto 97 d5_reads_41 (by decide) ?_
        exact hgo 1 (psK_1 k0 k1) _
      by_cases k2 : wIs z f p kw_ask
      · refine x_iload_n d5_reads_14 rfl ?_
        refine x_if_eqN 175 d5_reads_15 (by decide) (by omega) (fun b15 => absurd b15 (by decide)) (fun b15 => ?_)
        refine x_aload_n d5_reads_18 rfl ?_
        refine x_ldcS (k := 14) d5_reads_19 (List.mem_of_getElem? (i := 13) rfl) ?_
        refine x_invV 122 1 d5_reads_21 (hS.T rfl) v5_162_5 (m_isWord _ hS (hf9.c hC) hR9 hB hSl (L := kw_get) (List.mem_of_getElem? (i := 13) rfl)) (Cont.p ?_) (hB := hB) (hS := hSl)
        refine x_top (congrArg Value.int (show nI (bP (wIs z f p kw_get)) = nI 0 by rw [bP_f k0])) ?_
        refine x_if_eqN 31 d5_reads_24 (by decide) (by omega) (fun b24 => ?_) (fun b24 => absurd b24 (fun q => q rfl))
        refine x_aload_n d5_reads_31 rfl ?_
        refine x_ldcS (k := 15) d5_reads_32 (List.mem_of_getElem? (i := 14) rfl) ?_
        refine x_invV 122 1 d5_reads_34 (hS.T rfl) v5_162_5 (m_isWord _ hS (hf9.c hC) hR9 hB hSl (L := kw_let) (List.mem_of_getElem? (i := 14) rfl)) (Cont.p ?_) (hB := hB) (hS := hSl)
        refine x_top (congrArg Value.int (show nI (bP (wIs z f p kw_let)) = nI 0 by rw [bP_f k1])) ?_
        refine x_if_eqN 44 d5_reads_37 (by decide) (by omega) (fun b37 => ?_) (fun b37 => absurd b37 (fun q => q rfl))
        refine x_aload_n d5_reads_44 rfl ?_
        refine x_ldcS (k := 16) d5_reads_45 (List.mem_of_getElem? (i := 15) rfl) ?_
        refine x_invV 122 1 d5_reads_47 (hS.T rfl) v5_162_5 (m_isWord _ hS (hf9.c hC) hR9 hB hSl (L := kw_ask) (List.mem_of_getElem? (i := 15) rfl)) (Cont.p ?_) (hB := hB) (hS := hSl)
        refine x_top (congrArg Value.int (show nI (bP (wIs z f p kw_ask)) = nI 1 by rw [bP_t k2])) ?_
        refine x_if_eqN 57 d5_reads_50 (by decide) (by omega) (fun b50 => absurd b50 (by decide)) (fun b50 => ?_)
        refine x_iconst (v := nI 2) d5_reads_53 (by decide) ?_
        refine x_goto 97 d5_reads_54 (by decide) ?_
        exact hgo 2 (psK_2 k0 k1 k2) _
      by_cases k3 : wIs z f p kw_put
      · refine x_iload_n d5_reads_14 rfl ?_
        refine x_if_eqN 175 d5_reads_15 (by decide) (by omega) (fun b15 => absurd b15 (by decide)) (fun b15 => ?_)
        refine x_aload_n d5_reads_18 rfl ?_
        refine x_ldcS (k := 14) d5_reads_19 (List.mem_of_getElem? (i := 13) rfl) ?_
        refine x_invV 122 1 d5_reads_21 (hS.T rfl) v5_162_5 (m_isWord _ hS (hf9.c hC) hR9 hB hSl (L := kw_get) (List.mem_of_getElem? (i := 13) rfl)) (Cont.p ?_) (hB := hB) (hS := hSl)
        refine x_top (congrArg Value.int (show nI (bP (wIs z f p kw_get)) = nI 0 by rw [bP_f k0])) ?_
        refine x_if_eqN 31 d5_reads_24 (by decide) (by omega) (fun b24 => ?_) (fun b24 => absurd b24 (fun q => q rfl))
        refine x_aload_n d5_reads_31 rfl ?_
        refine x_ldcS (k := 15) d5_reads_32 (List.mem_of_getElem? (i := 14) rfl) ?_
        refine x_invV 122 1 d5_reads_34 (hS.T rfl) v5_162_5 (m_isWord _ hS (hf9.c hC) hR9 hB hSl (L := kw_let) (List.mem_of_getElem? (i := 14) rfl)) (Cont.p ?_) (hB := hB) (hS := hSl)
        refine x_top (congrArg Value.int (show nI (bP (wIs z f p kw_let)) = nI 0 by rw [bP_f k1])) ?_
        refine x_if_eqN 44 d5_reads_37 (by decide) (by omega) (fun b37 => ?_) (fun b37 => absurd b37 (fun q => q rfl))
        refine x_aload_n d5_reads_44 rfl ?_
        refine x_ldcS (k := 16) d5_reads_45 (List.mem_of_getElem? (i := 15) rfl) ?_
        refine x_invV 122 1 d5_reads_47 (hS.T rfl) v5_162_5 (m_isWord _ hS (hf9.c hC) hR9 hB hSl (L := kw_ask) (List.mem_of_getElem? (i := 15) rfl)) (Cont.p ?_) (hB := hB) (hS := hSl)
        refine x_top (congrArg Value.int (show nI (bP (wIs z f p kw_ask)) = nI 0 by rw [bP_f k2])) ?_
        refine x_if_eqN 57 d5_reads_50 (by decide) (by omega) (fun b50 => ?_) (fun b50 => absurd b50 (fun q => q rfl))
        refine x_aload_n d5_reads_57 rfl ?_
        refine x_ldcS (k := 17) d5_reads_58 (List.mem_of_getElem? (i := 16) rfl) ?_
        refine x_invV 122 1 d5_reads_60 (hS.T rfl) v5_162_5 (m_isWord _ hS (hf9.c hC) hR9 hB hSl (L := kw_put) (List.mem_of_getElem? (i := 16) rfl)) (Cont.p ?_) (hB := hB) (hS := hSl)
        refine x_top (congrArg Value.int (show nI (bP (wIs z f p kw_put)) = nI 1 by rw [bP_t k3])) ?_
        refine x_if_eqN 70 d5_reads_63 (by decide) (by omega) (fun b63 => absurd b63 (by decide)) (fun b63 => ?_)
        refine x_iconst (v := nI 3) d5_reads_66 (by decide) ?_
        refine x_goto 97 d5_reads_67 (by decide) ?_
        exact hgo 3 (psK_3 k0 k1 k2 k3) _
      by_cases k4 : wIs z f p kw_wash
      · refine x_iload_n d5_reads_14 rfl ?_
        refine x_if_eqN 175 d5_reads_15 (by decide) (by omega) (fun b15 => absurd b15 (by decide)) (fun b15 => ?_)
        refine x_aload_n d5_reads_18 rfl ?_
        refine x_ldcS (k := 14) d5_reads_19 (List.mem_of_getElem? (i := 13) rfl) ?_
        refine x_invV 122 1 d5_reads_21 (hS.T rfl) v5_162_5 (m_isWord _ hS (hf9.c hC) hR9 hB hSl (L := kw_get) (List.mem_of_getElem? (i := 13) rfl)) (Cont.p ?_) (hB := hB) (hS := hSl)
        refine x_top (congrArg Value.int (show nI (bP (wIs z f p kw_get)) = nI 0 by rw [bP_f k0])) ?_
        refine x_if_eqN 31 d5_reads_24 (by decide) (by omega) (fun b24 => ?_) (fun b24 => absurd b24 (fun q => q rfl))
        refine x_aload_n d5_reads_31 rfl ?_
        refine x_ldcS (k := 15) d5_reads_32 (List.mem_of_getElem? (i := 14) rfl) ?_
        refine x_invV 122 1 d5_reads_34 (hS.T rfl) v5_162_5 (m_isWord _ hS (hf9.c hC) hR9 hB hSl (L := kw_let) (List.mem_of_getElem? (i := 14) rfl)) (Cont.p ?_) (hB := hB) (hS := hSl)
        refine x_top (congrArg Value.int (show nI (bP (wIs z f p kw_let)) = nI 0 by rw [bP_f k1])) ?_
        refine x_if_eqN 44 d5_reads_37 (by decide) (by omega) (fun b37 => ?_) (fun b37 => absurd b37 (fun q => q rfl))
        refine x_aload_n d5_reads_44 rfl ?_
        refine x_ldcS (k := 16) d5_reads_45 (List.mem_of_getElem? (i := 15) rfl) ?_
        refine x_invV 122 1 d5_reads_47 (hS.T rfl) v5_162_5 (m_isWord _ hS (hf9.c hC) hR9 hB hSl (L := kw_ask) (List.mem_of_getElem? (i := 15) rfl)) (Cont.p ?_) (hB := hB) (hS := hSl)
        refine x_top (congrArg Value.int (show nI (bP (wIs z f p kw_ask)) = nI 0 by rw [bP_f k2])) ?_
        refine x_if_eqN 57 d5_reads_50 (by decide) (by omega) (fun b50 => ?_) (fun b50 => absurd b50 (fun q => q rfl))
        refine x_aload_n d5_reads_57 rfl ?_
        refine x_ldcS (k := 17) d5_reads_58 (List.mem_of_getElem? (i := 16) rfl) ?_
        refine x_invV 122 1 d5_reads_60 (hS.T rfl) v5_162_5 (m_isWord _ hS (hf9.c hC) hR9 hB hSl (L := kw_put) (List.mem_of_getElem? (i := 16) rfl)) (Cont.p ?_) (hB := hB) (hS := hSl)
        refine x_top (congrArg Value.int (show nI (bP (wIs z f p kw_put)) = nI 0 by rw [bP_f k3])) ?_
        refine x_if_eqN 70 d5_reads_63 (by decide) (by omega) (fun b63 => ?_) (fun b63 => absurd b63 (fun q => q rfl))
        refine x_aload_n d5_reads_70 rfl ?_
        refine x_ldcS (k := 18) d5_reads_71 (List.mem_of_getElem? (i := 17) rfl) ?_
        refine x_invV 122 1 d5_reads_73 (hS.T rfl) v5_162_5 (m_isWord _ hS (hf9.c hC) hR9 hB hSl (L := kw_wash) (List.mem_of_getElem? (i := 17) rfl)) (Cont.p ?_) (hB := hB) (hS := hSl)
        refine x_top (congrArg Value.int (show nI (bP (wIs z f p kw_wash)) = nI 1 by rw [bP_t k4])) ?_
        refine x_if_eqN 83 d5_reads_76 (by decide) (by omega) (fun b76 => absurd b76 (by decide)) (fun b76 => ?_)
        refine x_iconst (v := nI 4) d5_reads_79 (by decide) ?_
        refine x_goto 97 d5_reads_80 (by decide) ?_
        exact hgo 4 (psK_4 k0 k1 k2 k3 k4) _
      by_cases k5 : wIs z f p kw_result
      · refine x_iload_n d5_reads_14 rfl ?_
        refine x_if_eqN 175 d5_reads_15 (by decide) (by omega) (fun b15 => absurd b15 (by decide)) (fun b15 => ?_)
        refine x_aload_n d5_reads_18 rfl ?_
        refine x_ldcS (k := 14) d5_reads_19 (List.mem_of_getElem? (i := 13) rfl) ?_
        refine x_invV 122 1 d5_reads_21 (hS.T rfl) v5_162_5 (m_isWord _ hS (hf9.c hC) hR9 hB hSl (L := kw_get) (List.mem_of_getElem? (i := 13) rfl)) (Cont.p ?_) (hB := hB) (hS := hSl)
        refine x_top (congrArg Value.int (show nI (bP (wIs z f p kw_get)) = nI 0 by rw [bP_f k0])) ?_
        refine x_if_eqN 31 d5_reads_24 (by decide) (by omega) (fun b24 => ?_) (fun b24 => absurd b24 (fun q => q rfl))
        refine x_aload_n d5_reads_31 rfl ?_
        refine x_ldcS (k := 15) d5_reads_32 (List.mem_of_getElem? (i := 14) rfl) ?_
        refine x_invV 122 1 d5_reads_34 (hS.T rfl) v5_162_5 (m_isWord _ hS (hf9.c hC) hR9 hB hSl (L := kw_let) (List.mem_of_getElem? (i := 14) rfl)) (Cont.p ?_) (hB := hB) (hS := hSl)
        refine x_top (congrArg Value.int (show nI (bP (wIs z f p kw_let)) = nI 0 by rw [bP_f k1])) ?_
        refine x_if_eqN 44 d5_reads_37 (by decide) (by omega) (fun b37 => ?_) (fun b37 => absurd b37 (fun q => q rfl))
        refine x_aload_n d5_reads_44 rfl ?_
        refine x_ldcS (k := 16) d5_reads_45 (List.mem_of_getElem? (i := 15) rfl) ?_
        refine x_invV 122 1 d5_reads_47 (hS.T rfl) v5_162_5 (m_isWord _ hS (hf9.c hC) hR9 hB hSl (L := kw_ask) (List.mem_of_getElem? (i := 15) rfl)) (Cont.p ?_) (hB := hB) (hS := hSl)
        refine x_top (congrArg Value.int (show nI (bP (wIs z f p kw_ask)) = nI 0 by rw [bP_f k2])) ?_
        refine x_if_eqN 57 d5_reads_50 (by decide) (by omega) (fun b50 => ?_) (fun b50 => absurd b50 (fun q => q rfl))
        refine x_aload_n d5_reads_57 rfl ?_
        refine x_ldcS (k := 17) d5_reads_58 (List.mem_of_getElem? (i := 16) rfl) ?_
        refine x_invV 122 1 d5_reads_60 (hS.T rfl) v5_162_5 (m_isWord _ hS (hf9.c hC) hR9 hB hSl (L := kw_put) (List.mem_of_getElem? (i := 16) rfl)) (Cont.p ?_) (hB := hB) (hS := hSl)
        refine x_top (congrArg Value.int (show nI (bP (wIs z f p kw_put)) = nI 0 by rw [bP_f k3])) ?_
        refine x_if_eqN 70 d5_reads_63 (by decide) (by omega) (fun b63 => ?_) (fun b63 => absurd b63 (fun q => q rfl))
        refine x_aload_n d5_reads_70 rfl ?_
        refine x_ldcS (k := 18) d5_reads_71 (List.mem_of_getElem? (i := 17) rfl) ?_
        refine x_invV 122 1 d5_reads_73 (hS.T rfl) v5_162_5 (m_isWord _ hS (hf9.c hC) hR9 hB hSl (L := kw_wash) (List.mem_of_getElem? (i := 17) rfl)) (Cont.p ?_) (hB := hB) (hS := hSl)
        refine x_top (congrArg Value.int (show nI (bP (wIs z f p kw_wash)) = nI 0 by rw [bP_f k4])) ?_
        refine x_if_eqN 83 d5_reads_76 (by decide) (by omega) (fun b76 => ?_) (fun b76 => absurd b76 (fun q => q rfl))
        refine x_aload_n d5_reads_83 rfl ?_
        refine x_ldcS (k := 19) d5_reads_84 (List.mem_of_getElem? (i := 18) rfl) ?_
        refine x_invV 122 1 d5_reads_86 (hS.T rfl) v5_162_5 (m_isWord _ hS (hf9.c hC) hR9 hB hSl (L := kw_result) (List.mem_of_getElem? (i := 18) rfl)) (Cont.p ?_) (hB := hB) (hS := hSl)
        refine x_top (congrArg Value.int (show nI (bP (wIs z f p kw_result)) = nI 1 by rw [bP_t k5])) ?_
        refine x_if_eqN 96 d5_reads_89 (by decide) (by omega) (fun b89 => absurd b89 (by decide)) (fun b89 => ?_)
        refine x_iconst (v := nI 5) d5_reads_92 (by decide) ?_
        refine x_goto 97 d5_reads_93 (by decide) ?_
        exact hgo 5 (psK_5 k0 k1 k2 k3 k4 k5) _
      refine x_iload_n d5_reads_14 rfl ?_
      refine x_if_eqN 175 d5_reads_15 (by decide) (by omega) (fun b15 => absurd b15 (by decide)) (fun b15 => ?_)
      refine x_aload_n d5_reads_18 rfl ?_
      refine x_ldcS (k := 14) d5_reads_19 (List.mem_of_getElem? (i := 13) rfl) ?_
      refine x_invV 122 1 d5_reads_21 (hS.T rfl) v5_162_5 (m_isWord _ hS (hf9.c hC) hR9 hB hSl (L := kw_get) (List.mem_of_getElem? (i := 13) rfl)) (Cont.p ?_) (hB := hB) (hS := hSl)
      refine x_top (congrArg Value.int (show nI (bP (wIs z f p kw_get)) = nI 0 by rw [bP_f k0])) ?_
      refine x_if_eqN 31 d5_reads_24 (by decide) (by omega) (fun b24 => ?_) (fun b24 => absurd b24 (fun q => q rfl))
      refine x_aload_n d5_reads_31 rfl ?_
      refine x_ldcS (k := 15) d5_reads_32 (List.mem_of_getElem? (i := 14) rfl) ?_
      refine x_invV 122 1 d5_reads_34 (hS.T rfl) v5_162_5 (m_isWord _ hS (hf9.c hC) hR9 hB hSl (L := kw_let) (List.mem_of_getElem? (i := 14) rfl)) (Cont.p ?_) (hB := hB) (hS := hSl)
      refine x_top (congrArg Value.int (show nI (bP (wIs z f p kw_let)) = nI 0 by rw [bP_f k1])) ?_
      refine x_if_eqN 44 d5_reads_37 (by decide) (by omega) (fun b37 => ?_) (fun b37 => absurd b37 (fun q => q rfl))
      refine x_aload_n d5_reads_44 rfl ?_
      refine x_ldcS (k := 16) d5_reads_45 (List.mem_of_getElem? (i := 15) rfl) ?_
      refine x_invV 122 1 d5_reads_47 (hS.T rfl) v5_162_5 (m_isWord _ hS (hf9.c hC) hR9 hB hSl (L := kw_ask) (List.mem_of_getElem? (i := 15) rfl)) (Cont.p ?_) (hB := hB) (hS := hSl)
      refine x_top (congrArg Value.int (show nI (bP (wIs z f p kw_ask)) = nI 0 by rw [bP_f k2])) ?_
      refine x_if_eqN 57 d5_reads_50 (by decide) (by omega) (fun b50 => ?_) (fun b50 => absurd b50 (fun q => q rfl))
      refine x_aload_n d5_reads_57 rfl ?_
      refine x_ldcS (k := 17) d5_reads_58 (List.mem_of_getElem? (i := 16) rfl) ?_
      refine x_invV 122 1 d5_reads_60 (hS.T rfl) v5_162_5 (m_isWord _ hS (hf9.c hC) hR9 hB hSl (L := kw_put) (List.mem_of_getElem? (i := 16) rfl)) (Cont.p ?_) (hB := hB) (hS := hSl)
      refine x_top (congrArg Value.int (show nI (bP (wIs z f p kw_put)) = nI 0 by rw [bP_f k3])) ?_
      refine x_if_eqN 70 d5_reads_63 (by decide) (by omega) (fun b63 => ?_) (fun b63 => absurd b63 (fun q => q rfl))
      refine x_aload_n d5_reads_70 rfl ?_
      refine x_ldcS (k := 18) d5_reads_71 (List.mem_of_getElem? (i := 17) rfl) ?_
      refine x_invV 122 1 d5_reads_73 (hS.T rfl) v5_162_5 (m_isWord _ hS (hf9.c hC) hR9 hB hSl (L := kw_wash) (List.mem_of_getElem? (i := 17) rfl)) (Cont.p ?_) (hB := hB) (hS := hSl)
      refine x_top (congrArg Value.int (show nI (bP (wIs z f p kw_wash)) = nI 0 by rw [bP_f k4])) ?_
      refine x_if_eqN 83 d5_reads_76 (by decide) (by omega) (fun b76 => ?_) (fun b76 => absurd b76 (fun q => q rfl))
      refine x_aload_n d5_reads_83 rfl ?_
      refine x_ldcS (k := 19) d5_reads_84 (List.mem_of_getElem? (i := 18) rfl) ?_
      refine x_invV 122 1 d5_reads_86 (hS.T rfl) v5_162_5 (m_isWord _ hS (hf9.c hC) hR9 hB hSl (L := kw_result) (List.mem_of_getElem? (i := 18) rfl)) (Cont.p ?_) (hB := hB) (hS := hSl)
      refine x_top (congrArg Value.int (show nI (bP (wIs z f p kw_result)) = nI 0 by rw [bP_f k5])) ?_
      refine x_if_eqN 96 d5_reads_89 (by decide) (by omega) (fun b89 => ?_) (fun b89 => absurd b89 (fun q => q rfl))
      refine x_iconst (v := -1) d5_reads_96 (by decide) ?_
      refine x_istore_n d5_reads_97 ?_
      refine x_iload_n d5_reads_98 rfl ?_
      refine x_iconst (v := -1) d5_reads_99 (by decide) ?_
      refine x_icmp_ne 109 d5_reads_100 (by decide) (fun b100 => absurd b100 (fun q => q rfl)) (fun b100 => ?_)
      refine x_aload_n d5_reads_103 rfl ?_
      refine x_iconst (v := nI 1) d5_reads_104 (by decide) ?_
      refine x_invV 122 1 d5_reads_105 (hS.T rfl) v5_166_5 (m_stop _ hS (k := 1)) (Cont.e ?_) (hB := hB) (hS := hSl)
      obtain ⟨I1, hI1⟩ : ∃ z, z = u2 (u2 I9 131 6 (nI 1)) 131 7 (I9 122 19) := ⟨_, rfl⟩
      rw [← hI1]
      have he1 := stop_err hI1 hR9.2.1.1
      have hz1 := RdZ.stop hI1
      exact x_athrow d5_reads_108 ⟨by decide, Or.inl ⟨rfl, ⟨I1, J9, rfl, (hf9.trans hz1.x), hj9, by rw [show psA z f np (nn + 1) m rs p = .inl (1, tA z f p) from by simp only [psA, psK_n k0 k1 k2 k3 k4 k5]]; exact ⟨rfl, he1⟩⟩⟩⟩
  refine x_aload_n d5_reads_0 rfl ?_
  refine x_getP d5_reads_1 f5_17 (hS.T rfl) (hS.P rfl) ?_
  refine x_bipush (v := nI 10) d5_reads_4 (by decide) ?_
  refine x_iconst (v := nI 0) d5_reads_6 (by decide) ?_
  refine x_iastN d5_reads_7 (hS.T rfl) (by omega) (fun I1 hI1 => ?_)
  have hfI1 := RdX.u124 hI1
  refine x_aload_n d5_reads_8 rfl ?_
  refine x_invV 122 0 d5_reads_9 (hS.T rfl) v5_169_5 (m_next _ hS (z := z) (f := f) (p := 0) ⟨by rw [hI1, u2_row _ _ _ (by decide)]; exact hT.1, hT.2.1, by rw [hI1, u2_row _ _ _ (by decide)]; exact hT.2.2⟩ (Nat.zero_le _) (by rw [hI1, u2_row _ _ _ (by decide)]; exact hat) hB hSl) ?_ (hB := hB) (hS := hSl)
  rintro o h' ⟨rfl, I2, J2, rfl, hs2, hj2, ht2⟩
  have hT1 : TxM z f I1 := ⟨by rw [hI1, u2_row _ _ _ (by decide)]; exact hT.1, hT.2.1, by rw [hI1, u2_row _ _ _ (by decide)]; exact hT.2.2⟩
  refine x_iconst (v := nI 1) d5_reads_12 (by decide) ?_
  refine x_istore_n d5_reads_13 ?_
  exact hL 12 0 _ 0 I2 J2 rfl ⟨hs2.tx hT1, ht2, Nat.zero_le _⟩ (hfI1.trans hs2.z.x) hj2 (by rw [hs2.1 124 (by decide), hI1, u2_self]) (fun k hk => absurd hk (Nat.not_lt_zero _)) (fun k hk => absurd hk (Nat.not_lt_zero _)) _
