/-! the reference: readFrom, readLine, reads -/
set_option maxRecDepth 100000
/-- but the reader's fields and the row l nothing has changed -/
def RdY (l : Nat) (I I' : Nat → Nat → Int32) : Prop := (∀ b, b ∉ [122, 126, 127, 128, 129, 130, 131] → I' b = I b) ∧ (∀ k, k ∉ [17, 18, 19, 20, 21] → I' 122 k = I 122 k) ∧ (∀ b, b ∈ [126, 127, 128, 129] → ∀ j, j ≠ l → I' b j = I b j) ∧ ∀ j, ¬ (4 * l ≤ j ∧ j < 4 * l + 4) → I' 130 j = I 130 j
theorem RdY.rf (l : Nat) (I : Nat → Nat → Int32) : RdY l I I := ⟨fun _ _ => rfl, fun _ _ => rfl, fun _ _ _ _ => rfl, fun _ _ => rfl⟩
theorem RdY.trans {l : Nat} {I1 I2 I3 : Nat → Nat → Int32} (h : RdY l I1 I2) (h' : RdY l I2 I3) : RdY l I1 I3 := ⟨fun b hb => (h'.1 b hb).trans (h.1 b hb), fun k hk => (h'.2.1 k hk).trans (h.2.1 k hk), fun b hb j hj => (h'.2.2.1 b hb j hj).trans (h.2.2.1 b hb j hj), fun j hj => (h'.2.2.2 j hj).trans (h.2.2.2 j hj)⟩
theorem RdZ.y {I I' : Nat → Nat → Int32} (h : RdZ I I') (l : Nat) : RdY l I I' :=
  ⟨fun b hb => h.1 b (fun e => hb (by simp only [List.mem_cons, List.not_mem_nil, or_false] at e ⊢; omega)), h.2, fun b hb j _ => by rw [h.1 b (fun e => by simp only [List.mem_cons, List.not_mem_nil, or_false] at e hb; omega)], fun j _ => by rw [h.1 130 (by decide)]⟩
theorem RdY.u {l b : Nat} {I I' : Nat → Nat → Int32} {v : Int32} (hI : I' = u2 I b l v) (hb : b ∈ [126, 127, 128, 129]) : RdY l I I' := by
  refine ⟨fun c hc => ?_, fun k _ => ?_, fun c hc j hj => ?_, fun j _ => ?_⟩
  · rw [hI, u2_row _ _ _ (fun e => hc (by rw [e]; simp only [List.mem_cons, List.not_mem_nil, or_false] at hb ⊢; omega))]
  · rw [hI, u2_row _ _ _ (fun e => by rw [← e] at hb; revert hb; decide)]
  · rw [hI, u2_ne _ _ hj]
  · rw [hI, u2_row _ _ _ (fun e => by rw [← e] at hb; revert hb; decide)]
theorem RdY.u130 {l i : Nat} {I I' : Nat → Nat → Int32} {v : Int32} (hI : I' = u2 I 130 (4 * l + i) v) (hi : i < 4) : RdY l I I' := by
  refine ⟨fun c hc => ?_, fun k _ => ?_, fun c hc j hj => ?_, fun j hj => ?_⟩
  · rw [hI, u2_row _ _ _ (fun e => hc (by rw [e]; decide))]
  · rw [hI, u2_row _ _ _ (by decide)]
  · rw [hI, u2_row _ _ _ (fun e => by rw [e] at hc; revert hc; decide)]
  · rw [hI, u2_ne _ _ (fun e => hj (by omega))]
theorem RdY.c {l : Nat} {I I' : Nat → Nat → Int32} (h : RdY l I I') {t : Nat → Option (Nat × Nat)} {P : Nat → Nat → Value} (hC : CSt t I P) : CSt t I' P := hC.fr (fun b hb => h.1 b (fun e => by simp only [List.mem_cons, List.not_mem_nil, or_false] at e; omega))
theorem Rd.row {z p a k : Nat} {f : Nat → Nat} {I I' : Nat → Nat → Int32} {J : Nat → Nat → Int64} {v : Int32} (h : Rd z f p I J) (hI : I' = u2 I a k v) (ha : a ≠ 122 ∧ a ≠ 132) : Rd z f p I' J := by
  have e1 : I' 122 = I 122 := by rw [hI, u2_row _ _ _ (fun e => ha.1 e.symm)]
  have e2 : I' 132 = I 132 := by rw [hI, u2_row _ _ _ (fun e => ha.2 e.symm)]
  obtain ⟨h1, h2, h3⟩ := h
  refine ⟨?_, ?_, h3⟩
  · unfold TxM; rw [e1, e2]; exact h1
  · unfold TokM; rw [e1]; exact h2
/-- a row as it is read -/
def RowM (l : Nat) (x : Lne) (I : Nat → Nat → Int32) : Prop := I 126 l = nI x.1 ∧ I 127 l = nI x.2.1 ∧ I 128 l = nI x.2.2.1 ∧ I 129 l = (if x.1 = 1 then nI (x.2.2.2.2 0) else if x.1 = 2 then nI x.2.2.2.1 else -1) ∧ (x.1 = 1 → ∀ i, i < x.2.1 → I 130 (4 * l + i) = nI (x.2.2.2.2 i))
theorem RowM.fr {l l' : Nat} {x : Lne} {I I' : Nat → Nat → Int32} (h : RowM l x I) (hY : RdY l' I I') (hne : l ≠ l') (hx : x.1 = 1 → x.2.1 ≤ 4) : RowM l x I' := by
  obtain ⟨h1, h2, h3, h4, h5⟩ := h
  refine ⟨(hY.2.2.1 126 (by decide) l hne).trans h1, (hY.2.2.1 127 (by decide) l hne).trans h2, (hY.2.2.1 128 (by decide) l hne).trans h3, (hY.2.2.1 129 (by decide) l hne).trans h4, fun e i hi => ?_⟩
  rw [hY.2.2.2 _ (by have := hx e; omega)]; exact h5 e i hi
theorem RowM.z {l : Nat} {x : Lne} {I I' : Nat → Nat → Int32} (h : RowM l x I) (hZ : ∀ b, b ∈ [126, 127, 128, 129, 130] → I' b = I b) : RowM l x I' := by
  unfold RowM
  rw [hZ 126 (by decide), hZ 127 (by decide), hZ 128 (by decide), hZ 129 (by decide), hZ 130 (by decide)]; exact h
set_option maxHeartbeats 4000000 in
theorem m_readFrom {G : GG} (d : Nat) {t : Nat → Option (Nat × Nat)} {J : Nat → Nat → Int64} {P : Nat → Nat → Value} {n sl : Nat} {I : Nat → Nat → Int32} {z p : Nat} {f : Nat → Nat} (hS : SH t P) (hR : Rd z f p I J) (hB : n ≤ 601124) (hSl : sl ≤ 7293033) {l : Nat} (hl : l < 132) (h127 : I 127 l = nI 0) : CA G (d + 2) M5_readFrom [.ref 122, .int (nI l)] (t, I, J, P, n, sl) (PQ t P n sl (RdY l I) J (psF z f 4 0 (fun _ => 0) p) (fun x o I' J' => o = .inl none ∧ Rd z f x.2.2 I' J' ∧ I' 127 l = nI x.1 ∧ (∀ i, i < x.1 → I' 130 (4 * l + i) = nI (x.2.1 i)) ∧ I' 126 l = I 126 l ∧ I' 128 l = I 128 l)) := by
  refine CA.w ?_
  show RA _ _ M5_readFrom 0 [.ref 122, .int (nI l), U0, U0] [] _ _
  have hL : ∀ nn m (fr : Nat → Nat) p I9 J9, nn + m = 4 → Rd z f p I9 J9 → RdY l I I9 → JF J J9 → I9 126 l = I 126 l → I9 128 l = I 128 l → I9 127 l = nI m → (∀ i, i < m → I9 130 (4 * l + i) = nI (fr i)) → ∀ v3, RA G (d + 2) M5_readFrom 2 [.ref 122, .int (nI l), .int (nI 1), v3] [] (t, I9, J9, P, n, sl) (PQ t P n sl (RdY l I) J (psF z f nn m fr p) (fun x o I' J' => o = .inl none ∧ Rd z f x.2.2 I' J' ∧ I' 127 l = nI x.1 ∧ (∀ i, i < x.1 → I' 130 (4 * l + i) = nI (x.2.1 i)) ∧ I' 126 l = I 126 l ∧ I' 128 l = I 128 l)) := by
    clear hR h127
    intro nn
    induction nn with
    | zero =>
      intro m fr p I9 J9 hm hR9 hf9 hj9 h126 h128 h127 hfr v3
      refine x_iload_n d5_readFrom_2 rfl ?_
      refine x_if_eqN 75 d5_readFrom_3 (by decide) (by omega) (fun b3 => absurd b3 (by decide)) (fun b3 => ?_)
      refine x_aload_n d5_readFrom_6 rfl ?_
      rcases hps7 : psN z f p with ⟨F7, pl7⟩ | x7
      · refine x_invV 122 0 d5_readFrom_7 (hS.T rfl) v5_174_5 (m_nameHere _ hS hR9 hB hSl) ?_ (hB := hB) (hS := hSl)
        rintro o h' ⟨I1, J1, rfl, hz1, hj1, hr1⟩
        rw [hps7] at hr1
        obtain ⟨rfl, he1⟩ := hr1
        exact ⟨by decide, Or.inl ⟨rfl, ⟨I1, J1, rfl, (hf9.trans (hz1.y l)), (hj9.trans hj1), by rw [show psF z f 0 m fr p = .inl (F7, pl7) from by simp only [psF, hps7]]; exact ⟨rfl, he1⟩⟩⟩⟩
      · refine x_invV 122 0 d5_readFrom_7 (hS.T rfl) v5_174_5 (m_nameHere _ hS hR9 hB hSl) ?_ (hB := hB) (hS := hSl)
        rintro o h' ⟨I1, J1, rfl, hz1, hj1, hr1⟩
        rw [hps7] at hr1
        obtain ⟨rfl, hRd1⟩ := hr1
        have hw2 : I1 126 l = I 126 l := by rw [hz1.1 126 (by decide)]; exact h126
        have hw3 : I1 128 l = I 128 l := by rw [hz1.1 128 (by decide)]; exact h128
        have hw4 : I1 127 l = nI m := by rw [hz1.1 127 (by decide)]; exact h127
        have hw5 : ∀ i, i < m → I1 130 (4 * l + i) = nI (fr i) := by rw [hz1.1 130 (by decide)]; exact hfr
        refine x_istore_n d5_readFrom_10 ?_
        refine x_aload_n d5_readFrom_11 rfl ?_
        refine x_getP d5_readFrom_12 f5_26 (hS.T rfl) (hS.P rfl) ?_
        refine x_iload_n d5_readFrom_15 rfl ?_
        refine x_ialdN d5_readFrom_16 (hS.T rfl) (by omega) ?_
        refine x_top (congrArg Value.int (show I1 127 l = nI m from hw4)) ?_
        refine x_iconst (v := nI 4) d5_readFrom_17 (by decide) ?_
        refine x_icmp_neN 27 d5_readFrom_18 (by decide) (by omega) (by omega) (fun b18 => absurd b18 (fun q => q (by omega))) (fun b18 => ?_)
        refine x_aload_n d5_readFrom_21 rfl ?_
        refine x_iconst (v := nI 4) d5_readFrom_22 (by decide) ?_
        refine x_invV 122 1 d5_readFrom_23 (hS.T rfl) v5_166_5 (m_stop _ hS (k := 4)) (Cont.e ?_) (hB := hB) (hS := hSl)
        obtain ⟨I6, hI6⟩ : ∃ z, z = u2 (u2 I1 131 6 (nI 4)) 131 7 (I1 122 19) := ⟨_, rfl⟩
        rw [← hI6]
        have he6 := stop_err hI6 hRd1.2.1.1
        have hz6 := RdZ.stop hI6
        exact x_athrow d5_readFrom_26 ⟨by decide, Or.inl ⟨rfl, ⟨I6, J1, rfl, ((hf9.trans (hz1.y l)).trans (hz6.y l)), (hj9.trans hj1), by rw [show psF z f 0 m fr p = .inl (4, tA z f p) from by simp only [psF, hps7]]; exact ⟨rfl, he6⟩⟩⟩⟩
    | succ nn ihn =>
      intro m fr p I9 J9 hm hR9 hf9 hj9 h126 h128 h127 hfr v3
      refine x_iload_n d5_readFrom_2 rfl ?_
      refine x_if_eqN 75 d5_readFrom_3 (by decide) (by omega) (fun b3 => absurd b3 (by decide)) (fun b3 => ?_)
      refine x_aload_n d5_readFrom_6 rfl ?_
      rcases hps7 : psN z f p with ⟨F7, pl7⟩ | x7
      · refine x_invV 122 0 d5_readFrom_7 (hS.T rfl) v5_174_5 (m_nameHere _ hS hR9 hB hSl) ?_ (hB := hB) (hS := hSl)
        rintro o h' ⟨I1, J1, rfl, hz1, hj1, hr1⟩
        rw [hps7] at hr1
        obtain ⟨rfl, he1⟩ := hr1
        exact ⟨by decide, Or.inl ⟨rfl, ⟨I1, J1, rfl, (hf9.trans (hz1.y l)), (hj9.trans hj1), by rw [show psF z f (nn + 1) m fr p = .inl (F7, pl7) from by simp only [psF, hps7]]; exact ⟨rfl, he1⟩⟩⟩⟩
      · refine x_invV 122 0 d5_readFrom_7 (hS.T rfl) v5_174_5 (m_nameHere _ hS hR9 hB hSl) ?_ (hB := hB) (hS := hSl)
        rintro o h' ⟨I1, J1, rfl, hz1, hj1, hr1⟩
        rw [hps7] at hr1
        obtain ⟨rfl, hRd1⟩ := hr1
        have hw2 : I1 126 l = I 126 l := by rw [hz1.1 126 (by decide)]; exact h126
        have hw3 : I1 128 l = I 128 l := by rw [hz1.1 128 (by decide)]; exact h128
        have hw4 : I1 127 l = nI m := by rw [hz1.1 127 (by decide)]; exact h127
        have hw5 : ∀ i, i < m → I1 130 (4 * l + i) = nI (fr i) := by rw [hz1.1 130 (by decide)]; exact hfr
        refine x_istore_n d5_readFrom_10 ?_
        refine x_aload_n d5_readFrom_11 rfl ?_
        refine x_getP d5_readFrom_12 f5_26 (hS.T rfl) (hS.P rfl) ?_
        refine x_iload_n d5_readFrom_15 rfl ?_
        refine x_ialdN d5_readFrom_16 (hS.T rfl) (by omega) ?_
        refine x_top (congrArg Value.int (show I1 127 l = nI m from hw4)) ?_
        refine x_iconst (v := nI 4) d5_readFrom_17 (by decide) ?_
        refine x_icmp_neN 27 d5_readFrom_18 (by decide) (by omega) (by omega) (fun b18 => ?_) (fun b18 => absurd b18 (by omega))
        refine x_aload_n d5_readFrom_27 rfl ?_
        refine x_getP d5_readFrom_28 f5_35 (hS.T rfl) (hS.P rfl) ?_
        refine x_iconst (v := nI 4) d5_readFrom_31 (by decide) ?_
        refine x_iload_n d5_readFrom_32 rfl ?_
        refine x_imulN d5_readFrom_33 ?_
        refine x_aload_n d5_readFrom_34 rfl ?_
        refine x_getP d5_readFrom_35 f5_26 (hS.T rfl) (hS.P rfl) ?_
        refine x_iload_n d5_readFrom_38 rfl ?_
        refine x_ialdN d5_readFrom_39 (hS.T rfl) (by omega) ?_
        refine x_top (congrArg Value.int (show I1 127 l = nI m from hw4)) ?_
        refine x_iaddN d5_readFrom_40 ?_
        refine x_iload_n d5_readFrom_41 rfl ?_
        refine x_iastN d5_readFrom_42 (hS.T rfl) (by omega) (fun I6 hI6 => ?_)
        have hRdI6 := hRd1.row hI6 (by decide)
        have hfI6 := (hf9.trans (hz1.y l)).trans (RdY.u130 (i := m) hI6 (by omega))
        have hw7 : I6 126 l = I 126 l := by rw [hI6, u2_row _ _ _ (by decide)]; exact hw2
        have hw8 : I6 128 l = I 128 l := by rw [hI6, u2_row _ _ _ (by decide)]; exact hw3
        have hw9 : I6 127 l = nI m := by rw [hI6, u2_row _ _ _ (by decide)]; exact hw4
        have hfroI6 : ∀ i, i < m + 1 → I6 130 (4 * l + i) = nI (upN fr m x7 i) := fun i hi => by
          rw [hI6, u2_at]
          unfold upN
          by_cases e : i = m
          · rw [if_pos (by omega), if_pos e]
          · rw [if_neg (by omega), if_neg e]; exact hw5 i (by omega)
        refine x_aload_n d5_readFrom_43 rfl ?_
        refine x_getP d5_readFrom_44 f5_26 (hS.T rfl) (hS.P rfl) ?_
        refine x_iload_n d5_readFrom_47 rfl ?_
        refine x_dup2 d5_readFrom_48 rfl rfl ?_
        refine x_ialdN d5_readFrom_49 (hS.T rfl) (by omega) ?_
        refine x_top (congrArg Value.int (show I6 127 l = nI m from hw9)) ?_
        refine x_iconst (v := nI 1) d5_readFrom_50 (by decide) ?_
        refine x_iaddN d5_readFrom_51 ?_
        refine x_iastN d5_readFrom_52 (hS.T rfl) (by omega) (fun I11 hI11 => ?_)
        have hRdI11 := hRdI6.row hI11 (by decide)
        have hfI11 := hfI6.trans (RdY.u hI11 (by decide))
        have hw12 : I11 126 l = I 126 l := by rw [hI11, u2_row _ _ _ (by decide)]; exact hw7
        have hw13 : I11 128 l = I 128 l := by rw [hI11, u2_row _ _ _ (by decide)]; exact hw8
        have hw14 : ∀ i, i < (m + 1) → I11 130 (4 * l + i) = nI (upN fr m x7 i) := by rw [hI11, u2_row _ _ _ (by decide)]; exact hfroI6
        have hw15 : I11 127 l = nI (m + 1) := by rw [hI11, u2_self]
        refine x_aload_n d5_readFrom_53 rfl ?_
        refine x_invV 122 0 d5_readFrom_54 (hS.T rfl) v5_169_5 (m_next _ hS hRdI11.1 (tE_le hRdI11.2.2).2 (hRdI11.2.1.2.2.2.2.2.2 (by rw [(psN_k hps7 hR9.2.2).1]; decide)) hB hSl) ?_ (hB := hB) (hS := hSl)
        rintro o h' ⟨rfl, I16, J16, rfl, hs16, hj16, ht16⟩
        have hRd16 : Rd z f (tE z f p) I16 J16 := ⟨hs16.tx hRdI11.1, ht16, (tE_le hRdI11.2.2).2⟩
        have hw17 : I16 126 l = I 126 l := by rw [hs16.1 126 (by decide)]; exact hw12
        have hw18 : I16 128 l = I 128 l := by rw [hs16.1 128 (by decide)]; exact hw13
        have hw19 : I16 127 l = nI (m + 1) := by rw [hs16.1 127 (by decide)]; exact hw15
        have hw20 : ∀ i, i < (m + 1) → I16 130 (4 * l + i) = nI (upN fr m x7 i) := by rw [hs16.1 130 (by decide)]; exact hw14
        refine x_aload_n d5_readFrom_57 rfl ?_
        refine x_bipush (v := nI 44) d5_readFrom_58 (by decide) ?_
        refine x_invV 122 1 d5_readFrom_60 (hS.T rfl) v5_193_5 (m_is _ hS hRd16 hB hSl (Or.inl rfl)) (Cont.p ?_) (hB := hB) (hS := hSl)
        have hbl := bP_lt (tK z f (tE z f p) = 44)
        refine x_istore_n d5_readFrom_63 ?_
        refine x_iload_n d5_readFrom_64 rfl ?_
        refine x_if_eqN 72 d5_readFrom_65 (by decide) (by omega) (fun b65 => ?_) (fun b65 => ?_)
        · refine x_goto 2 d5_readFrom_72 (by decide) ?_
          refine x_iload_n d5_readFrom_2 rfl ?_
          refine x_if_eqN 75 d5_readFrom_3 (by decide) (by omega) (fun b3 => ?_) (fun b3 => absurd b3 (fun q => q b65))
          exact x_return d5_readFrom_75 ⟨I16, J16, rfl, (hfI11.trans (hs16.z.y l)), ((hj9.trans hj1).trans hj16), by rw [show psF z f (nn + 1) m fr p = .inr (m + 1, upN fr m x7, tE z f p) by simp only [psF, hps7]; exact if_neg (bP_0.mp b65)]; exact ⟨rfl, hRd16, hw19, hw20, hw17, hw18⟩⟩
        · refine x_aload_n d5_readFrom_68 rfl ?_
          refine x_invV 122 0 d5_readFrom_69 (hS.T rfl) v5_169_5 (m_next _ hS hRd16.1 (tE_le hRd16.2.2).2 (hRd16.2.1.2.2.2.2.2.2 (by rw [bP_1.mp (show bP (tK z f (tE z f p) = 44) = 1 by omega)]; decide)) hB hSl) ?_ (hB := hB) (hS := hSl)
          rintro o h' ⟨rfl, I21, J21, rfl, hs21, hj21, ht21⟩
          have hRd21 : Rd z f (tE z f (tE z f p)) I21 J21 := ⟨hs21.tx hRd16.1, ht21, (tE_le hRd16.2.2).2⟩
          have hw22 : I21 126 l = I 126 l := by rw [hs21.1 126 (by decide)]; exact hw17
          have hw23 : I21 128 l = I 128 l := by rw [hs21.1 128 (by decide)]; exact hw18
          have hw24 : I21 127 l = nI (m + 1) := by rw [hs21.1 127 (by decide)]; exact hw19
          have hw25 : ∀ i, i < (m + 1) → I21 130 (4 * l + i) = nI (upN fr m x7 i) := by rw [hs21.1 130 (by decide)]; exact hw20
          refine x_goto 2 d5_readFrom_72 (by decide) ?_
          rw [show bP (tK z f (tE z f p) = 44) = 1 by omega, show psF z f (nn + 1) m fr p = psF z f nn (m + 1) (upN fr m x7) (tE z f (tE z f p)) by simp only [psF, hps7]; exact if_pos (bP_1.mp (by omega))]
          exact ihn (m + 1) _ _ I21 J21 (by omega) hRd21 ((hfI11.trans (hs16.z.y l)).trans (hs21.z.y l)) (((hj9.trans hj1).trans hj16).trans hj21) hw22 hw23 hw24 hw25 _
  refine x_iconst (v := nI 1) d5_readFrom_0 (by decide) ?_
  refine x_istore_n d5_readFrom_1 ?_
  exact hL 4 0 (fun _ => 0) p I J rfl hR (RdY.rf l I) (JF.rf J) rfl rfl h127 (fun i hi => absurd hi (Nat.not_lt_zero _)) _
set_option maxHeartbeats 8000000 in
theorem m_readLine {G : GG} (d : Nat) {t : Nat → Option (Nat × Nat)} {J : Nat → Nat → Int64} {P : Nat → Nat → Value} {n sl : Nat} {I : Nat → Nat → Int32} {z p : Nat} {f : Nat → Nat} (hS : SH t P) (hC : CSt t I P) (hR : Rd z f p I J) (hB : n ≤ 601124) (hSl : sl ≤ 7293033) {l np w : Nat} (hl : l < 132) (hnp : I 122 4 = nI np) (hn10 : np ≤ 10) (hw : w ≤ 5) : CA G (d + 7) M5_readLine [.ref 122, .int (nI l), .int (nI w)] (t, I, J, P, n, sl) (PQ t P n sl (RdY l I) J (psL z f np w p) (fun x o I' J' => o = .inl none ∧ Rd z f x.2 I' J' ∧ RowM l x.1 I')) := by
  refine CA.w ?_
  show RA _ _ M5_readLine 0 [.ref 122, .int (nI l), .int (nI w)] [] _ _
  rcases (by omega : w = 0 ∨ w = 1 ∨ w = 2 ∨ w = 3 ∨ w = 4 ∨ w = 5) with rfl | rfl | rfl | rfl | rfl | rfl
  · refine x_aload_n d5_readLine_0 rfl ?_
    refine x_getP d5_readLine_1 f5_23 (hS.T rfl) (hS.P rfl) ?_
    refine x_iload_n d5_readLine_4 rfl ?_
    refine x_iload_n d5_readLine_5 rfl ?_
    refine x_iastN d5_readLine_6 (hS.T rfl) (by omega) (fun I1 hI1 => ?_)
    have hRdI1 := hR.row hI1 (by decide)
    have hfI1 := (RdY.rf l I).trans (RdY.u hI1 (by decide))
    have hw2 : I1 126 l = nI 0 := by rw [hI1, u2_self]
    refine x_aload_n d5_readLine_7 rfl ?_
    refine x_getP d5_readLine_8 f5_26 (hS.T rfl) (hS.P rfl) ?_
    refine x_iload_n d5_readLine_11 rfl ?_
    refine x_iconst (v := nI 0) d5_readLine_12 (by decide) ?_
    refine x_iastN d5_readLine_13 (hS.T rfl) (by omega) (fun I3 hI3 => ?_)
    have hRdI3 := hRdI1.row hI3 (by decide)
    have hfI3 := hfI1.trans (RdY.u hI3 (by decide))
    have hw4 : I3 126 l = nI 0 := by rw [hI3, u2_row _ _ _ (by decide)]; exact hw2
    have hw5 : I3 127 l = nI 0 := by rw [hI3, u2_self]
    refine x_aload_n d5_readLine_14 rfl ?_
    refine x_getP d5_readLine_15 f5_32 (hS.T rfl) (hS.P rfl) ?_
    refine x_iload_n d5_readLine_18 rfl ?_
    refine x_iconst (v := -1) d5_readLine_19 (by decide) ?_
    refine x_iastN d5_readLine_20 (hS.T rfl) (by omega) (fun I6 hI6 => ?_)
    have hRdI6 := hRdI3.row hI6 (by decide)
    have hfI6 := hfI3.trans (RdY.u hI6 (by decide))
    have hw7 : I6 126 l = nI 0 := by rw [hI6, u2_row _ _ _ (by decide)]; exact hw4
    have hw8 : I6 127 l = nI 0 := by rw [hI6, u2_row _ _ _ (by decide)]; exact hw5
    have hw9 : I6 129 l = (-1) := by rw [hI6, u2_self]
    refine x_iload_n d5_readLine_21 rfl ?_
    refine x_tableIn (off := 34) 56 d5_readLine_22 (by decide) (by decide) (by decide) (by decide) ?_
    refine x_aload_n d5_readLine_56 rfl ?_
    refine x_getP d5_readLine_57 f5_26 (hS.T rfl) (hS.P rfl) ?_
    refine x_iload_n d5_readLine_60 rfl ?_
    refine x_aload_n d5_readLine_61 rfl ?_
    refine x_bipush (v := nI 16) d5_readLine_62 (by decide) ?_
    rcases hps64 : psV z f 16 p with ⟨F64, pl64⟩ | ⟨x64, q64⟩
    · refine x_invV 122 1 d5_readLine_64 (hS.T rfl) v5_196_5 (m_needWhole _ hS hRdI6 hB hSl (m := 16) (by omega)) ?_ (hB := hB) (hS := hSl)
      rintro o h' ⟨I10, J10, rfl, hz10, hj10, hr10⟩
      rw [hps64] at hr10
      obtain ⟨rfl, he10⟩ := hr10
      exact ⟨by decide, Or.inl ⟨rfl, ⟨I10, J10, rfl, (hfI6.trans (hz10.y l)), ((JF.rf J).trans hj10), by rw [show psL z f np 0 p = .inl (F64, pl64) from by simp only [psL, hps64]]; exact ⟨rfl, he10⟩⟩⟩⟩
    · refine x_invV 122 1 d5_readLine_64 (hS.T rfl) v5_196_5 (m_needWhole _ hS hRdI6 hB hSl (m := 16) (by omega)) ?_ (hB := hB) (hS := hSl)
      rintro o h' ⟨I10, J10, rfl, hz10, hj10, hr10⟩
      rw [hps64] at hr10
      obtain ⟨rfl, hRd10⟩ := hr10
      have hw11 : I10 126 l = nI 0 := by rw [hz10.1 126 (by decide)]; exact hw7
      have hw12 : I10 127 l = nI 0 := by rw [hz10.1 127 (by decide)]; exact hw8
      have hw13 : I10 129 l = (-1) := by rw [hz10.1 129 (by decide)]; exact hw9
      refine x_iastN d5_readLine_67 (hS.T rfl) (by omega) (fun I14 hI14 => ?_)
      have hRdI14 := hRd10.row hI14 (by decide)
      have hfI14 := (hfI6.trans (hz10.y l)).trans (RdY.u hI14 (by decide))
      have hw15 : I14 126 l = nI 0 := by rw [hI14, u2_row _ _ _ (by decide)]; exact hw11
      have hw16 : I14 129 l = (-1) := by rw [hI14, u2_row _ _ _ (by decide)]; exact hw13
      have hw17 : I14 127 l = nI x64 := by rw [hI14, u2_self]
      refine x_aload_n d5_readLine_68 rfl ?_
      refine x_ldcS (k := 20) d5_readLine_69 (List.mem_of_getElem? (i := 19) rfl) ?_
      rcases hps71 : psW z f kw_to q64 with ⟨F71, pl71⟩ | q71
      · refine x_invV 122 1 d5_readLine_71 (hS.T rfl) v5_201_5 (m_needWord _ hS (hfI14.c hC) hRdI14 hB hSl (List.mem_of_getElem? (i := 19) rfl)) ?_ (hB := hB) (hS := hSl)
        rintro o h' ⟨I18, J18, rfl, hz18, hj18, hr18⟩
        rw [hps71] at hr18
        obtain ⟨rfl, he18⟩ := hr18
        exact ⟨by decide, Or.inl ⟨rfl, ⟨I18, J18, rfl, (hfI14.trans (hz18.y l)), (((JF.rf J).trans hj10).trans hj18), by rw [show psL z f np 0 p = .inl (F71, pl71) from by simp only [psL, hps64, hps71]]; exact ⟨rfl, he18⟩⟩⟩⟩
      · refine x_invV 122 1 d5_readLine_71 (hS.T rfl) v5_201_5 (m_needWord _ hS (hfI14.c hC) hRdI14 hB hSl (List.mem_of_getElem? (i := 19) rfl)) ?_ (hB := hB) (hS := hSl)
        rintro o h' ⟨I18, J18, rfl, hz18, hj18, hr18⟩
        rw [hps71] at hr18
        obtain ⟨rfl, hRd18⟩ := hr18
        have hw19 : I18 126 l = nI 0 := by rw [hz18.1 126 (by decide)]; exact hw15
        have hw20 : I18 127 l = nI x64 := by rw [hz18.1 127 (by decide)]; exact hw17
        have hw21 : I18 129 l = (-1) := by rw [hz18.1 129 (by decide)]; exact hw16
        refine x_aload_n d5_readLine_74 rfl ?_
        refine x_getP d5_readLine_75 f5_29 (hS.T rfl) (hS.P rfl) ?_
        refine x_iload_n d5_readLine_78 rfl ?_
        refine x_aload_n d5_readLine_79 rfl ?_
        rcases hps80 : psM z f q71 with ⟨F80, pl80⟩ | ⟨x80, q80⟩
        · refine x_invV 122 0 d5_readLine_80 (hS.T rfl) v5_205_5 (m_needName _ hS hRd18 hB hSl) ?_ (hB := hB) (hS := hSl)
          rintro o h' ⟨I22, J22, rfl, hz22, hj22, hr22⟩
          rw [hps80] at hr22
          obtain ⟨rfl, he22⟩ := hr22
          exact ⟨by decide, Or.inl ⟨rfl, ⟨I22, J22, rfl, ((hfI14.trans (hz18.y l)).trans (hz22.y l)), ((((JF.rf J).trans hj10).trans hj18).trans hj22), by rw [show psL z f np 0 p = .inl (F80, pl80) from by simp only [psL, hps64, hps71, hps80]]; exact ⟨rfl, he22⟩⟩⟩⟩
        · refine x_invV 122 0 d5_readLine_80 (hS.T rfl) v5_205_5 (m_needName _ hS hRd18 hB hSl) ?_ (hB := hB) (hS := hSl)
          rintro o h' ⟨I22, J22, rfl, hz22, hj22, hr22⟩
          rw [hps80] at hr22
          obtain ⟨rfl, hRd22⟩ := hr22
          have hw23 : I22 126 l = nI 0 := by rw [hz22.1 126 (by decide)]; exact hw19
          have hw24 : I22 127 l = nI x64 := by rw [hz22.1 127 (by decide)]; exact hw20
          have hw25 : I22 129 l = (-1) := by rw [hz22.1 129 (by decide)]; exact hw21
          refine x_iastN d5_readLine_83 (hS.T rfl) (by omega) (fun I26 hI26 => ?_)
          have hRdI26 := hRd22.row hI26 (by decide)
          have hfI26 := ((hfI14.trans (hz18.y l)).trans (hz22.y l)).trans (RdY.u hI26 (by decide))
          have hw27 : I26 126 l = nI 0 := by rw [hI26, u2_row _ _ _ (by decide)]; exact hw23
          have hw28 : I26 127 l = nI x64 := by rw [hI26, u2_row _ _ _ (by decide)]; exact hw24
          have hw29 : I26 129 l = (-1) := by rw [hI26, u2_row _ _ _ (by decide)]; exact hw25
          have hw30 : I26 128 l = nI x80 := by rw [hI26, u2_self]
          refine x_goto 246 d5_readLine_84 (by decide) ?_
          refine x_return d5_readLine_246 ?_
          have hE : psL z f np 0 p = .inr ((0, x64, x80, 0, fun _ => 0), q80) := by simp only [psL, hps64, hps71, hps80]
          refine ⟨I26, J22, rfl, hfI26, ((((JF.rf J).trans hj10).trans hj18).trans hj22), ?_⟩
          rw [hE]
          exact ⟨rfl, hRdI26, hw27, hw28, hw30, hw29, (fun e => by cases e)⟩
  · refine x_aload_n d5_readLine_0 rfl ?_
    refine x_getP d5_readLine_1 f5_23 (hS.T rfl) (hS.P rfl) ?_
    refine x_iload_n d5_readLine_4 rfl ?_
    refine x_iload_n d5_readLine_5 rfl ?_
    refine x_iastN d5_readLine_6 (hS.T rfl) (by omega) (fun I1 hI1 => ?_)
    have hRdI1 := hR.row hI1 (by decide)
    have hfI1 := (RdY.rf l I).trans (RdY.u hI1 (by decide))
    have hw2 : I1 126 l = nI 1 := by rw [hI1, u2_self]
    refine x_aload_n d5_readLine_7 rfl ?_
    refine x_getP d5_readLine_8 f5_26 (hS.T rfl) (hS.P rfl) ?_
    refine x_iload_n d5_readLine_11 rfl ?_
    refine x_iconst (v := nI 0) d5_readLine_12 (by decide) ?_
    refine x_iastN d5_readLine_13 (hS.T rfl) (by omega) (fun I3 hI3 => ?_)
    have hRdI3 := hRdI1.row hI3 (by decide)
    have hfI3 := hfI1.trans (RdY.u hI3 (by decide))
    have hw4 : I3 126 l = nI 1 := by rw [hI3, u2_row _ _ _ (by decide)]; exact hw2
    have hw5 : I3 127 l = nI 0 := by rw [hI3, u2_self]
    refine x_aload_n d5_readLine_14 rfl ?_
    refine x_getP d5_readLine_15 f5_32 (hS.T rfl) (hS.P rfl) ?_
    refine x_iload_n d5_readLine_18 rfl ?_
    refine x_iconst (v := -1) d5_readLine_19 (by decide) ?_
    refine x_iastN d5_readLine_20 (hS.T rfl) (by omega) (fun I6 hI6 => ?_)
    have hRdI6 := hRdI3.row hI6 (by decide)
    have hfI6 := hfI3.trans (RdY.u hI6 (by decide))
    have hw7 : I6 126 l = nI 1 := by rw [hI6, u2_row _ _ _ (by decide)]; exact hw4
    have hw8 : I6 127 l = nI 0 := by rw [hI6, u2_row _ _ _ (by decide)]; exact hw5
    have hw9 : I6 129 l = (-1) := by rw [hI6, u2_self]
    refine x_iload_n d5_readLine_21 rfl ?_
    refine x_tableIn (off := 65) 87 d5_readLine_22 (by decide) (by decide) (by decide) (by decide) ?_
    refine x_aload_n d5_readLine_87 rfl ?_
    refine x_getP d5_readLine_88 f5_29 (hS.T rfl) (hS.P rfl) ?_
    refine x_iload_n d5_readLine_91 rfl ?_
    refine x_aload_n d5_readLine_92 rfl ?_
    rcases hps93 : psM z f p with ⟨F93, pl93⟩ | ⟨x93, q93⟩
    · refine x_invV 122 0 d5_readLine_93 (hS.T rfl) v5_205_5 (m_needName _ hS hRdI6 hB hSl) ?_ (hB := hB) (hS := hSl)
      rintro o h' ⟨I10, J10, rfl, hz10, hj10, hr10⟩
      rw [hps93] at hr10
      obtain ⟨rfl, he10⟩ := hr10
      exact ⟨by decide, Or.inl ⟨rfl, ⟨I10, J10, rfl, (hfI6.trans (hz10.y l)), ((JF.rf J).trans hj10), by rw [show psL z f np 1 p = .inl (F93, pl93) from by simp only [psL, hps93]]; exact ⟨rfl, he10⟩⟩⟩⟩
    · refine x_invV 122 0 d5_readLine_93 (hS.T rfl) v5_205_5 (m_needName _ hS hRdI6 hB hSl) ?_ (hB := hB) (hS := hSl)
      rintro o h' ⟨I10, J10, rfl, hz10, hj10, hr10⟩
      rw [hps93] at hr10
      obtain ⟨rfl, hRd10⟩ := hr10
      have hw11 : I10 126 l = nI 1 := by rw [hz10.1 126 (by decide)]; exact hw7
      have hw12 : I10 127 l = nI 0 := by rw [hz10.1 127 (by decide)]; exact hw8
      have hw13 : I10 129 l = (-1) := by rw [hz10.1 129 (by decide)]; exact hw9
      refine x_iastN d5_readLine_96 (hS.T rfl) (by omega) (fun I14 hI14 => ?_)
      have hRdI14 := hRd10.row hI14 (by decide)
      have hfI14 := (hfI6.trans (hz10.y l)).trans (RdY.u hI14 (by decide))
      have hw15 : I14 126 l = nI 1 := by rw [hI14, u2_row _ _ _ (by decide)]; exact hw11
      have hw16 : I14 127 l = nI 0 := by rw [hI14, u2_row _ _ _ (by decide)]; exact hw12
      have hw17 : I14 129 l = (-1) := by rw [hI14, u2_row _ _ _ (by decide)]; exact hw13
      have hw18 : I14 128 l = nI x93 := by rw [hI14, u2_self]
      refine x_aload_n d5_readLine_97 rfl ?_
      refine x_ldcS (k := 21) d5_readLine_98 (List.mem_of_getElem? (i := 20) rfl) ?_
      rcases hps100 : psW z f kw_from q93 with ⟨F100, pl100⟩ | q100
      · refine x_invV 122 1 d5_readLine_100 (hS.T rfl) v5_201_5 (m_needWord _ hS (hfI14.c hC) hRdI14 hB hSl (List.mem_of_getElem? (i := 20) rfl)) ?_ (hB := hB) (hS := hSl)
        rintro o h' ⟨I19, J19, rfl, hz19, hj19, hr19⟩
        rw [hps100] at hr19
        obtain ⟨rfl, he19⟩ := hr19
        exact ⟨by decide, Or.inl ⟨rfl, ⟨I19, J19, rfl, (hfI14.trans (hz19.y l)), (((JF.rf J).trans hj10).trans hj19), by rw [show psL z f np 1 p = .inl (F100, pl100) from by simp only [psL, hps93, hps100]]; exact ⟨rfl, he19⟩⟩⟩⟩
      · refine x_invV 122 1 d5_readLine_100 (hS.T rfl) v5_201_5 (m_needWord _ hS (hfI14.c hC) hRdI14 hB hSl (List.mem_of_getElem? (i := 20) rfl)) ?_ (hB := hB) (hS := hSl)
        rintro o h' ⟨I19, J19, rfl, hz19, hj19, hr19⟩
        rw [hps100] at hr19
        obtain ⟨rfl, hRd19⟩ := hr19
        have hw20 : I19 126 l = nI 1 := by rw [hz19.1 126 (by decide)]; exact hw15
        have hw21 : I19 127 l = nI 0 := by rw [hz19.1 127 (by decide)]; exact hw16
        have hw22 : I19 129 l = (-1) := by rw [hz19.1 129 (by decide)]; exact hw17
        have hw23 : I19 128 l = nI x93 := by rw [hz19.1 128 (by decide)]; exact hw18
        refine x_aload_n d5_readLine_103 rfl ?_
        refine x_iload_n d5_readLine_104 rfl ?_
        rcases hps105 : psF z f 4 0 (fun _ => 0) q100 with ⟨F105, pl105⟩ | ⟨m5, fr5, q5⟩
        · refine x_invV 122 1 d5_readLine_105 (hS.T rfl) v5_209_5 (m_readFrom _ hS hRd19 hB hSl (by omega) hw21) ?_ (hB := hB) (hS := hSl)
          rintro o h' ⟨I24, J24, rfl, hy24, hj24, hr24⟩
          rw [hps105] at hr24
          obtain ⟨rfl, he24⟩ := hr24
          exact ⟨by decide, Or.inl ⟨rfl, ⟨I24, J24, rfl, ((hfI14.trans (hz19.y l)).trans hy24), ((((JF.rf J).trans hj10).trans hj19).trans hj24), by rw [show psL z f np 1 p = .inl (F105, pl105) from by simp only [psL, hps93, hps100, hps105]]; exact ⟨rfl, he24⟩⟩⟩⟩
        · refine x_invV 122 1 d5_readLine_105 (hS.T rfl) v5_209_5 (m_readFrom _ hS hRd19 hB hSl (by omega) hw21) ?_ (hB := hB) (hS := hSl)
          rintro o h' ⟨I24, J24, rfl, hy24, hj24, hr24⟩
          rw [hps105] at hr24
          obtain ⟨rfl, hRd24, hn24, hfr24, hq126, hq128⟩ := hr24
          have hk126 := hq126.trans hw20
          have hk128 := hq128.trans hw23
          obtain ⟨hm1, hm4, -, -⟩ := psF_ok 4 0 (fun _ => 0) q100 hRd19.2.2 (fun i hi => absurd hi (Nat.not_lt_zero _)) m5 fr5 q5 hps105
          refine x_aload_n d5_readLine_108 rfl ?_
          refine x_getP d5_readLine_109 f5_32 (hS.T rfl) (hS.P rfl) ?_
          refine x_iload_n d5_readLine_112 rfl ?_
          refine x_aload_n d5_readLine_113 rfl ?_
          refine x_getP d5_readLine_114 f5_35 (hS.T rfl) (hS.P rfl) ?_
          refine x_iconst (v := nI 4) d5_readLine_117 (by decide) ?_
          refine x_iload_n d5_readLine_118 rfl ?_
          refine x_imulN d5_readLine_119 ?_
          refine x_ialdN d5_readLine_120 (hS.T rfl) (by omega) ?_
          refine x_top (congrArg Value.int (show I24 130 (4 * l) = nI (fr5 0) from (by have h0 := hfr24 0 (by omega); rw [Nat.add_zero] at h0; exact h0))) ?_
          refine x_iastN d5_readLine_121 (hS.T rfl) (by omega) (fun I25 hI25 => ?_)
          have hRdI25 := hRd24.row hI25 (by decide)
          have hfI25 := ((hfI14.trans (hz19.y l)).trans hy24).trans (RdY.u hI25 (by decide))
          have hw26 : I25 126 l = nI 1 := by rw [hI25, u2_row _ _ _ (by decide)]; exact hk126
          have hw27 : I25 127 l = nI m5 := by rw [hI25, u2_row _ _ _ (by decide)]; exact hn24
          have hw28 : I25 128 l = nI x93 := by rw [hI25, u2_row _ _ _ (by decide)]; exact hk128
          have hw29 : ∀ i, i < m5 → I25 130 (4 * l + i) = nI (fr5 i) := by rw [hI25, u2_row _ _ _ (by decide)]; exact hfr24
          have hw30 : I25 129 l = nI (fr5 0) := by rw [hI25, u2_self]
          refine x_goto 246 d5_readLine_122 (by decide) ?_
          refine x_return d5_readLine_246 ?_
          have hE : psL z f np 1 p = .inr ((1, m5, x93, 0, fr5), q5) := by simp only [psL, hps93, hps100, hps105]
          refine ⟨I25, J24, rfl, hfI25, ((((JF.rf J).trans hj10).trans hj19).trans hj24), ?_⟩
          rw [hE]
          exact ⟨rfl, hRdI25, hw26, hw27, hw28, hw30, fun _ => hw29⟩
  · refine x_aload_n d5_readLine_0 rfl ?_
    refine x_getP d5_readLine_1 f5_23 (hS.T rfl) (hS.P rfl) ?_
    refine x_iload_n d5_readLine_4 rfl ?_
    refine x_iload_n d5_readLine_5 rfl ?_
    refine x_iastN d5_readLine_6 (hS.T rfl) (by omega) (fun I1 hI1 => ?_)
    have hRdI1 := hR.row hI1 (by decide)
    have hfI1 := (RdY.rf l I).trans (RdY.u hI1 (by decide))
    have hw2 : I1 126 l = nI 2 := by rw [hI1, u2_self]
    refine x_aload_n d5_readLine_7 rfl ?_
    refine x_getP d5_readLine_8 f5_26 (hS.T rfl) (hS.P rfl) ?_
    refine x_iload_n d5_readLine_11 rfl ?_
    refine x_iconst (v := nI 0) d5_readLine_12 (by decide) ?_
    refine x_iastN d5_readLine_13 (hS.T rfl) (by omega) (fun I3 hI3 => ?_)
    have hRdI3 := hRdI1.row hI3 (by decide)
    have hfI3 := hfI1.trans (RdY.u hI3 (by decide))
    have hw4 : I3 126 l = nI 2 := by rw [hI3, u2_row _ _ _ (by decide)]; exact hw2
    have hw5 : I3 127 l = nI 0 := by rw [hI3, u2_self]
    refine x_aload_n d5_readLine_14 rfl ?_
    refine x_getP d5_readLine_15 f5_32 (hS.T rfl) (hS.P rfl) ?_
    refine x_iload_n d5_readLine_18 rfl ?_
    refine x_iconst (v := -1) d5_readLine_19 (by decide) ?_
    refine x_iastN d5_readLine_20 (hS.T rfl) (by omega) (fun I6 hI6 => ?_)
    have hRdI6 := hRdI3.row hI6 (by decide)
    have hfI6 := hfI3.trans (RdY.u hI6 (by decide))
    have hw7 : I6 126 l = nI 2 := by rw [hI6, u2_row _ _ _ (by decide)]; exact hw4
    have hw8 : I6 127 l = nI 0 := by rw [hI6, u2_row _ _ _ (by decide)]; exact hw5
    have hw9 : I6 129 l = (-1) := by rw [hI6, u2_self]
    refine x_iload_n d5_readLine_21 rfl ?_
    refine x_tableIn (off := 103) 125 d5_readLine_22 (by decide) (by decide) (by decide) (by decide) ?_
    refine x_aload_n d5_readLine_125 rfl ?_
    refine x_getP d5_readLine_126 f5_26 (hS.T rfl) (hS.P rfl) ?_
    refine x_iload_n d5_readLine_129 rfl ?_
    refine x_aload_n d5_readLine_130 rfl ?_
    refine x_aload_n d5_readLine_131 rfl ?_
    refine x_getI d5_readLine_132 f5_86 (hS.T rfl) ?_
    refine x_top (congrArg Value.int (show I6 122 4 = nI np from ((hfI6.2.1 4 (by decide)).trans hnp))) ?_
    rcases hps135 : psV z f np p with ⟨F135, pl135⟩ | ⟨x135, q135⟩
    · refine x_invV 122 1 d5_readLine_135 (hS.T rfl) v5_196_5 (m_needWhole _ hS hRdI6 hB hSl (m := np) (by omega)) ?_ (hB := hB) (hS := hSl)
      rintro o h' ⟨I10, J10, rfl, hz10, hj10, hr10⟩
      rw [hps135] at hr10
      obtain ⟨rfl, he10⟩ := hr10
      exact ⟨by decide, Or.inl ⟨rfl, ⟨I10, J10, rfl, (hfI6.trans (hz10.y l)), ((JF.rf J).trans hj10), by rw [show psL z f np 2 p = .inl (F135, pl135) from by simp only [psL, hps135]]; exact ⟨rfl, he10⟩⟩⟩⟩
    · refine x_invV 122 1 d5_readLine_135 (hS.T rfl) v5_196_5 (m_needWhole _ hS hRdI6 hB hSl (m := np) (by omega)) ?_ (hB := hB) (hS := hSl)
      rintro o h' ⟨I10, J10, rfl, hz10, hj10, hr10⟩
      rw [hps135] at hr10
      obtain ⟨rfl, hRd10⟩ := hr10
      have hw11 : I10 126 l = nI 2 := by rw [hz10.1 126 (by decide)]; exact hw7
      have hw12 : I10 127 l = nI 0 := by rw [hz10.1 127 (by decide)]; exact hw8
      have hw13 : I10 129 l = (-1) := by rw [hz10.1 129 (by decide)]; exact hw9
      refine x_iastN d5_readLine_138 (hS.T rfl) (by omega) (fun I14 hI14 => ?_)
      have hRdI14 := hRd10.row hI14 (by decide)
      have hfI14 := (hfI6.trans (hz10.y l)).trans (RdY.u hI14 (by decide))
      have hw15 : I14 126 l = nI 2 := by rw [hI14, u2_row _ _ _ (by decide)]; exact hw11
      have hw16 : I14 129 l = (-1) := by rw [hI14, u2_row _ _ _ (by decide)]; exact hw13
      have hw17 : I14 127 l = nI x135 := by rw [hI14, u2_self]
      refine x_aload_n d5_readLine_139 rfl ?_
      refine x_ldcS (k := 22) d5_readLine_140 (List.mem_of_getElem? (i := 21) rfl) ?_
      rcases hps142 : psW z f kw_with q135 with ⟨F142, pl142⟩ | q142
      · refine x_invV 122 1 d5_readLine_142 (hS.T rfl) v5_201_5 (m_needWord _ hS (hfI14.c hC) hRdI14 hB hSl (List.mem_of_getElem? (i := 21) rfl)) ?_ (hB := hB) (hS := hSl)
        rintro o h' ⟨I18, J18, rfl, hz18, hj18, hr18⟩
        rw [hps142] at hr18
        obtain ⟨rfl, he18⟩ := hr18
        exact ⟨by decide, Or.inl ⟨rfl, ⟨I18, J18, rfl, (hfI14.trans (hz18.y l)), (((JF.rf J).trans hj10).trans hj18), by rw [show psL z f np 2 p = .inl (F142, pl142) from by simp only [psL, hps135, hps142]]; exact ⟨rfl, he18⟩⟩⟩⟩
      · refine x_invV 122 1 d5_readLine_142 (hS.T rfl) v5_201_5 (m_needWord _ hS (hfI14.c hC) hRdI14 hB hSl (List.mem_of_getElem? (i := 21) rfl)) ?_ (hB := hB) (hS := hSl)
        rintro o h' ⟨I18, J18, rfl, hz18, hj18, hr18⟩
        rw [hps142] at hr18
        obtain ⟨rfl, hRd18⟩ := hr18
        have hw19 : I18 126 l = nI 2 := by rw [hz18.1 126 (by decide)]; exact hw15
        have hw20 : I18 127 l = nI x135 := by rw [hz18.1 127 (by decide)]; exact hw17
        have hw21 : I18 129 l = (-1) := by rw [hz18.1 129 (by decide)]; exact hw16
        refine x_aload_n d5_readLine_145 rfl ?_
        refine x_getP d5_readLine_146 f5_29 (hS.T rfl) (hS.P rfl) ?_
        refine x_iload_n d5_readLine_149 rfl ?_
        refine x_aload_n d5_readLine_150 rfl ?_
        rcases hps151 : psM z f q142 with ⟨F151, pl151⟩ | ⟨x151, q151⟩
        · refine x_invV 122 0 d5_readLine_151 (hS.T rfl) v5_205_5 (m_needName _ hS hRd18 hB hSl) ?_ (hB := hB) (hS := hSl)
          rintro o h' ⟨I22, J22, rfl, hz22, hj22, hr22⟩
          rw [hps151] at hr22
          obtain ⟨rfl, he22⟩ := hr22
          exact ⟨by decide, Or.inl ⟨rfl, ⟨I22, J22, rfl, ((hfI14.trans (hz18.y l)).trans (hz22.y l)), ((((JF.rf J).trans hj10).trans hj18).trans hj22), by rw [show psL z f np 2 p = .inl (F151, pl151) from by simp only [psL, hps135, hps142, hps151]]; exact ⟨rfl, he22⟩⟩⟩⟩
        · refine x_invV 122 0 d5_readLine_151 (hS.T rfl) v5_205_5 (m_needName _ hS hRd18 hB hSl) ?_ (hB := hB) (hS := hSl)
          rintro o h' ⟨I22, J22, rfl, hz22, hj22, hr22⟩
          rw [hps151] at hr22
          obtain ⟨rfl, hRd22⟩ := hr22
          have hw23 : I22 126 l = nI 2 := by rw [hz22.1 126 (by decide)]; exact hw19
          have hw24 : I22 127 l = nI x135 := by rw [hz22.1 127 (by decide)]; exact hw20
          have hw25 : I22 129 l = (-1) := by rw [hz22.1 129 (by decide)]; exact hw21
          refine x_iastN d5_readLine_154 (hS.T rfl) (by omega) (fun I26 hI26 => ?_)
          have hRdI26 := hRd22.row hI26 (by decide)
          have hfI26 := ((hfI14.trans (hz18.y l)).trans (hz22.y l)).trans (RdY.u hI26 (by decide))
          have hw27 : I26 126 l = nI 2 := by rw [hI26, u2_row _ _ _ (by decide)]; exact hw23
          have hw28 : I26 127 l = nI x135 := by rw [hI26, u2_row _ _ _ (by decide)]; exact hw24
          have hw29 : I26 129 l = (-1) := by rw [hI26, u2_row _ _ _ (by decide)]; exact hw25
          have hw30 : I26 128 l = nI x151 := by rw [hI26, u2_self]
          refine x_aload_n d5_readLine_155 rfl ?_
          refine x_ldcS (k := 20) d5_readLine_156 (List.mem_of_getElem? (i := 19) rfl) ?_
          rcases hps158 : psW z f kw_to q151 with ⟨F158, pl158⟩ | q158
          · refine x_invV 122 1 d5_readLine_158 (hS.T rfl) v5_201_5 (m_needWord _ hS (hfI26.c hC) hRdI26 hB hSl (List.mem_of_getElem? (i := 19) rfl)) ?_ (hB := hB) (hS := hSl)
            rintro o h' ⟨I31, J31, rfl, hz31, hj31, hr31⟩
            rw [hps158] at hr31
            obtain ⟨rfl, he31⟩ := hr31
            exact ⟨by decide, Or.inl ⟨rfl, ⟨I31, J31, rfl, (hfI26.trans (hz31.y l)), (((((JF.rf J).trans hj10).trans hj18).trans hj22).trans hj31), by rw [show psL z f np 2 p = .inl (F158, pl158) from by simp only [psL, hps135, hps142, hps151, hps158]]; exact ⟨rfl, he31⟩⟩⟩⟩
          · refine x_invV 122 1 d5_readLine_158 (hS.T rfl) v5_201_5 (m_needWord _ hS (hfI26.c hC) hRdI26 hB hSl (List.mem_of_getElem? (i := 19) rfl)) ?_ (hB := hB) (hS := hSl)
            rintro o h' ⟨I31, J31, rfl, hz31, hj31, hr31⟩
            rw [hps158] at hr31
            obtain ⟨rfl, hRd31⟩ := hr31
            have hw32 : I31 126 l = nI 2 := by rw [hz31.1 126 (by decide)]; exact hw27
            have hw33 : I31 127 l = nI x135 := by rw [hz31.1 127 (by decide)]; exact hw28
            have hw34 : I31 129 l = (-1) := by rw [hz31.1 129 (by decide)]; exact hw29
            have hw35 : I31 128 l = nI x151 := by rw [hz31.1 128 (by decide)]; exact hw30
            refine x_aload_n d5_readLine_161 rfl ?_
            refine x_getP d5_readLine_162 f5_32 (hS.T rfl) (hS.P rfl) ?_
            refine x_iload_n d5_readLine_165 rfl ?_
            refine x_aload_n d5_readLine_166 rfl ?_
            rcases hps167 : psM z f q158 with ⟨F167, pl167⟩ | ⟨x167, q167⟩
            · refine x_invV 122 0 d5_readLine_167 (hS.T rfl) v5_205_5 (m_needName _ hS hRd31 hB hSl) ?_ (hB := hB) (hS := hSl)
              rintro o h' ⟨I36, J36, rfl, hz36, hj36, hr36⟩
              rw [hps167] at hr36
              obtain ⟨rfl, he36⟩ := hr36
              exact ⟨by decide, Or.inl ⟨rfl, ⟨I36, J36, rfl, ((hfI26.trans (hz31.y l)).trans (hz36.y l)), ((((((JF.rf J).trans hj10).trans hj18).trans hj22).trans hj31).trans hj36), by rw [show psL z f np 2 p = .inl (F167, pl167) from by simp only [psL, hps135, hps142, hps151, hps158, hps167]]; exact ⟨rfl, he36⟩⟩⟩⟩
            · refine x_invV 122 0 d5_readLine_167 (hS.T rfl) v5_205_5 (m_needName _ hS hRd31 hB hSl) ?_ (hB := hB) (hS := hSl)
              rintro o h' ⟨I36, J36, rfl, hz36, hj36, hr36⟩
              rw [hps167] at hr36
              obtain ⟨rfl, hRd36⟩ := hr36
              have hw37 : I36 126 l = nI 2 := by rw [hz36.1 126 (by decide)]; exact hw32
              have hw38 : I36 127 l = nI x135 := by rw [hz36.1 127 (by decide)]; exact hw33
              have hw39 : I36 129 l = (-1) := by rw [hz36.1 129 (by decide)]; exact hw34
              have hw40 : I36 128 l = nI x151 := by rw [hz36.1 128 (by decide)]; exact hw35
              refine x_iastN d5_readLine_170 (hS.T rfl) (by omega) (fun I41 hI41 => ?_)
              have hRdI41 := hRd36.row hI41 (by decide)
              have hfI41 := ((hfI26.trans (hz31.y l)).trans (hz36.y l)).trans (RdY.u hI41 (by decide))
              have hw42 : I41 126 l = nI 2 := by rw [hI41, u2_row _ _ _ (by decide)]; exact hw37
              have hw43 : I41 127 l = nI x135 := by rw [hI41, u2_row _ _ _ (by decide)]; exact hw38
              have hw44 : I41 128 l = nI x151 := by rw [hI41, u2_row _ _ _ (by decide)]; exact hw40
              have hw45 : I41 129 l = nI x167 := by rw [hI41, u2_self]
              refine x_goto 246 d5_readLine_171 (by decide) ?_
              refine x_return d5_readLine_246 ?_
              have hE : psL z f np 2 p = .inr ((2, x135, x151, x167, fun _ => 0), q167) := by simp only [psL, hps135, hps142, hps151, hps158, hps167]
              refine ⟨I41, J36, rfl, hfI41, ((((((JF.rf J).trans hj10).trans hj18).trans hj22).trans hj31).trans hj36), ?_⟩
              rw [hE]
              exact ⟨rfl, hRdI41, hw42, hw43, hw44, hw45, (fun e => by cases e)⟩
  · refine x_aload_n d5_readLine_0 rfl ?_
    refine x_getP d5_readLine_1 f5_23 (hS.T rfl) (hS.P rfl) ?_
    refine x_iload_n d5_readLine_4 rfl ?_
    refine x_iload_n d5_readLine_5 rfl ?_
    refine x_iastN d5_readLine_6 (hS.T rfl) (by omega) (fun I1 hI1 => ?_)
    have hRdI1 := hR.row hI1 (by decide)
    have hfI1 := (RdY.rf l I).trans (RdY.u hI1 (by decide))
    have hw2 : I1 126 l = nI 3 := by rw [hI1, u2_self]
    refine x_aload_n d5_readLine_7 rfl ?_
    refine x_getP d5_readLine_8 f5_26 (hS.T rfl) (hS.P rfl) ?_
    refine x_iload_n d5_readLine_11 rfl ?_
    refine x_iconst (v := nI 0) d5_readLine_12 (by decide) ?_
    refine x_iastN d5_readLine_13 (hS.T rfl) (by omega) (fun I3 hI3 => ?_)
    have hRdI3 := hRdI1.row hI3 (by decide)
    have hfI3 := hfI1.trans (RdY.u hI3 (by decide))
    have hw4 : I3 126 l = nI 3 := by rw [hI3, u2_row _ _ _ (by decide)]; exact hw2
    have hw5 : I3 127 l = nI 0 := by rw [hI3, u2_self]
    refine x_aload_n d5_readLine_14 rfl ?_
    refine x_getP d5_readLine_15 f5_32 (hS.T rfl) (hS.P rfl) ?_
    refine x_iload_n d5_readLine_18 rfl ?_
    refine x_iconst (v := -1) d5_readLine_19 (by decide) ?_
    refine x_iastN d5_readLine_20 (hS.T rfl) (by omega) (fun I6 hI6 => ?_)
    have hRdI6 := hRdI3.row hI6 (by decide)
    have hfI6 := hfI3.trans (RdY.u hI6 (by decide))
    have hw7 : I6 126 l = nI 3 := by rw [hI6, u2_row _ _ _ (by decide)]; exact hw4
    have hw8 : I6 127 l = nI 0 := by rw [hI6, u2_row _ _ _ (by decide)]; exact hw5
    have hw9 : I6 129 l = (-1) := by rw [hI6, u2_self]
    refine x_iload_n d5_readLine_21 rfl ?_
    refine x_tableIn (off := 152) 174 d5_readLine_22 (by decide) (by decide) (by decide) (by decide) ?_
    refine x_aload_n d5_readLine_174 rfl ?_
    refine x_getP d5_readLine_175 f5_29 (hS.T rfl) (hS.P rfl) ?_
    refine x_iload_n d5_readLine_178 rfl ?_
    refine x_aload_n d5_readLine_179 rfl ?_
    rcases hps180 : psM z f p with ⟨F180, pl180⟩ | ⟨x180, q180⟩
    · refine x_invV 122 0 d5_readLine_180 (hS.T rfl) v5_205_5 (m_needName _ hS hRdI6 hB hSl) ?_ (hB := hB) (hS := hSl)
      rintro o h' ⟨I10, J10, rfl, hz10, hj10, hr10⟩
      rw [hps180] at hr10
      obtain ⟨rfl, he10⟩ := hr10
      exact ⟨by decide, Or.inl ⟨rfl, ⟨I10, J10, rfl, (hfI6.trans (hz10.y l)), ((JF.rf J).trans hj10), by rw [show psL z f np 3 p = .inl (F180, pl180) from by simp only [psL, hps180]]; exact ⟨rfl, he10⟩⟩⟩⟩
    · refine x_invV 122 0 d5_readLine_180 (hS.T rfl) v5_205_5 (m_needName _ hS hRdI6 hB hSl) ?_ (hB := hB) (hS := hSl)
      rintro o h' ⟨I10, J10, rfl, hz10, hj10, hr10⟩
      rw [hps180] at hr10
      obtain ⟨rfl, hRd10⟩ := hr10
      have hw11 : I10 126 l = nI 3 := by rw [hz10.1 126 (by decide)]; exact hw7
      have hw12 : I10 127 l = nI 0 := by rw [hz10.1 127 (by decide)]; exact hw8
      have hw13 : I10 129 l = (-1) := by rw [hz10.1 129 (by decide)]; exact hw9
      refine x_iastN d5_readLine_183 (hS.T rfl) (by omega) (fun I14 hI14 => ?_)
      have hRdI14 := hRd10.row hI14 (by decide)
      have hfI14 := (hfI6.trans (hz10.y l)).trans (RdY.u hI14 (by decide))
      have hw15 : I14 126 l = nI 3 := by rw [hI14, u2_row _ _ _ (by decide)]; exact hw11
      have hw16 : I14 127 l = nI 0 := by rw [hI14, u2_row _ _ _ (by decide)]; exact hw12
      have hw17 : I14 129 l = (-1) := by rw [hI14, u2_row _ _ _ (by decide)]; exact hw13
      have hw18 : I14 128 l = nI x180 := by rw [hI14, u2_self]
      refine x_aload_n d5_readLine_184 rfl ?_
      refine x_ldcS (k := 23) d5_readLine_185 (List.mem_of_getElem? (i := 22) rfl) ?_
      rcases hps187 : psW z f kw_by q180 with ⟨F187, pl187⟩ | q187
      · refine x_invV 122 1 d5_readLine_187 (hS.T rfl) v5_201_5 (m_needWord _ hS (hfI14.c hC) hRdI14 hB hSl (List.mem_of_getElem? (i := 22) rfl)) ?_ (hB := hB) (hS := hSl)
        rintro o h' ⟨I19, J19, rfl, hz19, hj19, hr19⟩
        rw [hps187] at hr19
        obtain ⟨rfl, he19⟩ := hr19
        exact ⟨by decide, Or.inl ⟨rfl, ⟨I19, J19, rfl, (hfI14.trans (hz19.y l)), (((JF.rf J).trans hj10).trans hj19), by rw [show psL z f np 3 p = .inl (F187, pl187) from by simp only [psL, hps180, hps187]]; exact ⟨rfl, he19⟩⟩⟩⟩
      · refine x_invV 122 1 d5_readLine_187 (hS.T rfl) v5_201_5 (m_needWord _ hS (hfI14.c hC) hRdI14 hB hSl (List.mem_of_getElem? (i := 22) rfl)) ?_ (hB := hB) (hS := hSl)
        rintro o h' ⟨I19, J19, rfl, hz19, hj19, hr19⟩
        rw [hps187] at hr19
        obtain ⟨rfl, hRd19⟩ := hr19
        have hw20 : I19 126 l = nI 3 := by rw [hz19.1 126 (by decide)]; exact hw15
        have hw21 : I19 127 l = nI 0 := by rw [hz19.1 127 (by decide)]; exact hw16
        have hw22 : I19 129 l = (-1) := by rw [hz19.1 129 (by decide)]; exact hw17
        have hw23 : I19 128 l = nI x180 := by rw [hz19.1 128 (by decide)]; exact hw18
        refine x_aload_n d5_readLine_190 rfl ?_
        refine x_getP d5_readLine_191 f5_26 (hS.T rfl) (hS.P rfl) ?_
        refine x_iload_n d5_readLine_194 rfl ?_
        refine x_aload_n d5_readLine_195 rfl ?_
        refine x_bipush (v := nI 16) d5_readLine_196 (by decide) ?_
        rcases hps198 : psV z f 16 q187 with ⟨F198, pl198⟩ | ⟨x198, q198⟩
        · refine x_invV 122 1 d5_readLine_198 (hS.T rfl) v5_196_5 (m_needWhole _ hS hRd19 hB hSl (m := 16) (by omega)) ?_ (hB := hB) (hS := hSl)
          rintro o h' ⟨I24, J24, rfl, hz24, hj24, hr24⟩
          rw [hps198] at hr24
          obtain ⟨rfl, he24⟩ := hr24
          exact ⟨by decide, Or.inl ⟨rfl, ⟨I24, J24, rfl, ((hfI14.trans (hz19.y l)).trans (hz24.y l)), ((((JF.rf J).trans hj10).trans hj19).trans hj24), by rw [show psL z f np 3 p = .inl (F198, pl198) from by simp only [psL, hps180, hps187, hps198]]; exact ⟨rfl, he24⟩⟩⟩⟩
        · refine x_invV 122 1 d5_readLine_198 (hS.T rfl) v5_196_5 (m_needWhole _ hS hRd19 hB hSl (m := 16) (by omega)) ?_ (hB := hB) (hS := hSl)
          rintro o h' ⟨I24, J24, rfl, hz24, hj24, hr24⟩
          rw [hps198] at hr24
          obtain ⟨rfl, hRd24⟩ := hr24
          have hw25 : I24 126 l = nI 3 := by rw [hz24.1 126 (by decide)]; exact hw20
          have hw26 : I24 127 l = nI 0 := by rw [hz24.1 127 (by decide)]; exact hw21
          have hw27 : I24 129 l = (-1) := by rw [hz24.1 129 (by decide)]; exact hw22
          have hw28 : I24 128 l = nI x180 := by rw [hz24.1 128 (by decide)]; exact hw23
          refine x_iastN d5_readLine_201 (hS.T rfl) (by omega) (fun I29 hI29 => ?_)
          have hRdI29 := hRd24.row hI29 (by decide)
          have hfI29 := ((hfI14.trans (hz19.y l)).trans (hz24.y l)).trans (RdY.u hI29 (by decide))
          have hw30 : I29 126 l = nI 3 := by rw [hI29, u2_row _ _ _ (by decide)]; exact hw25
          have hw31 : I29 129 l = (-1) := by rw [hI29, u2_row _ _ _ (by decide)]; exact hw27
          have hw32 : I29 128 l = nI x180 := by rw [hI29, u2_row _ _ _ (by decide)]; exact hw28
          have hw33 : I29 127 l = nI x198 := by rw [hI29, u2_self]
          refine x_goto 246 d5_readLine_202 (by decide) ?_
          refine x_return d5_readLine_246 ?_
          have hE : psL z f np 3 p = .inr ((3, x198, x180, 0, fun _ => 0), q198) := by simp only [psL, hps180, hps187, hps198]
          refine ⟨I29, J24, rfl, hfI29, ((((JF.rf J).trans hj10).trans hj19).trans hj24), ?_⟩
          rw [hE]
          exact ⟨rfl, hRdI29, hw30, hw33, hw32, hw31, (fun e => by cases e)⟩
  · refine x_aload_n d5_readLine_0 rfl ?_
    refine x_getP d5_readLine_1 f5_23 (hS.T rfl) (hS.P rfl) ?_
    refine x_iload_n d5_readLine_4 rfl ?_
    refine x_iload_n d5_readLine_5 rfl ?_
    refine x_iastN d5_readLine_6 (hS.T rfl) (by omega) (fun I1 hI1 => ?_)
    have hRdI1 := hR.row hI1 (by decide)
    have hfI1 := (RdY.rf l I).trans (RdY.u hI1 (by decide))
    have hw2 : I1 126 l = nI 4 := by rw [hI1, u2_self]
    refine x_aload_n d5_readLine_7 rfl ?_
    refine x_getP d5_readLine_8 f5_26 (hS.T rfl) (hS.P rfl) ?_
    refine x_iload_n d5_readLine_11 rfl ?_
    refine x_iconst (v := nI 0) d5_readLine_12 (by decide) ?_
    refine x_iastN d5_readLine_13 (hS.T rfl) (by omega) (fun I3 hI3 => ?_)
    have hRdI3 := hRdI1.row hI3 (by decide)
    have hfI3 := hfI1.trans (RdY.u hI3 (by decide))
    have hw4 : I3 126 l = nI 4 := by rw [hI3, u2_row _ _ _ (by decide)]; exact hw2
    have hw5 : I3 127 l = nI 0 := by rw [hI3, u2_self]
    refine x_aload_n d5_readLine_14 rfl ?_
    refine x_getP d5_readLine_15 f5_32 (hS.T rfl) (hS.P rfl) ?_
    refine x_iload_n d5_readLine_18 rfl ?_
    refine x_iconst (v := -1) d5_readLine_19 (by decide) ?_
    refine x_iastN d5_readLine_20 (hS.T rfl) (by omega) (fun I6 hI6 => ?_)
    have hRdI6 := hRdI3.row hI6 (by decide)
    have hfI6 := hfI3.trans (RdY.u hI6 (by decide))
    have hw7 : I6 126 l = nI 4 := by rw [hI6, u2_row _ _ _ (by decide)]; exact hw4
    have hw8 : I6 127 l = nI 0 := by rw [hI6, u2_row _ _ _ (by decide)]; exact hw5
    have hw9 : I6 129 l = (-1) := by rw [hI6, u2_self]
    refine x_iload_n d5_readLine_21 rfl ?_
    refine x_tableIn (off := 183) 205 d5_readLine_22 (by decide) (by decide) (by decide) (by decide) ?_
    refine x_aload_n d5_readLine_205 rfl ?_
    refine x_getP d5_readLine_206 f5_29 (hS.T rfl) (hS.P rfl) ?_
    refine x_iload_n d5_readLine_209 rfl ?_
    refine x_aload_n d5_readLine_210 rfl ?_
    rcases hps211 : psM z f p with ⟨F211, pl211⟩ | ⟨x211, q211⟩
    · refine x_invV 122 0 d5_readLine_211 (hS.T rfl) v5_205_5 (m_needName _ hS hRdI6 hB hSl) ?_ (hB := hB) (hS := hSl)
      rintro o h' ⟨I10, J10, rfl, hz10, hj10, hr10⟩
      rw [hps211] at hr10
      obtain ⟨rfl, he10⟩ := hr10
      exact ⟨by decide, Or.inl ⟨rfl, ⟨I10, J10, rfl, (hfI6.trans (hz10.y l)), ((JF.rf J).trans hj10), by rw [show psL z f np 4 p = .inl (F211, pl211) from by simp only [psL, hps211]]; exact ⟨rfl, he10⟩⟩⟩⟩
    · refine x_invV 122 0 d5_readLine_211 (hS.T rfl) v5_205_5 (m_needName _ hS hRdI6 hB hSl) ?_ (hB := hB) (hS := hSl)
      rintro o h' ⟨I10, J10, rfl, hz10, hj10, hr10⟩
      rw [hps211] at hr10
      obtain ⟨rfl, hRd10⟩ := hr10
      have hw11 : I10 126 l = nI 4 := by rw [hz10.1 126 (by decide)]; exact hw7
      have hw12 : I10 127 l = nI 0 := by rw [hz10.1 127 (by decide)]; exact hw8
      have hw13 : I10 129 l = (-1) := by rw [hz10.1 129 (by decide)]; exact hw9
      refine x_iastN d5_readLine_214 (hS.T rfl) (by omega) (fun I14 hI14 => ?_)
      have hRdI14 := hRd10.row hI14 (by decide)
      have hfI14 := (hfI6.trans (hz10.y l)).trans (RdY.u hI14 (by decide))
      have hw15 : I14 126 l = nI 4 := by rw [hI14, u2_row _ _ _ (by decide)]; exact hw11
      have hw16 : I14 127 l = nI 0 := by rw [hI14, u2_row _ _ _ (by decide)]; exact hw12
      have hw17 : I14 129 l = (-1) := by rw [hI14, u2_row _ _ _ (by decide)]; exact hw13
      have hw18 : I14 128 l = nI x211 := by rw [hI14, u2_self]
      refine x_aload_n d5_readLine_215 rfl ?_
      refine x_ldcS (k := 24) d5_readLine_216 (List.mem_of_getElem? (i := 23) rfl) ?_
      rcases hps218 : psW z f kw_of q211 with ⟨F218, pl218⟩ | q218
      · refine x_invV 122 1 d5_readLine_218 (hS.T rfl) v5_201_5 (m_needWord _ hS (hfI14.c hC) hRdI14 hB hSl (List.mem_of_getElem? (i := 23) rfl)) ?_ (hB := hB) (hS := hSl)
        rintro o h' ⟨I19, J19, rfl, hz19, hj19, hr19⟩
        rw [hps218] at hr19
        obtain ⟨rfl, he19⟩ := hr19
        exact ⟨by decide, Or.inl ⟨rfl, ⟨I19, J19, rfl, (hfI14.trans (hz19.y l)), (((JF.rf J).trans hj10).trans hj19), by rw [show psL z f np 4 p = .inl (F218, pl218) from by simp only [psL, hps211, hps218]]; exact ⟨rfl, he19⟩⟩⟩⟩
      · refine x_invV 122 1 d5_readLine_218 (hS.T rfl) v5_201_5 (m_needWord _ hS (hfI14.c hC) hRdI14 hB hSl (List.mem_of_getElem? (i := 23) rfl)) ?_ (hB := hB) (hS := hSl)
        rintro o h' ⟨I19, J19, rfl, hz19, hj19, hr19⟩
        rw [hps218] at hr19
        obtain ⟨rfl, hRd19⟩ := hr19
        have hw20 : I19 126 l = nI 4 := by rw [hz19.1 126 (by decide)]; exact hw15
        have hw21 : I19 127 l = nI 0 := by rw [hz19.1 127 (by decide)]; exact hw16
        have hw22 : I19 129 l = (-1) := by rw [hz19.1 129 (by decide)]; exact hw17
        have hw23 : I19 128 l = nI x211 := by rw [hz19.1 128 (by decide)]; exact hw18
        refine x_aload_n d5_readLine_221 rfl ?_
        refine x_getP d5_readLine_222 f5_26 (hS.T rfl) (hS.P rfl) ?_
        refine x_iload_n d5_readLine_225 rfl ?_
        refine x_aload_n d5_readLine_226 rfl ?_
        refine x_bipush (v := nI 16) d5_readLine_227 (by decide) ?_
        rcases hps229 : psV z f 16 q218 with ⟨F229, pl229⟩ | ⟨x229, q229⟩
        · refine x_invV 122 1 d5_readLine_229 (hS.T rfl) v5_196_5 (m_needWhole _ hS hRd19 hB hSl (m := 16) (by omega)) ?_ (hB := hB) (hS := hSl)
          rintro o h' ⟨I24, J24, rfl, hz24, hj24, hr24⟩
          rw [hps229] at hr24
          obtain ⟨rfl, he24⟩ := hr24
          exact ⟨by decide, Or.inl ⟨rfl, ⟨I24, J24, rfl, ((hfI14.trans (hz19.y l)).trans (hz24.y l)), ((((JF.rf J).trans hj10).trans hj19).trans hj24), by rw [show psL z f np 4 p = .inl (F229, pl229) from by simp only [psL, hps211, hps218, hps229]]; exact ⟨rfl, he24⟩⟩⟩⟩
        · refine x_invV 122 1 d5_readLine_229 (hS.T rfl) v5_196_5 (m_needWhole _ hS hRd19 hB hSl (m := 16) (by omega)) ?_ (hB := hB) (hS := hSl)
          rintro o h' ⟨I24, J24, rfl, hz24, hj24, hr24⟩
          rw [hps229] at hr24
          obtain ⟨rfl, hRd24⟩ := hr24
          have hw25 : I24 126 l = nI 4 := by rw [hz24.1 126 (by decide)]; exact hw20
          have hw26 : I24 127 l = nI 0 := by rw [hz24.1 127 (by decide)]; exact hw21
          have hw27 : I24 129 l = (-1) := by rw [hz24.1 129 (by decide)]; exact hw22
          have hw28 : I24 128 l = nI x211 := by rw [hz24.1 128 (by decide)]; exact hw23
          refine x_iastN d5_readLine_232 (hS.T rfl) (by omega) (fun I29 hI29 => ?_)
          have hRdI29 := hRd24.row hI29 (by decide)
          have hfI29 := ((hfI14.trans (hz19.y l)).trans (hz24.y l)).trans (RdY.u hI29 (by decide))
          have hw30 : I29 126 l = nI 4 := by rw [hI29, u2_row _ _ _ (by decide)]; exact hw25
          have hw31 : I29 129 l = (-1) := by rw [hI29, u2_row _ _ _ (by decide)]; exact hw27
          have hw32 : I29 128 l = nI x211 := by rw [hI29, u2_row _ _ _ (by decide)]; exact hw28
          have hw33 : I29 127 l = nI x229 := by rw [hI29, u2_self]
          refine x_goto 246 d5_readLine_233 (by decide) ?_
          refine x_return d5_readLine_246 ?_
          have hE : psL z f np 4 p = .inr ((4, x229, x211, 0, fun _ => 0), q229) := by simp only [psL, hps211, hps218, hps229]
          refine ⟨I29, J24, rfl, hfI29, ((((JF.rf J).trans hj10).trans hj19).trans hj24), ?_⟩
          rw [hE]
          exact ⟨rfl, hRdI29, hw30, hw33, hw32, hw31, (fun e => by cases e)⟩
  · refine x_aload_n d5_readLine_0 rfl ?_
    refine x_getP d5_readLine_1 f5_23 (hS.T rfl) (hS.P rfl) ?_
    refine x_iload_n d5_readLine_4 rfl ?_
    refine x_iload_n d5_readLine_5 rfl ?_
    refine x_iastN d5_readLine_6 (hS.T rfl) (by omega) (fun I1 hI1 => ?_)
    have hRdI1 := hR.row hI1 (by decide)
    have hfI1 := (RdY.rf l I).trans (RdY.u hI1 (by decide))
    have hw2 : I1 126 l = nI 5 := by rw [hI1, u2_self]
    refine x_aload_n d5_readLine_7 rfl ?_
    refine x_getP d5_readLine_8 f5_26 (hS.T rfl) (hS.P rfl) ?_
    refine x_iload_n d5_readLine_11 rfl ?_
    refine x_iconst (v := nI 0) d5_readLine_12 (by decide) ?_
    refine x_iastN d5_readLine_13 (hS.T rfl) (by omega) (fun I3 hI3 => ?_)
    have hRdI3 := hRdI1.row hI3 (by decide)
    have hfI3 := hfI1.trans (RdY.u hI3 (by decide))
    have hw4 : I3 126 l = nI 5 := by rw [hI3, u2_row _ _ _ (by decide)]; exact hw2
    have hw5 : I3 127 l = nI 0 := by rw [hI3, u2_self]
    refine x_aload_n d5_readLine_14 rfl ?_
    refine x_getP d5_readLine_15 f5_32 (hS.T rfl) (hS.P rfl) ?_
    refine x_iload_n d5_readLine_18 rfl ?_
    refine x_iconst (v := -1) d5_readLine_19 (by decide) ?_
    refine x_iastN d5_readLine_20 (hS.T rfl) (by omega) (fun I6 hI6 => ?_)
    have hRdI6 := hRdI3.row hI6 (by decide)
    have hfI6 := hfI3.trans (RdY.u hI6 (by decide))
    have hw7 : I6 126 l = nI 5 := by rw [hI6, u2_row _ _ _ (by decide)]; exact hw4
    have hw8 : I6 127 l = nI 0 := by rw [hI6, u2_row _ _ _ (by decide)]; exact hw5
    have hw9 : I6 129 l = (-1) := by rw [hI6, u2_self]
    refine x_iload_n d5_readLine_21 rfl ?_
    refine x_tableOut 236 d5_readLine_22 (by decide) (by decide) ?_
    refine x_aload_n d5_readLine_236 rfl ?_
    refine x_getP d5_readLine_237 f5_29 (hS.T rfl) (hS.P rfl) ?_
    refine x_iload_n d5_readLine_240 rfl ?_
    refine x_aload_n d5_readLine_241 rfl ?_
    rcases hps242 : psM z f p with ⟨F242, pl242⟩ | ⟨x242, q242⟩
    · refine x_invV 122 0 d5_readLine_242 (hS.T rfl) v5_205_5 (m_needName _ hS hRdI6 hB hSl) ?_ (hB := hB) (hS := hSl)
      rintro o h' ⟨I10, J10, rfl, hz10, hj10, hr10⟩
      rw [hps242] at hr10
      obtain ⟨rfl, he10⟩ := hr10
      exact ⟨by decide, Or.inl ⟨rfl, ⟨I10, J10, rfl, (hfI6.trans (hz10.y l)), ((JF.rf J).trans hj10), by rw [show psL z f np 5 p = .inl (F242, pl242) from by simp only [psL, hps242]]; exact ⟨rfl, he10⟩⟩⟩⟩
    · refine x_invV 122 0 d5_readLine_242 (hS.T rfl) v5_205_5 (m_needName _ hS hRdI6 hB hSl) ?_ (hB := hB) (hS := hSl)
      rintro o h' ⟨I10, J10, rfl, hz10, hj10, hr10⟩
      rw [hps242] at hr10
      obtain ⟨rfl, hRd10⟩ := hr10
      have hw11 : I10 126 l = nI 5 := by rw [hz10.1 126 (by decide)]; exact hw7
      have hw12 : I10 127 l = nI 0 := by rw [hz10.1 127 (by decide)]; exact hw8
      have hw13 : I10 129 l = (-1) := by rw [hz10.1 129 (by decide)]; exact hw9
      refine x_iastN d5_readLine_245 (hS.T rfl) (by omega) (fun I14 hI14 => ?_)
      have hRdI14 := hRd10.row hI14 (by decide)
      have hfI14 := (hfI6.trans (hz10.y l)).trans (RdY.u hI14 (by decide))
      have hw15 : I14 126 l = nI 5 := by rw [hI14, u2_row _ _ _ (by decide)]; exact hw11
      have hw16 : I14 127 l = nI 0 := by rw [hI14, u2_row _ _ _ (by decide)]; exact hw12
      have hw17 : I14 129 l = (-1) := by rw [hI14, u2_row _ _ _ (by decide)]; exact hw13
      have hw18 : I14 128 l = nI x242 := by rw [hI14, u2_self]
      refine x_return d5_readLine_246 ?_
      have hE : psL z f np 5 p = .inr ((5, 0, x242, 0, fun _ => 0), q242) := by simp only [psL, hps242]
      refine ⟨I14, J10, rfl, hfI14, ((JF.rf J).trans hj10), ?_⟩
      rw [hE]
      exact ⟨rfl, hRdI14, hw15, hw16, hw18, hw17, (fun e => by cases e)⟩
