/-! the house: let -/
set_option maxRecDepth 100000
/-- what the reading of a line leaves -/
def LnQ (t : Nat → Option (Nat × Nat)) (I : Nat → Nat → Int32) (J : Nat → Nat → Int64) (P : Nat → Nat → Value) (n sl c1 c2 : Nat) (z : Nat) (f : Nat → Nat) (r : RR (Lne × Nat)) : AO → AH → Prop := fun o h' =>
  ∃ t' I' J' P' n' sl', h' = (t', I', J', P', n', sl') ∧ GR False t I J P t' I' J' P' n' ∧ n ≤ n' ∧ n' ≤ n + c1 ∧ sl ≤ sl' ∧ sl' ≤ sl + c2 ∧ match r with
    | .inl e => o = .inr 103 ∧ RdE I' e
    | .inr q => (∃ a : Nat, n ≤ a ∧ o = .inl (some (.ref a)) ∧ LnO t' I' P' a q.1) ∧ HRd t' I' P' z f q.2
theorem HRd.u5 {t : Nat → Option (Nat × Nat)} {I I' : Nat → Nat → Int32} {P : Nat → Nat → Value} {z p k : Nat} {f : Nat → Nat} {v : Int32} (h : HRd t I P z f p) (hS : SH t P) (e : I' = u2 I 105 k v) : HRd t I' P z f p := by
  obtain ⟨a1, a2, a3, a4, a5, a6⟩ := h
  have h1 : ∀ b, b ≠ 105 → I' b = I b := fun b hb => by rw [e, u2_row _ _ _ hb]
  have r2 := h1 102 (by omega)
  have r1 := h1 101 (by omega)
  refine ⟨by rw [r2]; exact a1, by rw [r2]; exact a2, by rw [r2]; exact a3, fun e => by rw [r2]; exact a4 e, fun e => ?_, by rw [r2]; exact a6.1, by rw [r1]; exact a6.2.1, a6.2.2⟩
  obtain ⟨w, v, w1, ⟨b1, b2, b3, b4, b5, b6⟩, w3, w4⟩ := a5 e
  have ev : v ≠ 105 := fun e => by rw [e, hS.T rfl] at b3; cases b3
  exact ⟨w, v, w1, ⟨b1, b2, b3, by rw [h1 w (by omega)]; exact b4, by rw [h1 v ev]; exact b5, b6⟩, w3, by unfold HsK; rw [h1 w (by omega)]; exact w4⟩
/-- the names behind from, as let goes on -/
noncomputable def ltR (x : Nat) (r : RR (Nat × (Nat → Nat) × Nat)) : RR (Lne × Nat) := match r with
  | .inl e => .inl e
  | .inr (m, fr, p3) => .inr ((1, m, x, 0, fr), p3)
theorem ltR_e {x : Nat} {r : RR (Nat × (Nat → Nat) × Nat)} {e : Nat × Nat} (h : r = .inl e) : ltR x r = .inl e := by rw [h]; rfl
theorem psF_e {z p m : Nat} {f fr : Nat → Nat} {e : Nat × Nat} {R : RR (Nat × (Nat → Nat) × Nat)} (h : psF z f (4 - m) m fr p = R) (hn : psN z f p = .inl e) : R = .inl e := by
  rw [← h]
  cases 4 - m with
  | zero => simp only [psF, hn]
  | succ k => simp only [psF, hn]
theorem psF_s {z p m y : Nat} {f fr : Nat → Nat} {R : RR (Nat × (Nat → Nat) × Nat)} (hm : m < 4) (h : psF z f (4 - m) m fr p = R) (hn : psN z f p = .inr y) : (if tK z f (tE z f p) = 44 then psF z f (4 - (m + 1)) (m + 1) (upN fr m y) (tE z f (tE z f p)) else .inr (m + 1, upN fr m y, tE z f p)) = R := by
  rw [← h, show 4 - m = (4 - (m + 1)) + 1 by omega]
  simp only [psF, hn]
set_option maxHeartbeats 8000000 in
theorem h_let {G : GG} (d : Nat) {t : Nat → Option (Nat × Nat)} {J : Nat → Nat → Int64} {P : Nat → Nat → Value} {n sl : Nat} {I : Nat → Nat → Int32} (hS : SH t P) (hC : CSt t I P) (hT : TyB t n) (hn : 144 ≤ n) {z p : Nat} {f : Nat → Nat} (hR : HRd t I P z f p) (hp : p ≤ z) {np : Nat} (hB0 : n + 24 ≤ 601124) (hSl0 : sl + 140 ≤ 7293033) : CA G (d + 8) M2_let [.ref 102] (t, I, J, P, n, sl) (LnQ t I J P n sl 24 140 z f (psL z f np 1 p)) := by
  refine CA.w ?_
  show RA _ _ M2_let 0 [.ref 102, U0, U0, U0, U0] [] _ _
  refine x_aload_n d2_let_0 rfl ?_
  refine x_invV 102 0 d2_let_1 (hS.T rfl) v2_129_2 (h_name _ hS hC hT hn hR hp (by omega) (by omega)) ?_ (hB := by show n ≤ 601124; omega) (hS := by show sl ≤ 7293033; omega)
  rintro o h' ⟨t1, I1, J1, P1, n1, sl1, rfl, g1, r51, hn1a, hn1b, hs1a, hs1b, hm1⟩
  have gg1 := (GR.rf (s := False) (I := I) (J := J) (P := P) hT).trans (g1.weak (s' := False) (fun _ => trivial))
  cases hr1 : psM z f p with
  | inl e =>
    rw [hr1] at hm1
    obtain ⟨rfl, he⟩ := hm1
    refine ⟨by decide, Or.inl ⟨rfl, t1, I1, J1, P1, n1, sl1, rfl, gg1, by omega, by omega, by omega, by omega, ?_⟩⟩
    rw [show psL z f np 1 p = .inl e by simp only [psL, hr1]]
    exact ⟨rfl, he⟩
  | inr b1 =>
  rw [hr1] at hm1
  obtain ⟨v1, q1⟩ := b1
  obtain ⟨rfl, hR1⟩ := hm1
  have hS1 := gg1.sh hS
  have hC1 := hC.gr gg1
  have hT1 := gg1.2.2.2.2.2.2
  have hn1 : 144 ≤ n1 := by omega
  have hok1 := psM_ok hp hr1
  have hp1 : q1 ≤ z := hok1.2
  have hv1 := hok1.1
  have hR1 : HRd t1 I1 P1 z f q1 := hR1
  show RA _ _ _ _ _ [.int (nI v1)] _ _
  refine x_istore_n d2_let_4 ?_
  refine x_aload_n d2_let_5 rfl ?_
  refine x_ldcS (k := 10) d2_let_6 (List.mem_of_getElem? (i := 9) rfl) ?_
  refine x_invV 102 1 d2_let_8 (hS1.T rfl) v2_123_2 (h_must _ hS1 hC1 hT1 hn1 hR1 hp1 (hC1 (10, kw_from) (List.mem_of_getElem? (i := 9) rfl)) (by decide) (by omega) (by omega)) ?_ (hB := by show n1 ≤ 601124; omega) (hS := by show sl1 ≤ 7293033; omega)
  rintro o h' ⟨t2, I2, J2, P2, n2, sl2, rfl, g2, r52, hn2a, hn2b, hs2a, hs2b, hm2⟩
  have gg2 := gg1.trans (g2.weak (s' := False) (fun _ => trivial))
  cases hr2 : psW z f kw_from q1 with
  | inl e =>
    rw [hr2] at hm2
    obtain ⟨rfl, he⟩ := hm2
    refine ⟨by decide, Or.inl ⟨rfl, t2, I2, J2, P2, n2, sl2, rfl, gg2, by omega, by omega, by omega, by omega, ?_⟩⟩
    rw [show psL z f np 1 p = .inl e by simp only [psL, hr1, hr2]]
    exact ⟨rfl, he⟩
  | inr b2 =>
  rw [hr2] at hm2
  obtain ⟨rfl, hR2⟩ := hm2
  have hS2 := gg2.sh hS
  have hC2 := hC.gr gg2
  have hT2 := gg2.2.2.2.2.2.2
  have hn2 : 144 ≤ n2 := by omega
  have hok2 := psW_ok hp1 hr2
  have hp2 : b2 ≤ z := hok2
  have hR2 : HRd t2 I2 P2 z f b2 := hR2
  show RA _ _ _ _ _ [] _ _
  refine x_iconst (v := nI 0) d2_let_11 (by decide) ?_
  refine x_istore_n d2_let_12 ?_
  refine x_iconst (v := nI 1) d2_let_13 (by decide) ?_
  refine x_istore_n d2_let_14 ?_
  have hR0 : psL z f np 1 p = ltR v1 (psF z f 4 0 (fun _ => 0) b2) := by simp only [psL, hr1, hr2]; unfold ltR; rfl
  generalize hFF : psF z f 4 0 (fun _ => 0) b2 = RF at hR0
  have hend : ∀ m, m ≤ 4 → ∀ (fr : Nat → Nat) (p9 : Nat) (t9 : Nat → Option (Nat × Nat)) (I9 : Nat → Nat → Int32) (J9 : Nat → Nat → Int64) (P9 : Nat → Nat → Value) (n9 sl9 : Nat), GR False t I J P t9 I9 J9 P9 n9 → HRd t9 I9 P9 z f p9 → p9 ≤ z → n ≤ n9 → n9 ≤ n + 4 + 4 * m → sl ≤ sl9 → sl9 ≤ sl + 24 + 24 * m → (∀ j, j < m → I9 105 j = nI (fr j)) → psL z f np 1 p = .inr ((1, m, v1, 0, fr), p9) → ∀ v4, RA G (d + 8) M2_let 15 [.ref 102, .int (nI v1), .int (nI m), .int (nI 0), v4] [] (t9, I9, J9, P9, n9, sl9) (LnQ t I J P n sl 24 140 z f (psL z f np 1 p)) := by
    intro m hm4 fr p9 t9 I9 J9 P9 n9 sl9 g9 hR9 hp9 hn1 hn2 hs1 hs2 hnm hend v4
    have hS9 := g9.sh hS
    have hC9 := hC.gr g9
    have hT9 := g9.2.2.2.2.2.2
    have hn9 : 144 ≤ n9 := by omega
    refine x_iload_n d2_let_15 rfl ?_
    refine x_if_eqN 61 d2_let_16 (by decide) (by omega) (fun b16 => ?_) (fun b16 => absurd b16 (fun q => q rfl))
    refine x_newE d2_let_61 n2_162 (by omega) (by omega) (fun t41 I41 J41 P41 ht41 hI41 hJ41 hP41 => ?_)
    have gw41 := (Gw.rf (I := I9) (J := J9) (P := P9) hT9).new ht41 hI41 hJ41 hP41
    have gg41 := g9.trans (gw41.gr (s := False) hT9 hn9)
    have hS41 := gg41.sh hS
    have hC41 := hC.gr gg41
    have hT41 := gg41.2.2.2.2.2.2
    have hn41 : 144 ≤ n9 + 1 := by omega
    have hR41 := hR9.gw gw41 hT9 hn9
    have hto41 : t41 n9 = some (10, 0) := by rw [ht41, p1_self]
    refine x_dup d2_let_64 rfl ?_
    refine x_iload_n d2_let_65 rfl ?_
    refine x_aload_n d2_let_66 rfl ?_
    refine x_getP d2_let_67 f2_22 (hS41.T rfl) (hS41.P rfl) ?_
    refine x_iload_n d2_let_70 rfl ?_
    refine x_invI n9 3 d2_let_71 (by omega) i2_164 (h_i10 _ hS41 hT41 hn41 (a := n9) (x := v1) (m := m) hto41 (by omega) (Nat.lt_succ_self n9) hm4 (by omega) (by omega)) ?_ (hB := by show n9 + 1 ≤ 601124; omega) (hS := by show (sl9 + 4) ≤ 7293033; omega)
    rintro o h' ⟨rfl, t8, I8, J8, P8, rfl, ta8, tn8, hL8, b0, b1, b2, b3, b4⟩
    have gL : GR False t I J P t8 I8 J8 P8 (n9 + 1 + 1) := ⟨fun a tg h => hL8.1 a trivial tg (gg41.1 a tg h), fun b tg h h2 h3 => (hL8.2.1 b (by have := hT b tg h; omega)).trans (gg41.2.1 b tg h h2 h3), fun b h h3 => (hL8.2.1 b (by omega)).trans (gg41.2.2.1 b h h3), fun b h => (hL8.2.2.1 b (by omega)).trans (gg41.2.2.2.1 b h), fun b tg h h2 => (hL8.2.2.2.1 b (by have := hT b tg h; omega)).trans (gg41.2.2.2.2.1 b tg h h2), fun k hk => by rw [hL8.2.2.2.1 102 (by omega)]; exact gg41.2.2.2.2.2.1 k hk, hL8.2.2.2.2⟩
    have hRL : HRd t8 I8 P8 z f p9 := by
      obtain ⟨a1, a2, a3, a4, a5, a6⟩ := hR41
      have r2 := hL8.2.1 102 (by omega)
      have r1 := hL8.2.1 101 (by omega)
      have q2 := hL8.2.2.2.1 102 (by omega)
      refine ⟨by rw [r2]; exact a1, by rw [r2]; exact a2, by rw [r2]; exact a3, fun e => by rw [r2]; exact a4 e, fun e => ?_, by rw [r2]; exact a6.1, by rw [r1]; exact a6.2.1, a6.2.2⟩
      obtain ⟨w, v, w1, ⟨c1, c2, c3, c4, c5, c6⟩, w3, w4⟩ := a5 e
      have hwl := hT41 _ _ c1
      have hvl := hT41 _ _ c3
      have hwn : w ≠ n9 := fun e => by rw [e, hto41] at c1; cases c1
      have hvn : v ≠ n9 := fun e => by rw [e, hto41] at c3; cases c3
      have rw_ := hL8.2.1 w (by omega)
      exact ⟨w, v, by rw [q2]; exact w1, ⟨hL8.1 _ trivial _ c1, by rw [hL8.2.2.2.1 w (by omega)]; exact c2, hL8.1 _ trivial _ c3, by rw [rw_]; exact c4, by rw [hL8.2.1 v (by omega)]; exact c5, c6⟩, w3, by unfold HsK; rw [rw_]; exact w4⟩
    show RA _ _ _ _ _ [Value.ref n9] _ _
    refine x_areturn d2_let_74 ?_
    refine ⟨t8, I8, J8, P8, n9 + 1 + 1, sl9 + 4 + 4, rfl, gL, by omega, by omega, by omega, by omega, ?_⟩
    rw [hend]
    exact ⟨⟨n9, by omega, rfl, by omega, ta8, b0, b1, b2, fun e => absurd e (by show ¬ (1 : Nat) = 2; decide), fun _ => ⟨b3, tn8, fun i hi => by rw [b4 i hi, gw41.i 105 (by omega)]; exact hnm i hi⟩⟩, hRL⟩
  have hlp : ∀ m, m ≤ 4 → ∀ (fr : Nat → Nat) (p9 : Nat) (t9 : Nat → Option (Nat × Nat)) (I9 : Nat → Nat → Int32) (J9 : Nat → Nat → Int64) (P9 : Nat → Nat → Value) (n9 sl9 : Nat), GR False t I J P t9 I9 J9 P9 n9 → HRd t9 I9 P9 z f p9 → p9 ≤ z → n ≤ n9 → n9 ≤ n + 4 + 4 * m → sl ≤ sl9 → sl9 ≤ sl + 24 + 24 * m → (∀ j, j < m → I9 105 j = nI (fr j)) → psF z f (4 - m) m fr p9 = RF → ∀ v4, RA G (d + 8) M2_let 15 [.ref 102, .int (nI v1), .int (nI m), .int (nI 1), v4] [] (t9, I9, J9, P9, n9, sl9) (LnQ t I J P n sl 24 140 z f (psL z f np 1 p)) := by
    refine up_ind ?_
    intro m hm4 ih fr p9 t9 I9 J9 P9 n9 sl9 g9 hR9 hp9 hn1 hn2 hs1 hs2 hnm hF v4
    have hS9 := g9.sh hS
    have hC9 := hC.gr g9
    have hT9 := g9.2.2.2.2.2.2
    have hn9 : 144 ≤ n9 := by omega
    refine x_iload_n d2_let_15 rfl ?_
    refine x_if_eqN 61 d2_let_16 (by decide) (by omega) (fun b16 => absurd b16 (by decide)) (fun b16 => ?_)
    refine x_aload_n d2_let_19 rfl ?_
    refine x_invV 102 0 d2_let_20 (hS9.T rfl) v2_90_2 (h_seeName _ hS9 hC9 hT9 hn9 hR9 hp9 (by omega) (by omega)) ?_ (hB := by show n9 ≤ 601124; omega) (hS := by show sl9 ≤ 7293033; omega)
    rintro o h' ⟨t61, I61, J61, P61, n61, sl61, rfl, g61, r561, hn61a, hn61b, hs61a, hs61b, hm61⟩
    have gg61 := g9.trans (g61.weak (s' := False) (fun _ => trivial))
    cases hr61 : psN z f p9 with
    | inl e =>
      rw [hr61] at hm61
      obtain ⟨rfl, he⟩ := hm61
      refine ⟨by decide, Or.inl ⟨rfl, t61, I61, J61, P61, n61, sl61, rfl, gg61, by omega, by omega, by omega, by omega, ?_⟩⟩
      rw [hR0, ltR_e (psF_e hF hr61)]
      exact ⟨rfl, he⟩
    | inr b61 =>
    rw [hr61] at hm61
    obtain ⟨rfl, hR61⟩ := hm61
    have hS61 := gg61.sh hS
    have hC61 := hC.gr gg61
    have hT61 := gg61.2.2.2.2.2.2
    have hn61 : 144 ≤ n61 := by omega
    have hok61 := psN_lt hp9 hr61
    have hR61 : HRd t61 I61 P61 z f p9 := hR61
    show RA _ _ _ _ _ [.int (nI b61)] _ _
    refine x_istore d2_let_23 ?_
    refine x_iload_n d2_let_25 rfl ?_
    refine x_iconst (v := nI 4) d2_let_26 (by decide) ?_
    refine x_icmp_neN 36 d2_let_27 (by decide) (by omega) (by omega) (fun b27 => ?_) (fun b27 => ?_)
    · refine x_aload_n d2_let_36 rfl ?_
      refine x_getP d2_let_37 f2_22 (hS61.T rfl) (hS61.P rfl) ?_
      refine x_iload_n d2_let_40 rfl ?_
      refine x_iload d2_let_41 rfl ?_
      refine x_iastN d2_let_43 (hS61.T rfl) (by omega) (fun I62 hI62 => ?_)
      have gu := gg61.ui hI62 (by decide)
      have hRu := hR61.u5 hS61 hI62
      have hCu := hC.gr gu
      have hnmu : ∀ j, j < m + 1 → I62 105 j = nI (upN fr m b61 j) := fun j hj => by
        rw [hI62, u2_at]; unfold upN
        by_cases ej : j = m
        · rw [if_pos ej, if_pos ej]
        · rw [if_neg ej, if_neg ej, r561]; exact hnm j (by omega)
      refine x_iincN (c := 1) d2_let_44 rfl (by decide) ?_
      refine x_aload_n d2_let_47 rfl ?_
      have hE9 := tE_le (f := f) hp9
      refine x_invV 102 0 d2_let_48 (hS61.T rfl) v2_71_2 (h_rnext _ hS61 hT61 hn61 hRu.x hRu.e hE9.2 (by omega) (by omega)) ?_ (hB := by show n61 ≤ 601124; omega) (hS := by show sl61 ≤ 7293033; omega)
      rintro o h' ⟨rfl, t7, I7, J7, P7, n7, sl7, rfl, g7, hR7, r57, hn7a, hn7b, hs7a, hs7b⟩
      have gg7 := gu.trans (g7.weak (s' := False) (fun _ => trivial))
      have hS7 := gg7.sh hS
      have hC7 := hC.gr gg7
      have hT7 := gg7.2.2.2.2.2.2
      show RA _ _ _ _ _ [] _ _
      refine x_aload_n d2_let_51 rfl ?_
      refine x_bipush (v := nI 44) d2_let_52 (by decide) ?_
      refine x_invV 102 1 d2_let_54 (hS7.T rfl) v2_116_2 (h_takes _ hS7 hC7 hT7 (by omega) hR7 hE9.2 (g := 44) (by decide) (by omega) (by omega)) ?_ (hB := by show n7 ≤ 601124; omega) (hS := by show sl7 ≤ 7293033; omega)
      rintro o h' ⟨t6, I6, J6, P6, n6, sl6, rfl, g6, r56, hn6a, hn6b, hs6a, hs6b, rfl, hR6⟩
      have gg6 := gg7.trans (g6.weak (s' := False) (fun _ => trivial))
      have hnm6 : ∀ j, j < m + 1 → I6 105 j = nI (upN fr m b61 j) := fun j hj => by rw [r56, r57]; exact hnmu j hj
      have hE7 := tE_le (f := f) hE9.2
      have hF2 := psF_s (by omega : m < 4) hF hr61
      show RA _ _ _ _ _ [Value.int (nI (if tK z f (tE z f p9) = 44 then 1 else 0))] _ _
      refine x_istore_n d2_let_57 ?_
      refine x_goto 15 d2_let_58 (by decide) ?_
      by_cases h44 : tK z f (tE z f p9) = 44
      · rw [if_pos h44] at hR6 ⊢
        rw [if_pos h44] at hF2
        exact ih (by omega) (upN fr m b61) (tE z f (tE z f p9)) t6 I6 J6 P6 n6 sl6 gg6 hR6 hE7.2 (by omega) (by omega) (by omega) (by omega) hnm6 hF2 _
      · rw [if_neg h44] at hR6 ⊢
        rw [if_neg h44] at hF2
        exact hend (m + 1) (by omega) (upN fr m b61) (tE z f p9) t6 I6 J6 P6 n6 sl6 gg6 hR6 hE9.2 (by omega) (by omega) (by omega) (by omega) hnm6 (by rw [hR0, ← hF2]; rfl) _
    · refine x_aload_n d2_let_30 rfl ?_
      refine x_iconst (v := nI 4) d2_let_31 (by decide) ?_
      refine x_invV 102 1 d2_let_32 (hS61.T rfl) v2_78_2 (h_fail _ hS61 (F := 4) hR61.2.2.1 (by omega) (by omega)) ?_ (hB := by show n61 ≤ 601124; omega) (hS := by show sl61 ≤ 7293033; omega)
      rintro o h' ⟨rfl, I8, rfl, hF8, he8⟩
      refine x_athrow d2_let_35 ⟨by decide, Or.inl ⟨rfl, t61, I8, J61, P61, n61, sl61, rfl, gg61.trans ⟨fun _ _ q => q, fun b tg _ _ h3 => hF8 b (by omega), fun b _ h3 => hF8 b (by omega), fun _ _ => rfl, fun _ _ _ _ => rfl, fun _ _ => rfl, hT61⟩, by omega, by omega, by omega, by omega, ?_⟩⟩
      have hm4 : m = 4 := b27
      subst hm4
      rw [hR0, ← hF, show psF z f (4 - 4) 4 fr p9 = .inl (4, tA z f p9) by show psF z f 0 4 fr p9 = _; simp only [psF, hr61]]
      exact ⟨rfl, he8⟩
  exact hlp 0 (Nat.zero_le _) (fun _ => 0) b2 _ _ _ _ _ _ gg2 hR2 hp2 (by omega) (by omega) (by omega) (by omega) (fun j hj => absurd hj (Nat.not_lt_zero _)) hFF _
