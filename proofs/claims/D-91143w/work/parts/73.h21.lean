/-! the house: a line -/
set_option maxRecDepth 100000
set_option maxHeartbeats 16000000 in
theorem h_rline {G : GG} (d : Nat) {t : Nat → Option (Nat × Nat)} {J : Nat → Nat → Int64} {P : Nat → Nat → Value} {n sl : Nat} {I : Nat → Nat → Int32} (hS : SH t P) (hC : CSt t I P) (hT : TyB t n) (hn : 144 ≤ n) {z p : Nat} {f : Nat → Nat} (hR : HRd t I P z f p) (hp : p ≤ z) {np k : Nat} (hK : psK z f p = some k) (hnp1 : 1 ≤ np) (hnp : np ≤ 10) (hB0 : n + 28 ≤ 601124) (hSl0 : sl + 160 ≤ 7293033) : CA G (d + 9) M2_line [.ref 102, .int (nI np)] (t, I, J, P, n, sl) (LnQ t I J P n sl 28 160 z f (psL z f np k (tE z f p))) := by
  refine CA.w ?_
  show RA _ _ M2_line 0 [.ref 102, .int (nI np), U0, U0, U0, U0, U0] [] _ _
  have hE := tE_le (f := f) hp
  obtain ⟨w, v, hw1, hw2, ⟨hw3, hwv⟩, hw4⟩ := hR.2.2.2.2.1 (psK_ok hK).1
  rcases rK_get hK with ⟨rfl, hk⟩ | ⟨rfl, hk⟩ | ⟨rfl, hk⟩ | ⟨rfl, hk⟩ | ⟨rfl, hk⟩ | ⟨rfl, hk⟩
  · refine x_aload_n d2_line_0 rfl ?_
    refine x_getP d2_line_1 f2_61 (hS.T rfl) hw1 ?_
    refine x_astore_n d2_line_4 ?_
    refine x_aload_n d2_line_5 rfl ?_
    refine x_invV 102 0 d2_line_6 (hS.T rfl) v2_71_2 (h_rnext _ hS hT hn hR.x hR.e hE.2 (by omega) (by omega)) ?_ (hB := by show n ≤ 601124; omega) (hS := by show sl ≤ 7293033; omega)
    rintro o h' ⟨rfl, t1, I1, J1, P1, n1, sl1, rfl, g1, hR1, r51, hn1a, hn1b, hs1a, hs1b⟩
    have gg1 := g1.weak (s' := False) (fun _ => trivial)
    have hS1 := gg1.sh hS
    have hC1 := hC.gr gg1
    have hT1 := gg1.2.2.2.2.2.2
    have hn1 : 144 ≤ n1 := by omega
    have hwA := hw2.gr g1 hw3 hS
    have hwK : HsK I1 w (hsV (tW z f p) (tL z f p)) := by unfold HsK; rw [g1.2.1 _ _ hw2.1 (fun _ => trivial) (by omega)]; exact hw4
    show RA _ _ _ _ _ [] _ _
    refine x_aload_n d2_line_9 rfl ?_
    refine x_astore_n d2_line_10 ?_
    refine x_iconst (v := -1) d2_line_11 (by decide) ?_
    refine x_istore d2_line_12 ?_
    refine x_aload_n d2_line_14 rfl ?_
    refine x_invV w 0 d2_line_15 hwA.1 v2_93_15 (j_hash hwA (by omega) hwv hwK (by omega) (by omega)) ?_ (hB := by show n1 ≤ 601124; omega) (hS := by show sl1 ≤ 7293033; omega)
    rintro o h' ⟨rfl, I2, rfl, hq1, hq2, hq3⟩
    have gg2 := gg1.trans (GR.hash (J := J1) (P := P1) hT1 hwA.1 hw3 hq1)
    have hR2 : HRd t1 I2 P1 z f (tE z f p) := hR1.hash hwA hw3 hq1 hq2 hq3
    have hwB := hwA.hash hwA.1 hq1 hq2
    have hC2 := hC.gr gg2
    refine x_top (congrArg Value.int ((hsV_cg hk.2).trans hs_get)) ?_
    show RA _ _ _ _ _ [Value.int 102230] _ _
    refine x_lookup (off := 50) 68 d2_line_18 (by decide) (by decide) (by decide) ?_
    refine x_aload_n d2_line_68 rfl ?_
    refine x_ldcS (k := 3) d2_line_69 (List.mem_of_getElem? (i := 2) rfl) ?_
    refine x_invV w 1 d2_line_71 hwB.1 v2_74_15 (j_equals hwB (hC2 (3, kw_get) (List.mem_of_getElem? (i := 2) rfl)) (by omega) (by show w ≠ 3; omega) (by omega) (by omega)) (Cont.p ?_) (hB := by show n1 ≤ 601124; omega) (hS := by show sl1 ≤ 7293033; omega)
    have hbl := bP_lt (StrEq (tL z f p) kw_get.length (tW z f p) (lt_ kw_get))
    show RA _ _ _ _ _ [Value.int (nI (bP (StrEq (tL z f p) kw_get.length (tW z f p) (lt_ kw_get))))] _ _
    refine x_if_eqN 140 d2_line_74 (by decide) (by omega) (fun b74 => absurd b74 (by rw [bP_t hk.2]; decide)) (fun b74 => ?_)
    refine x_iconst (v := nI 0) d2_line_77 (by decide) ?_
    refine x_istore d2_line_78 ?_
    refine x_goto 140 d2_line_80 (by decide) ?_
    refine x_iload d2_line_140 rfl ?_
    refine x_tableIn (off := 34) 176 d2_line_142 (by decide) (by decide) (by decide) (by decide) ?_
    refine x_aload_n d2_line_176 rfl ?_
    refine x_bipush (v := nI 15) d2_line_177 (by decide) ?_
    refine x_invV 102 1 d2_line_179 (hS1.T rfl) v2_119_2 (h_whole _ hS1 hC2 hT1 hn1 hR2 hE.2 (m := 15) (by decide) (by omega) (by omega)) ?_ (hB := by show n1 ≤ 601124; omega) (hS := by show sl1 ≤ 7293033; omega)
    rintro o h' ⟨t11, I11, J11, P11, n11, sl11, rfl, g11, r511, hn11a, hn11b, hs11a, hs11b, hm11⟩
    have gg11 := gg2.trans (g11.weak (s' := False) (fun _ => trivial))
    cases hr11 : psV z f (15 + 1) (tE z f p) with
    | inl e =>
      rw [hr11] at hm11
      obtain ⟨rfl, he⟩ := hm11
      refine ⟨by decide, Or.inl ⟨rfl, t11, I11, J11, P11, n11, sl11, rfl, gg11, by omega, by omega, by omega, by omega, ?_⟩⟩
      rw [show psL z f np 0 (tE z f p) = .inl e by simp only [psL, hr11]]
      exact ⟨rfl, he⟩
    | inr b11 =>
    rw [hr11] at hm11
    obtain ⟨v11, q11⟩ := b11
    obtain ⟨rfl, hR11⟩ := hm11
    have hS11 := gg11.sh hS
    have hC11 := hC.gr gg11
    have hT11 := gg11.2.2.2.2.2.2
    have hn11 : 144 ≤ n11 := by omega
    have hok11 := psV_ok hE.2 hr11
    have hp11 : q11 ≤ z := hok11.2
    have hv11 := hok11.1
    have hR11 : HRd t11 I11 P11 z f q11 := hR11
    show RA _ _ _ _ _ [.int (nI v11)] _ _
    refine x_istore d2_line_182 ?_
    refine x_aload_n d2_line_184 rfl ?_
    refine x_ldcS (k := 9) d2_line_185 (List.mem_of_getElem? (i := 8) rfl) ?_
    refine x_invV 102 1 d2_line_187 (hS11.T rfl) v2_123_2 (h_must _ hS11 hC11 hT11 hn11 hR11 hp11 (hC11 (9, kw_to) (List.mem_of_getElem? (i := 8) rfl)) (by decide) (by omega) (by omega)) ?_ (hB := by show n11 ≤ 601124; omega) (hS := by show sl11 ≤ 7293033; omega)
    rintro o h' ⟨t12, I12, J12, P12, n12, sl12, rfl, g12, r512, hn12a, hn12b, hs12a, hs12b, hm12⟩
    have gg12 := gg11.trans (g12.weak (s' := False) (fun _ => trivial))
    cases hr12 : psW z f kw_to q11 with
    | inl e =>
      rw [hr12] at hm12
      obtain ⟨rfl, he⟩ := hm12
      refine ⟨by decide, Or.inl ⟨rfl, t12, I12, J12, P12, n12, sl12, rfl, gg12, by omega, by omega, by omega, by omega, ?_⟩⟩
      rw [show psL z f np 0 (tE z f p) = .inl e by simp only [psL, hr11, hr12]]
      exact ⟨rfl, he⟩
    | inr b12 =>
    rw [hr12] at hm12
    obtain ⟨rfl, hR12⟩ := hm12
    have hS12 := gg12.sh hS
    have hC12 := hC.gr gg12
    have hT12 := gg12.2.2.2.2.2.2
    have hn12 : 144 ≤ n12 := by omega
    have hok12 := psW_ok hp11 hr12
    have hp12 : b12 ≤ z := hok12
    have hR12 : HRd t12 I12 P12 z f b12 := hR12
    show RA _ _ _ _ _ [] _ _
    refine x_newE d2_line_190 n2_127 (by omega) (by omega) (fun t13 I13 J13 P13 ht13 hI13 hJ13 hP13 => ?_)
    have gw13 := (Gw.rf (I := I12) (J := J12) (P := P12) hT12).new ht13 hI13 hJ13 hP13
    have gg13 := gg12.trans (gw13.gr (s := False) hT12 hn12)
    have hS13 := gg13.sh hS
    have hC13 := hC.gr gg13
    have hT13 := gg13.2.2.2.2.2.2
    have hn13 : 144 ≤ n12 + 1 := by omega
    have hR13 := hR12.gw gw13 hT12 hn12
    have hto13 : t13 n12 = some (9, 0) := by rw [ht13, p1_self]
    refine x_dup d2_line_193 rfl ?_
    refine x_iload d2_line_194 rfl ?_
    refine x_aload_n d2_line_196 rfl ?_
    refine x_invV 102 0 d2_line_197 (hS13.T rfl) v2_129_2 (h_name _ hS13 hC13 hT13 hn13 hR13 hp12 (by omega) (by omega)) ?_ (hB := by show n12 + 1 ≤ 601124; omega) (hS := by show (sl12 + 3) ≤ 7293033; omega)
    rintro o h' ⟨t14, I14, J14, P14, n14, sl14, rfl, g14, r514, hn14a, hn14b, hs14a, hs14b, hm14⟩
    have gg14 := gg13.trans (g14.weak (s' := False) (fun _ => trivial))
    cases hr14 : psM z f b12 with
    | inl e =>
      rw [hr14] at hm14
      obtain ⟨rfl, he⟩ := hm14
      refine ⟨by decide, Or.inl ⟨rfl, t14, I14, J14, P14, n14, sl14, rfl, gg14, by omega, by omega, by omega, by omega, ?_⟩⟩
      rw [show psL z f np 0 (tE z f p) = .inl e by simp only [psL, hr11, hr12, hr14]]
      exact ⟨rfl, he⟩
    | inr b14 =>
    rw [hr14] at hm14
    obtain ⟨v14, q14⟩ := b14
    obtain ⟨rfl, hR14⟩ := hm14
    have hS14 := gg14.sh hS
    have hC14 := hC.gr gg14
    have hT14 := gg14.2.2.2.2.2.2
    have hn14 : 144 ≤ n14 := by omega
    have hok14 := psM_ok hp12 hr14
    have hp14 : q14 ≤ z := hok14.2
    have hv14 := hok14.1
    have hR14 : HRd t14 I14 P14 z f q14 := hR14
    have hto14 : t14 n12 = some (9, 0) := g14.1 _ _ hto13
    show RA _ _ _ _ _ [.int (nI v14), .int (nI v11), .ref n12, .ref n12] _ _
    refine x_invI n12 2 d2_line_200 (by omega) i2_132 (h_i9 _ (nu := v11) (fs := v14) hto14 (by omega) (by omega) (by omega)) ?_ (hB := by show n14 ≤ 601124; omega) (hS := by show sl14 ≤ 7293033; omega)
    rintro o h' ⟨rfl, I9, rfl, q⟩
    have gF := gg14.fr hT hn (show n ≤ n12 by omega) q.1
    have hRF := hR14.ln hto14 ⟨by decide, by decide⟩ (by omega) q.1
    show RA _ _ _ _ _ [Value.ref n12] _ _
    refine x_areturn d2_line_203 ?_
    refine ⟨t14, I9, J14, P14, n14, sl14, rfl, gF, by omega, by omega, by omega, by omega, ?_⟩
    rw [show psL z f np 0 (tE z f p) = .inr ((0, v11, v14, 0, fun _ => 0), q14) by simp only [psL, hr11, hr12, hr14]]
    exact ⟨⟨n12, by omega, rfl, by omega, hto14, q.2.1, q.2.2.1, q.2.2.2, fun e => absurd e (by show ¬ (0 : Nat) = 2; decide), fun e => absurd e (by show ¬ (0 : Nat) = 1; decide)⟩, hRF⟩
  · refine x_aload_n d2_line_0 rfl ?_
    refine x_getP d2_line_1 f2_61 (hS.T rfl) hw1 ?_
    refine x_astore_n d2_line_4 ?_
    refine x_aload_n d2_line_5 rfl ?_
    refine x_invV 102 0 d2_line_6 (hS.T rfl) v2_71_2 (h_rnext _ hS hT hn hR.x hR.e hE.2 (by omega) (by omega)) ?_ (hB := by show n ≤ 601124; omega) (hS := by show sl ≤ 7293033; omega)
    rintro o h' ⟨rfl, t1, I1, J1, P1, n1, sl1, rfl, g1, hR1, r51, hn1a, hn1b, hs1a, hs1b⟩
    have gg1 := g1.weak (s' := False) (fun _ => trivial)
    have hS1 := gg1.sh hS
    have hC1 := hC.gr gg1
    have hT1 := gg1.2.2.2.2.2.2
    have hn1 : 144 ≤ n1 := by omega
    have hwA := hw2.gr g1 hw3 hS
    have hwK : HsK I1 w (hsV (tW z f p) (tL z f p)) := by unfold HsK; rw [g1.2.1 _ _ hw2.1 (fun _ => trivial) (by omega)]; exact hw4
    show RA _ _ _ _ _ [] _ _
    refine x_aload_n d2_line_9 rfl ?_
    refine x_astore_n d2_line_10 ?_
    refine x_iconst (v := -1) d2_line_11 (by decide) ?_
    refine x_istore d2_line_12 ?_
    refine x_aload_n d2_line_14 rfl ?_
    refine x_invV w 0 d2_line_15 hwA.1 v2_93_15 (j_hash hwA (by omega) hwv hwK (by omega) (by omega)) ?_ (hB := by show n1 ≤ 601124; omega) (hS := by show sl1 ≤ 7293033; omega)
    rintro o h' ⟨rfl, I2, rfl, hq1, hq2, hq3⟩
    have gg2 := gg1.trans (GR.hash (J := J1) (P := P1) hT1 hwA.1 hw3 hq1)
    have hR2 : HRd t1 I2 P1 z f (tE z f p) := hR1.hash hwA hw3 hq1 hq2 hq3
    have hwB := hwA.hash hwA.1 hq1 hq2
    have hC2 := hC.gr gg2
    refine x_top (congrArg Value.int ((hsV_cg hk.2).trans hs_let)) ?_
    show RA _ _ _ _ _ [Value.int 107035] _ _
    refine x_lookup (off := 65) 83 d2_line_18 (by decide) (by decide) (by decide) ?_
    refine x_aload_n d2_line_83 rfl ?_
    refine x_ldcS (k := 4) d2_line_84 (List.mem_of_getElem? (i := 3) rfl) ?_
    refine x_invV w 1 d2_line_86 hwB.1 v2_74_15 (j_equals hwB (hC2 (4, kw_let) (List.mem_of_getElem? (i := 3) rfl)) (by omega) (by show w ≠ 4; omega) (by omega) (by omega)) (Cont.p ?_) (hB := by show n1 ≤ 601124; omega) (hS := by show sl1 ≤ 7293033; omega)
    have hbl := bP_lt (StrEq (tL z f p) kw_let.length (tW z f p) (lt_ kw_let))
    show RA _ _ _ _ _ [Value.int (nI (bP (StrEq (tL z f p) kw_let.length (tW z f p) (lt_ kw_let))))] _ _
    refine x_if_eqN 140 d2_line_89 (by decide) (by omega) (fun b89 => absurd b89 (by rw [bP_t hk.2]; decide)) (fun b89 => ?_)
    refine x_iconst (v := nI 1) d2_line_92 (by decide) ?_
    refine x_istore d2_line_93 ?_
    refine x_goto 140 d2_line_95 (by decide) ?_
    refine x_iload d2_line_140 rfl ?_
    refine x_tableIn (off := 62) 204 d2_line_142 (by decide) (by decide) (by decide) (by decide) ?_
    refine x_aload_n d2_line_204 rfl ?_
    refine x_invV 102 0 d2_line_205 (hS1.T rfl) v2_135_2 (h_let _ hS1 hC2 hT1 hn1 hR2 hE.2 (np := np) (by omega) (by omega)) ?_ (hB := by show n1 ≤ 601124; omega) (hS := by show sl1 ≤ 7293033; omega)
    rintro o h' ⟨t3, I3, J3, P3, n3, sl3, rfl, g3, hn3a, hn3b, hs3a, hs3b, hm3⟩
    cases hr3 : psL z f np 1 (tE z f p) with
    | inl e =>
      rw [hr3] at hm3
      obtain ⟨rfl, he⟩ := hm3
      exact ⟨by decide, Or.inl ⟨rfl, t3, I3, J3, P3, n3, sl3, rfl, gg2.trans g3, by omega, by omega, by omega, by omega, rfl, he⟩⟩
    | inr b3 =>
    rw [hr3] at hm3
    obtain ⟨⟨a, ha1, rfl, ha3⟩, hR3⟩ := hm3
    refine x_areturn d2_line_208 ⟨t3, I3, J3, P3, n3, sl3, rfl, gg2.trans g3, by omega, by omega, by omega, by omega, ⟨a, by omega, rfl, ha3⟩, hR3⟩
  · refine x_aload_n d2_line_0 rfl ?_
    refine x_getP d2_line_1 f2_61 (hS.T rfl) hw1 ?_
    refine x_astore_n d2_line_4 ?_
    refine x_aload_n d2_line_5 rfl ?_
    refine x_invV 102 0 d2_line_6 (hS.T rfl) v2_71_2 (h_rnext _ hS hT hn hR.x hR.e hE.2 (by omega) (by omega)) ?_ (hB := by show n ≤ 601124; omega) (hS := by show sl ≤ 7293033; omega)
    rintro o h' ⟨rfl, t1, I1, J1, P1, n1, sl1, rfl, g1, hR1, r51, hn1a, hn1b, hs1a, hs1b⟩
    have gg1 := g1.weak (s' := False) (fun _ => trivial)
    have hS1 := gg1.sh hS
    have hC1 := hC.gr gg1
    have hT1 := gg1.2.2.2.2.2.2
    have hn1 : 144 ≤ n1 := by omega
    have hwA := hw2.gr g1 hw3 hS
    have hwK : HsK I1 w (hsV (tW z f p) (tL z f p)) := by unfold HsK; rw [g1.2.1 _ _ hw2.1 (fun _ => trivial) (by omega)]; exact hw4
    show RA _ _ _ _ _ [] _ _
    refine x_aload_n d2_line_9 rfl ?_
    refine x_astore_n d2_line_10 ?_
    refine x_iconst (v := -1) d2_line_11 (by decide) ?_
    refine x_istore d2_line_12 ?_
    refine x_aload_n d2_line_14 rfl ?_
    refine x_invV w 0 d2_line_15 hwA.1 v2_93_15 (j_hash hwA (by omega) hwv hwK (by omega) (by omega)) ?_ (hB := by show n1 ≤ 601124; omega) (hS := by show sl1 ≤ 7293033; omega)
    rintro o h' ⟨rfl, I2, rfl, hq1, hq2, hq3⟩
    have gg2 := gg1.trans (GR.hash (J := J1) (P := P1) hT1 hwA.1 hw3 hq1)
    have hR2 : HRd t1 I2 P1 z f (tE z f p) := hR1.hash hwA hw3 hq1 hq2 hq3
    have hwB := hwA.hash hwA.1 hq1 hq2
    have hC2 := hC.gr gg2
    refine x_top (congrArg Value.int ((hsV_cg hk.2).trans hs_ask)) ?_
    show RA _ _ _ _ _ [Value.int 96889] _ _
    refine x_lookup (off := 80) 98 d2_line_18 (by decide) (by decide) (by decide) ?_
    refine x_aload_n d2_line_98 rfl ?_
    refine x_ldcS (k := 5) d2_line_99 (List.mem_of_getElem? (i := 4) rfl) ?_
    refine x_invV w 1 d2_line_101 hwB.1 v2_74_15 (j_equals hwB (hC2 (5, kw_ask) (List.mem_of_getElem? (i := 4) rfl)) (by omega) (by show w ≠ 5; omega) (by omega) (by omega)) (Cont.p ?_) (hB := by show n1 ≤ 601124; omega) (hS := by show sl1 ≤ 7293033; omega)
    have hbl := bP_lt (StrEq (tL z f p) kw_ask.length (tW z f p) (lt_ kw_ask))
    show RA _ _ _ _ _ [Value.int (nI (bP (StrEq (tL z f p) kw_ask.length (tW z f p) (lt_ kw_ask))))] _ _
    refine x_if_eqN 140 d2_line_104 (by decide) (by omega) (fun b104 => absurd b104 (by rw [bP_t hk.2]; decide)) (fun b104 => ?_)
    refine x_iconst (v := nI 2) d2_line_107 (by decide) ?_
    refine x_istore d2_line_108 ?_
    refine x_goto 140 d2_line_110 (by decide) ?_
    refine x_iload d2_line_140 rfl ?_
    refine x_tableIn (off := 67) 209 d2_line_142 (by decide) (by decide) (by decide) (by decide) ?_
    refine x_aload_n d2_line_209 rfl ?_
    refine x_iload_n d2_line_210 rfl ?_
    refine x_iconst (v := nI 1) d2_line_211 (by decide) ?_
    refine x_isubN d2_line_212 (by omega) ?_
    refine x_invV 102 1 d2_line_213 (hS1.T rfl) v2_119_2 (show CA G _ M2_whole [.ref 102, .int (nI (np - 1))] _ (RdQ True t1 I2 J1 P1 n1 sl1 2 12 z f (psV z f np (tE z f p)) (fun q => some (.int (nI q.1))) (fun q => q.2)) by have hw9 := h_whole (G := G) (J := J1) (n := n1) (sl := sl1) (d + 2) hS1 hC2 hT1 hn1 hR2 hE.2 (m := np - 1) (by omega) (by omega) (by omega); rw [Nat.sub_add_cancel hnp1] at hw9; exact hw9) ?_ (hB := by show n1 ≤ 601124; omega) (hS := by show sl1 ≤ 7293033; omega)
    rintro o h' ⟨t11, I11, J11, P11, n11, sl11, rfl, g11, r511, hn11a, hn11b, hs11a, hs11b, hm11⟩
    have gg11 := gg2.trans (g11.weak (s' := False) (fun _ => trivial))
    cases hr11 : psV z f np (tE z f p) with
    | inl e =>
      rw [hr11] at hm11
      obtain ⟨rfl, he⟩ := hm11
      refine ⟨by decide, Or.inl ⟨rfl, t11, I11, J11, P11, n11, sl11, rfl, gg11, by omega, by omega, by omega, by omega, ?_⟩⟩
      rw [show psL z f np 2 (tE z f p) = .inl e by simp only [psL, hr11]]
      exact ⟨rfl, he⟩
    | inr b11 =>
    rw [hr11] at hm11
    obtain ⟨v11, q11⟩ := b11
    obtain ⟨rfl, hR11⟩ := hm11
    have hS11 := gg11.sh hS
    have hC11 := hC.gr gg11
    have hT11 := gg11.2.2.2.2.2.2
    have hn11 : 144 ≤ n11 := by omega
    have hok11 := psV_ok hE.2 hr11
    have hp11 : q11 ≤ z := hok11.2
    have hv11 := hok11.1
    have hR11 : HRd t11 I11 P11 z f q11 := hR11
    show RA _ _ _ _ _ [.int (nI v11)] _ _
    refine x_istore d2_line_216 ?_
    refine x_aload_n d2_line_218 rfl ?_
    refine x_ldcS (k := 11) d2_line_219 (List.mem_of_getElem? (i := 10) rfl) ?_
    refine x_invV 102 1 d2_line_221 (hS11.T rfl) v2_123_2 (h_must _ hS11 hC11 hT11 hn11 hR11 hp11 (hC11 (11, kw_with) (List.mem_of_getElem? (i := 10) rfl)) (by decide) (by omega) (by omega)) ?_ (hB := by show n11 ≤ 601124; omega) (hS := by show sl11 ≤ 7293033; omega)
    rintro o h' ⟨t12, I12, J12, P12, n12, sl12, rfl, g12, r512, hn12a, hn12b, hs12a, hs12b, hm12⟩
    have gg12 := gg11.trans (g12.weak (s' := False) (fun _ => trivial))
    cases hr12 : psW z f kw_with q11 with
    | inl e =>
      rw [hr12] at hm12
      obtain ⟨rfl, he⟩ := hm12
      refine ⟨by decide, Or.inl ⟨rfl, t12, I12, J12, P12, n12, sl12, rfl, gg12, by omega, by omega, by omega, by omega, ?_⟩⟩
      rw [show psL z f np 2 (tE z f p) = .inl e by simp only [psL, hr11, hr12]]
      exact ⟨rfl, he⟩
    | inr b12 =>
    rw [hr12] at hm12
    obtain ⟨rfl, hR12⟩ := hm12
    have hS12 := gg12.sh hS
    have hC12 := hC.gr gg12
    have hT12 := gg12.2.2.2.2.2.2
    have hn12 : 144 ≤ n12 := by omega
    have hok12 := psW_ok hp11 hr12
    have hp12 : b12 ≤ z := hok12
    have hR12 : HRd t12 I12 P12 z f b12 := hR12
    show RA _ _ _ _ _ [] _ _
    refine x_aload_n d2_line_224 rfl ?_
    refine x_invV 102 0 d2_line_225 (hS12.T rfl) v2_129_2 (h_name _ hS12 hC12 hT12 hn12 hR12 hp12 (by omega) (by omega)) ?_ (hB := by show n12 ≤ 601124; omega) (hS := by show sl12 ≤ 7293033; omega)
    rintro o h' ⟨t13, I13, J13, P13, n13, sl13, rfl, g13, r513, hn13a, hn13b, hs13a, hs13b, hm13⟩
    have gg13 := gg12.trans (g13.weak (s' := False) (fun _ => trivial))
    cases hr13 : psM z f b12 with
    | inl e =>
      rw [hr13] at hm13
      obtain ⟨rfl, he⟩ := hm13
      refine ⟨by decide, Or.inl ⟨rfl, t13, I13, J13, P13, n13, sl13, rfl, gg13, by omega, by omega, by omega, by omega, ?_⟩⟩
      rw [show psL z f np 2 (tE z f p) = .inl e by simp only [psL, hr11, hr12, hr13]]
      exact ⟨rfl, he⟩
    | inr b13 =>
    rw [hr13] at hm13
    obtain ⟨v13, q13⟩ := b13
    obtain ⟨rfl, hR13⟩ := hm13
    have hS13 := gg13.sh hS
    have hC13 := hC.gr gg13
    have hT13 := gg13.2.2.2.2.2.2
    have hn13 : 144 ≤ n13 := by omega
    have hok13 := psM_ok hp12 hr13
    have hp13 : q13 ≤ z := hok13.2
    have hv13 := hok13.1
    have hR13 : HRd t13 I13 P13 z f q13 := hR13
    show RA _ _ _ _ _ [.int (nI v13)] _ _
    refine x_istore d2_line_228 ?_
    refine x_aload_n d2_line_230 rfl ?_
    refine x_ldcS (k := 9) d2_line_231 (List.mem_of_getElem? (i := 8) rfl) ?_
    refine x_invV 102 1 d2_line_233 (hS13.T rfl) v2_123_2 (h_must _ hS13 hC13 hT13 hn13 hR13 hp13 (hC13 (9, kw_to) (List.mem_of_getElem? (i := 8) rfl)) (by decide) (by omega) (by omega)) ?_ (hB := by show n13 ≤ 601124; omega) (hS := by show sl13 ≤ 7293033; omega)
    rintro o h' ⟨t14, I14, J14, P14, n14, sl14, rfl, g14, r514, hn14a, hn14b, hs14a, hs14b, hm14⟩
    have gg14 := gg13.trans (g14.weak (s' := False) (fun _ => trivial))
    cases hr14 : psW z f kw_to q13 with
    | inl e =>
      rw [hr14] at hm14
      obtain ⟨rfl, he⟩ := hm14
      refine ⟨by decide, Or.inl ⟨rfl, t14, I14, J14, P14, n14, sl14, rfl, gg14, by omega, by omega, by omega, by omega, ?_⟩⟩
      rw [show psL z f np 2 (tE z f p) = .inl e by simp only [psL, hr11, hr12, hr13, hr14]]
      exact ⟨rfl, he⟩
    | inr b14 =>
    rw [hr14] at hm14
    obtain ⟨rfl, hR14⟩ := hm14
    have hS14 := gg14.sh hS
    have hC14 := hC.gr gg14
    have hT14 := gg14.2.2.2.2.2.2
    have hn14 : 144 ≤ n14 := by omega
    have hok14 := psW_ok hp13 hr14
    have hp14 : b14 ≤ z := hok14
    have hR14 : HRd t14 I14 P14 z f b14 := hR14
    show RA _ _ _ _ _ [] _ _
    refine x_newE d2_line_236 n2_140 (by omega) (by omega) (fun t15 I15 J15 P15 ht15 hI15 hJ15 hP15 => ?_)
    have gw15 := (Gw.rf (I := I14) (J := J14) (P := P14) hT14).new ht15 hI15 hJ15 hP15
    have gg15 := gg14.trans (gw15.gr (s := False) hT14 hn14)
    have hS15 := gg15.sh hS
    have hC15 := hC.gr gg15
    have hT15 := gg15.2.2.2.2.2.2
    have hn15 : 144 ≤ n14 + 1 := by omega
    have hR15 := hR14.gw gw15 hT14 hn14
    have hto15 : t15 n14 = some (11, 0) := by rw [ht15, p1_self]
    refine x_dup d2_line_239 rfl ?_
    refine x_iload d2_line_240 rfl ?_
    refine x_iload d2_line_242 rfl ?_
    refine x_aload_n d2_line_244 rfl ?_
    refine x_invV 102 0 d2_line_245 (hS15.T rfl) v2_129_2 (h_name _ hS15 hC15 hT15 hn15 hR15 hp14 (by omega) (by omega)) ?_ (hB := by show n14 + 1 ≤ 601124; omega) (hS := by show (sl14 + 4) ≤ 7293033; omega)
    rintro o h' ⟨t16, I16, J16, P16, n16, sl16, rfl, g16, r516, hn16a, hn16b, hs16a, hs16b, hm16⟩
    have gg16 := gg15.trans (g16.weak (s' := False) (fun _ => trivial))
    cases hr16 : psM z f b14 with
    | inl e =>
      rw [hr16] at hm16
      obtain ⟨rfl, he⟩ := hm16
      refine ⟨by decide, Or.inl ⟨rfl, t16, I16, J16, P16, n16, sl16, rfl, gg16, by omega, by omega, by omega, by omega, ?_⟩⟩
      rw [show psL z f np 2 (tE z f p) = .inl e by simp only [psL, hr11, hr12, hr13, hr14, hr16]]
      exact ⟨rfl, he⟩
    | inr b16 =>
    rw [hr16] at hm16
    obtain ⟨v16, q16⟩ := b16
    obtain ⟨rfl, hR16⟩ := hm16
    have hS16 := gg16.sh hS
    have hC16 := hC.gr gg16
    have hT16 := gg16.2.2.2.2.2.2
    have hn16 : 144 ≤ n16 := by omega
    have hok16 := psM_ok hp14 hr16
    have hp16 : q16 ≤ z := hok16.2
    have hv16 := hok16.1
    have hR16 : HRd t16 I16 P16 z f q16 := hR16
    have hto16 : t16 n14 = some (11, 0) := g16.1 _ _ hto15
    show RA _ _ _ _ _ [.int (nI v16), .int (nI v13), .int (nI v11), .ref n14, .ref n14] _ _
    refine x_invI n14 3 d2_line_248 (by omega) i2_142 (h_i11 _ (nu := v11) (fs := v13) (sc := v16) hto16 (by omega) (by omega) (by omega)) ?_ (hB := by show n16 ≤ 601124; omega) (hS := by show sl16 ≤ 7293033; omega)
    rintro o h' ⟨rfl, I9, rfl, q, q3⟩
    have gF := gg16.fr hT hn (show n ≤ n14 by omega) q.1
    have hRF := hR16.ln hto16 ⟨by decide, by decide⟩ (by omega) q.1
    show RA _ _ _ _ _ [Value.ref n14] _ _
    refine x_areturn d2_line_251 ?_
    refine ⟨t16, I9, J16, P16, n16, sl16, rfl, gF, by omega, by omega, by omega, by omega, ?_⟩
    rw [show psL z f np 2 (tE z f p) = .inr ((2, v11, v13, v16, fun _ => 0), q16) by simp only [psL, hr11, hr12, hr13, hr14, hr16]]
    exact ⟨⟨n14, by omega, rfl, by omega, hto16, q.2.1, q.2.2.1, q.2.2.2, fun _ => q3, fun e => absurd e (by show ¬ (2 : Nat) = 1; decide)⟩, hRF⟩
  · refine x_aload_n d2_line_0 rfl ?_
    refine x_getP d2_line_1 f2_61 (hS.T rfl) hw1 ?_
    refine x_astore_n d2_line_4 ?_
    refine x_aload_n d2_line_5 rfl ?_
    refine x_invV 102 0 d2_line_6 (hS.T rfl) v2_71_2 (h_rnext _ hS hT hn hR.x hR.e hE.2 (by omega) (by omega)) ?_ (hB := by show n ≤ 601124; omega) (hS := by show sl ≤ 7293033; omega)
    rintro o h' ⟨rfl, t1, I1, J1, P1, n1, sl1, rfl, g1, hR1, r51, hn1a, hn1b, hs1a, hs1b⟩
    have gg1 := g1.weak (s' := False) (fun _ => trivial)
    have hS1 := gg1.sh hS
    have hC1 := hC.gr gg1
    have hT1 := gg1.2.2.2.2.2.2
    have hn1 : 144 ≤ n1 := by omega
    have hwA := hw2.gr g1 hw3 hS
    have hwK : HsK I1 w (hsV (tW z f p) (tL z f p)) := by unfold HsK; rw [g1.2.1 _ _ hw2.1 (fun _ => trivial) (by omega)]; exact hw4
    show RA _ _ _ _ _ [] _ _
    refine x_aload_n d2_line_9 rfl ?_
    refine x_astore_n d2_line_10 ?_
    refine x_iconst (v := -1) d2_line_11 (by decide) ?_
    refine x_istore d2_line_12 ?_
    refine x_aload_n d2_line_14 rfl ?_
    refine x_invV w 0 d2_line_15 hwA.1 v2_93_15 (j_hash hwA (by omega) hwv hwK (by omega) (by omega)) ?_ (hB := by show n1 ≤ 601124; omega) (hS := by show sl1 ≤ 7293033; omega)
    rintro o h' ⟨rfl, I2, rfl, hq1, hq2, hq3⟩
    have gg2 := gg1.trans (GR.hash (J := J1) (P := P1) hT1 hwA.1 hw3 hq1)
    have hR2 : HRd t1 I2 P1 z f (tE z f p) := hR1.hash hwA hw3 hq1 hq2 hq3
    have hwB := hwA.hash hwA.1 hq1 hq2
    have hC2 := hC.gr gg2
    refine x_top (congrArg Value.int ((hsV_cg hk.2).trans hs_put)) ?_
    show RA _ _ _ _ _ [Value.int 111375] _ _
    refine x_lookup (off := 95) 113 d2_line_18 (by decide) (by decide) (by decide) ?_
    refine x_aload_n d2_line_113 rfl ?_
    refine x_ldcS (k := 6) d2_line_114 (List.mem_of_getElem? (i := 5) rfl) ?_
    refine x_invV w 1 d2_line_116 hwB.1 v2_74_15 (j_equals hwB (hC2 (6, kw_put) (List.mem_of_getElem? (i := 5) rfl)) (by omega) (by show w ≠ 6; omega) (by omega) (by omega)) (Cont.p ?_) (hB := by show n1 ≤ 601124; omega) (hS := by show sl1 ≤ 7293033; omega)
    have hbl := bP_lt (StrEq (tL z f p) kw_put.length (tW z f p) (lt_ kw_put))
    show RA _ _ _ _ _ [Value.int (nI (bP (StrEq (tL z f p) kw_put.length (tW z f p) (lt_ kw_put))))] _ _
    refine x_if_eqN 140 d2_line_119 (by decide) (by omega) (fun b119 => absurd b119 (by rw [bP_t hk.2]; decide)) (fun b119 => ?_)
    refine x_iconst (v := nI 3) d2_line_122 (by decide) ?_
    refine x_istore d2_line_123 ?_
    refine x_goto 140 d2_line_125 (by decide) ?_
    refine x_iload d2_line_140 rfl ?_
    refine x_tableIn (off := 110) 252 d2_line_142 (by decide) (by decide) (by decide) (by decide) ?_
    refine x_aload_n d2_line_252 rfl ?_
    refine x_invV 102 0 d2_line_253 (hS1.T rfl) v2_129_2 (h_name _ hS1 hC2 hT1 hn1 hR2 hE.2 (by omega) (by omega)) ?_ (hB := by show n1 ≤ 601124; omega) (hS := by show sl1 ≤ 7293033; omega)
    rintro o h' ⟨t11, I11, J11, P11, n11, sl11, rfl, g11, r511, hn11a, hn11b, hs11a, hs11b, hm11⟩
    have gg11 := gg2.trans (g11.weak (s' := False) (fun _ => trivial))
    cases hr11 : psM z f (tE z f p) with
    | inl e =>
      rw [hr11] at hm11
      obtain ⟨rfl, he⟩ := hm11
      refine ⟨by decide, Or.inl ⟨rfl, t11, I11, J11, P11, n11, sl11, rfl, gg11, by omega, by omega, by omega, by omega, ?_⟩⟩
      rw [show psL z f np 3 (tE z f p) = .inl e by simp only [psL, hr11]]
      exact ⟨rfl, he⟩
    | inr b11 =>
    rw [hr11] at hm11
    obtain ⟨v11, q11⟩ := b11
    obtain ⟨rfl, hR11⟩ := hm11
    have hS11 := gg11.sh hS
    have hC11 := hC.gr gg11
    have hT11 := gg11.2.2.2.2.2.2
    have hn11 : 144 ≤ n11 := by omega
    have hok11 := psM_ok hE.2 hr11
    have hp11 : q11 ≤ z := hok11.2
    have hv11 := hok11.1
    have hR11 : HRd t11 I11 P11 z f q11 := hR11
    show RA _ _ _ _ _ [.int (nI v11)] _ _
    refine x_istore d2_line_256 ?_
    refine x_aload_n d2_line_258 rfl ?_
    refine x_ldcS (k := 12) d2_line_259 (List.mem_of_getElem? (i := 11) rfl) ?_
    refine x_invV 102 1 d2_line_261 (hS11.T rfl) v2_123_2 (h_must _ hS11 hC11 hT11 hn11 hR11 hp11 (hC11 (12, kw_by) (List.mem_of_getElem? (i := 11) rfl)) (by decide) (by omega) (by omega)) ?_ (hB := by show n11 ≤ 601124; omega) (hS := by show sl11 ≤ 7293033; omega)
    rintro o h' ⟨t12, I12, J12, P12, n12, sl12, rfl, g12, r512, hn12a, hn12b, hs12a, hs12b, hm12⟩
    have gg12 := gg11.trans (g12.weak (s' := False) (fun _ => trivial))
    cases hr12 : psW z f kw_by q11 with
    | inl e =>
      rw [hr12] at hm12
      obtain ⟨rfl, he⟩ := hm12
      refine ⟨by decide, Or.inl ⟨rfl, t12, I12, J12, P12, n12, sl12, rfl, gg12, by omega, by omega, by omega, by omega, ?_⟩⟩
      rw [show psL z f np 3 (tE z f p) = .inl e by simp only [psL, hr11, hr12]]
      exact ⟨rfl, he⟩
    | inr b12 =>
    rw [hr12] at hm12
    obtain ⟨rfl, hR12⟩ := hm12
    have hS12 := gg12.sh hS
    have hC12 := hC.gr gg12
    have hT12 := gg12.2.2.2.2.2.2
    have hn12 : 144 ≤ n12 := by omega
    have hok12 := psW_ok hp11 hr12
    have hp12 : b12 ≤ z := hok12
    have hR12 : HRd t12 I12 P12 z f b12 := hR12
    show RA _ _ _ _ _ [] _ _
    refine x_newE d2_line_264 n2_147 (by omega) (by omega) (fun t13 I13 J13 P13 ht13 hI13 hJ13 hP13 => ?_)
    have gw13 := (Gw.rf (I := I12) (J := J12) (P := P12) hT12).new ht13 hI13 hJ13 hP13
    have gg13 := gg12.trans (gw13.gr (s := False) hT12 hn12)
    have hS13 := gg13.sh hS
    have hC13 := hC.gr gg13
    have hT13 := gg13.2.2.2.2.2.2
    have hn13 : 144 ≤ n12 + 1 := by omega
    have hR13 := hR12.gw gw13 hT12 hn12
    have hto13 : t13 n12 = some (12, 0) := by rw [ht13, p1_self]
    refine x_dup d2_line_267 rfl ?_
    refine x_iload d2_line_268 rfl ?_
    refine x_aload_n d2_line_270 rfl ?_
    refine x_bipush (v := nI 15) d2_line_271 (by decide) ?_
    refine x_invV 102 1 d2_line_273 (hS13.T rfl) v2_119_2 (h_whole _ hS13 hC13 hT13 hn13 hR13 hp12 (m := 15) (by decide) (by omega) (by omega)) ?_ (hB := by show n12 + 1 ≤ 601124; omega) (hS := by show (sl12 + 3) ≤ 7293033; omega)
    rintro o h' ⟨t14, I14, J14, P14, n14, sl14, rfl, g14, r514, hn14a, hn14b, hs14a, hs14b, hm14⟩
    have gg14 := gg13.trans (g14.weak (s' := False) (fun _ => trivial))
    cases hr14 : psV z f (15 + 1) b12 with
    | inl e =>
      rw [hr14] at hm14
      obtain ⟨rfl, he⟩ := hm14
      refine ⟨by decide, Or.inl ⟨rfl, t14, I14, J14, P14, n14, sl14, rfl, gg14, by omega, by omega, by omega, by omega, ?_⟩⟩
      rw [show psL z f np 3 (tE z f p) = .inl e by simp only [psL, hr11, hr12, hr14]]
      exact ⟨rfl, he⟩
    | inr b14 =>
    rw [hr14] at hm14
    obtain ⟨v14, q14⟩ := b14
    obtain ⟨rfl, hR14⟩ := hm14
    have hS14 := gg14.sh hS
    have hC14 := hC.gr gg14
    have hT14 := gg14.2.2.2.2.2.2
    have hn14 : 144 ≤ n14 := by omega
    have hok14 := psV_ok hp12 hr14
    have hp14 : q14 ≤ z := hok14.2
    have hv14 := hok14.1
    have hR14 : HRd t14 I14 P14 z f q14 := hR14
    have hto14 : t14 n12 = some (12, 0) := g14.1 _ _ hto13
    show RA _ _ _ _ _ [.int (nI v14), .int (nI v11), .ref n12, .ref n12] _ _
    refine x_invI n12 2 d2_line_276 (by omega) i2_149 (h_i12 _ (fs := v11) (nu := v14) hto14 (by omega) (by omega) (by omega)) ?_ (hB := by show n14 ≤ 601124; omega) (hS := by show sl14 ≤ 7293033; omega)
    rintro o h' ⟨rfl, I9, rfl, q⟩
    have gF := gg14.fr hT hn (show n ≤ n12 by omega) q.1
    have hRF := hR14.ln hto14 ⟨by decide, by decide⟩ (by omega) q.1
    show RA _ _ _ _ _ [Value.ref n12] _ _
    refine x_areturn d2_line_279 ?_
    refine ⟨t14, I9, J14, P14, n14, sl14, rfl, gF, by omega, by omega, by omega, by omega, ?_⟩
    rw [show psL z f np 3 (tE z f p) = .inr ((3, v14, v11, 0, fun _ => 0), q14) by simp only [psL, hr11, hr12, hr14]]
    exact ⟨⟨n12, by omega, rfl, by omega, hto14, q.2.1, q.2.2.1, q.2.2.2, fun e => absurd e (by show ¬ (3 : Nat) = 2; decide), fun e => absurd e (by show ¬ (3 : Nat) = 1; decide)⟩, hRF⟩
  · refine x_aload_n d2_line_0 rfl ?_
    refine x_getP d2_line_1 f2_61 (hS.T rfl) hw1 ?_
    refine x_astore_n d2_line_4 ?_
    refine x_aload_n d2_line_5 rfl ?_
    refine x_invV 102 0 d2_line_6 (hS.T rfl) v2_71_2 (h_rnext _ hS hT hn hR.x hR.e hE.2 (by omega) (by omega)) ?_ (hB := by show n ≤ 601124; omega) (hS := by show sl ≤ 7293033; omega)
    rintro o h' ⟨rfl, t1, I1, J1, P1, n1, sl1, rfl, g1, hR1, r51, hn1a, hn1b, hs1a, hs1b⟩
    have gg1 := g1.weak (s' := False) (fun _ => trivial)
    have hS1 := gg1.sh hS
    have hC1 := hC.gr gg1
    have hT1 := gg1.2.2.2.2.2.2
    have hn1 : 144 ≤ n1 := by omega
    have hwA := hw2.gr g1 hw3 hS
    have hwK : HsK I1 w (hsV (tW z f p) (tL z f p)) := by unfold HsK; rw [g1.2.1 _ _ hw2.1 (fun _ => trivial) (by omega)]; exact hw4
    show RA _ _ _ _ _ [] _ _
    refine x_aload_n d2_line_9 rfl ?_
    refine x_astore_n d2_line_10 ?_
    refine x_iconst (v := -1) d2_line_11 (by decide) ?_
    refine x_istore d2_line_12 ?_
    refine x_aload_n d2_line_14 rfl ?_
    refine x_invV w 0 d2_line_15 hwA.1 v2_93_15 (j_hash hwA (by omega) hwv hwK (by omega) (by omega)) ?_ (hB := by show n1 ≤ 601124; omega) (hS := by show sl1 ≤ 7293033; omega)
    rintro o h' ⟨rfl, I2, rfl, hq1, hq2, hq3⟩
    have gg2 := gg1.trans (GR.hash (J := J1) (P := P1) hT1 hwA.1 hw3 hq1)
    have hR2 : HRd t1 I2 P1 z f (tE z f p) := hR1.hash hwA hw3 hq1 hq2 hq3
    have hwB := hwA.hash hwA.1 hq1 hq2
    have hC2 := hC.gr gg2
    refine x_top (congrArg Value.int ((hsV_cg hk.2).trans hs_wash)) ?_
    show RA _ _ _ _ _ [Value.int 3642015] _ _
    refine x_lookup (off := 110) 128 d2_line_18 (by decide) (by decide) (by decide) ?_
    refine x_aload_n d2_line_128 rfl ?_
    refine x_ldcS (k := 7) d2_line_129 (List.mem_of_getElem? (i := 6) rfl) ?_
    refine x_invV w 1 d2_line_131 hwB.1 v2_74_15 (j_equals hwB (hC2 (7, kw_wash) (List.mem_of_getElem? (i := 6) rfl)) (by omega) (by show w ≠ 7; omega) (by omega) (by omega)) (Cont.p ?_) (hB := by show n1 ≤ 601124; omega) (hS := by show sl1 ≤ 7293033; omega)
    have hbl := bP_lt (StrEq (tL z f p) kw_wash.length (tW z f p) (lt_ kw_wash))
    show RA _ _ _ _ _ [Value.int (nI (bP (StrEq (tL z f p) kw_wash.length (tW z f p) (lt_ kw_wash))))] _ _
    refine x_if_eqN 140 d2_line_134 (by decide) (by omega) (fun b134 => absurd b134 (by rw [bP_t hk.2]; decide)) (fun b134 => ?_)
    refine x_iconst (v := nI 4) d2_line_137 (by decide) ?_
    refine x_istore d2_line_138 ?_
    refine x_iload d2_line_140 rfl ?_
    refine x_tableIn (off := 138) 280 d2_line_142 (by decide) (by decide) (by decide) (by decide) ?_
    refine x_aload_n d2_line_280 rfl ?_
    refine x_invV 102 0 d2_line_281 (hS1.T rfl) v2_129_2 (h_name _ hS1 hC2 hT1 hn1 hR2 hE.2 (by omega) (by omega)) ?_ (hB := by show n1 ≤ 601124; omega) (hS := by show sl1 ≤ 7293033; omega)
    rintro o h' ⟨t11, I11, J11, P11, n11, sl11, rfl, g11, r511, hn11a, hn11b, hs11a, hs11b, hm11⟩
    have gg11 := gg2.trans (g11.weak (s' := False) (fun _ => trivial))
    cases hr11 : psM z f (tE z f p) with
    | inl e =>
      rw [hr11] at hm11
      obtain ⟨rfl, he⟩ := hm11
      refine ⟨by decide, Or.inl ⟨rfl, t11, I11, J11, P11, n11, sl11, rfl, gg11, by omega, by omega, by omega, by omega, ?_⟩⟩
      rw [show psL z f np 4 (tE z f p) = .inl e by simp only [psL, hr11]]
      exact ⟨rfl, he⟩
    | inr b11 =>
    rw [hr11] at hm11
    obtain ⟨v11, q11⟩ := b11
    obtain ⟨rfl, hR11⟩ := hm11
    have hS11 := gg11.sh hS
    have hC11 := hC.gr gg11
    have hT11 := gg11.2.2.2.2.2.2
    have hn11 : 144 ≤ n11 := by omega
    have hok11 := psM_ok hE.2 hr11
    have hp11 : q11 ≤ z := hok11.2
    have hv11 := hok11.1
    have hR11 : HRd t11 I11 P11 z f q11 := hR11
    show RA _ _ _ _ _ [.int (nI v11)] _ _
    refine x_istore d2_line_284 ?_
    refine x_aload_n d2_line_286 rfl ?_
    refine x_ldcS (k := 13) d2_line_287 (List.mem_of_getElem? (i := 12) rfl) ?_
    refine x_invV 102 1 d2_line_289 (hS11.T rfl) v2_123_2 (h_must _ hS11 hC11 hT11 hn11 hR11 hp11 (hC11 (13, kw_of) (List.mem_of_getElem? (i := 12) rfl)) (by decide) (by omega) (by omega)) ?_ (hB := by show n11 ≤ 601124; omega) (hS := by show sl11 ≤ 7293033; omega)
    rintro o h' ⟨t12, I12, J12, P12, n12, sl12, rfl, g12, r512, hn12a, hn12b, hs12a, hs12b, hm12⟩
    have gg12 := gg11.trans (g12.weak (s' := False) (fun _ => trivial))
    cases hr12 : psW z f kw_of q11 with
    | inl e =>
      rw [hr12] at hm12
      obtain ⟨rfl, he⟩ := hm12
      refine ⟨by decide, Or.inl ⟨rfl, t12, I12, J12, P12, n12, sl12, rfl, gg12, by omega, by omega, by omega, by omega, ?_⟩⟩
      rw [show psL z f np 4 (tE z f p) = .inl e by simp only [psL, hr11, hr12]]
      exact ⟨rfl, he⟩
    | inr b12 =>
    rw [hr12] at hm12
    obtain ⟨rfl, hR12⟩ := hm12
    have hS12 := gg12.sh hS
    have hC12 := hC.gr gg12
    have hT12 := gg12.2.2.2.2.2.2
    have hn12 : 144 ≤ n12 := by omega
    have hok12 := psW_ok hp11 hr12
    have hp12 : b12 ≤ z := hok12
    have hR12 : HRd t12 I12 P12 z f b12 := hR12
    show RA _ _ _ _ _ [] _ _
    refine x_newE d2_line_292 n2_152 (by omega) (by omega) (fun t13 I13 J13 P13 ht13 hI13 hJ13 hP13 => ?_)
    have gw13 := (Gw.rf (I := I12) (J := J12) (P := P12) hT12).new ht13 hI13 hJ13 hP13
    have gg13 := gg12.trans (gw13.gr (s := False) hT12 hn12)
    have hS13 := gg13.sh hS
    have hC13 := hC.gr gg13
    have hT13 := gg13.2.2.2.2.2.2
    have hn13 : 144 ≤ n12 + 1 := by omega
    have hR13 := hR12.gw gw13 hT12 hn12
    have hto13 : t13 n12 = some (13, 0) := by rw [ht13, p1_self]
    refine x_dup d2_line_295 rfl ?_
    refine x_iload d2_line_296 rfl ?_
    refine x_aload_n d2_line_298 rfl ?_
    refine x_bipush (v := nI 15) d2_line_299 (by decide) ?_
    refine x_invV 102 1 d2_line_301 (hS13.T rfl) v2_119_2 (h_whole _ hS13 hC13 hT13 hn13 hR13 hp12 (m := 15) (by decide) (by omega) (by omega)) ?_ (hB := by show n12 + 1 ≤ 601124; omega) (hS := by show (sl12 + 3) ≤ 7293033; omega)
    rintro o h' ⟨t14, I14, J14, P14, n14, sl14, rfl, g14, r514, hn14a, hn14b, hs14a, hs14b, hm14⟩
    have gg14 := gg13.trans (g14.weak (s' := False) (fun _ => trivial))
    cases hr14 : psV z f (15 + 1) b12 with
    | inl e =>
      rw [hr14] at hm14
      obtain ⟨rfl, he⟩ := hm14
      refine ⟨by decide, Or.inl ⟨rfl, t14, I14, J14, P14, n14, sl14, rfl, gg14, by omega, by omega, by omega, by omega, ?_⟩⟩
      rw [show psL z f np 4 (tE z f p) = .inl e by simp only [psL, hr11, hr12, hr14]]
      exact ⟨rfl, he⟩
    | inr b14 =>
    rw [hr14] at hm14
    obtain ⟨v14, q14⟩ := b14
    obtain ⟨rfl, hR14⟩ := hm14
    have hS14 := gg14.sh hS
    have hC14 := hC.gr gg14
    have hT14 := gg14.2.2.2.2.2.2
    have hn14 : 144 ≤ n14 := by omega
    have hok14 := psV_ok hp12 hr14
    have hp14 : q14 ≤ z := hok14.2
    have hv14 := hok14.1
    have hR14 : HRd t14 I14 P14 z f q14 := hR14
    have hto14 : t14 n12 = some (13, 0) := g14.1 _ _ hto13
    show RA _ _ _ _ _ [.int (nI v14), .int (nI v11), .ref n12, .ref n12] _ _
    refine x_invI n12 2 d2_line_304 (by omega) i2_154 (h_i13 _ (fs := v11) (nu := v14) hto14 (by omega) (by omega) (by omega)) ?_ (hB := by show n14 ≤ 601124; omega) (hS := by show sl14 ≤ 7293033; omega)
    rintro o h' ⟨rfl, I9, rfl, q⟩
    have gF := gg14.fr hT hn (show n ≤ n12 by omega) q.1
    have hRF := hR14.ln hto14 ⟨by decide, by decide⟩ (by omega) q.1
    show RA _ _ _ _ _ [Value.ref n12] _ _
    refine x_areturn d2_line_307 ?_
    refine ⟨t14, I9, J14, P14, n14, sl14, rfl, gF, by omega, by omega, by omega, by omega, ?_⟩
    rw [show psL z f np 4 (tE z f p) = .inr ((4, v14, v11, 0, fun _ => 0), q14) by simp only [psL, hr11, hr12, hr14]]
    exact ⟨⟨n12, by omega, rfl, by omega, hto14, q.2.1, q.2.2.1, q.2.2.2, fun e => absurd e (by show ¬ (4 : Nat) = 2; decide), fun e => absurd e (by show ¬ (4 : Nat) = 1; decide)⟩, hRF⟩
  · refine x_aload_n d2_line_0 rfl ?_
    refine x_getP d2_line_1 f2_61 (hS.T rfl) hw1 ?_
    refine x_astore_n d2_line_4 ?_
    refine x_aload_n d2_line_5 rfl ?_
    refine x_invV 102 0 d2_line_6 (hS.T rfl) v2_71_2 (h_rnext _ hS hT hn hR.x hR.e hE.2 (by omega) (by omega)) ?_ (hB := by show n ≤ 601124; omega) (hS := by show sl ≤ 7293033; omega)
    rintro o h' ⟨rfl, t1, I1, J1, P1, n1, sl1, rfl, g1, hR1, r51, hn1a, hn1b, hs1a, hs1b⟩
    have gg1 := g1.weak (s' := False) (fun _ => trivial)
    have hS1 := gg1.sh hS
    have hC1 := hC.gr gg1
    have hT1 := gg1.2.2.2.2.2.2
    have hn1 : 144 ≤ n1 := by omega
    have hwA := hw2.gr g1 hw3 hS
    have hwK : HsK I1 w (hsV (tW z f p) (tL z f p)) := by unfold HsK; rw [g1.2.1 _ _ hw2.1 (fun _ => trivial) (by omega)]; exact hw4
    show RA _ _ _ _ _ [] _ _
    refine x_aload_n d2_line_9 rfl ?_
    refine x_astore_n d2_line_10 ?_
    refine x_iconst (v := -1) d2_line_11 (by decide) ?_
    refine x_istore d2_line_12 ?_
    refine x_aload_n d2_line_14 rfl ?_
    refine x_invV w 0 d2_line_15 hwA.1 v2_93_15 (j_hash hwA (by omega) hwv hwK (by omega) (by omega)) ?_ (hB := by show n1 ≤ 601124; omega) (hS := by show sl1 ≤ 7293033; omega)
    rintro o h' ⟨rfl, I2, rfl, hq1, hq2, hq3⟩
    have gg2 := gg1.trans (GR.hash (J := J1) (P := P1) hT1 hwA.1 hw3 hq1)
    have hR2 : HRd t1 I2 P1 z f (tE z f p) := hR1.hash hwA hw3 hq1 hq2 hq3
    have hwB := hwA.hash hwA.1 hq1 hq2
    have hC2 := hC.gr gg2
    refine x_top (congrArg Value.int ((hsV_cg hk.2).trans hs_result)) ?_
    show RA _ _ _ _ _ [Value.int (-934426595)] _ _
    refine x_lookup (off := 122) 140 d2_line_18 (by decide) (by decide) (by decide) ?_
    refine x_iload d2_line_140 rfl ?_
    refine x_tableOut 308 d2_line_142 (by decide) (by decide) ?_
    refine x_newE d2_line_308 n2_155 (by omega) (by omega) (fun t11 I11 J11 P11 ht11 hI11 hJ11 hP11 => ?_)
    have gw11 := (Gw.rf (I := I2) (J := J1) (P := P1) hT1).new ht11 hI11 hJ11 hP11
    have gg11 := gg2.trans (gw11.gr (s := False) hT1 hn1)
    have hS11 := gg11.sh hS
    have hC11 := hC.gr gg11
    have hT11 := gg11.2.2.2.2.2.2
    have hn11 : 144 ≤ n1 + 1 := by omega
    have hR11 := hR2.gw gw11 hT1 hn1
    have hto11 : t11 n1 = some (14, 0) := by rw [ht11, p1_self]
    refine x_dup d2_line_311 rfl ?_
    refine x_aload_n d2_line_312 rfl ?_
    refine x_invV 102 0 d2_line_313 (hS11.T rfl) v2_129_2 (h_name _ hS11 hC11 hT11 hn11 hR11 hE.2 (by omega) (by omega)) ?_ (hB := by show n1 + 1 ≤ 601124; omega) (hS := by show (sl1 + 3) ≤ 7293033; omega)
    rintro o h' ⟨t12, I12, J12, P12, n12, sl12, rfl, g12, r512, hn12a, hn12b, hs12a, hs12b, hm12⟩
    have gg12 := gg11.trans (g12.weak (s' := False) (fun _ => trivial))
    cases hr12 : psM z f (tE z f p) with
    | inl e =>
      rw [hr12] at hm12
      obtain ⟨rfl, he⟩ := hm12
      refine ⟨by decide, Or.inl ⟨rfl, t12, I12, J12, P12, n12, sl12, rfl, gg12, by omega, by omega, by omega, by omega, ?_⟩⟩
      rw [show psL z f np 5 (tE z f p) = .inl e by simp only [psL, hr12]]
      exact ⟨rfl, he⟩
    | inr b12 =>
    rw [hr12] at hm12
    obtain ⟨v12, q12⟩ := b12
    obtain ⟨rfl, hR12⟩ := hm12
    have hS12 := gg12.sh hS
    have hC12 := hC.gr gg12
    have hT12 := gg12.2.2.2.2.2.2
    have hn12 : 144 ≤ n12 := by omega
    have hok12 := psM_ok hE.2 hr12
    have hp12 : q12 ≤ z := hok12.2
    have hv12 := hok12.1
    have hR12 : HRd t12 I12 P12 z f q12 := hR12
    have hto12 : t12 n1 = some (14, 0) := g12.1 _ _ hto11
    show RA _ _ _ _ _ [.int (nI v12), .ref n1, .ref n1] _ _
    refine x_invI n1 1 d2_line_316 (by omega) i2_157 (h_i14 _ (fs := v12) hto12 (by omega) (by omega) (by omega)) ?_ (hB := by show n12 ≤ 601124; omega) (hS := by show sl12 ≤ 7293033; omega)
    rintro o h' ⟨rfl, I9, rfl, q⟩
    have gF := gg12.fr hT hn (show n ≤ n1 by omega) q.1
    have hRF := hR12.ln hto12 ⟨by decide, by decide⟩ (by omega) q.1
    show RA _ _ _ _ _ [Value.ref n1] _ _
    refine x_areturn d2_line_319 ?_
    refine ⟨t12, I9, J12, P12, n12, sl12, rfl, gF, by omega, by omega, by omega, by omega, ?_⟩
    rw [show psL z f np 5 (tE z f p) = .inr ((5, 0, v12, 0, fun _ => 0), q12) by simp only [psL, hr12]]
    exact ⟨⟨n1, by omega, rfl, by omega, hto12, q.2.1, q.2.2.1, q.2.2.2, fun e => absurd e (by show ¬ (5 : Nat) = 2; decide), fun e => absurd e (by show ¬ (5 : Nat) = 1; decide)⟩, hRF⟩

