/-! the house: its reader goes to the next token -/
set_option maxRecDepth 100000
set_option maxHeartbeats 4000000 in
theorem h_see {G : GG} (d : Nat) {t : Nat → Option (Nat × Nat)} {J : Nat → Nat → Int64} {P : Nat → Nat → Value} {n sl : Nat} {I : Nat → Nat → Int32} (hS : SH t P) {z k : Nat} {f : Nat → Nat} (hX : HdX I z f) (hk : k < 2 ^ 31) : CP G d M2_see [.ref 102, .int (nI k)] (t, I, J, P, n, sl) (.int (seeV z f k)) := by
  refine CA.w ?_
  show RA _ _ M2_see 0 [.ref 102, .int (nI k)] [] _ _
  have hz3 := hX.2.2
  refine x_iload_n d2_see_0 rfl ?_
  refine x_aload_n d2_see_1 rfl ?_
  refine x_getI d2_see_2 f2_37 (hS.T rfl) ?_
  refine x_top (congrArg Value.int (show I 102 4 = nI z from hX.1)) ?_
  refine x_icmp_geN 21 d2_see_5 (by decide) (by omega) (by omega) (fun b5 => ?_) (fun b5 => ?_)
  · refine x_iconst (v := -1) d2_see_21 (by decide) ?_
    exact x_ireturn d2_see_22 ⟨by rw [seeV_f (by omega)], rfl⟩
  · refine x_aload_n d2_see_8 rfl ?_
    refine x_getP d2_see_9 f2_26 (hS.T rfl) (hS.P rfl) ?_
    refine x_iload_n d2_see_12 rfl ?_
    refine x_baldN d2_see_13 (hS.T rfl) (by omega) ?_
    refine x_sipush (v := nI 255) d2_see_14 (by decide) ?_
    refine x_iand d2_see_17 ?_
    refine x_goto 22 d2_see_18 (by decide) ?_
    exact x_ireturn d2_see_22 ⟨by rw [seeV_t b5, ← hX.2.1 k b5, ← (btN_lt (I 101 k)).2]; rfl, rfl⟩
theorem h_rSmall {G : GG} (d : Nat) {h : AH} {z k : Nat} {f : Nat → Nat} (hf : k < z → f k < 256) : CP G d M2_isSmall [.int (seeV z f k)] h (.int (nI (bP (Ltr z f k)))) := by
  by_cases hz : k < z
  · rw [seeV_t hz]
    have hfk := hf hz
    refine CA.w ?_
    show RA _ _ M2_isSmall 0 [.int (nI (f k))] [] _ _
    refine x_iload_n d2_isSmall_0 rfl ?_
    refine x_bipush (v := nI 97) d2_isSmall_1 (by decide) ?_
    refine x_icmp_ltN 16 d2_isSmall_3 (by decide) (by omega) (by omega) (fun b3 => ?_) (fun b3 => ?_)
    · refine x_iconst (v := nI 0) d2_isSmall_16 (by decide) ?_
      exact x_ireturn d2_isSmall_17 ⟨by rw [bP_f (fun q => by have := q.2.1; omega)], rfl⟩
    · refine x_iload_n d2_isSmall_6 rfl ?_
      refine x_bipush (v := nI 122) d2_isSmall_7 (by decide) ?_
      refine x_icmp_gtN 16 d2_isSmall_9 (by decide) (by omega) (by omega) (fun b9 => ?_) (fun b9 => ?_)
      · refine x_iconst (v := nI 0) d2_isSmall_16 (by decide) ?_
        exact x_ireturn d2_isSmall_17 ⟨by rw [bP_f (fun q => by have := q.2.2; omega)], rfl⟩
      · refine x_iconst (v := nI 1) d2_isSmall_12 (by decide) ?_
        refine x_goto 17 d2_isSmall_13 (by decide) ?_
        exact x_ireturn d2_isSmall_17 ⟨by rw [bP_t ⟨hz, by omega, by omega⟩], rfl⟩
  · rw [seeV_f hz]
    refine CA.w ?_
    show RA _ _ M2_isSmall 0 [.int (-1)] [] _ _
    refine x_iload_n d2_isSmall_0 rfl ?_
    refine x_bipush (v := nI 97) d2_isSmall_1 (by decide) ?_
    refine x_icmp_lt 16 d2_isSmall_3 (by decide) (fun b3 => ?_) (fun b3 => absurd b3 (by decide))
    refine x_iconst (v := nI 0) d2_isSmall_16 (by decide) ?_
    exact x_ireturn d2_isSmall_17 ⟨by rw [bP_f (fun q => hz q.1)], rfl⟩
theorem h_rDigit {G : GG} (d : Nat) {h : AH} {z k : Nat} {f : Nat → Nat} (hf : k < z → f k < 256) : CP G d M2_isDigit [.int (seeV z f k)] h (.int (nI (bP (Dgt z f k)))) := by
  by_cases hz : k < z
  · rw [seeV_t hz]
    have hfk := hf hz
    refine CA.w ?_
    show RA _ _ M2_isDigit 0 [.int (nI (f k))] [] _ _
    refine x_iload_n d2_isDigit_0 rfl ?_
    refine x_bipush (v := nI 48) d2_isDigit_1 (by decide) ?_
    refine x_icmp_ltN 16 d2_isDigit_3 (by decide) (by omega) (by omega) (fun b3 => ?_) (fun b3 => ?_)
    · refine x_iconst (v := nI 0) d2_isDigit_16 (by decide) ?_
      exact x_ireturn d2_isDigit_17 ⟨by rw [bP_f (fun q => by have := q.2.1; omega)], rfl⟩
    · refine x_iload_n d2_isDigit_6 rfl ?_
      refine x_bipush (v := nI 57) d2_isDigit_7 (by decide) ?_
      refine x_icmp_gtN 16 d2_isDigit_9 (by decide) (by omega) (by omega) (fun b9 => ?_) (fun b9 => ?_)
      · refine x_iconst (v := nI 0) d2_isDigit_16 (by decide) ?_
        exact x_ireturn d2_isDigit_17 ⟨by rw [bP_f (fun q => by have := q.2.2; omega)], rfl⟩
      · refine x_iconst (v := nI 1) d2_isDigit_12 (by decide) ?_
        refine x_goto 17 d2_isDigit_13 (by decide) ?_
        exact x_ireturn d2_isDigit_17 ⟨by rw [bP_t ⟨hz, by omega, by omega⟩], rfl⟩
  · rw [seeV_f hz]
    refine CA.w ?_
    show RA _ _ M2_isDigit 0 [.int (-1)] [] _ _
    refine x_iload_n d2_isDigit_0 rfl ?_
    refine x_bipush (v := nI 48) d2_isDigit_1 (by decide) ?_
    refine x_icmp_lt 16 d2_isDigit_3 (by decide) (fun b3 => ?_) (fun b3 => absurd b3 (by decide))
    refine x_iconst (v := nI 0) d2_isDigit_16 (by decide) ?_
    exact x_ireturn d2_isDigit_17 ⟨by rw [bP_f (fun q => hz q.1)], rfl⟩
theorem i16N (c : Nat) (h : c < 65536) : (nI c).toUInt32.toUInt16.toUInt32.toInt32 = nI c := by
  apply Int32.toBitVec_inj.1
  apply BitVec.eq_of_toNat_eq
  show (((BitVec.ofNat 32 c).setWidth 16).setWidth 32).toNat = (BitVec.ofNat 32 c).toNat
  simp only [BitVec.toNat_setWidth, BitVec.toNat_ofNat]
  omega
/-- the number so far -/
noncomputable def wv9 (z : Nat) (f : Nat → Nat) (p e : Nat) : Nat := if e ≤ tA z f p then 0 else if e = tA z f p + 1 then f (tA z f p) - 48 else 10 * (f (tA z f p) - 48) + (f (tA z f p + 1) - 48)
theorem wv9_lt {z p : Nat} {f : Nat → Nat} (hp : p ≤ z) (e : Nat) (he : e ≤ tDe z f p) : wv9 z f p e < 100 := by
  have h9 := tDe_ok (f := f) hp
  unfold wv9
  split
  · decide
  · have h1 := (h9.2.2.2 (tA z f p) (Nat.le_refl _) (by omega)).2
    split
    · omega
    · have h2 := (h9.2.2.2 (tA z f p + 1) (by omega) (by omega)).2
      omega
theorem wv9_big {z p e : Nat} {f : Nat → Nat} (h : 2 ≤ e - tA z f p) : wv9 z f p e = wv9 z f p (e + 1) := by
  unfold wv9; rw [if_neg (by omega), if_neg (by omega), if_neg (by omega), if_neg (by omega)]
theorem wv9_s {z p e : Nat} {f : Nat → Nat} (h : e - tA z f p < 2) (h1 : tA z f p ≤ e) (h2 : 48 ≤ f e) : 10 * wv9 z f p e + f e - 48 = wv9 z f p (e + 1) := by
  unfold wv9
  by_cases e0 : e = tA z f p
  · rw [if_pos (by omega), if_neg (by omega), if_pos (by omega), e0]; omega
  · have e1 : e = tA z f p + 1 := by omega
    rw [if_neg (by omega), if_pos e1, if_neg (by omega), if_neg (by omega), ← e1]; omega
theorem wv9_end {z p : Nat} {f : Nat → Nat} (h : tA z f p < tDe z f p) (h2 : tDe z f p - tA z f p ≤ 2) : wv9 z f p (tDe z f p) = tV z f p := by
  unfold wv9 tV
  rw [if_neg (by omega)]
  by_cases e : tDe z f p = tA z f p + 1
  · rw [if_pos e, if_pos (by omega)]
  · rw [if_neg e, if_neg (by omega)]
set_option maxHeartbeats 8000000 in
theorem h_rnext {G : GG} (d : Nat) {t : Nat → Option (Nat × Nat)} {J : Nat → Nat → Int64} {P : Nat → Nat → Value} {n sl : Nat} {I : Nat → Nat → Int32} (hS : SH t P) (hT : TyB t n) (hn : 144 ≤ n) {z p : Nat} {f : Nat → Nat} (hX : HdX I z f) (h5e : I 102 5 = nI p) (hp : p ≤ z) (hB0 : n + 2 ≤ 601124) (hSl0 : sl + 12 ≤ 7293033) : CA G (d + 5) M2_next [.ref 102] (t, I, J, P, n, sl) (fun o h' => o = .inl none ∧ ∃ t' I' J' P' n' sl', h' = (t', I', J', P', n', sl') ∧ GR True t I J P t' I' J' P' n' ∧ HRd t' I' P' z f p ∧ I' 105 = I 105 ∧ n ≤ n' ∧ n' ≤ n + 2 ∧ sl ≤ sl' ∧ sl' ≤ sl + 12) := by
  refine CA.w ?_
  show RA _ _ M2_next 0 [.ref 102, U0, U0] [] _ _
  have hz3 := hX.2.2
  have hB : n ≤ 601124 := by omega
  have hSl : sl ≤ 7293033 := by omega
  have hp9 := tA_ok (f := f) hp
  have h5 : ∀ k, k ≤ tA z f p → p ≤ k → RA G (d + 5) M2_next 5 [.ref 102, .int (nI k), U0] [] (t, I, J, P, n, sl) (fun o h' => o = .inl none ∧ ∃ t' I' J' P' n' sl', h' = (t', I', J', P', n', sl') ∧ GR True t I J P t' I' J' P' n' ∧ HRd t' I' P' z f p ∧ I' 105 = I 105 ∧ n ≤ n' ∧ n' ≤ n + 2 ∧ sl ≤ sl' ∧ sl' ≤ sl + 12) := by
    refine up_ind ?_
    intro k hk_ ih hpk
    by_cases hk : k < tA z f p
    ·
      refine x_aload_n d2_next_5 rfl ?_
      refine x_iload_n d2_next_6 rfl ?_
      refine x_invV 102 1 d2_next_7 (hS.T rfl) v2_43_2 (h_see _ hS (k := k) (hX.gr (GR.rf (s := True) (I := I) (J := J) (P := P) hT) hX.1) (by omega)) (Cont.p ?_) (hB := hB) (hS := hSl)
      have hsp := hp9.2.2.2 k hpk hk
      refine x_top (congrArg Value.int (seeV_t hsp.1)) ?_
      have hfk := hX.lt hsp.1
      refine x_bipush (v := nI 32) d2_next_10 (by decide) ?_
      refine x_icmp_neN 21 d2_next_12 (by decide) (by omega) (by omega) (fun b12 => absurd b12 (fun q => q hsp.2)) (fun b12 => ?_)
      refine x_iincN (c := 1) d2_next_15 rfl (by decide) ?_
      refine x_goto 5 d2_next_18 (by decide) ?_
      exact ih hk (by omega)
    · have hke : k = tA z f p := by omega
      subst hke
      clear ih
      by_cases hz : tA z f p < z
      · have hfa := hX.lt hz
        by_cases hl : Ltr z f (tA z f p)
        · have hK := tK_word hl
          have h9 := tLe_ok (f := f) hp
          have h90 : tA z f p < tLe z f p := Classical.byContradiction fun q => h9.2.2.1 (by rw [show tLe z f p = tA z f p by omega]; exact hl)
          refine x_aload_n d2_next_5 rfl ?_
          refine x_iload_n d2_next_6 rfl ?_
          refine x_invV 102 1 d2_next_7 (hS.T rfl) v2_43_2 (h_see _ hS (k := tA z f p) (hX.gr (GR.rf (s := True) (I := I) (J := J) (P := P) hT) hX.1) (by omega)) (Cont.p ?_) (hB := hB) (hS := hSl)
          refine x_top (congrArg Value.int (seeV_t hz)) ?_
          refine x_bipush (v := nI 32) d2_next_10 (by decide) ?_
          refine x_icmp_neN 21 d2_next_12 (by decide) (by omega) (by omega) (fun b12 => ?_) (fun b12 => absurd b12 (fun q => hp9.2.2.1 ⟨hz, q⟩))
          refine x_aload_n d2_next_21 rfl ?_
          refine x_iload_n d2_next_22 rfl ?_
          refine x_putIE d2_next_23 p2_30 (hS.T rfl) (fun I1 hI1 => ?_)
          have hfI1_4 : I1 102 4 = nI z := by rw [hI1, u2_ne _ _ (by decide)]; exact hX.1
          have hfI1_5 : I1 102 5 = nI p := by rw [hI1, u2_ne _ _ (by decide)]; exact h5e
          have hfI1_7 : I1 102 7 = nI (tA z f p) := by rw [hI1, u2_self]
          have grI1 := (GR.rf (s := True) (I := I) (J := J) (P := P) hT).ui hI1 (by decide)
          have r5I1 : I1 105 = I 105 := by rw [hI1, u2_row _ _ _ (by decide)]
          refine x_aload_n d2_next_26 rfl ?_
          refine x_iload_n d2_next_27 rfl ?_
          refine x_iconst (v := nI 1) d2_next_28 (by decide) ?_
          refine x_iaddN d2_next_29 ?_
          refine x_putIE d2_next_30 p2_40 (hS.T rfl) (fun I2 hI2 => ?_)
          have hfI2_4 : I2 102 4 = nI z := by rw [hI2, u2_ne _ _ (by decide)]; exact hfI1_4
          have hfI2_7 : I2 102 7 = nI (tA z f p) := by rw [hI2, u2_ne _ _ (by decide)]; exact hfI1_7
          have hfI2_5 : I2 102 5 = nI ((tA z f p) + 1) := by rw [hI2, u2_self]
          have grI2 := grI1.ui hI2 (by decide)
          have r5I2 : I2 105 = I 105 := by rw [hI2, u2_row _ _ _ (by decide)]; exact r5I1
          refine x_aload_n d2_next_33 rfl ?_
          refine x_iload_n d2_next_34 rfl ?_
          refine x_invV 102 1 d2_next_35 (hS.T rfl) v2_43_2 (h_see _ hS (k := tA z f p) (hX.gr grI2 hfI2_4) (by omega)) (Cont.p ?_) (hB := hB) (hS := hSl)
          refine x_top (congrArg Value.int (seeV_t hz)) ?_
          refine x_istore_n d2_next_38 ?_
          refine x_iload_n d2_next_39 rfl ?_
          refine x_iconst (v := -1) d2_next_40 (by decide) ?_
          refine x_icmp_ne 57 d2_next_41 (by decide) (fun b41 => ?_) (fun b41 => absurd b41 (nI_m1 (by omega)))
          refine x_iload_n d2_next_57 rfl ?_
          refine x_invS 1 d2_next_58 s2_50 (show CP G _ M2_isSmall [.int (nI (f (tA z f p)))] _ (.int (nI 1)) by rw [← seeV_t (f := f) hz, ← bP_t hl]; exact h_rSmall _ (fun h => hX.lt h)) (Cont.p ?_) (hB := hB) (hS := hSl)
          refine x_if_eqN 185 d2_next_61 (by decide) (by omega) (fun b61 => absurd b61 (by decide)) (fun b61 => ?_)
          refine x_aload_n d2_next_64 rfl ?_
          refine x_iload_n d2_next_65 rfl ?_
          refine x_putIE d2_next_66 p2_40 (hS.T rfl) (fun I3 hI3 => ?_)
          have hfI3_4 : I3 102 4 = nI z := by rw [hI3, u2_ne _ _ (by decide)]; exact hfI2_4
          have hfI3_7 : I3 102 7 = nI (tA z f p) := by rw [hI3, u2_ne _ _ (by decide)]; exact hfI2_7
          have hfI3_5 : I3 102 5 = nI (tA z f p) := by rw [hI3, u2_self]
          have grI3 := grI2.ui hI3 (by decide)
          have r5I3 : I3 105 = I 105 := by rw [hI3, u2_row _ _ _ (by decide)]; exact r5I2
          have h69 : ∀ e, e ≤ tLe z f p → tA z f p ≤ e → ∀ I9, GR True t I J P t I9 J P n → I9 102 4 = nI z → I9 102 5 = nI e → I9 102 7 = nI (tA z f p) → I9 105 = I 105 → (∀ j, j < e - (tA z f p) → j < 8 → I9 104 j = nI (f (tA z f p + j))) → RA G (d + 5) M2_next 69 [.ref 102, .int (nI (tA z f p)), .int (nI (f (tA z f p)))] [] (t, I9, J, P, n, sl) (fun o h' => o = .inl none ∧ ∃ t' I' J' P' n' sl', h' = (t', I', J', P', n', sl') ∧ GR True t I J P t' I' J' P' n' ∧ HRd t' I' P' z f p ∧ I' 105 = I 105 ∧ n ≤ n' ∧ n' ≤ n + 2 ∧ sl ≤ sl' ∧ sl' ≤ sl + 12) := by
            refine up_ind ?_
            intro e he_ ih he1 I9 g9 q4 q5 q7 r9 hlt
            refine x_aload_n d2_next_69 rfl ?_
            refine x_aload_n d2_next_70 rfl ?_
            refine x_getI d2_next_71 f2_40 (hS.T rfl) ?_
            refine x_top (congrArg Value.int (show I9 102 5 = nI e from q5)) ?_
            refine x_invV 102 1 d2_next_74 (hS.T rfl) v2_43_2 (h_see _ hS (k := e) (hX.gr g9 q4) (by omega)) (Cont.p ?_) (hB := hB) (hS := hSl)
            refine x_invS 1 d2_next_77 s2_50 (h_rSmall _ (fun h => hX.lt h)) (Cont.p ?_) (hB := hB) (hS := hSl)
            have hbl77 := bP_lt (Ltr z f e)
            refine x_if_eqN 127 d2_next_80 (by decide) (by omega) (fun b80 => ?_) (fun b80 => ?_)
            · have hnl := bP_0.mp b80
              have hee : e = tLe z f p := Classical.byContradiction fun q => hnl (h9.2.2.2 e he1 (by omega))
              refine x_aload_n d2_next_127 rfl ?_
              refine x_aload_n d2_next_128 rfl ?_
              refine x_getI d2_next_129 f2_40 (hS.T rfl) ?_
              refine x_top (congrArg Value.int (show I9 102 5 = nI e from q5)) ?_
              refine x_iload_n d2_next_132 rfl ?_
              refine x_isubN d2_next_133 (by omega) ?_
              refine x_bipush (v := nI 8) d2_next_134 (by decide) ?_
              refine x_icmp_leN 143 d2_next_136 (by decide) (by omega) (by omega) (fun b136 => ?_) (fun b136 => ?_)
              · refine x_iconst (v := nI 2) d2_next_143 (by decide) ?_
                refine x_putIE d2_next_144 p2_47 (hS.T rfl) (fun I31 hI31 => ?_)
                have hfI31_4 : I31 102 4 = nI z := by rw [hI31, u2_ne _ _ (by decide)]; exact q4
                have hfI31_5 : I31 102 5 = nI e := by rw [hI31, u2_ne _ _ (by decide)]; exact q5
                have hfI31_7 : I31 102 7 = nI (tA z f p) := by rw [hI31, u2_ne _ _ (by decide)]; exact q7
                have hfI31_6 : I31 102 6 = nI 2 := by rw [hI31, u2_self]
                have grI31 := g9.ui hI31 (by decide)
                have r5I31 : I31 105 = I 105 := by rw [hI31, u2_row _ _ _ (by decide)]; exact r9
                refine x_aload_n d2_next_147 rfl ?_
                refine x_aload_n d2_next_148 rfl ?_
                refine x_getI d2_next_149 f2_47 (hS.T rfl) ?_
                refine x_top (congrArg Value.int (show I31 102 6 = nI 2 from hfI31_6)) ?_
                refine x_iconst (v := nI 2) d2_next_152 (by decide) ?_
                refine x_icmp_neN 177 d2_next_153 (by decide) (by omega) (by omega) (fun b153 => absurd b153 (fun q => q rfl)) (fun b153 => ?_)
                refine x_newE d2_next_156 n2_54 (by omega) (by omega) (fun t32 I32 J32 P32 ht32 hI32 hJ32 hP32 => ?_)
                have gwa := (Gw.rf (I := I31) (J := J) (P := P) hT).new ht32 hI32 hJ32 hP32
                have hSa := gwa.sh hn hS
                have hta : t32 n = some (15, 0) := by rw [ht32, p1_self]
                have r102 : I32 102 = I31 102 := by rw [hI32, r1_row _ _ (by omega)]
                refine x_dup d2_next_159 rfl ?_
                refine x_aload_n d2_next_160 rfl ?_
                refine x_getP d2_next_161 f2_18 (hSa.T rfl) (hSa.P rfl) ?_
                refine x_iconst (v := nI 0) d2_next_164 (by decide) ?_
                refine x_aload_n d2_next_165 rfl ?_
                refine x_getI d2_next_166 f2_40 (hSa.T rfl) ?_
                refine x_top (congrArg Value.int (show I32 102 5 = nI e from (by rw [r102]; exact hfI31_5))) ?_
                refine x_iload_n d2_next_169 rfl ?_
                refine x_isubN d2_next_170 (by omega) ?_
                have hcl : ∀ j, j < tLe z f p - (tA z f p) → f (tA z f p + j) = f (tA z f p + j) ∧ f (tA z f p + j) < 128 := fun j hj => ⟨rfl, by have := (h9.2.2.2 (tA z f p + j) (by omega) (by omega)).2; omega⟩
                refine x_invI n 3 d2_next_171 (by omega) i2_56 (j_init _ hSa gwa.b (by omega) (a := n) (len := e - (tA z f p)) (c := fun j => f (tA z f p + j)) hta hn (by omega) (fun j hj => ⟨by rw [gwa.i 104 (by omega), hI31, u2_row _ _ _ (by decide)]; exact hlt j hj (by omega), (hcl j (by omega)).2⟩) (by omega) (by omega)) ?_ (hB := by show n + 1 ≤ 601124; omega) (hS := by show sl + 4 ≤ 7293033; omega)
                rintro o h' ⟨rfl, I88, rfl, hj1, hj2, hj3, hj4⟩
                rw [show e - (tA z f p) = tLe z f p - (tA z f p) by omega] at hj4 ⊢
                obtain ⟨PX, hPX⟩ : ∃ z, z = u2 (r1 P32 (n + 1) .null) n 0 (.ref (n + 1)) := ⟨_, rfl⟩
                have hSx : SH (p1 t32 (n + 1) (some (101, tLe z f p - (tA z f p)))) PX := (((gwa.new rfl rfl rfl rfl).up hPX (Nat.le_refl n))).sh hn hS
                have hS88 := hSx
                rw [← hPX]
                show RA _ _ _ _ _ [Value.ref n, Value.ref 102] _ _
                refine x_goto 179 d2_next_174 (by decide) ?_
                refine x_putPE d2_next_179 p2_61 (hS88.T rfl) (fun P33 hP33 => ?_)
                refine x_goto 305 d2_next_182 (by decide) ?_
                refine x_return d2_next_305 ?_
                have hK2 : tK z f p = 2 ∧ tE z f p = tLe z f p := by rw [hK.1, if_pos (by omega)]; exact ⟨rfl, hK.2⟩
                have hn9 : ∀ b tg, t b = some tg → b ≠ n ∧ b ≠ n + 1 := fun b tg hb => by have := hT b tg hb; omega
                have hri : ∀ b, b ≠ n → b ≠ n + 1 → I88 b = I31 b := fun b h1 h2 => by rw [hj1 b h2 h1, hI32, r1_row _ _ h1]
                have hr2 : I88 102 = I31 102 := hri 102 (by omega) (by omega)
                have hty : ∀ b tg, t b = some tg → p1 t32 (n + 1) (some (101, tLe z f p - (tA z f p))) b = some tg := fun b tg hb => by rw [p1_ne _ _ (hn9 b tg hb).2, ht32, p1_ne _ _ (hn9 b tg hb).1]; exact hb
                have gg := grI31
                refine ⟨rfl, _, I88, _, P33, n + 1 + 1, sl + 4 + (tLe z f p - (tA z f p)), rfl, ⟨hty, fun b tg h h2 h3 => (hri b (hn9 b tg h).1 (hn9 b tg h).2).trans (gg.2.1 b tg h h2 h3), fun b h h3 => (hri b (by omega) (by omega)).trans (gg.2.2.1 b h h3), fun b h => ?_, fun b tg h h2 => ?_, fun k hk => ?_, fun a tg h => ?_⟩, ⟨by rw [hr2, hK2.2, ← hee]; exact hfI31_5, by rw [hr2, hK2.1]; exact hfI31_6, by rw [hr2]; exact hfI31_7, fun q => absurd q (by rw [hK2.1]; decide), fun _ => ⟨n, n + 1, ?_, ⟨?_, ?_, ?_, hj3, fun i hi => ⟨?_, ?_⟩, ?_⟩, ⟨hn, by omega⟩, ?_, ?_⟩, ?_⟩, ?_, by omega, by omega, by omega, ?_⟩
                · show r1 J32 (n + 1) 0 b = J b
                  rw [r1_row _ _ (by omega), hJ32, r1_row _ _ (by omega)]
                · rw [hP33, u2_row _ _ _ h2, hPX, u2_row _ _ _ (hn9 b tg h).1, r1_row _ _ (hn9 b tg h).2, hP32, r1_row _ _ (hn9 b tg h).1]
                · rw [hP33, u2_ne _ _ hk, hPX, u2_row _ _ _ (by omega), r1_row _ _ (by omega), hP32, r1_row _ _ (by omega)]
                · by_cases z1 : a = n + 1
                  · omega
                  · rw [p1_ne _ _ z1, ht32] at h
                    by_cases z2 : a = n
                    · omega
                    · rw [p1_ne _ _ z2] at h; have := hT a tg h; omega
                · rw [hP33, u2_self]
                · rw [p1_ne _ _ (by omega), ht32, p1_self]
                · rw [hP33, u2_row _ _ _ (by omega), hPX, u2_self]
                · exact p1_self _ _ _
                · exact hj4 i hi
                · exact (hcl i hi).2
                · unfold tL; omega
                · exact Or.inl (by rw [hj2 2 (by decide), hI32, r1_self])
                · exact Or.inl (by rw [hj2 3 (by decide), hI32, r1_self])
                · exact ⟨by rw [hr2]; exact hfI31_4, by rw [hri 101 (by omega) (by omega), gg.2.2.1 101 (by decide) (by omega)]; exact hX.2.1, hX.2.2⟩
                · rw [hri 105 (by omega) (by omega)]; exact r5I31
                · omega
              · refine x_iconst (v := nI 1) d2_next_139 (by decide) ?_
                refine x_goto 144 d2_next_140 (by decide) ?_
                refine x_putIE d2_next_144 p2_47 (hS.T rfl) (fun I34 hI34 => ?_)
                have hfI34_4 : I34 102 4 = nI z := by rw [hI34, u2_ne _ _ (by decide)]; exact q4
                have hfI34_5 : I34 102 5 = nI e := by rw [hI34, u2_ne _ _ (by decide)]; exact q5
                have hfI34_7 : I34 102 7 = nI (tA z f p) := by rw [hI34, u2_ne _ _ (by decide)]; exact q7
                have hfI34_6 : I34 102 6 = nI 1 := by rw [hI34, u2_self]
                have grI34 := g9.ui hI34 (by decide)
                have r5I34 : I34 105 = I 105 := by rw [hI34, u2_row _ _ _ (by decide)]; exact r9
                refine x_aload_n d2_next_147 rfl ?_
                refine x_aload_n d2_next_148 rfl ?_
                refine x_getI d2_next_149 f2_47 (hS.T rfl) ?_
                refine x_top (congrArg Value.int (show I34 102 6 = nI 1 from hfI34_6)) ?_
                refine x_iconst (v := nI 2) d2_next_152 (by decide) ?_
                refine x_icmp_neN 177 d2_next_153 (by decide) (by omega) (by omega) (fun b153 => ?_) (fun b153 => absurd b153 (by decide))
                refine x_ldcS (k := 2) d2_next_177 (List.mem_of_getElem? (i := 1) rfl) ?_
                refine x_putPE d2_next_179 p2_61 (hS.T rfl) (fun P35 hP35 => ?_)
                have grP35 := grI34.up hP35
                refine x_goto 305 d2_next_182 (by decide) ?_
                refine x_return d2_next_305 ?_
                have hK2 : tK z f p = 1 ∧ tE z f p = tLe z f p := by rw [hK.1, if_neg (by omega)]; exact ⟨rfl, hK.2⟩
                exact ⟨rfl, t, I34, J, P35, n, sl, rfl, grP35, ⟨by rw [hK2.2, ← hee]; exact hfI34_5, by rw [hK2.1]; exact hfI34_6, hfI34_7, fun q => absurd q (by rw [hK2.1]; decide), fun q => absurd q (by rw [hK2.1]; decide), hX.gr grP35 hfI34_4⟩, r5I34, by omega, by omega, by omega, by omega⟩
            · have hlz := bP_1.mp (show bP (Ltr z f e) = 1 by omega)
              have hze := hlz.1
              have hee : e < tLe z f p := Classical.byContradiction fun q => h9.2.2.1 (by rw [show tLe z f p = e by omega]; exact hlz)
              refine x_aload_n d2_next_83 rfl ?_
              refine x_getI d2_next_84 f2_40 (hS.T rfl) ?_
              refine x_top (congrArg Value.int (show I9 102 5 = nI e from q5)) ?_
              refine x_iload_n d2_next_87 rfl ?_
              refine x_isubN d2_next_88 (by omega) ?_
              refine x_bipush (v := nI 8) d2_next_89 (by decide) ?_
              refine x_icmp_geN 114 d2_next_91 (by decide) (by omega) (by omega) (fun b91 => ?_) (fun b91 => ?_)
              · refine x_aload_n d2_next_114 rfl ?_
                refine x_dup d2_next_115 rfl ?_
                refine x_getI d2_next_116 f2_40 (hS.T rfl) ?_
                refine x_top (congrArg Value.int (show I9 102 5 = nI e from q5)) ?_
                refine x_iconst (v := nI 1) d2_next_119 (by decide) ?_
                refine x_iaddN d2_next_120 ?_
                refine x_putIE d2_next_121 p2_40 (hS.T rfl) (fun I36 hI36 => ?_)
                have hfI36_4 : I36 102 4 = nI z := by rw [hI36, u2_ne _ _ (by decide)]; exact q4
                have hfI36_7 : I36 102 7 = nI (tA z f p) := by rw [hI36, u2_ne _ _ (by decide)]; exact q7
                have hfI36_5 : I36 102 5 = nI (e + 1) := by rw [hI36, u2_self]
                have grI36 := g9.ui hI36 (by decide)
                have r5I36 : I36 105 = I 105 := by rw [hI36, u2_row _ _ _ (by decide)]; exact r9
                refine x_goto 69 d2_next_124 (by decide) ?_
                exact ih hee (by omega) I36 grI36 hfI36_4 hfI36_5 hfI36_7 r5I36 (fun j h1 h2 => by rw [hI36, u2_row _ _ _ (by decide)]; exact hlt j (by omega) h2)
              · refine x_aload_n d2_next_94 rfl ?_
                refine x_getP d2_next_95 f2_18 (hS.T rfl) (hS.P rfl) ?_
                refine x_aload_n d2_next_98 rfl ?_
                refine x_getI d2_next_99 f2_40 (hS.T rfl) ?_
                refine x_top (congrArg Value.int (show I9 102 5 = nI e from q5)) ?_
                refine x_iload_n d2_next_102 rfl ?_
                refine x_isubN d2_next_103 (by omega) ?_
                refine x_aload_n d2_next_104 rfl ?_
                refine x_aload_n d2_next_105 rfl ?_
                refine x_getI d2_next_106 f2_40 (hS.T rfl) ?_
                refine x_top (congrArg Value.int (show I9 102 5 = nI e from q5)) ?_
                refine x_invV 102 1 d2_next_109 (hS.T rfl) v2_43_2 (h_see _ hS (k := e) (hX.gr g9 q4) (by omega)) (Cont.p ?_) (hB := hB) (hS := hSl)
                have hle := bP_1.mp (show bP (Ltr z f e) = 1 by omega)
                have hfe := hX.lt hle.1
                refine x_top (congrArg Value.int (seeV_t hle.1)) ?_
                refine x_i2c d2_next_112 ?_
                refine x_top (congrArg Value.int (i2c_N (j := f e) (by omega))) ?_
                refine x_castN d2_next_113 (hS.T rfl) (by omega) (fun I37 hI37 => ?_)
                have hfI37_4 : I37 102 4 = nI z := by rw [hI37, u2_row _ _ _ (by decide)]; exact q4
                have hfI37_5 : I37 102 5 = nI e := by rw [hI37, u2_row _ _ _ (by decide)]; exact q5
                have hfI37_7 : I37 102 7 = nI (tA z f p) := by rw [hI37, u2_row _ _ _ (by decide)]; exact q7
                have grI37 := g9.ui hI37 (by decide)
                have r5I37 : I37 105 = I 105 := by rw [hI37, u2_row _ _ _ (by decide)]; exact r9
                refine x_aload_n d2_next_114 rfl ?_
                refine x_dup d2_next_115 rfl ?_
                refine x_getI d2_next_116 f2_40 (hS.T rfl) ?_
                refine x_top (congrArg Value.int (show I37 102 5 = nI e from hfI37_5)) ?_
                refine x_iconst (v := nI 1) d2_next_119 (by decide) ?_
                refine x_iaddN d2_next_120 ?_
                refine x_putIE d2_next_121 p2_40 (hS.T rfl) (fun I38 hI38 => ?_)
                have hfI38_4 : I38 102 4 = nI z := by rw [hI38, u2_ne _ _ (by decide)]; exact hfI37_4
                have hfI38_7 : I38 102 7 = nI (tA z f p) := by rw [hI38, u2_ne _ _ (by decide)]; exact hfI37_7
                have hfI38_5 : I38 102 5 = nI (e + 1) := by rw [hI38, u2_self]
                have grI38 := grI37.ui hI38 (by decide)
                have r5I38 : I38 105 = I 105 := by rw [hI38, u2_row _ _ _ (by decide)]; exact r5I37
                refine x_goto 69 d2_next_124 (by decide) ?_
                exact ih hee (by omega) I38 grI38 hfI38_4 hfI38_5 hfI38_7 r5I38 (fun j h1 h2 => by
                  rw [hI38, u2_row _ _ _ (by decide), hI37, u2_at]
                  by_cases ej : j = e - (tA z f p)
                  · rw [if_pos ej, ej, i16N _ (by omega), show tA z f p + (e - (tA z f p)) = e by omega]
                  · rw [if_neg ej]; exact hlt j (by omega) h2)
          exact h69 (tA z f p) h9.1 (Nat.le_refl _) I3 grI3 hfI3_4 hfI3_5 hfI3_7 r5I3 (fun j hj => by omega)
        · by_cases hd : Dgt z f (tA z f p)
          · have hK := tK_num hd
            have h9 := tDe_ok (f := f) hp
            have hd0 : tA z f p < tDe z f p := Classical.byContradiction fun q => h9.2.2.1 (by rw [show tDe z f p = tA z f p by omega]; exact hd)
            refine x_aload_n d2_next_5 rfl ?_
            refine x_iload_n d2_next_6 rfl ?_
            refine x_invV 102 1 d2_next_7 (hS.T rfl) v2_43_2 (h_see _ hS (k := tA z f p) (hX.gr (GR.rf (s := True) (I := I) (J := J) (P := P) hT) hX.1) (by omega)) (Cont.p ?_) (hB := hB) (hS := hSl)
            refine x_top (congrArg Value.int (seeV_t hz)) ?_
            refine x_bipush (v := nI 32) d2_next_10 (by decide) ?_
            refine x_icmp_neN 21 d2_next_12 (by decide) (by omega) (by omega) (fun b12 => ?_) (fun b12 => absurd b12 (fun q => hp9.2.2.1 ⟨hz, q⟩))
            refine x_aload_n d2_next_21 rfl ?_
            refine x_iload_n d2_next_22 rfl ?_
            refine x_putIE d2_next_23 p2_30 (hS.T rfl) (fun I1 hI1 => ?_)
            have hfI1_4 : I1 102 4 = nI z := by rw [hI1, u2_ne _ _ (by decide)]; exact hX.1
            have hfI1_5 : I1 102 5 = nI p := by rw [hI1, u2_ne _ _ (by decide)]; exact h5e
            have hfI1_7 : I1 102 7 = nI (tA z f p) := by rw [hI1, u2_self]
            have grI1 := (GR.rf (s := True) (I := I) (J := J) (P := P) hT).ui hI1 (by decide)
            have r5I1 : I1 105 = I 105 := by rw [hI1, u2_row _ _ _ (by decide)]
            refine x_aload_n d2_next_26 rfl ?_
            refine x_iload_n d2_next_27 rfl ?_
            refine x_iconst (v := nI 1) d2_next_28 (by decide) ?_
            refine x_iaddN d2_next_29 ?_
            refine x_putIE d2_next_30 p2_40 (hS.T rfl) (fun I2 hI2 => ?_)
            have hfI2_4 : I2 102 4 = nI z := by rw [hI2, u2_ne _ _ (by decide)]; exact hfI1_4
            have hfI2_7 : I2 102 7 = nI (tA z f p) := by rw [hI2, u2_ne _ _ (by decide)]; exact hfI1_7
            have hfI2_5 : I2 102 5 = nI ((tA z f p) + 1) := by rw [hI2, u2_self]
            have grI2 := grI1.ui hI2 (by decide)
            have r5I2 : I2 105 = I 105 := by rw [hI2, u2_row _ _ _ (by decide)]; exact r5I1
            refine x_aload_n d2_next_33 rfl ?_
            refine x_iload_n d2_next_34 rfl ?_
            refine x_invV 102 1 d2_next_35 (hS.T rfl) v2_43_2 (h_see _ hS (k := tA z f p) (hX.gr grI2 hfI2_4) (by omega)) (Cont.p ?_) (hB := hB) (hS := hSl)
            refine x_top (congrArg Value.int (seeV_t hz)) ?_
            refine x_istore_n d2_next_38 ?_
            refine x_iload_n d2_next_39 rfl ?_
            refine x_iconst (v := -1) d2_next_40 (by decide) ?_
            refine x_icmp_ne 57 d2_next_41 (by decide) (fun b41 => ?_) (fun b41 => absurd b41 (nI_m1 (by omega)))
            refine x_iload_n d2_next_57 rfl ?_
            refine x_invS 1 d2_next_58 s2_50 (show CP G _ M2_isSmall [.int (nI (f (tA z f p)))] _ (.int (nI 0)) by rw [← seeV_t (f := f) hz, ← bP_f hl]; exact h_rSmall _ (fun h => hX.lt h)) (Cont.p ?_) (hB := hB) (hS := hSl)
            refine x_if_eqN 185 d2_next_61 (by decide) (by omega) (fun b61 => ?_) (fun b61 => absurd b61 (fun q => q rfl))
            refine x_iload_n d2_next_185 rfl ?_
            refine x_invS 1 d2_next_186 s2_65 (show CP G _ M2_isDigit [.int (nI (f (tA z f p)))] _ (.int (nI 1)) by rw [← seeV_t (f := f) hz, ← bP_t hd]; exact h_rDigit _ (fun h => hX.lt h)) (Cont.p ?_) (hB := hB) (hS := hSl)
            refine x_if_eqN 284 d2_next_189 (by decide) (by omega) (fun b189 => absurd b189 (by decide)) (fun b189 => ?_)
            refine x_aload_n d2_next_192 rfl ?_
            refine x_iconst (v := nI 0) d2_next_193 (by decide) ?_
            refine x_putIE d2_next_194 p2_68 (hS.T rfl) (fun I3 hI3 => ?_)
            have hfI3_4 : I3 102 4 = nI z := by rw [hI3, u2_ne _ _ (by decide)]; exact hfI2_4
            have hfI3_5 : I3 102 5 = nI ((tA z f p) + 1) := by rw [hI3, u2_ne _ _ (by decide)]; exact hfI2_5
            have hfI3_7 : I3 102 7 = nI (tA z f p) := by rw [hI3, u2_ne _ _ (by decide)]; exact hfI2_7
            have hfI3_8 : I3 102 8 = nI 0 := by rw [hI3, u2_self]
            have grI3 := grI2.ui hI3 (by decide)
            have r5I3 : I3 105 = I 105 := by rw [hI3, u2_row _ _ _ (by decide)]; exact r5I2
            refine x_aload_n d2_next_197 rfl ?_
            refine x_iload_n d2_next_198 rfl ?_
            refine x_putIE d2_next_199 p2_40 (hS.T rfl) (fun I4 hI4 => ?_)
            have hfI4_4 : I4 102 4 = nI z := by rw [hI4, u2_ne _ _ (by decide)]; exact hfI3_4
            have hfI4_7 : I4 102 7 = nI (tA z f p) := by rw [hI4, u2_ne _ _ (by decide)]; exact hfI3_7
            have hfI4_8 : I4 102 8 = nI 0 := by rw [hI4, u2_ne _ _ (by decide)]; exact hfI3_8
            have hfI4_5 : I4 102 5 = nI (tA z f p) := by rw [hI4, u2_self]
            have grI4 := grI3.ui hI4 (by decide)
            have r5I4 : I4 105 = I 105 := by rw [hI4, u2_row _ _ _ (by decide)]; exact r5I3
            have h202 : ∀ e, e ≤ tDe z f p → tA z f p ≤ e → ∀ I9, GR True t I J P t I9 J P n → I9 102 4 = nI z → I9 102 5 = nI e → I9 102 7 = nI (tA z f p) → I9 102 8 = nI (wv9 z f p e) → I9 105 = I 105 → RA G (d + 5) M2_next 202 [.ref 102, .int (nI (tA z f p)), .int (nI (f (tA z f p)))] [] (t, I9, J, P, n, sl) (fun o h' => o = .inl none ∧ ∃ t' I' J' P' n' sl', h' = (t', I', J', P', n', sl') ∧ GR True t I J P t' I' J' P' n' ∧ HRd t' I' P' z f p ∧ I' 105 = I 105 ∧ n ≤ n' ∧ n' ≤ n + 2 ∧ sl ≤ sl' ∧ sl' ≤ sl + 12) := by
              refine up_ind ?_
              intro e he_ ih he1 I9 g9 q4 q5 q7 q8 r9
              refine x_aload_n d2_next_202 rfl ?_
              refine x_aload_n d2_next_203 rfl ?_
              refine x_getI d2_next_204 f2_40 (hS.T rfl) ?_
              refine x_top (congrArg Value.int (show I9 102 5 = nI e from q5)) ?_
              refine x_invV 102 1 d2_next_207 (hS.T rfl) v2_43_2 (h_see _ hS (k := e) (hX.gr g9 q4) (by omega)) (Cont.p ?_) (hB := hB) (hS := hSl)
              refine x_invS 1 d2_next_210 s2_65 (h_rDigit _ (fun h => hX.lt h)) (Cont.p ?_) (hB := hB) (hS := hSl)
              have hbl210 := bP_lt (Dgt z f e)
              refine x_if_eqN 262 d2_next_213 (by decide) (by omega) (fun b213 => ?_) (fun b213 => ?_)
              · have hnl := bP_0.mp b213
                have hee : e = tDe z f p := Classical.byContradiction fun q => hnl (h9.2.2.2 e he1 (by omega))
                refine x_aload_n d2_next_262 rfl ?_
                refine x_aload_n d2_next_263 rfl ?_
                refine x_getI d2_next_264 f2_40 (hS.T rfl) ?_
                refine x_top (congrArg Value.int (show I9 102 5 = nI e from q5)) ?_
                refine x_iload_n d2_next_267 rfl ?_
                refine x_isubN d2_next_268 (by omega) ?_
                refine x_iconst (v := nI 2) d2_next_269 (by decide) ?_
                refine x_icmp_leN 277 d2_next_270 (by decide) (by omega) (by omega) (fun b270 => ?_) (fun b270 => ?_)
                · refine x_iconst (v := nI 3) d2_next_277 (by decide) ?_
                  refine x_putIE d2_next_278 p2_47 (hS.T rfl) (fun I31 hI31 => ?_)
                  have hfI31_4 : I31 102 4 = nI z := by rw [hI31, u2_ne _ _ (by decide)]; exact q4
                  have hfI31_5 : I31 102 5 = nI e := by rw [hI31, u2_ne _ _ (by decide)]; exact q5
                  have hfI31_7 : I31 102 7 = nI (tA z f p) := by rw [hI31, u2_ne _ _ (by decide)]; exact q7
                  have hfI31_8 : I31 102 8 = nI (wv9 z f p e) := by rw [hI31, u2_ne _ _ (by decide)]; exact q8
                  have hfI31_6 : I31 102 6 = nI 3 := by rw [hI31, u2_self]
                  have grI31 := g9.ui hI31 (by decide)
                  have r5I31 : I31 105 = I 105 := by rw [hI31, u2_row _ _ _ (by decide)]; exact r9
                  refine x_goto 305 d2_next_281 (by decide) ?_
                  refine x_return d2_next_305 ?_
                  have hK2 : tK z f p = 3 ∧ tE z f p = tDe z f p := by rw [hK.1, if_pos (by omega)]; exact ⟨rfl, hK.2⟩
                  exact ⟨rfl, t, I31, J, P, n, sl, rfl, grI31, ⟨by rw [hK2.2, ← hee]; exact hfI31_5, by rw [hK2.1]; exact hfI31_6, hfI31_7, fun _ => hfI31_8.trans (by rw [hee, wv9_end hd0 (by omega)]), fun q => absurd q (by rw [hK2.1]; decide), hX.gr grI31 hfI31_4⟩, r5I31, by omega, by omega, by omega, by omega⟩
                · refine x_iconst (v := nI 1) d2_next_273 (by decide) ?_
                  refine x_goto 278 d2_next_274 (by decide) ?_
                  refine x_putIE d2_next_278 p2_47 (hS.T rfl) (fun I32 hI32 => ?_)
                  have hfI32_4 : I32 102 4 = nI z := by rw [hI32, u2_ne _ _ (by decide)]; exact q4
                  have hfI32_5 : I32 102 5 = nI e := by rw [hI32, u2_ne _ _ (by decide)]; exact q5
                  have hfI32_7 : I32 102 7 = nI (tA z f p) := by rw [hI32, u2_ne _ _ (by decide)]; exact q7
                  have hfI32_8 : I32 102 8 = nI (wv9 z f p e) := by rw [hI32, u2_ne _ _ (by decide)]; exact q8
                  have hfI32_6 : I32 102 6 = nI 1 := by rw [hI32, u2_self]
                  have grI32 := g9.ui hI32 (by decide)
                  have r5I32 : I32 105 = I 105 := by rw [hI32, u2_row _ _ _ (by decide)]; exact r9
                  refine x_goto 305 d2_next_281 (by decide) ?_
                  refine x_return d2_next_305 ?_
                  have hK2 : tK z f p = 1 ∧ tE z f p = tDe z f p := by rw [hK.1, if_neg (by omega)]; exact ⟨rfl, hK.2⟩
                  exact ⟨rfl, t, I32, J, P, n, sl, rfl, grI32, ⟨by rw [hK2.2, ← hee]; exact hfI32_5, by rw [hK2.1]; exact hfI32_6, hfI32_7, fun q => absurd q (by rw [hK2.1]; decide), fun q => absurd q (by rw [hK2.1]; decide), hX.gr grI32 hfI32_4⟩, r5I32, by omega, by omega, by omega, by omega⟩
              · have hlz := bP_1.mp (show bP (Dgt z f e) = 1 by omega)
                have hze := hlz.1
                have hfe := hlz.2
                have hee : e < tDe z f p := Classical.byContradiction fun q => h9.2.2.1 (by rw [show tDe z f p = e by omega]; exact hlz)
                refine x_aload_n d2_next_216 rfl ?_
                refine x_getI d2_next_217 f2_40 (hS.T rfl) ?_
                refine x_top (congrArg Value.int (show I9 102 5 = nI e from q5)) ?_
                refine x_iload_n d2_next_220 rfl ?_
                refine x_isubN d2_next_221 (by omega) ?_
                refine x_iconst (v := nI 2) d2_next_222 (by decide) ?_
                refine x_icmp_geN 249 d2_next_223 (by decide) (by omega) (by omega) (fun b223 => ?_) (fun b223 => ?_)
                · refine x_aload_n d2_next_249 rfl ?_
                  refine x_dup d2_next_250 rfl ?_
                  refine x_getI d2_next_251 f2_40 (hS.T rfl) ?_
                  refine x_top (congrArg Value.int (show I9 102 5 = nI e from q5)) ?_
                  refine x_iconst (v := nI 1) d2_next_254 (by decide) ?_
                  refine x_iaddN d2_next_255 ?_
                  refine x_putIE d2_next_256 p2_40 (hS.T rfl) (fun I33 hI33 => ?_)
                  have hfI33_4 : I33 102 4 = nI z := by rw [hI33, u2_ne _ _ (by decide)]; exact q4
                  have hfI33_7 : I33 102 7 = nI (tA z f p) := by rw [hI33, u2_ne _ _ (by decide)]; exact q7
                  have hfI33_8 : I33 102 8 = nI (wv9 z f p e) := by rw [hI33, u2_ne _ _ (by decide)]; exact q8
                  have hfI33_5 : I33 102 5 = nI (e + 1) := by rw [hI33, u2_self]
                  have grI33 := g9.ui hI33 (by decide)
                  have r5I33 : I33 105 = I 105 := by rw [hI33, u2_row _ _ _ (by decide)]; exact r9
                  refine x_goto 202 d2_next_259 (by decide) ?_
                  exact ih hee (by omega) I33 grI33 hfI33_4 hfI33_5 hfI33_7 (hfI33_8.trans (by rw [wv9_big (by omega)])) r5I33
                · refine x_aload_n d2_next_226 rfl ?_
                  refine x_bipush (v := nI 10) d2_next_227 (by decide) ?_
                  refine x_aload_n d2_next_229 rfl ?_
                  refine x_getI d2_next_230 f2_68 (hS.T rfl) ?_
                  refine x_top (congrArg Value.int (show I9 102 8 = nI (wv9 z f p e) from q8)) ?_
                  have hwv := wv9_lt hp e (by omega)
                  refine x_imulN d2_next_233 ?_
                  refine x_aload_n d2_next_234 rfl ?_
                  refine x_aload_n d2_next_235 rfl ?_
                  refine x_getI d2_next_236 f2_40 (hS.T rfl) ?_
                  refine x_top (congrArg Value.int (show I9 102 5 = nI e from q5)) ?_
                  refine x_invV 102 1 d2_next_239 (hS.T rfl) v2_43_2 (h_see _ hS (k := e) (hX.gr g9 q4) (by omega)) (Cont.p ?_) (hB := hB) (hS := hSl)
                  refine x_top (congrArg Value.int (seeV_t hlz.1)) ?_
                  refine x_iaddN d2_next_242 ?_
                  refine x_bipush (v := nI 48) d2_next_243 (by decide) ?_
                  refine x_isubN d2_next_245 (by omega) ?_
                  refine x_putIE d2_next_246 p2_68 (hS.T rfl) (fun I34 hI34 => ?_)
                  have hfI34_4 : I34 102 4 = nI z := by rw [hI34, u2_ne _ _ (by decide)]; exact q4
                  have hfI34_5 : I34 102 5 = nI e := by rw [hI34, u2_ne _ _ (by decide)]; exact q5
                  have hfI34_7 : I34 102 7 = nI (tA z f p) := by rw [hI34, u2_ne _ _ (by decide)]; exact q7
                  have hfI34_8 : I34 102 8 = nI (((10 * (wv9 z f p e)) + (f e)) - 48) := by rw [hI34, u2_self]
                  have grI34 := g9.ui hI34 (by decide)
                  have r5I34 : I34 105 = I 105 := by rw [hI34, u2_row _ _ _ (by decide)]; exact r9
                  refine x_aload_n d2_next_249 rfl ?_
                  refine x_dup d2_next_250 rfl ?_
                  refine x_getI d2_next_251 f2_40 (hS.T rfl) ?_
                  refine x_top (congrArg Value.int (show I34 102 5 = nI e from hfI34_5)) ?_
                  refine x_iconst (v := nI 1) d2_next_254 (by decide) ?_
                  refine x_iaddN d2_next_255 ?_
                  refine x_putIE d2_next_256 p2_40 (hS.T rfl) (fun I35 hI35 => ?_)
                  have hfI35_4 : I35 102 4 = nI z := by rw [hI35, u2_ne _ _ (by decide)]; exact hfI34_4
                  have hfI35_7 : I35 102 7 = nI (tA z f p) := by rw [hI35, u2_ne _ _ (by decide)]; exact hfI34_7
                  have hfI35_8 : I35 102 8 = nI (((10 * (wv9 z f p e)) + (f e)) - 48) := by rw [hI35, u2_ne _ _ (by decide)]; exact hfI34_8
                  have hfI35_5 : I35 102 5 = nI (e + 1) := by rw [hI35, u2_self]
                  have grI35 := grI34.ui hI35 (by decide)
                  have r5I35 : I35 105 = I 105 := by rw [hI35, u2_row _ _ _ (by decide)]; exact r5I34
                  refine x_goto 202 d2_next_259 (by decide) ?_
                  exact ih hee (by omega) I35 grI35 hfI35_4 hfI35_5 hfI35_7 (hfI35_8.trans (by rw [wv9_s (by omega) (by omega) (by omega)])) r5I35
            exact h202 (tA z f p) h9.1 (Nat.le_refl _) I4 grI4 hfI4_4 hfI4_5 hfI4_7 (hfI4_8.trans (by unfold wv9; rw [if_pos (Nat.le_refl _)])) r5I4
          · have hK := tK_sign hz hl hd
            refine x_aload_n d2_next_5 rfl ?_
            refine x_iload_n d2_next_6 rfl ?_
            refine x_invV 102 1 d2_next_7 (hS.T rfl) v2_43_2 (h_see _ hS (k := tA z f p) (hX.gr (GR.rf (s := True) (I := I) (J := J) (P := P) hT) hX.1) (by omega)) (Cont.p ?_) (hB := hB) (hS := hSl)
            refine x_top (congrArg Value.int (seeV_t hz)) ?_
            refine x_bipush (v := nI 32) d2_next_10 (by decide) ?_
            refine x_icmp_neN 21 d2_next_12 (by decide) (by omega) (by omega) (fun b12 => ?_) (fun b12 => absurd b12 (fun q => hp9.2.2.1 ⟨hz, q⟩))
            refine x_aload_n d2_next_21 rfl ?_
            refine x_iload_n d2_next_22 rfl ?_
            refine x_putIE d2_next_23 p2_30 (hS.T rfl) (fun I1 hI1 => ?_)
            have hfI1_4 : I1 102 4 = nI z := by rw [hI1, u2_ne _ _ (by decide)]; exact hX.1
            have hfI1_5 : I1 102 5 = nI p := by rw [hI1, u2_ne _ _ (by decide)]; exact h5e
            have hfI1_7 : I1 102 7 = nI (tA z f p) := by rw [hI1, u2_self]
            have grI1 := (GR.rf (s := True) (I := I) (J := J) (P := P) hT).ui hI1 (by decide)
            have r5I1 : I1 105 = I 105 := by rw [hI1, u2_row _ _ _ (by decide)]
            refine x_aload_n d2_next_26 rfl ?_
            refine x_iload_n d2_next_27 rfl ?_
            refine x_iconst (v := nI 1) d2_next_28 (by decide) ?_
            refine x_iaddN d2_next_29 ?_
            refine x_putIE d2_next_30 p2_40 (hS.T rfl) (fun I2 hI2 => ?_)
            have hfI2_4 : I2 102 4 = nI z := by rw [hI2, u2_ne _ _ (by decide)]; exact hfI1_4
            have hfI2_7 : I2 102 7 = nI (tA z f p) := by rw [hI2, u2_ne _ _ (by decide)]; exact hfI1_7
            have hfI2_5 : I2 102 5 = nI ((tA z f p) + 1) := by rw [hI2, u2_self]
            have grI2 := grI1.ui hI2 (by decide)
            have r5I2 : I2 105 = I 105 := by rw [hI2, u2_row _ _ _ (by decide)]; exact r5I1
            refine x_aload_n d2_next_33 rfl ?_
            refine x_iload_n d2_next_34 rfl ?_
            refine x_invV 102 1 d2_next_35 (hS.T rfl) v2_43_2 (h_see _ hS (k := tA z f p) (hX.gr grI2 hfI2_4) (by omega)) (Cont.p ?_) (hB := hB) (hS := hSl)
            refine x_top (congrArg Value.int (seeV_t hz)) ?_
            refine x_istore_n d2_next_38 ?_
            refine x_iload_n d2_next_39 rfl ?_
            refine x_iconst (v := -1) d2_next_40 (by decide) ?_
            refine x_icmp_ne 57 d2_next_41 (by decide) (fun b41 => ?_) (fun b41 => absurd b41 (nI_m1 (by omega)))
            refine x_iload_n d2_next_57 rfl ?_
            refine x_invS 1 d2_next_58 s2_50 (show CP G _ M2_isSmall [.int (nI (f (tA z f p)))] _ (.int (nI 0)) by rw [← seeV_t (f := f) hz, ← bP_f hl]; exact h_rSmall _ (fun h => hX.lt h)) (Cont.p ?_) (hB := hB) (hS := hSl)
            refine x_if_eqN 185 d2_next_61 (by decide) (by omega) (fun b61 => ?_) (fun b61 => absurd b61 (fun q => q rfl))
            refine x_iload_n d2_next_185 rfl ?_
            refine x_invS 1 d2_next_186 s2_65 (show CP G _ M2_isDigit [.int (nI (f (tA z f p)))] _ (.int (nI 0)) by rw [← seeV_t (f := f) hz, ← bP_f hd]; exact h_rDigit _ (fun h => hX.lt h)) (Cont.p ?_) (hB := hB) (hS := hSl)
            refine x_if_eqN 284 d2_next_189 (by decide) (by omega) (fun b189 => ?_) (fun b189 => absurd b189 (fun q => q rfl))
            refine x_aload_n d2_next_284 rfl ?_
            refine x_iload_n d2_next_285 rfl ?_
            refine x_bipush (v := nI 44) d2_next_286 (by decide) ?_
            refine x_icmp_eqN 297 d2_next_288 (by decide) (by omega) (by omega) (fun b288 => ?_) (fun b288 => ?_)
            · refine x_iload_n d2_next_297 rfl ?_
              refine x_goto 302 d2_next_298 (by decide) ?_
              refine x_putIE d2_next_302 p2_47 (hS.T rfl) (fun I3 hI3 => ?_)
              have hfI3_4 : I3 102 4 = nI z := by rw [hI3, u2_ne _ _ (by decide)]; exact hfI2_4
              have hfI3_5 : I3 102 5 = nI ((tA z f p) + 1) := by rw [hI3, u2_ne _ _ (by decide)]; exact hfI2_5
              have hfI3_7 : I3 102 7 = nI (tA z f p) := by rw [hI3, u2_ne _ _ (by decide)]; exact hfI2_7
              have hfI3_6 : I3 102 6 = nI (f (tA z f p)) := by rw [hI3, u2_self]
              have grI3 := grI2.ui hI3 (by decide)
              have r5I3 : I3 105 = I 105 := by rw [hI3, u2_row _ _ _ (by decide)]; exact r5I2
              refine x_return d2_next_305 ?_
              have hK2 : tK z f p = f (tA z f p) ∧ tE z f p = tA z f p + 1 := by rw [hK.1, if_pos b288, b288]; exact ⟨rfl, hK.2⟩
              exact ⟨rfl, t, I3, J, P, n, sl, rfl, grI3, ⟨by rw [hK2.2]; exact hfI3_5, by rw [hK2.1]; exact hfI3_6, hfI3_7, fun q => absurd q (by rw [hK2.1]; omega), fun q => absurd q (by rw [hK2.1]; omega), hX.gr grI3 hfI3_4⟩, r5I3, by omega, by omega, by omega, by omega⟩
            · refine x_iload_n d2_next_291 rfl ?_
              refine x_bipush (v := nI 59) d2_next_292 (by decide) ?_
              refine x_icmp_neN 301 d2_next_294 (by decide) (by omega) (by omega) (fun b294 => ?_) (fun b294 => ?_)
              · refine x_iconst (v := nI 1) d2_next_301 (by decide) ?_
                refine x_putIE d2_next_302 p2_47 (hS.T rfl) (fun I4 hI4 => ?_)
                have hfI4_4 : I4 102 4 = nI z := by rw [hI4, u2_ne _ _ (by decide)]; exact hfI2_4
                have hfI4_5 : I4 102 5 = nI ((tA z f p) + 1) := by rw [hI4, u2_ne _ _ (by decide)]; exact hfI2_5
                have hfI4_7 : I4 102 7 = nI (tA z f p) := by rw [hI4, u2_ne _ _ (by decide)]; exact hfI2_7
                have hfI4_6 : I4 102 6 = nI 1 := by rw [hI4, u2_self]
                have grI4 := grI2.ui hI4 (by decide)
                have r5I4 : I4 105 = I 105 := by rw [hI4, u2_row _ _ _ (by decide)]; exact r5I2
                refine x_return d2_next_305 ?_
                have hK2 : tK z f p = 1 ∧ tE z f p = tA z f p + 1 := by rw [hK.1, if_neg b288, if_neg b294]; exact ⟨rfl, hK.2⟩
                exact ⟨rfl, t, I4, J, P, n, sl, rfl, grI4, ⟨by rw [hK2.2]; exact hfI4_5, by rw [hK2.1]; exact hfI4_6, hfI4_7, fun q => absurd q (by rw [hK2.1]; decide), fun q => absurd q (by rw [hK2.1]; decide), hX.gr grI4 hfI4_4⟩, r5I4, by omega, by omega, by omega, by omega⟩
              · refine x_iload_n d2_next_297 rfl ?_
                refine x_goto 302 d2_next_298 (by decide) ?_
                refine x_putIE d2_next_302 p2_47 (hS.T rfl) (fun I5 hI5 => ?_)
                have hfI5_4 : I5 102 4 = nI z := by rw [hI5, u2_ne _ _ (by decide)]; exact hfI2_4
                have hfI5_5 : I5 102 5 = nI ((tA z f p) + 1) := by rw [hI5, u2_ne _ _ (by decide)]; exact hfI2_5
                have hfI5_7 : I5 102 7 = nI (tA z f p) := by rw [hI5, u2_ne _ _ (by decide)]; exact hfI2_7
                have hfI5_6 : I5 102 6 = nI (f (tA z f p)) := by rw [hI5, u2_self]
                have grI5 := grI2.ui hI5 (by decide)
                have r5I5 : I5 105 = I 105 := by rw [hI5, u2_row _ _ _ (by decide)]; exact r5I2
                refine x_return d2_next_305 ?_
                have hK2 : tK z f p = f (tA z f p) ∧ tE z f p = tA z f p + 1 := by rw [hK.1, if_neg b288, if_pos b294, b294]; exact ⟨rfl, hK.2⟩
                exact ⟨rfl, t, I5, J, P, n, sl, rfl, grI5, ⟨by rw [hK2.2]; exact hfI5_5, by rw [hK2.1]; exact hfI5_6, hfI5_7, fun q => absurd q (by rw [hK2.1]; omega), fun q => absurd q (by rw [hK2.1]; omega), hX.gr grI5 hfI5_4⟩, r5I5, by omega, by omega, by omega, by omega⟩
      · have hK := tK_end hz
        refine x_aload_n d2_next_5 rfl ?_
        refine x_iload_n d2_next_6 rfl ?_
        refine x_invV 102 1 d2_next_7 (hS.T rfl) v2_43_2 (h_see _ hS (k := tA z f p) (hX.gr (GR.rf (s := True) (I := I) (J := J) (P := P) hT) hX.1) (by omega)) (Cont.p ?_) (hB := hB) (hS := hSl)
        refine x_top (congrArg Value.int (seeV_f hz)) ?_
        refine x_bipush (v := nI 32) d2_next_10 (by decide) ?_
        refine x_icmp_ne 21 d2_next_12 (by decide) (fun b12 => ?_) (fun b12 => absurd b12 (by decide))
        refine x_aload_n d2_next_21 rfl ?_
        refine x_iload_n d2_next_22 rfl ?_
        refine x_putIE d2_next_23 p2_30 (hS.T rfl) (fun I1 hI1 => ?_)
        have hfI1_4 : I1 102 4 = nI z := by rw [hI1, u2_ne _ _ (by decide)]; exact hX.1
        have hfI1_5 : I1 102 5 = nI p := by rw [hI1, u2_ne _ _ (by decide)]; exact h5e
        have hfI1_7 : I1 102 7 = nI (tA z f p) := by rw [hI1, u2_self]
        have grI1 := (GR.rf (s := True) (I := I) (J := J) (P := P) hT).ui hI1 (by decide)
        have r5I1 : I1 105 = I 105 := by rw [hI1, u2_row _ _ _ (by decide)]
        refine x_aload_n d2_next_26 rfl ?_
        refine x_iload_n d2_next_27 rfl ?_
        refine x_iconst (v := nI 1) d2_next_28 (by decide) ?_
        refine x_iaddN d2_next_29 ?_
        refine x_putIE d2_next_30 p2_40 (hS.T rfl) (fun I2 hI2 => ?_)
        have hfI2_4 : I2 102 4 = nI z := by rw [hI2, u2_ne _ _ (by decide)]; exact hfI1_4
        have hfI2_7 : I2 102 7 = nI (tA z f p) := by rw [hI2, u2_ne _ _ (by decide)]; exact hfI1_7
        have hfI2_5 : I2 102 5 = nI ((tA z f p) + 1) := by rw [hI2, u2_self]
        have grI2 := grI1.ui hI2 (by decide)
        have r5I2 : I2 105 = I 105 := by rw [hI2, u2_row _ _ _ (by decide)]; exact r5I1
        refine x_aload_n d2_next_33 rfl ?_
        refine x_iload_n d2_next_34 rfl ?_
        refine x_invV 102 1 d2_next_35 (hS.T rfl) v2_43_2 (h_see _ hS (k := tA z f p) (hX.gr grI2 hfI2_4) (by omega)) (Cont.p ?_) (hB := hB) (hS := hSl)
        refine x_top (congrArg Value.int (seeV_f hz)) ?_
        refine x_istore_n d2_next_38 ?_
        refine x_iload_n d2_next_39 rfl ?_
        refine x_iconst (v := -1) d2_next_40 (by decide) ?_
        refine x_icmp_ne 57 d2_next_41 (by decide) (fun b41 => absurd b41 (fun q => q rfl)) (fun b41 => ?_)
        refine x_aload_n d2_next_44 rfl ?_
        refine x_iconst (v := nI 0) d2_next_45 (by decide) ?_
        refine x_putIE d2_next_46 p2_47 (hS.T rfl) (fun I3 hI3 => ?_)
        have hfI3_4 : I3 102 4 = nI z := by rw [hI3, u2_ne _ _ (by decide)]; exact hfI2_4
        have hfI3_5 : I3 102 5 = nI ((tA z f p) + 1) := by rw [hI3, u2_ne _ _ (by decide)]; exact hfI2_5
        have hfI3_7 : I3 102 7 = nI (tA z f p) := by rw [hI3, u2_ne _ _ (by decide)]; exact hfI2_7
        have hfI3_6 : I3 102 6 = nI 0 := by rw [hI3, u2_self]
        have grI3 := grI2.ui hI3 (by decide)
        have r5I3 : I3 105 = I 105 := by rw [hI3, u2_row _ _ _ (by decide)]; exact r5I2
        refine x_aload_n d2_next_49 rfl ?_
        refine x_iload_n d2_next_50 rfl ?_
        refine x_putIE d2_next_51 p2_40 (hS.T rfl) (fun I4 hI4 => ?_)
        have hfI4_4 : I4 102 4 = nI z := by rw [hI4, u2_ne _ _ (by decide)]; exact hfI3_4
        have hfI4_7 : I4 102 7 = nI (tA z f p) := by rw [hI4, u2_ne _ _ (by decide)]; exact hfI3_7
        have hfI4_6 : I4 102 6 = nI 0 := by rw [hI4, u2_ne _ _ (by decide)]; exact hfI3_6
        have hfI4_5 : I4 102 5 = nI (tA z f p) := by rw [hI4, u2_self]
        have grI4 := grI3.ui hI4 (by decide)
        have r5I4 : I4 105 = I 105 := by rw [hI4, u2_row _ _ _ (by decide)]; exact r5I3
        refine x_goto 305 d2_next_54 (by decide) ?_
        exact x_return d2_next_305 ⟨rfl, t, I4, J, P, n, sl, rfl, grI4, ⟨by rw [hK.2]; exact hfI4_5, by rw [hK.1]; exact hfI4_6, hfI4_7, fun q => absurd q (by rw [hK.1]; decide), fun q => absurd q (by rw [hK.1]; decide), hX.gr grI4 hfI4_4⟩, r5I4, by omega, by omega, by omega, by omega⟩
  refine x_aload_n d2_next_0 rfl ?_
  refine x_getI d2_next_1 f2_40 (hS.T rfl) ?_
  refine x_top (congrArg Value.int (show I 102 5 = nI p from h5e)) ?_
  refine x_istore_n d2_next_4 ?_
  exact h5 p hp9.1 (Nat.le_refl _)
