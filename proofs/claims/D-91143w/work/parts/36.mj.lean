/-! the JDK: strings of letters -/
set_option maxRecDepth 100000
/-- the byte as it is read -/
def btN (x : Int32) : Nat := (x &&& 255).toNatClampNeg
theorem btN_lt (x : Int32) : btN x < 256 ∧ x &&& 255 = nI (btN x) := by
  have h0 : ¬ (x &&& 255) < 0 := by
    intro h
    have h1 := Int32.lt_iff_toInt_lt.mp h
    have h2 : (x &&& 255).toBitVec.msb = true := by
      rw [BitVec.msb_eq_toInt]
      exact decide_eq_true (show (x &&& 255).toBitVec.toInt < 0 from h1)
    have h3 : (x &&& 255).toBitVec = x.toBitVec &&& 255#32 := rfl
    rw [h3, BitVec.msb_and] at h2
    have h4 : (255#32 : BitVec 32).msb = false := by decide
    rw [h4, Bool.and_false] at h2
    cases h2
  obtain ⟨j, hj, e⟩ := nI_of h0
  have e2 : btN x = j := by unfold btN; rw [e, nI_clamp hj]
  refine ⟨?_, by rw [e2]; exact e⟩
  rw [e2]
  have h5 : (x &&& 255).toBitVec.toNat ≤ 255 := by
    have h3 : (x &&& 255).toBitVec = x.toBitVec &&& 255#32 := rfl
    rw [h3, BitVec.toNat_and]
    exact Nat.and_le_right
  rw [e] at h5
  have h6 : (nI j).toBitVec.toNat = j := by
    show (BitVec.ofNat 32 j).toNat = j
    rw [BitVec.toNat_ofNat, Nat.mod_eq_of_lt (by omega)]
  omega
theorem i2c_N {j : Nat} (h : j < 65536) : ((nI j).toUInt32 % 65536).toInt32 = nI j := by
  apply Int32.toBitVec_inj.1
  apply BitVec.eq_of_toNat_eq
  show ((BitVec.ofNat 32 j) % 65536#32).toNat = (BitVec.ofNat 32 j).toNat
  rw [BitVec.toNat_umod]
  simp
  omega
/-- a String of Latin letters at a, its bytes at v -/
def StrT (t : Nat → Option (Nat × Nat)) (I : Nat → Nat → Int32) (P : Nat → Nat → Value) (a v len : Nat) (c : Nat → Nat) : Prop := t a = some (15, 0) ∧ P a 0 = .ref v ∧ t v = some (101, len) ∧ I a 1 = nI 0 ∧ (∀ i, i < len → I v i = nI (c i) ∧ c i < 128) ∧ len ≤ 300
/-- the hash -/
def hsV (c : Nat → Nat) : Nat → Int32
  | 0 => nI 0
  | n + 1 => nI 31 * hsV c n + nI (c n)
theorem and255 {j : Nat} (h : j < 128) : nI j &&& nI 255 = nI j := by
  rw [nx_and, show (255 : Nat) = 2 ^ 8 - 1 from rfl, Nat.and_two_pow_sub_one_eq_mod, Nat.mod_eq_of_lt (by omega)]
theorem btN_c {j : Nat} (h : j < 128) : btN (nI j) = j := by
  unfold btN
  rw [show (255 : Int32) = nI 255 from rfl, and255 h, nI_clamp (by omega)]
def StrEq (len len2 : Nat) (c c2 : Nat → Nat) : Prop := len = len2 ∧ ∀ i, i < len → c i = c2 i
theorem nar_char {j : Nat} (h : j < 65536) : narrow .char (.int (nI j)) = .int (nI j) := by
  have h1 := vp_nar_char (nI j)
  have h2 : (nI j).toUInt32.toUInt16.toUInt32.toInt32 = nI j := by
    apply Int32.toBitVec_inj.1
    apply BitVec.eq_of_toNat_eq
    show (((BitVec.ofNat 32 j).setWidth 16).setWidth 32).toNat = (BitVec.ofNat 32 j).toNat
    simp
    omega
  show Value.int _ = _
  exact congrArg Value.int h2
set_option maxHeartbeats 4000000 in
theorem j_isLatin1 {G : GG} {d : Nat} {t : Nat → Option (Nat × Nat)} {J : Nat → Nat → Int64} {P : Nat → Nat → Value} {n sl : Nat} {I : Nat → Nat → Int32} {a v len : Nat} {c : Nat → Nat} (hx : StrT t I P a v len c) : CP G d MJ3_isLatin1 [.ref a] (t, I, J, P, n, sl) (.int (nI 1)) := by
  refine CA.w ?_
  show RA _ _ MJ3_isLatin1 0 [.ref a] [] _ _
  refine x_gets dJ3_isLatin1_0 (lw_g (lw_at lw_m2 113 rfl) rfl) (List.mem_of_getElem? (i := 3) rfl) ?_
  refine x_if_eq 17 dJ3_isLatin1_3 (by decide) (fun b3 => absurd b3 (by decide)) (fun b3 => ?_)
  refine x_aload_n dJ3_isLatin1_6 rfl ?_
  refine x_getI dJ3_isLatin1_7 fJ3_15 hx.1 ?_
  refine x_top (congrArg Value.int (show I a 1 = nI 0 from hx.2.2.2.1)) ?_
  refine x_if_neN 17 dJ3_isLatin1_10 (by decide) (by omega) (fun b10 => absurd b10 (fun z => z rfl)) (fun b10 => ?_)
  refine x_iconst (v := nI 1) dJ3_isLatin1_13 (by decide) ?_
  refine x_goto 18 dJ3_isLatin1_14 (by decide) ?_
  exact x_ireturn dJ3_isLatin1_18 ⟨rfl, rfl⟩
set_option maxHeartbeats 4000000 in
theorem j_coder {G : GG} {d : Nat} {t : Nat → Option (Nat × Nat)} {J : Nat → Nat → Int64} {P : Nat → Nat → Value} {n sl : Nat} {I : Nat → Nat → Int32} {a v len : Nat} {c : Nat → Nat} (hx : StrT t I P a v len c) : CP G d MJ3_coder [.ref a] (t, I, J, P, n, sl) (.int (nI 0)) := by
  refine CA.w ?_
  show RA _ _ MJ3_coder 0 [.ref a] [] _ _
  refine x_gets dJ3_coder_0 (lw_g (lw_at lw_m2 113 rfl) rfl) (List.mem_of_getElem? (i := 3) rfl) ?_
  refine x_if_eq 13 dJ3_coder_3 (by decide) (fun b3 => absurd b3 (by decide)) (fun b3 => ?_)
  refine x_aload_n dJ3_coder_6 rfl ?_
  refine x_getI dJ3_coder_7 fJ3_15 hx.1 ?_
  refine x_top (congrArg Value.int (show I a 1 = nI 0 from hx.2.2.2.1)) ?_
  refine x_goto 14 dJ3_coder_10 (by decide) ?_
  exact x_ireturn dJ3_coder_14 ⟨rfl, rfl⟩
set_option maxHeartbeats 4000000 in
theorem j_length {G : GG} {d : Nat} {t : Nat → Option (Nat × Nat)} {J : Nat → Nat → Int64} {P : Nat → Nat → Value} {n sl : Nat} {I : Nat → Nat → Int32} {a v len : Nat} {c : Nat → Nat} (hx : StrT t I P a v len c) (hB : n ≤ 601124) (hSl : sl ≤ 7293033) : CP G (d + 1) MJ3_length [.ref a] (t, I, J, P, n, sl) (.int (nI len)) := by
  refine CA.w ?_
  show RA _ _ MJ3_length 0 [.ref a] [] _ _
  refine x_aload_n dJ3_length_0 rfl ?_
  refine x_getP dJ3_length_1 fJ3_9 hx.1 hx.2.1 ?_
  refine x_alen (k := 1) dJ3_length_4 hx.2.2.1 rfl ?_
  refine x_aload_n dJ3_length_5 rfl ?_
  refine x_invV a 0 dJ3_length_6 hx.1 vJ3_335_15 (j_coder hx) (Cont.p ?_) (hB := hB) (hS := hSl)
  have hlen := hx.2.2.2.2.2
  refine x_ishrN dJ3_length_9 (by omega) (by omega) ?_
  exact x_ireturn dJ3_length_10 ⟨by rw [Nat.pow_zero, Nat.div_one], rfl⟩
set_option maxHeartbeats 4000000 in
theorem j_pcheck {G : GG} {d : Nat} {h : AH} {i m : Nat} (hi : i < m) (hm : m < 2 ^ 31) : CP G d MJ4_checkIndex [.int (nI i), .int (nI m), .ref 62] h (.int (nI i)) := by
  refine CA.w ?_
  show RA _ _ MJ4_checkIndex 0 [.int (nI i), .int (nI m), .ref 62] [] _ _
  refine x_iload_n dJ4_checkIndex_0 rfl ?_
  refine x_if_ltN (tgt := 9) dJ4_checkIndex_1 (by omega) ?_ (by decide)
  refine x_iload_n dJ4_checkIndex_4 rfl ?_
  refine x_iload_n dJ4_checkIndex_5 rfl ?_
  refine x_icmp_ltN 16 dJ4_checkIndex_6 (by decide) (by omega) (by omega) (fun b6 => ?_) (fun b6 => absurd b6 (by omega))
  refine x_iload_n dJ4_checkIndex_16 rfl ?_
  exact x_ireturn dJ4_checkIndex_17 ⟨rfl, rfl⟩
set_option maxHeartbeats 4000000 in
theorem j_scheck {G : GG} {d : Nat} {h : AH} {i m : Nat} (hi : i < m) (hm : m < 2 ^ 31) (hB : a_n h ≤ 601124) (hSl : a_s h ≤ 7293033) : CA G (d + 1) MJ3_checkIndex [.int (nI i), .int (nI m)] h (fun o h' => o = .inl none ∧ h' = h) := by
  refine CA.w ?_
  show RA _ _ MJ3_checkIndex 0 [.int (nI i), .int (nI m)] [] _ _
  refine x_iload_n dJ3_checkIndex_0 rfl ?_
  refine x_iload_n dJ3_checkIndex_1 rfl ?_
  refine x_gets dJ3_checkIndex_2 (lw_g (lw_at lw_m2 103 rfl) rfl) (List.mem_of_getElem? (i := 2) rfl) ?_
  refine x_invS 3 dJ3_checkIndex_5 sJ3_1059 (j_pcheck hi hm) (Cont.p ?_) (hB := hB) (hS := hSl)
  refine x_pop dJ3_checkIndex_8 rfl ?_
  exact x_return dJ3_checkIndex_9 ⟨rfl, rfl⟩
theorem and255N {j : Nat} (h : j < 128) : j &&& 255 = j := by
  rw [show (255 : Nat) = 2 ^ 8 - 1 from rfl, Nat.and_two_pow_sub_one_eq_mod, Nat.mod_eq_of_lt (by omega)]
set_option maxHeartbeats 4000000 in
theorem j_lcharAt {G : GG} {d : Nat} {t : Nat → Option (Nat × Nat)} {J : Nat → Nat → Int64} {P : Nat → Nat → Value} {n sl : Nat} {I : Nat → Nat → Int32} {a v len : Nat} {c : Nat → Nat} (hx : StrT t I P a v len c) {i : Nat} (hi : i < len) (hB : n ≤ 601124) (hSl : sl ≤ 7293033) : CP G (d + 2) MJ6_charAt [.ref v, .int (nI i)] (t, I, J, P, n, sl) (.int (nI (c i))) := by
  refine CA.w ?_
  show RA _ _ MJ6_charAt 0 [.ref v, .int (nI i)] [] _ _
  have hlen := hx.2.2.2.2.2
  have hci := (hx.2.2.2.2.1 i hi).2
  refine x_iload_n dJ6_charAt_0 rfl ?_
  refine x_aload_n dJ6_charAt_1 rfl ?_
  refine x_alen (k := 1) dJ6_charAt_2 hx.2.2.1 rfl ?_
  refine x_invS 2 dJ6_charAt_3 sJ6_9 (j_scheck hi (by omega) hB hSl) (Cont.ev ?_) (hB := hB) (hS := hSl)
  refine x_aload_n dJ6_charAt_6 rfl ?_
  refine x_iload_n dJ6_charAt_7 rfl ?_
  refine x_baldN dJ6_charAt_8 hx.2.2.1 hi ?_ (hl := by omega)
  refine x_top (congrArg Value.int (show I v i = nI (c i) from (hx.2.2.2.2.1 i hi).1)) ?_
  refine x_sipush (v := nI 255) dJ6_charAt_9 (by decide) ?_
  refine x_iandN dJ6_charAt_12 ?_
  refine x_i2c dJ6_charAt_13 ?_
  exact x_ireturn dJ6_charAt_14 ⟨by rw [and255N hci, i2c_N (by omega)], rfl⟩ (hn := by rw [and255N hci, i2c_N (by omega)]; exact nar_char (by omega))
set_option maxHeartbeats 4000000 in
theorem j_charAt {G : GG} {d : Nat} {t : Nat → Option (Nat × Nat)} {J : Nat → Nat → Int64} {P : Nat → Nat → Value} {n sl : Nat} {I : Nat → Nat → Int32} {a v len : Nat} {c : Nat → Nat} (hx : StrT t I P a v len c) {i : Nat} (hi : i < len) (hB : n ≤ 601124) (hSl : sl ≤ 7293033) : CP G (d + 3) MJ3_charAt [.ref a, .int (nI i)] (t, I, J, P, n, sl) (.int (nI (c i))) := by
  refine CA.w ?_
  show RA _ _ MJ3_charAt 0 [.ref a, .int (nI i)] [] _ _
  refine x_aload_n dJ3_charAt_0 rfl ?_
  refine x_invV a 0 dJ3_charAt_1 hx.1 vJ3_492_15 (j_isLatin1 hx) (Cont.p ?_) (hB := hB) (hS := hSl)
  refine x_if_eqN 16 dJ3_charAt_4 (by decide) (by omega) (fun b4 => absurd b4 (by decide)) (fun b4 => ?_)
  refine x_aload_n dJ3_charAt_7 rfl ?_
  refine x_getP dJ3_charAt_8 fJ3_9 hx.1 hx.2.1 ?_
  refine x_iload_n dJ3_charAt_11 rfl ?_
  refine x_invS 2 dJ3_charAt_12 sJ3_495 (j_lcharAt hx hi hB hSl) (Cont.p ?_) (hB := hB) (hS := hSl)
  exact x_ireturn dJ3_charAt_15 ⟨rfl, rfl⟩ (hn := nar_char (by have := (hx.2.2.2.2.1 i hi).2; omega))
set_option maxHeartbeats 4000000 in
theorem j_lequals {G : GG} {d : Nat} {t : Nat → Option (Nat × Nat)} {J : Nat → Nat → Int64} {P : Nat → Nat → Value} {n sl : Nat} {I : Nat → Nat → Int32} {a v len : Nat} {c : Nat → Nat} (hx : StrT t I P a v len c) {b v2 len2 : Nat} {c2 : Nat → Nat} (hx2 : StrT t I P b v2 len2 c2) : CP G d MJ6_equals [.ref v, .ref v2] (t, I, J, P, n, sl) (.int (nI (bP (StrEq len len2 c c2)))) := by
  refine CA.w ?_
  show RA _ _ MJ6_equals 0 [.ref v, .ref v2, U0] [] _ _
  have hl1 := hx.2.2.2.2.2
  have hl2 := hx2.2.2.2.2.2
  refine x_aload_n dJ6_equals_0 rfl ?_
  refine x_alen (k := 1) dJ6_equals_1 hx.2.2.1 rfl ?_
  refine x_aload_n dJ6_equals_2 rfl ?_
  refine x_alen (k := 1) dJ6_equals_3 hx2.2.2.1 rfl ?_
  refine x_icmp_neN 34 dJ6_equals_4 (by decide) (by omega) (by omega) (fun b4 => ?_) (fun b4 => ?_)
  · refine x_iconst (v := nI 0) dJ6_equals_34 (by decide) ?_
    exact x_ireturn dJ6_equals_35 ⟨by rw [bP_f (fun z => b4 z.1)], rfl⟩
  · refine x_iconst (v := nI 0) dJ6_equals_7 (by decide) ?_
    refine x_istore_n dJ6_equals_8 ?_
    have hL : ∀ k, k ≤ len → (∀ i, i < k → c i = c2 i) → RA G d MJ6_equals 9 [.ref v, .ref v2, .int (nI k)] [] (t, I, J, P, n, sl) (fun o h' => o = .inl (some (.int (nI (bP (StrEq len len2 c c2))))) ∧ h' = (t, I, J, P, n, sl)) := by
      refine up_ind ?_
      intro k hk_ ih hpre
      refine x_iload_n dJ6_equals_9 rfl ?_
      refine x_aload_n dJ6_equals_10 rfl ?_
      refine x_alen (k := 1) dJ6_equals_11 hx.2.2.1 rfl ?_
      refine x_icmp_geN 32 dJ6_equals_12 (by decide) (by omega) (by omega) (fun b12 => ?_) (fun b12 => ?_)
      · refine x_iconst (v := nI 1) dJ6_equals_32 (by decide) ?_
        exact x_ireturn dJ6_equals_33 ⟨by rw [bP_t ⟨b4, fun i hi => hpre i (by omega)⟩], rfl⟩
      · refine x_aload_n dJ6_equals_15 rfl ?_
        refine x_iload_n dJ6_equals_16 rfl ?_
        refine x_baldN dJ6_equals_17 hx.2.2.1 (by omega) ?_ (hl := by omega)
        refine x_top (congrArg Value.int (show I v k = nI (c k) from (hx.2.2.2.2.1 k (by omega)).1)) ?_
        have hc1 := (hx.2.2.2.2.1 k (by omega)).2
        refine x_aload_n dJ6_equals_18 rfl ?_
        refine x_iload_n dJ6_equals_19 rfl ?_
        refine x_baldN dJ6_equals_20 hx2.2.2.1 (by omega) ?_ (hl := by omega)
        refine x_top (congrArg Value.int (show I v2 k = nI (c2 k) from (hx2.2.2.2.2.1 k (by omega)).1)) ?_
        have hc2 := (hx2.2.2.2.2.1 k (by omega)).2
        refine x_icmp_eqN 26 dJ6_equals_21 (by decide) (by omega) (by omega) (fun b21 => ?_) (fun b21 => ?_)
        · refine x_iincN (c := 1) dJ6_equals_26 rfl (by decide) ?_
          refine x_goto 9 dJ6_equals_29 (by decide) ?_
          exact ih (by omega) (fun i hi => by by_cases e : i = k; rw [e]; exact b21; exact hpre i (by omega))
        · refine x_iconst (v := nI 0) dJ6_equals_24 (by decide) ?_
          exact x_ireturn dJ6_equals_25 ⟨by rw [bP_f (fun z => b21 (z.2 k (by omega)))], rfl⟩
    exact hL 0 (Nat.zero_le _) (fun i h => absurd h (Nat.not_lt_zero _))
set_option maxHeartbeats 4000000 in
theorem j_equals {G : GG} {d : Nat} {t : Nat → Option (Nat × Nat)} {J : Nat → Nat → Int64} {P : Nat → Nat → Value} {n sl : Nat} {I : Nat → Nat → Int32} {a v len : Nat} {c : Nat → Nat} (hx : StrT t I P a v len c) {b v2 len2 : Nat} {c2 : Nat → Nat} (hx2 : StrT t I P b v2 len2 c2) (ha : 100 ≤ a) (hab : a ≠ b) (hB : n ≤ 601124) (hSl : sl ≤ 7293033) : CP G (d + 1) MJ3_equals [.ref a, .ref b] (t, I, J, P, n, sl) (.int (nI (bP (StrEq len len2 c c2)))) := by
  refine CA.w ?_
  show RA _ _ MJ3_equals 0 [.ref a, .ref b, U0] [] _ _
  refine x_aload_n dJ3_equals_0 rfl ?_
  refine x_aload_n dJ3_equals_1 rfl ?_
  refine x_acmp_ne 7 dJ3_equals_2 (by decide) (Or.inl ha) hx.1 hx2.1 (fun _ => ?_) (fun z => absurd z hab)
  refine x_aload_n dJ3_equals_7 rfl ?_
  refine x_instS dJ3_equals_8 hx2.1 rfl (lw_g (lw_at lw_m2 236 rfl) rfl) ?_
  refine x_if_eq 54 dJ3_equals_11 (by decide) (fun b11 => absurd b11 (by decide)) (fun b11 => ?_)
  refine x_aload_n dJ3_equals_14 rfl ?_
  refine x_castS dJ3_equals_15 hx2.1 rfl (lw_g (lw_at lw_m2 236 rfl) rfl) ?_
  refine x_astore_n dJ3_equals_18 ?_
  refine x_gets dJ3_equals_19 (lw_g (lw_at lw_m2 113 rfl) rfl) (List.mem_of_getElem? (i := 3) rfl) ?_
  refine x_if_eq 36 dJ3_equals_22 (by decide) (fun b22 => absurd b22 (by decide)) (fun b22 => ?_)
  refine x_aload_n dJ3_equals_25 rfl ?_
  refine x_getI dJ3_equals_26 fJ3_15 hx.1 ?_
  refine x_top (congrArg Value.int (show I a 1 = nI 0 from hx.2.2.2.1)) ?_
  refine x_aload_n dJ3_equals_29 rfl ?_
  refine x_getI dJ3_equals_30 fJ3_15 hx2.1 ?_
  refine x_top (congrArg Value.int (show I b 1 = nI 0 from hx2.2.2.2.1)) ?_
  refine x_icmp_neN 54 dJ3_equals_33 (by decide) (by omega) (by omega) (fun b33 => absurd b33 (fun z => z rfl)) (fun b33 => ?_)
  refine x_aload_n dJ3_equals_36 rfl ?_
  refine x_getP dJ3_equals_37 fJ3_9 hx.1 hx.2.1 ?_
  refine x_aload_n dJ3_equals_40 rfl ?_
  refine x_getP dJ3_equals_41 fJ3_9 hx2.1 hx2.2.1 ?_
  refine x_invS 2 dJ3_equals_44 sJ3_541 (j_lequals hx hx2) (Cont.p ?_) (hB := hB) (hS := hSl)
  have hbl := bP_lt (StrEq len len2 c c2)
  refine x_if_eqN 54 dJ3_equals_47 (by decide) (by omega) (fun b47 => ?_) (fun b47 => ?_)
  · refine x_iconst (v := nI 0) dJ3_equals_54 (by decide) ?_
    exact x_ireturn dJ3_equals_55 ⟨by rw [show bP (StrEq len len2 c c2) = 0 from b47], rfl⟩
  · refine x_iconst (v := nI 1) dJ3_equals_50 (by decide) ?_
    refine x_goto 55 dJ3_equals_51 (by decide) ?_
    exact x_ireturn dJ3_equals_55 ⟨by rw [show bP (StrEq len len2 c c2) = 1 by omega], rfl⟩
set_option maxHeartbeats 4000000 in
theorem j_signed {G : GG} {d : Nat} {t : Nat → Option (Nat × Nat)} {J : Nat → Nat → Int64} {P : Nat → Nat → Value} {n sl : Nat} {I : Nat → Nat → Int32} {a v len : Nat} {c : Nat → Nat} (hx : StrT t I P a v len c) : CP G d MJ7_signedHashCode [.int (nI 0), .ref v, .int (nI 0), .int (nI len)] (t, I, J, P, n, sl) (.int (hsV c len)) := by
  refine CA.w ?_
  show RA _ _ MJ7_signedHashCode 0 [.int (nI 0), .ref v, .int (nI 0), .int (nI len), U0, U0] [] _ _
  have hl1 := hx.2.2.2.2.2
  refine x_iload_n dJ7_signedHashCode_0 rfl ?_
  refine x_iload_n dJ7_signedHashCode_1 rfl ?_
  refine x_iaddN dJ7_signedHashCode_2 ?_
  refine x_top (show Value.int (nI (0 + len)) = Value.int (nI len) by rw [Nat.zero_add]) ?_
  refine x_istore dJ7_signedHashCode_3 ?_
  refine x_iload_n dJ7_signedHashCode_5 rfl ?_
  refine x_istore dJ7_signedHashCode_6 ?_
  have hL : ∀ k, k ≤ len → RA G d MJ7_signedHashCode 8 [.int (hsV c k), .ref v, .int (nI 0), .int (nI len), .int (nI len), .int (nI k)] [] (t, I, J, P, n, sl) (fun o h' => o = .inl (some (.int (hsV c len))) ∧ h' = (t, I, J, P, n, sl)) := by
    refine up_ind ?_
    intro k hk_ ih
    refine x_iload dJ7_signedHashCode_8 rfl ?_
    refine x_iload dJ7_signedHashCode_10 rfl ?_
    refine x_icmp_geN 35 dJ7_signedHashCode_12 (by decide) (by omega) (by omega) (fun b12 => ?_) (fun b12 => ?_)
    · refine x_iload_n dJ7_signedHashCode_35 rfl ?_
      exact x_ireturn dJ7_signedHashCode_36 ⟨by rw [show k = len by omega], rfl⟩
    · refine x_bipush (v := nI 31) dJ7_signedHashCode_15 (by decide) ?_
      refine x_iload_n dJ7_signedHashCode_17 rfl ?_
      refine x_imul dJ7_signedHashCode_18 ?_
      refine x_aload_n dJ7_signedHashCode_19 rfl ?_
      refine x_iload dJ7_signedHashCode_20 rfl ?_
      refine x_baldN dJ7_signedHashCode_22 hx.2.2.1 (by omega) ?_ (hl := by omega)
      refine x_top (congrArg Value.int (show I v k = nI (c k) from (hx.2.2.2.2.1 k (by omega)).1)) ?_
      have hc1 := (hx.2.2.2.2.1 k (by omega)).2
      refine x_sipush (v := nI 255) dJ7_signedHashCode_23 (by decide) ?_
      refine x_iandN dJ7_signedHashCode_26 ?_
      refine x_iadd dJ7_signedHashCode_27 ?_
      refine x_istore_n dJ7_signedHashCode_28 ?_
      refine x_iincN (c := 1) dJ7_signedHashCode_29 rfl (by decide) ?_
      refine x_goto 8 dJ7_signedHashCode_32 (by decide) ?_
      rw [and255N hc1]
      exact ih (by omega)
  exact hL 0 (Nat.zero_le _)
set_option maxHeartbeats 4000000 in
theorem j_vect {G : GG} {d : Nat} {t : Nat → Option (Nat × Nat)} {J : Nat → Nat → Int64} {P : Nat → Nat → Value} {n sl : Nat} {I : Nat → Nat → Int32} {a v len : Nat} {c : Nat → Nat} (hx : StrT t I P a v len c) (hv : 100 ≤ v) (hB : n ≤ 601124) (hSl : sl ≤ 7293033) : CP G (d + 1) MJ7_vectorizedHashCode [.ref v, .int (nI 0), .int (nI len), .int (nI 0), .int (nI 4)] (t, I, J, P, n, sl) (.int (hsV c len)) := by
  refine CA.w ?_
  show RA _ _ MJ7_vectorizedHashCode 0 [.ref v, .int (nI 0), .int (nI len), .int (nI 0), .int (nI 4)] [] _ _
  refine x_iload dJ7_vectorizedHashCode_0 rfl ?_
  refine x_tableIn (off := 42) 44 dJ7_vectorizedHashCode_2 (by decide) (by decide) (by decide) (by decide) ?_
  refine x_iload_n dJ7_vectorizedHashCode_44 rfl ?_
  refine x_aload_n dJ7_vectorizedHashCode_45 rfl ?_
  refine x_castA (k := 1) dJ7_vectorizedHashCode_46 hx.2.2.1 hv (by decide) (by decide) (lw_g (lw_at lw_m2 192 rfl) rfl) ?_
  refine x_iload_n dJ7_vectorizedHashCode_49 rfl ?_
  refine x_iload_n dJ7_vectorizedHashCode_50 rfl ?_
  refine x_invS 4 dJ7_vectorizedHashCode_51 sJ7_62 (j_signed hx) (Cont.p ?_) (hB := hB) (hS := hSl)
  refine x_goto 157 dJ7_vectorizedHashCode_54 (by decide) ?_
  exact x_ireturn dJ7_vectorizedHashCode_157 ⟨rfl, rfl⟩
theorem lk_hash {len : Nat} (e0 : len ≠ 0) (e1 : len ≠ 1) (hl : len ≤ 300) : Op.lookupswitch.offset #[((0 : Int), (26 : Int)), (1, 30)].toList 40 (nI len).toInt = 40 := by
  rw [nI_toInt (by omega)]
  have h0 : ¬ (0 : Int) = (len : Int) := by omega
  have h1 : ¬ (1 : Int) = (len : Int) := by omega
  simp [Op.lookupswitch.offset, h0, h1]
set_option maxHeartbeats 4000000 in
theorem j_lhash {G : GG} {d : Nat} {t : Nat → Option (Nat × Nat)} {J : Nat → Nat → Int64} {P : Nat → Nat → Value} {n sl : Nat} {I : Nat → Nat → Int32} {a v len : Nat} {c : Nat → Nat} (hx : StrT t I P a v len c) (hv : 100 ≤ v) (hB : n ≤ 601124) (hSl : sl ≤ 7293033) : CP G (d + 2) MJ6_hashCode [.ref v] (t, I, J, P, n, sl) (.int (hsV c len)) := by
  refine CA.w ?_
  show RA _ _ MJ6_hashCode 0 [.ref v] [] _ _
  have hl1 := hx.2.2.2.2.2
  by_cases e : len = 0
  · refine x_aload_n dJ6_hashCode_0 rfl ?_
    refine x_alen (k := 1) dJ6_hashCode_1 hx.2.2.1 rfl ?_
    refine x_lookup (off := 26) 28 dJ6_hashCode_2 (by decide) (by rw [e]; decide) (by decide) ?_
    refine x_iconst (v := nI 0) dJ6_hashCode_28 (by decide) ?_
    refine x_goto 51 dJ6_hashCode_29 (by decide) ?_
    exact x_ireturn dJ6_hashCode_51 ⟨by rw [e]; rfl, rfl⟩
  have e0 := e
  clear e
  by_cases e : len = 1
  · refine x_aload_n dJ6_hashCode_0 rfl ?_
    refine x_alen (k := 1) dJ6_hashCode_1 hx.2.2.1 rfl ?_
    refine x_lookup (off := 30) 32 dJ6_hashCode_2 (by decide) (by rw [e]; decide) (by decide) ?_
    refine x_aload_n dJ6_hashCode_32 rfl ?_
    refine x_iconst (v := nI 0) dJ6_hashCode_33 (by decide) ?_
    refine x_baldN dJ6_hashCode_34 hx.2.2.1 (by omega) ?_ (hl := by omega)
    refine x_top (congrArg Value.int (show I v 0 = nI (c 0) from (hx.2.2.2.2.1 0 (by omega)).1)) ?_
    have hc1 := (hx.2.2.2.2.1 0 (by omega)).2
    refine x_sipush (v := nI 255) dJ6_hashCode_35 (by decide) ?_
    refine x_iandN dJ6_hashCode_38 ?_
    refine x_goto 51 dJ6_hashCode_39 (by decide) ?_
    exact x_ireturn dJ6_hashCode_51 ⟨by rw [and255N hc1, e]; show _ = Sum.inl (some (Value.int (nI 31 * nI 0 + nI (c 0)))); rw [pk_mul, nI_add, Nat.mul_zero, Nat.zero_add], rfl⟩
  have e1 := e
  refine x_aload_n dJ6_hashCode_0 rfl ?_
  refine x_alen (k := 1) dJ6_hashCode_1 hx.2.2.1 rfl ?_
  refine x_lookup (off := 40) 42 dJ6_hashCode_2 (by decide) (lk_hash e0 e1 hl1) (by decide) ?_
  refine x_aload_n dJ6_hashCode_42 rfl ?_
  refine x_iconst (v := nI 0) dJ6_hashCode_43 (by decide) ?_
  refine x_aload_n dJ6_hashCode_44 rfl ?_
  refine x_alen (k := 1) dJ6_hashCode_45 hx.2.2.1 rfl ?_
  refine x_iconst (v := nI 0) dJ6_hashCode_46 (by decide) ?_
  refine x_iconst (v := nI 4) dJ6_hashCode_47 (by decide) ?_
  refine x_invS 5 dJ6_hashCode_48 sJ6_84 (j_vect hx hv hB hSl) (Cont.p ?_) (hB := hB) (hS := hSl)
  exact x_ireturn dJ6_hashCode_51 ⟨rfl, rfl⟩
/-- what is kept of the hash -/
def HsK (I : Nat → Nat → Int32) (a : Nat) (h : Int32) : Prop := (I a 2 = 0 ∨ I a 2 = h) ∧ (I a 3 = 0 ∨ h = 0)
set_option maxHeartbeats 4000000 in
theorem j_hash {G : GG} {d : Nat} {t : Nat → Option (Nat × Nat)} {J : Nat → Nat → Int64} {P : Nat → Nat → Value} {n sl : Nat} {I : Nat → Nat → Int32} {a v len : Nat} {c : Nat → Nat} (hx : StrT t I P a v len c) (ha : 100 ≤ a) (hv : 100 ≤ v) (hk : HsK I a (hsV c len)) (hB : n ≤ 601124) (hSl : sl ≤ 7293033) : CA G (d + 3) MJ3_hashCode [.ref a] (t, I, J, P, n, sl) (fun o h' => o = .inl (some (.int (hsV c len))) ∧ ∃ I', h' = (t, I', J, P, n, sl) ∧ (∀ b, b ≠ a → I' b = I b) ∧ (∀ j, j ≠ 3 → j ≠ 2 → I' a j = I a j) ∧ HsK I' a (hsV c len)) := by
  refine CA.w ?_
  show RA _ _ MJ3_hashCode 0 [.ref a, U0] [] _ _
  refine x_aload_n dJ3_hashCode_0 rfl ?_
  refine x_getI dJ3_hashCode_1 fJ3_19 hx.1 ?_
  refine x_istore_n dJ3_hashCode_4 ?_
  refine x_iload_n dJ3_hashCode_5 rfl ?_
  refine x_if_ne 58 dJ3_hashCode_6 (by decide) (fun b6 => ?_) (fun b6 => ?_)
  · refine x_iload_n dJ3_hashCode_58 rfl ?_
    exact x_ireturn dJ3_hashCode_59 ⟨by rw [(hk.1.resolve_left b6)], I, rfl, fun _ _ => rfl, fun _ _ _ => rfl, hk⟩
  · refine x_aload_n dJ3_hashCode_9 rfl ?_
    refine x_getI dJ3_hashCode_10 fJ3_23 hx.1 ?_
    refine x_if_ne 58 dJ3_hashCode_13 (by decide) (fun b13 => ?_) (fun b13 => ?_)
    · refine x_iload_n dJ3_hashCode_58 rfl ?_
      exact x_ireturn dJ3_hashCode_59 ⟨by rw [b6, hk.2.resolve_left b13], I, rfl, fun _ _ => rfl, fun _ _ _ => rfl, hk⟩
    · refine x_aload_n dJ3_hashCode_16 rfl ?_
      refine x_invV a 0 dJ3_hashCode_17 hx.1 vJ3_492_15 (j_isLatin1 hx) (Cont.p ?_) (hB := hB) (hS := hSl)
      refine x_if_eqN 33 dJ3_hashCode_20 (by decide) (by omega) (fun b20 => absurd b20 (by decide)) (fun b20 => ?_)
      refine x_aload_n dJ3_hashCode_23 rfl ?_
      refine x_getP dJ3_hashCode_24 fJ3_9 hx.1 hx.2.1 ?_
      refine x_invS 1 dJ3_hashCode_27 sJ3_628 (j_lhash hx hv hB hSl) (Cont.p ?_) (hB := hB) (hS := hSl)
      refine x_goto 40 dJ3_hashCode_30 (by decide) ?_
      refine x_istore_n dJ3_hashCode_40 ?_
      refine x_iload_n dJ3_hashCode_41 rfl ?_
      refine x_if_ne 53 dJ3_hashCode_42 (by decide) (fun b42 => ?_) (fun b42 => ?_)
      · refine x_aload_n dJ3_hashCode_53 rfl ?_
        refine x_iload_n dJ3_hashCode_54 rfl ?_
        refine x_putIE dJ3_hashCode_55 pJ3_19 hx.1 (fun I1 hI1 => ?_) (ha := ha)
        refine x_iload_n dJ3_hashCode_58 rfl ?_
        exact x_ireturn dJ3_hashCode_59 ⟨rfl, I1, rfl, fun b hb => by rw [hI1, u2_row _ _ _ hb], fun j h1 h2 => by rw [hI1, u2_ne _ _ h2], by rw [hI1, u2_self]; exact Or.inr rfl, by rw [hI1, u2_ne _ _ (by decide)]; exact Or.inl b13⟩
      · refine x_aload_n dJ3_hashCode_45 rfl ?_
        refine x_iconst (v := nI 1) dJ3_hashCode_46 (by decide) ?_
        refine x_putIE dJ3_hashCode_47 pJ3_23 hx.1 (fun I2 hI2 => ?_) (ha := ha)
        refine x_goto 58 dJ3_hashCode_50 (by decide) ?_
        refine x_iload_n dJ3_hashCode_58 rfl ?_
        exact x_ireturn dJ3_hashCode_59 ⟨rfl, I2, rfl, fun b hb => by rw [hI2, u2_row _ _ _ hb], fun j h1 h2 => by rw [hI2, u2_ne _ _ h1], by rw [hI2, u2_ne _ _ (by decide)]; exact Or.inl b6, Or.inr b42⟩
