/-! the JDK: new String(char[], int, int) of few letters -/
set_option maxRecDepth 100000
theorem i8N : ∀ c, c < 128 → (nI c).toInt8.toInt32 = nI c := by decide +kernel
set_option maxHeartbeats 4000000 in
theorem j_cfs {G : GG} (d : Nat) {h : AH} {len : Nat} (hl : len ≤ 8) : CP G d MJ4_checkFromIndexSize [.int (nI 0), .int (nI len), .int (nI 8), .ref 62] h (.int (nI 0)) := by
  refine CA.w ?_
  show RA _ _ MJ4_checkFromIndexSize 0 [.int (nI 0), .int (nI len), .int (nI 8), .ref 62] [] _ _
  refine x_iload_n dJ4_checkFromIndexSize_0 rfl ?_
  refine x_iload_n dJ4_checkFromIndexSize_1 rfl ?_
  refine x_iorN dJ4_checkFromIndexSize_2 ?_
  refine x_iload_n dJ4_checkFromIndexSize_3 rfl ?_
  refine x_iorN dJ4_checkFromIndexSize_4 ?_
  have hor_ : 8 ||| 0 ||| len < 16 := Nat.or_lt_two_pow (n := 4) (by decide) (by omega)
  refine x_if_ltN (tgt := 15) dJ4_checkFromIndexSize_5 (by omega) ?_ (by decide)
  refine x_iload_n dJ4_checkFromIndexSize_8 rfl ?_
  refine x_iload_n dJ4_checkFromIndexSize_9 rfl ?_
  refine x_iload_n dJ4_checkFromIndexSize_10 rfl ?_
  refine x_isubN dJ4_checkFromIndexSize_11 (by omega) ?_
  refine x_icmp_leN 23 dJ4_checkFromIndexSize_12 (by decide) (by omega) (by omega) (fun b12 => ?_) (fun b12 => absurd b12 (by omega))
  refine x_iload_n dJ4_checkFromIndexSize_23 rfl ?_
  exact x_ireturn dJ4_checkFromIndexSize_24 ⟨rfl, rfl⟩
set_option maxHeartbeats 4000000 in
theorem j_cboc {G : GG} (d : Nat) {h : AH} {len : Nat} (hl : len ≤ 8) (hB : a_n h ≤ 601124) (hSl : a_s h ≤ 7293033) : CP G (d + 1) MJ3_checkBoundsOffCount [.int (nI 0), .int (nI len), .int (nI 8)] h (.int (nI 0)) := by
  refine CA.w ?_
  show RA _ _ MJ3_checkBoundsOffCount 0 [.int (nI 0), .int (nI len), .int (nI 8)] [] _ _
  refine x_iload_n dJ3_checkBoundsOffCount_0 rfl ?_
  refine x_iload_n dJ3_checkBoundsOffCount_1 rfl ?_
  refine x_iload_n dJ3_checkBoundsOffCount_2 rfl ?_
  refine x_gets dJ3_checkBoundsOffCount_3 (lw_g (lw_at lw_m2 103 rfl) rfl) (List.mem_of_getElem? (i := 2) rfl) ?_
  refine x_invS 4 dJ3_checkBoundsOffCount_6 sJ3_1065 (j_cfs _ hl) (Cont.p ?_) (hB := hB) (hS := hSl)
  exact x_ireturn dJ3_checkBoundsOffCount_9 ⟨rfl, rfl⟩
set_option maxHeartbeats 4000000 in
theorem j_range {G : GG} (d : Nat) {t : Nat → Option (Nat × Nat)} {J : Nat → Nat → Int64} {P : Nat → Nat → Value} {n sl : Nat} {I : Nat → Nat → Int32} (hS : SH t P) {len : Nat} (hl : len ≤ 8) (hB : n ≤ 601124) (hSl : sl ≤ 7293033) : CP G (d + 2) MJ3_rangeCheck [.ref 104, .int (nI 0), .int (nI len)] (t, I, J, P, n, sl) .null := by
  refine CA.w ?_
  show RA _ _ MJ3_rangeCheck 0 [.ref 104, .int (nI 0), .int (nI len)] [] _ _
  refine x_iload_n dJ3_rangeCheck_0 rfl ?_
  refine x_iload_n dJ3_rangeCheck_1 rfl ?_
  refine x_aload_n dJ3_rangeCheck_2 rfl ?_
  refine x_alen (k := 2) dJ3_rangeCheck_3 (hS.T rfl) rfl ?_
  refine x_invS 3 dJ3_rangeCheck_4 sJ3_34 (j_cboc _ hl hB hSl) (Cont.p ?_) (hB := hB) (hS := hSl)
  refine x_pop dJ3_rangeCheck_7 rfl ?_
  refine x_null dJ3_rangeCheck_8 ?_
  exact x_areturn dJ3_rangeCheck_9 ⟨rfl, rfl⟩
set_option maxHeartbeats 4000000 in
theorem j_comp2 {G : GG} (d : Nat) {t : Nat → Option (Nat × Nat)} {J : Nat → Nat → Int64} {P : Nat → Nat → Value} {n sl : Nat} {I : Nat → Nat → Int32} (hS : SH t P) {b len : Nat} {c : Nat → Nat} (hb : t b = some (101, len)) (hb1 : 100 ≤ b) (hb2 : b ≠ 104) (hl : len ≤ 8) (hc : ∀ j, j < len → I 104 j = nI (c j) ∧ c j < 128) : CA G d MJ5_compress_2 [.ref 104, .int (nI 0), .ref b, .int (nI 0), .int (nI len)] (t, I, J, P, n, sl) (fun o h' => o = .inl (some (.int (nI len))) ∧ ∃ I', h' = (t, I', J, P, n, sl) ∧ (∀ x, x ≠ b → I' x = I x) ∧ ∀ j, j < len → I' b j = nI (c j)) := by
  refine CA.w ?_
  show RA _ _ MJ5_compress_2 0 [.ref 104, .int (nI 0), .ref b, .int (nI 0), .int (nI len), U0, U0] [] _ _
  have h3 : ∀ k, k ≤ len → ∀ I9, (∀ x, x ≠ b → I9 x = I x) → (∀ j, j < k → I9 b j = nI (c j)) → ∀ v6, RA G d MJ5_compress_2 3 [.ref 104, .int (nI k), .ref b, .int (nI k), .int (nI len), .int (nI k), v6] [] (t, I9, J, P, n, sl) (fun o h' => o = .inl (some (.int (nI len))) ∧ ∃ I', h' = (t, I', J, P, n, sl) ∧ (∀ x, x ≠ b → I' x = I x) ∧ ∀ j, j < len → I' b j = nI (c j)) := by
    refine up_ind ?_
    intro k hk ih I9 hF hr v6
    refine x_iload dJ5_compress_2_3 rfl ?_
    refine x_iload dJ5_compress_2_5 rfl ?_
    refine x_icmp_geN 44 dJ5_compress_2_7 (by decide) (by omega) (by omega) (fun b7 => ?_) (fun b7 => ?_)
    · refine x_iload dJ5_compress_2_44 rfl ?_
      exact x_ireturn dJ5_compress_2_46 ⟨rfl, I9, rfl, hF, fun j hj => hr j (by omega)⟩
    · refine x_aload_n dJ5_compress_2_10 rfl ?_
      refine x_iload_n dJ5_compress_2_11 rfl ?_
      refine x_caldN dJ5_compress_2_12 (hS.T rfl) (by omega) ?_
      refine x_top (congrArg Value.int (show I9 104 k = nI (c k) from (show I9 104 k = nI (c k) by rw [hF 104 (by omega)]; exact (hc k b7).1))) ?_
      have hck := (hc k b7).2
      refine x_istore dJ5_compress_2_13 ?_
      refine x_iload dJ5_compress_2_15 rfl ?_
      refine x_sipush (v := nI 255) dJ5_compress_2_17 (by decide) ?_
      refine x_icmp_leN 26 dJ5_compress_2_20 (by decide) (by omega) (by omega) (fun b20 => ?_) (fun b20 => absurd b20 (by omega))
      refine x_aload_n dJ5_compress_2_26 rfl ?_
      refine x_iload_n dJ5_compress_2_27 rfl ?_
      refine x_iload dJ5_compress_2_28 rfl ?_
      refine x_i2b dJ5_compress_2_30 ?_
      refine x_bastN dJ5_compress_2_31 hb (by omega) (fun I1 hI1 => ?_) (ha := hb1) (hl := by omega)
      refine x_iincN (c := 1) dJ5_compress_2_32 rfl (by decide) ?_
      refine x_iincN (c := 1) dJ5_compress_2_35 rfl (by decide) ?_
      refine x_iincN (c := 1) dJ5_compress_2_38 rfl (by decide) ?_
      refine x_goto 3 dJ5_compress_2_41 (by decide) ?_
      exact ih (by omega) I1 (fun x hx => by rw [hI1, u2_row _ _ _ hx]; exact hF x hx) (fun j hj => by
        rw [hI1, u2_at]
        by_cases ej : j = k
        · rw [if_pos ej, ej, i8N _ hck, i8N _ hck]
        · rw [if_neg ej]; exact hr j (by omega)) _
  refine x_iconst (v := nI 0) dJ5_compress_2_0 (by decide) ?_
  refine x_istore dJ5_compress_2_1 ?_
  exact h3 0 (Nat.zero_le _) I (fun _ _ => rfl) (fun j hj => absurd hj (Nat.not_lt_zero _)) _
set_option maxHeartbeats 4000000 in
theorem j_compress {G : GG} (d : Nat) {t : Nat → Option (Nat × Nat)} {J : Nat → Nat → Int64} {P : Nat → Nat → Value} {n sl : Nat} {I : Nat → Nat → Int32} (hS : SH t P) (hT : TyB t n) (hn : 144 ≤ n) {len : Nat} {c : Nat → Nat} (hl : len ≤ 8) (hc : ∀ j, j < len → I 104 j = nI (c j) ∧ c j < 128) (hB : n + 1 ≤ 601124) (hSl : sl + 8 ≤ 7293033) : CA G (d + 1) MJ5_compress [.ref 104, .int (nI 0), .int (nI len)] (t, I, J, P, n, sl) (fun o h' => o = .inl (some (.ref n)) ∧ ∃ I', h' = (p1 t n (some (101, len)), I', r1 J n 0, r1 P n .null, n + 1, sl + len) ∧ (∀ x, x ≠ n → I' x = I x) ∧ ∀ j, j < len → I' n j = nI (c j)) := by
  refine CA.w ?_
  show RA _ _ MJ5_compress 0 [.ref 104, .int (nI 0), .int (nI len), U0, U0, U0] [] _ _
  refine x_iload_n dJ5_compress_0 rfl ?_
  refine x_newarrE (k := 1) dJ5_compress_1 (lw_g (lw_at lw_m1 117 rfl) rfl) rfl (by omega) (by omega) (by omega) (fun t1 I1 J1 P1 ht1 hI1 hJ1 hP1 => ?_)
  have gw := (Gw.rf (I := I) (J := J) (P := P) hT).new ht1 hI1 hJ1 hP1
  have hS1 := gw.sh hn hS
  have htn : t1 n = some (101, len) := by rw [ht1, p1_self]
  refine x_astore_n dJ5_compress_3 ?_
  refine x_aload_n dJ5_compress_4 rfl ?_
  refine x_iload_n dJ5_compress_5 rfl ?_
  refine x_aload_n dJ5_compress_6 rfl ?_
  refine x_iconst (v := nI 0) dJ5_compress_7 (by decide) ?_
  refine x_iload_n dJ5_compress_8 rfl ?_
  refine x_invS 5 dJ5_compress_9 sJ5_115 (j_comp2 _ hS1 (b := n) (len := len) (c := c) htn (by omega) (by omega) hl (fun j hj => by rw [gw.i 104 (by omega)]; exact hc j hj)) ?_ (hB := by show n + 1 ≤ 601124; omega) (hS := by show sl + len ≤ 7293033; omega)
  rintro o h' ⟨rfl, I9, rfl, hF9, hr9⟩
  show RA _ _ _ _ _ [Value.int (nI len)] _ _
  refine x_istore dJ5_compress_12 ?_
  refine x_iload dJ5_compress_14 rfl ?_
  refine x_iload_n dJ5_compress_16 rfl ?_
  refine x_icmp_eqN 57 dJ5_compress_17 (by decide) (by omega) (by omega) (fun b17 => ?_) (fun b17 => absurd b17 (by omega))
  refine x_aload_n dJ5_compress_57 rfl ?_
  exact x_areturn dJ5_compress_58 ⟨rfl, I9, by rw [ht1, hJ1, hP1], fun x hx => by rw [hF9 x hx, hI1, r1_row _ _ hx], hr9⟩
theorem j_coderLen {G : GG} (d : Nat) {t : Nat → Option (Nat × Nat)} {J : Nat → Nat → Int64} {P : Nat → Nat → Value} {n sl : Nat} {I : Nat → Nat → Int32} {b len : Nat} (hb : t b = some (101, len)) (hl : len < 2 ^ 31) : CP G d MJ5_coderFromArrayLen [.ref b, .int (nI len)] (t, I, J, P, n, sl) (.int (nI 0)) := by
  refine CA.w ?_
  show RA _ _ MJ5_coderFromArrayLen 0 [.ref b, .int (nI len)] [] _ _
  refine x_iload_n dJ5_coderFromArrayLen_0 rfl ?_
  refine x_aload_n dJ5_coderFromArrayLen_1 rfl ?_
  refine x_alen (k := 1) dJ5_coderFromArrayLen_2 hb rfl ?_
  refine x_isub dJ5_coderFromArrayLen_3 ?_
  rw [Int32.sub_self]
  refine x_bipush (v := nI 31) dJ5_coderFromArrayLen_4 (by decide) ?_
  refine x_iushr (v := nI 0) dJ5_coderFromArrayLen_6 (by decide) ?_
  refine x_i2b dJ5_coderFromArrayLen_7 ?_
  exact x_ireturn dJ5_coderFromArrayLen_8 ⟨rfl, rfl⟩
set_option maxHeartbeats 4000000 in
theorem j_init2 {G : GG} (d : Nat) {t : Nat → Option (Nat × Nat)} {J : Nat → Nat → Int64} {P : Nat → Nat → Value} {n sl : Nat} {I : Nat → Nat → Int32} (hS : SH t P) (hT : TyB t n) (hn : 144 ≤ n) {a len : Nat} {c : Nat → Nat} (hta : t a = some (15, 0)) (ha : 144 ≤ a) (hl : 1 ≤ len ∧ len ≤ 8) (hc : ∀ j, j < len → I 104 j = nI (c j) ∧ c j < 128) (hB : n + 1 ≤ 601124) (hSl : sl + 8 ≤ 7293033) : CA G (d + 2) MJ3_init_2 [.ref a, .ref 104, .int (nI 0), .int (nI len), .null] (t, I, J, P, n, sl) (fun o h' => o = .inl none ∧ ∃ I', h' = (p1 t n (some (101, len)), I', r1 J n 0, u2 (r1 P n .null) a 0 (.ref n), n + 1, sl + len) ∧ (∀ x, x ≠ n → x ≠ a → I' x = I x) ∧ (∀ k, k ≠ 1 → I' a k = I a k) ∧ I' a 1 = nI 0 ∧ ∀ j, j < len → I' n j = nI (c j)) := by
  refine CA.w ?_
  show RA _ _ MJ3_init_2 0 [.ref a, .ref 104, .int (nI 0), .int (nI len), .null, U0] [] _ _
  refine x_aload_n dJ3_init_2_0 rfl ?_
  refine x_objInit dJ3_init_2_1 oJ3_1 (lw_g (lw_at lw_m1 31 rfl) rfl) (lw_g (lw_at lw_m1 32 rfl) rfl) (by omega) (by decide) ?_
  refine x_iload_n dJ3_init_2_4 rfl ?_
  refine x_if_neN 27 dJ3_init_2_5 (by decide) (by omega) (fun b5 => ?_) (fun b5 => absurd b5 (by omega))
  refine x_gets dJ3_init_2_27 (lw_g (lw_at lw_m2 113 rfl) rfl) (List.mem_of_getElem? (i := 3) rfl) ?_
  refine x_if_eq 58 dJ3_init_2_30 (by decide) (fun b30 => absurd b30 (by decide)) (fun b30 => ?_)
  refine x_aload_n dJ3_init_2_33 rfl ?_
  refine x_iload_n dJ3_init_2_34 rfl ?_
  refine x_iload_n dJ3_init_2_35 rfl ?_
  refine x_invS 3 dJ3_init_2_36 sJ3_177 (j_compress _ hS hT hn hl.2 hc hB hSl) ?_ (hB := by show n ≤ 601124; omega) (hS := by show sl ≤ 7293033; omega)
  rintro o h' ⟨rfl, I9, rfl, hF9, hr9⟩
  have hta9 : p1 t n (some (101, len)) a = some (15, 0) := by rw [p1_ne _ _ (hT.ne hta)]; exact hta
  show RA _ _ _ _ _ [Value.ref n] _ _
  refine x_astore dJ3_init_2_39 ?_
  refine x_aload_n dJ3_init_2_41 rfl ?_
  refine x_aload dJ3_init_2_42 rfl ?_
  refine x_iload_n dJ3_init_2_44 rfl ?_
  refine x_invS 2 dJ3_init_2_45 sJ3_47 (j_coderLen _ (p1_self t n _) (by omega)) (Cont.p ?_) (hB := by show n + 1 ≤ 601124; omega) (hS := by show sl + len ≤ 7293033; omega)
  refine x_putIE dJ3_init_2_48 pJ3_15 hta9 (fun I11 hI11 => ?_) (ha := (by omega))
  refine x_aload_n dJ3_init_2_51 rfl ?_
  refine x_aload dJ3_init_2_52 rfl ?_
  refine x_putPE dJ3_init_2_54 pJ3_9 hta9 (fun P12 hP12 => ?_) (ha := (by omega))
  exact x_return dJ3_init_2_57 ⟨rfl, I11, by rw [hP12], fun x h1 h2 => by rw [hI11, u2_row _ _ _ h2]; exact hF9 x h1, fun k hk => by rw [hI11, u2_ne _ _ hk, hF9 a (hT.ne hta)], by rw [hI11, u2_self], fun j hj => by rw [hI11, u2_row _ _ _ (fun z => hT.ne hta z.symm)]; exact hr9 j hj⟩
set_option maxHeartbeats 4000000 in
theorem j_init {G : GG} (d : Nat) {t : Nat → Option (Nat × Nat)} {J : Nat → Nat → Int64} {P : Nat → Nat → Value} {n sl : Nat} {I : Nat → Nat → Int32} (hS : SH t P) (hT : TyB t n) (hn : 144 ≤ n) {a len : Nat} {c : Nat → Nat} (hta : t a = some (15, 0)) (ha : 144 ≤ a) (hl : 1 ≤ len ∧ len ≤ 8) (hc : ∀ j, j < len → I 104 j = nI (c j) ∧ c j < 128) (hB : n + 1 ≤ 601124) (hSl : sl + 8 ≤ 7293033) : CA G (d + 3) MJ3_init [.ref a, .ref 104, .int (nI 0), .int (nI len)] (t, I, J, P, n, sl) (fun o h' => o = .inl none ∧ ∃ I', h' = (p1 t n (some (101, len)), I', r1 J n 0, u2 (r1 P n .null) a 0 (.ref n), n + 1, sl + len) ∧ (∀ x, x ≠ n → x ≠ a → I' x = I x) ∧ (∀ k, k ≠ 1 → I' a k = I a k) ∧ I' a 1 = nI 0 ∧ ∀ j, j < len → I' n j = nI (c j)) := by
  refine CA.w ?_
  show RA _ _ MJ3_init 0 [.ref a, .ref 104, .int (nI 0), .int (nI len)] [] _ _
  refine x_aload_n dJ3_init_0 rfl ?_
  refine x_aload_n dJ3_init_1 rfl ?_
  refine x_iload_n dJ3_init_2 rfl ?_
  refine x_iload_n dJ3_init_3 rfl ?_
  refine x_aload_n dJ3_init_4 rfl ?_
  refine x_iload_n dJ3_init_5 rfl ?_
  refine x_iload_n dJ3_init_6 rfl ?_
  refine x_invS 3 dJ3_init_7 sJ3_30 (j_range _ hS hl.2 (by omega) (by omega)) (Cont.p ?_) (hB := by show n ≤ 601124; omega) (hS := by show sl ≤ 7293033; omega)
  refine x_invI a 4 dJ3_init_10 (by omega) iJ3_27 (j_init2 _ hS hT hn hta ha hl hc hB hSl) ?_ (hB := by show n ≤ 601124; omega) (hS := by show sl ≤ 7293033; omega)
  rintro o h' ⟨rfl, I9, rfl, q⟩
  show RA _ _ _ _ _ [] _ _
  exact x_return dJ3_init_13 ⟨rfl, I9, rfl, q⟩
