/-! constructors: Throwable without a trace, Refused, Stop, Flow, Reader -/
set_option maxRecDepth 100000
/-- a Throwable's references after its constructor -/
def thP (P : Nat → Nat → Value) (a : Nat) : Nat → Nat → Value := u2 (u2 (u2 (u2 (u2 (u2 (u2 P a 0 (.ref a)) a 1 (.ref 60)) a 2 (.ref 61)) a 1 .null) a 3 .null) a 0 .null) a 2 .null
theorem thP_ne (P : Nat → Nat → Value) {a b : Nat} (h : b ≠ a) : thP P a b = P b := by unfold thP; simp only [u2_row _ _ _ h]
set_option maxHeartbeats 4000000 in
theorem h_th3 {G : GG} (d : Nat) {t : Nat → Option (Nat × Nat)} {J : Nat → Nat → Int64} {P : Nat → Nat → Value} {n sl : Nat} {I : Nat → Nat → Int32} {a : Nat} (hta : t a = some (3, 0)) (ha : 100 ≤ a) : CA G (d + 1) MJ0_init_2 [.ref a, .null, .null, .int (nI 0), .int (nI 0)] (t, I, J, P, n, sl) (fun o h' => o = .inl none ∧ h' = (t, I, J, thP P a, n, sl)) := by
  refine CA.w ?_
  show RA _ _ MJ0_init_2 0 [.ref a, .null, .null, .int (nI 0), .int (nI 0)] [] _ _
  refine x_aload_n dJ0_init_2_0 rfl ?_
  refine x_objInit dJ0_init_2_1 oJ0_1 (lw_g (lw_at lw_m1 31 rfl) rfl) (lw_g (lw_at lw_m1 32 rfl) rfl) ha (by decide) ?_
  refine x_aload_n dJ0_init_2_4 rfl ?_
  refine x_aload_n dJ0_init_2_5 rfl ?_
  refine x_putPE dJ0_init_2_6 pJ0_7 hta (fun P1 hP1 => ?_) (ha := ha)
  refine x_aload_n dJ0_init_2_9 rfl ?_
  refine x_gets dJ0_init_2_10 (lw_g (lw_at lw_m1 65 rfl) rfl) (List.mem_of_getElem? (i := 0) rfl) ?_
  refine x_putPE dJ0_init_2_13 pJ0_17 hta (fun P2 hP2 => ?_) (ha := ha)
  refine x_aload_n dJ0_init_2_16 rfl ?_
  refine x_gets dJ0_init_2_17 (lw_g (lw_at lw_m1 67 rfl) rfl) (List.mem_of_getElem? (i := 1) rfl) ?_
  refine x_putPE dJ0_init_2_20 pJ0_24 hta (fun P3 hP3 => ?_) (ha := ha)
  refine x_iload dJ0_init_2_23 rfl ?_
  refine x_if_eqN 36 dJ0_init_2_25 (by decide) (by omega) (fun b25 => ?_) (fun b25 => absurd b25 (fun q => q rfl))
  refine x_aload_n dJ0_init_2_36 rfl ?_
  refine x_null dJ0_init_2_37 ?_
  refine x_putPE dJ0_init_2_38 pJ0_17 hta (fun P4 hP4 => ?_) (ha := ha)
  refine x_aload_n dJ0_init_2_41 rfl ?_
  refine x_aload_n dJ0_init_2_42 rfl ?_
  refine x_putPE dJ0_init_2_43 pJ0_31 hta (fun P5 hP5 => ?_) (ha := ha)
  refine x_aload_n dJ0_init_2_46 rfl ?_
  refine x_aload_n dJ0_init_2_47 rfl ?_
  refine x_putPE dJ0_init_2_48 pJ0_7 hta (fun P6 hP6 => ?_) (ha := ha)
  refine x_iload_n dJ0_init_2_51 rfl ?_
  refine x_if_neN 60 dJ0_init_2_52 (by decide) (by omega) (fun b52 => absurd b52 (fun q => q rfl)) (fun b52 => ?_)
  refine x_aload_n dJ0_init_2_55 rfl ?_
  refine x_null dJ0_init_2_56 ?_
  refine x_putPE dJ0_init_2_57 pJ0_24 hta (fun P7 hP7 => ?_) (ha := ha)
  exact x_return dJ0_init_2_60 ⟨rfl, by rw [hP7, hP6, hP5, hP4, hP3, hP2, hP1]; rfl⟩
set_option maxHeartbeats 4000000 in
theorem h_ex3 {G : GG} (d : Nat) {t : Nat → Option (Nat × Nat)} {J : Nat → Nat → Int64} {P : Nat → Nat → Value} {n sl : Nat} {I : Nat → Nat → Int32} {a : Nat} (hta : t a = some (3, 0)) (ha : 100 ≤ a) (hB : n ≤ 601124) (hSl : sl ≤ 7293033) : CA G (d + 2) MJ1_init [.ref a, .null, .null, .int (nI 0), .int (nI 0)] (t, I, J, P, n, sl) (fun o h' => o = .inl none ∧ h' = (t, I, J, thP P a, n, sl)) := by
  refine CA.w ?_
  show RA _ _ MJ1_init 0 [.ref a, .null, .null, .int (nI 0), .int (nI 0)] [] _ _
  refine x_aload_n dJ1_init_0 rfl ?_
  refine x_aload_n dJ1_init_1 rfl ?_
  refine x_aload_n dJ1_init_2 rfl ?_
  refine x_iload_n dJ1_init_3 rfl ?_
  refine x_iload dJ1_init_4 rfl ?_
  refine x_invI a 4 dJ1_init_6 ha iJ1_16 (h_th3 _ hta ha) (Cont.ev ?_) (hB := hB) (hS := hSl)
  exact x_return dJ1_init_9 ⟨rfl, rfl⟩
set_option maxHeartbeats 4000000 in
theorem h_re3 {G : GG} (d : Nat) {t : Nat → Option (Nat × Nat)} {J : Nat → Nat → Int64} {P : Nat → Nat → Value} {n sl : Nat} {I : Nat → Nat → Int32} {a : Nat} (hta : t a = some (3, 0)) (ha : 100 ≤ a) (hB : n ≤ 601124) (hSl : sl ≤ 7293033) : CA G (d + 3) MJ2_init [.ref a, .null, .null, .int (nI 0), .int (nI 0)] (t, I, J, P, n, sl) (fun o h' => o = .inl none ∧ h' = (t, I, J, thP P a, n, sl)) := by
  refine CA.w ?_
  show RA _ _ MJ2_init 0 [.ref a, .null, .null, .int (nI 0), .int (nI 0)] [] _ _
  refine x_aload_n dJ2_init_0 rfl ?_
  refine x_aload_n dJ2_init_1 rfl ?_
  refine x_aload_n dJ2_init_2 rfl ?_
  refine x_iload_n dJ2_init_3 rfl ?_
  refine x_iload dJ2_init_4 rfl ?_
  refine x_invI a 4 dJ2_init_6 ha iJ2_16 (h_ex3 _ hta ha hB hSl) (Cont.ev ?_) (hB := hB) (hS := hSl)
  exact x_return dJ2_init_9 ⟨rfl, rfl⟩
set_option maxHeartbeats 4000000 in
theorem h_i3 {G : GG} (d : Nat) {t : Nat → Option (Nat × Nat)} {J : Nat → Nat → Int64} {P : Nat → Nat → Value} {n sl : Nat} {I : Nat → Nat → Int32} {a : Nat} (hta : t a = some (3, 0)) (ha : 100 ≤ a) (hB : n ≤ 601124) (hSl : sl ≤ 7293033) : CA G (d + 4) M3_init [.ref a] (t, I, J, P, n, sl) (fun o h' => o = .inl none ∧ h' = (t, u2 I a 8 (-1), J, thP P a, n, sl)) := by
  refine CA.w ?_
  show RA _ _ M3_init 0 [.ref a] [] _ _
  refine x_aload_n d3_init_0 rfl ?_
  refine x_null d3_init_1 ?_
  refine x_null d3_init_2 ?_
  refine x_iconst (v := nI 0) d3_init_3 (by decide) ?_
  refine x_iconst (v := nI 0) d3_init_4 (by decide) ?_
  refine x_invI a 4 d3_init_5 ha i3_3 (h_re3 _ hta ha hB hSl) (Cont.ev ?_) (hB := hB) (hS := hSl)
  refine x_aload_n d3_init_8 rfl ?_
  refine x_iconst (v := -1) d3_init_9 (by decide) ?_
  refine x_putIE d3_init_10 p3_9 hta (fun I11 hI11 => ?_) (ha := ha)
  exact x_return d3_init_13 ⟨rfl, by rw [hI11]⟩
set_option maxHeartbeats 4000000 in
theorem h_th6 {G : GG} (d : Nat) {t : Nat → Option (Nat × Nat)} {J : Nat → Nat → Int64} {P : Nat → Nat → Value} {n sl : Nat} {I : Nat → Nat → Int32} {a : Nat} (hta : t a = some (6, 0)) (ha : 100 ≤ a) : CA G (d + 1) MJ0_init_2 [.ref a, .null, .null, .int (nI 0), .int (nI 0)] (t, I, J, P, n, sl) (fun o h' => o = .inl none ∧ h' = (t, I, J, thP P a, n, sl)) := by
  refine CA.w ?_
  show RA _ _ MJ0_init_2 0 [.ref a, .null, .null, .int (nI 0), .int (nI 0)] [] _ _
  refine x_aload_n dJ0_init_2_0 rfl ?_
  refine x_objInit dJ0_init_2_1 oJ0_1 (lw_g (lw_at lw_m1 31 rfl) rfl) (lw_g (lw_at lw_m1 32 rfl) rfl) ha (by decide) ?_
  refine x_aload_n dJ0_init_2_4 rfl ?_
  refine x_aload_n dJ0_init_2_5 rfl ?_
  refine x_putPE dJ0_init_2_6 pJ0_7 hta (fun P1 hP1 => ?_) (ha := ha)
  refine x_aload_n dJ0_init_2_9 rfl ?_
  refine x_gets dJ0_init_2_10 (lw_g (lw_at lw_m1 65 rfl) rfl) (List.mem_of_getElem? (i := 0) rfl) ?_
  refine x_putPE dJ0_init_2_13 pJ0_17 hta (fun P2 hP2 => ?_) (ha := ha)
  refine x_aload_n dJ0_init_2_16 rfl ?_
  refine x_gets dJ0_init_2_17 (lw_g (lw_at lw_m1 67 rfl) rfl) (List.mem_of_getElem? (i := 1) rfl) ?_
  refine x_putPE dJ0_init_2_20 pJ0_24 hta (fun P3 hP3 => ?_) (ha := ha)
  refine x_iload dJ0_init_2_23 rfl ?_
  refine x_if_eqN 36 dJ0_init_2_25 (by decide) (by omega) (fun b25 => ?_) (fun b25 => absurd b25 (fun q => q rfl))
  refine x_aload_n dJ0_init_2_36 rfl ?_
  refine x_null dJ0_init_2_37 ?_
  refine x_putPE dJ0_init_2_38 pJ0_17 hta (fun P4 hP4 => ?_) (ha := ha)
  refine x_aload_n dJ0_init_2_41 rfl ?_
  refine x_aload_n dJ0_init_2_42 rfl ?_
  refine x_putPE dJ0_init_2_43 pJ0_31 hta (fun P5 hP5 => ?_) (ha := ha)
  refine x_aload_n dJ0_init_2_46 rfl ?_
  refine x_aload_n dJ0_init_2_47 rfl ?_
  refine x_putPE dJ0_init_2_48 pJ0_7 hta (fun P6 hP6 => ?_) (ha := ha)
  refine x_iload_n dJ0_init_2_51 rfl ?_
  refine x_if_neN 60 dJ0_init_2_52 (by decide) (by omega) (fun b52 => absurd b52 (fun q => q rfl)) (fun b52 => ?_)
  refine x_aload_n dJ0_init_2_55 rfl ?_
  refine x_null dJ0_init_2_56 ?_
  refine x_putPE dJ0_init_2_57 pJ0_24 hta (fun P7 hP7 => ?_) (ha := ha)
  exact x_return dJ0_init_2_60 ⟨rfl, by rw [hP7, hP6, hP5, hP4, hP3, hP2, hP1]; rfl⟩
set_option maxHeartbeats 4000000 in
theorem h_ex6 {G : GG} (d : Nat) {t : Nat → Option (Nat × Nat)} {J : Nat → Nat → Int64} {P : Nat → Nat → Value} {n sl : Nat} {I : Nat → Nat → Int32} {a : Nat} (hta : t a = some (6, 0)) (ha : 100 ≤ a) (hB : n ≤ 601124) (hSl : sl ≤ 7293033) : CA G (d + 2) MJ1_init [.ref a, .null, .null, .int (nI 0), .int (nI 0)] (t, I, J, P, n, sl) (fun o h' => o = .inl none ∧ h' = (t, I, J, thP P a, n, sl)) := by
  refine CA.w ?_
  show RA _ _ MJ1_init 0 [.ref a, .null, .null, .int (nI 0), .int (nI 0)] [] _ _
  refine x_aload_n dJ1_init_0 rfl ?_
  refine x_aload_n dJ1_init_1 rfl ?_
  refine x_aload_n dJ1_init_2 rfl ?_
  refine x_iload_n dJ1_init_3 rfl ?_
  refine x_iload dJ1_init_4 rfl ?_
  refine x_invI a 4 dJ1_init_6 ha iJ1_16 (h_th6 _ hta ha) (Cont.ev ?_) (hB := hB) (hS := hSl)
  exact x_return dJ1_init_9 ⟨rfl, rfl⟩
set_option maxHeartbeats 4000000 in
theorem h_re6 {G : GG} (d : Nat) {t : Nat → Option (Nat × Nat)} {J : Nat → Nat → Int64} {P : Nat → Nat → Value} {n sl : Nat} {I : Nat → Nat → Int32} {a : Nat} (hta : t a = some (6, 0)) (ha : 100 ≤ a) (hB : n ≤ 601124) (hSl : sl ≤ 7293033) : CA G (d + 3) MJ2_init [.ref a, .null, .null, .int (nI 0), .int (nI 0)] (t, I, J, P, n, sl) (fun o h' => o = .inl none ∧ h' = (t, I, J, thP P a, n, sl)) := by
  refine CA.w ?_
  show RA _ _ MJ2_init 0 [.ref a, .null, .null, .int (nI 0), .int (nI 0)] [] _ _
  refine x_aload_n dJ2_init_0 rfl ?_
  refine x_aload_n dJ2_init_1 rfl ?_
  refine x_aload_n dJ2_init_2 rfl ?_
  refine x_iload_n dJ2_init_3 rfl ?_
  refine x_iload dJ2_init_4 rfl ?_
  refine x_invI a 4 dJ2_init_6 ha iJ2_16 (h_ex6 _ hta ha hB hSl) (Cont.ev ?_) (hB := hB) (hS := hSl)
  exact x_return dJ2_init_9 ⟨rfl, rfl⟩
set_option maxHeartbeats 4000000 in
theorem h_i6 {G : GG} (d : Nat) {t : Nat → Option (Nat × Nat)} {J : Nat → Nat → Int64} {P : Nat → Nat → Value} {n sl : Nat} {I : Nat → Nat → Int32} {a : Nat} (hta : t a = some (6, 0)) (ha : 100 ≤ a) (hB : n ≤ 601124) (hSl : sl ≤ 7293033) : CA G (d + 4) M6_init [.ref a] (t, I, J, P, n, sl) (fun o h' => o = .inl none ∧ h' = (t, I, J, thP P a, n, sl)) := by
  refine CA.w ?_
  show RA _ _ M6_init 0 [.ref a] [] _ _
  refine x_aload_n d6_init_0 rfl ?_
  refine x_null d6_init_1 ?_
  refine x_null d6_init_2 ?_
  refine x_iconst (v := nI 0) d6_init_3 (by decide) ?_
  refine x_iconst (v := nI 0) d6_init_4 (by decide) ?_
  refine x_invI a 4 d6_init_5 ha i6_1 (h_re6 _ hta ha hB hSl) (Cont.ev ?_) (hB := hB) (hS := hSl)
  exact x_return d6_init_8 ⟨rfl, rfl⟩
set_option maxHeartbeats 4000000 in
theorem h_i4 {G : GG} (d : Nat) {t : Nat → Option (Nat × Nat)} {J : Nat → Nat → Int64} {P : Nat → Nat → Value} {n sl : Nat} {I : Nat → Nat → Int32} {a b : Nat} (hta : t a = some (4, 0)) (ha : 100 ≤ a) (han : a < n) (hB : n + 3 ≤ 601124) (hSl : sl + 116 ≤ 7293033) : CA G (d + 1) M4_init [.ref a, .ref b] (t, I, J, P, n, sl) (fun o h' => o = .inl none ∧ h' = (p1 (p1 (p1 t n (some (100, 10))) (n + 1) (some (100, 90))) (n + 1 + 1) (some (100, 16)), r1 (r1 (r1 I n 0) (n + 1) 0) (n + 1 + 1) 0, r1 (r1 (r1 J n 0) (n + 1) 0) (n + 1 + 1) 0, u2 (u2 (r1 (u2 (r1 (u2 (r1 P n .null) a 1 (.ref n)) (n + 1) .null) a 2 (.ref (n + 1))) (n + 1 + 1) .null) a 3 (.ref (n + 1 + 1))) a 0 (.ref b), n + 1 + 1 + 1, sl + 10 + 90 + 16)) := by
  refine CA.w ?_
  show RA _ _ M4_init 0 [.ref a, .ref b] [] _ _
  refine x_aload_n d4_init_0 rfl ?_
  refine x_objInit d4_init_1 o4_3 (lw_g (lw_at lw_m1 31 rfl) rfl) (lw_g (lw_at lw_m1 32 rfl) rfl) (by omega) (by decide) ?_
  refine x_aload_n d4_init_4 rfl ?_
  refine x_bipush (v := nI 10) d4_init_5 (by decide) ?_
  refine x_newarrE (k := 0) d4_init_7 (lw_g (lw_at lw_m1 150 rfl) rfl) rfl (by decide) (by omega) (by omega) (fun t1 I1 J1 P1 ht1 hI1 hJ1 hP1 => ?_)
  have hta1 : t1 a = some (4, 0) := by rw [ht1, p1_ne _ _ (by omega)]; exact hta
  refine x_putPE d4_init_9 p4_9 hta1 (fun P2 hP2 => ?_) (ha := (by omega))
  refine x_aload_n d4_init_12 rfl ?_
  refine x_bipush (v := nI 90) d4_init_13 (by decide) ?_
  refine x_newarrE (k := 0) d4_init_15 (lw_g (lw_at lw_m1 150 rfl) rfl) rfl (by decide) (by omega) (by omega) (fun t3 I3 J3 P3 ht3 hI3 hJ3 hP3 => ?_)
  have hta3 : t3 a = some (4, 0) := by rw [ht3, p1_ne _ _ (by omega)]; exact hta1
  refine x_putPE d4_init_17 p4_15 hta3 (fun P4 hP4 => ?_) (ha := (by omega))
  refine x_aload_n d4_init_20 rfl ?_
  refine x_bipush (v := nI 16) d4_init_21 (by decide) ?_
  refine x_newarrE (k := 0) d4_init_23 (lw_g (lw_at lw_m1 150 rfl) rfl) rfl (by decide) (by omega) (by omega) (fun t5 I5 J5 P5 ht5 hI5 hJ5 hP5 => ?_)
  have hta5 : t5 a = some (4, 0) := by rw [ht5, p1_ne _ _ (by omega)]; exact hta3
  refine x_putPE d4_init_25 p4_18 hta5 (fun P6 hP6 => ?_) (ha := (by omega))
  refine x_aload_n d4_init_28 rfl ?_
  refine x_aload_n d4_init_29 rfl ?_
  refine x_putPE d4_init_30 p4_21 hta5 (fun P7 hP7 => ?_) (ha := (by omega))
  exact x_return d4_init_33 ⟨rfl, by rw [hP7, hP6, hP5, hP4, hP3, hP2, hP1, hI5, hI3, hI1, hJ5, hJ3, hJ1, ht5, ht3, ht1]⟩
set_option maxHeartbeats 4000000 in
theorem h_i2 {G : GG} (d : Nat) {t : Nat → Option (Nat × Nat)} {J : Nat → Nat → Int64} {P : Nat → Nat → Value} {n sl : Nat} {I : Nat → Nat → Int32} {a b : Nat} (hta : t a = some (2, 0)) (ha : 100 ≤ a) (han : a < n) (hB : n + 3 ≤ 601124) (hSl : sl + 21 ≤ 7293033) : CA G (d + 5) M2_init [.ref a, .ref b] (t, I, J, P, n, sl) (fun o h' => o = .inl none ∧ h' = (p1 (p1 (p1 t n (some (3, 0))) (n + 1) (some (102, 8))) (n + 1 + 1) (some (100, 4)), r1 (r1 (u2 (r1 I n 0) n 8 (-1)) (n + 1) 0) (n + 1 + 1) 0, r1 (r1 (r1 J n 0) (n + 1) 0) (n + 1 + 1) 0, u2 (u2 (r1 (u2 (r1 (u2 (thP (r1 P n .null) n) a 0 (.ref n)) (n + 1) .null) a 2 (.ref (n + 1))) (n + 1 + 1) .null) a 3 (.ref (n + 1 + 1))) a 1 (.ref b), n + 1 + 1 + 1, sl + 9 + 8 + 4)) := by
  refine CA.w ?_
  show RA _ _ M2_init 0 [.ref a, .ref b] [] _ _
  refine x_aload_n d2_init_0 rfl ?_
  refine x_objInit d2_init_1 o2_3 (lw_g (lw_at lw_m1 31 rfl) rfl) (lw_g (lw_at lw_m1 32 rfl) rfl) (by omega) (by decide) ?_
  refine x_aload_n d2_init_4 rfl ?_
  refine x_newE d2_init_5 n2_9 (by omega) (by omega) (fun t1 I1 J1 P1 ht1 hI1 hJ1 hP1 => ?_)
  have hta1 : t1 a = some (2, 0) := by rw [ht1, p1_ne _ _ (by omega)]; exact hta
  have htn : t1 n = some (3, 0) := by rw [ht1, p1_self]
  refine x_dup d2_init_8 rfl ?_
  refine x_invI n 0 d2_init_9 (by omega) i2_11 (h_i3 _ htn (by omega) (by omega) (by omega)) (Cont.ev ?_) (hB := by show n + 1 ≤ 601124; omega) (hS := by show sl + 9 ≤ 7293033; omega)
  obtain ⟨PX, hPX⟩ : ∃ q, q = thP P1 n := ⟨_, rfl⟩
  obtain ⟨IX, hIX⟩ : ∃ q, q = u2 I1 n 8 (-1) := ⟨_, rfl⟩
  rw [← hPX, ← hIX]
  refine x_putPE d2_init_12 p2_12 hta1 (fun P2 hP2 => ?_) (ha := (by omega))
  refine x_aload_n d2_init_15 rfl ?_
  refine x_bipush (v := nI 8) d2_init_16 (by decide) ?_
  refine x_newarrE (k := 2) d2_init_18 (lw_g (lw_at lw_m1 149 rfl) rfl) rfl (by decide) (by omega) (by omega) (fun t3 I3 J3 P3 ht3 hI3 hJ3 hP3 => ?_)
  have hta3 : t3 a = some (2, 0) := by rw [ht3, p1_ne _ _ (by omega)]; exact hta1
  refine x_putPE d2_init_20 p2_18 hta3 (fun P4 hP4 => ?_) (ha := (by omega))
  refine x_aload_n d2_init_23 rfl ?_
  refine x_iconst (v := nI 4) d2_init_24 (by decide) ?_
  refine x_newarrE (k := 0) d2_init_25 (lw_g (lw_at lw_m1 150 rfl) rfl) rfl (by decide) (by omega) (by omega) (fun t5 I5 J5 P5 ht5 hI5 hJ5 hP5 => ?_)
  have hta5 : t5 a = some (2, 0) := by rw [ht5, p1_ne _ _ (by omega)]; exact hta3
  refine x_putPE d2_init_27 p2_22 hta5 (fun P6 hP6 => ?_) (ha := (by omega))
  refine x_aload_n d2_init_30 rfl ?_
  refine x_aload_n d2_init_31 rfl ?_
  refine x_putPE d2_init_32 p2_26 hta5 (fun P7 hP7 => ?_) (ha := (by omega))
  exact x_return d2_init_35 ⟨rfl, by rw [hP7, hP6, hP5, hP4, hP3, hP2, hPX, hP1, hI5, hI3, hIX, hI1, hJ5, hJ3, hJ1, ht5, ht3, ht1]⟩
