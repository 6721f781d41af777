/-! the house: places, the flow object, lines that go on -/
set_option maxRecDepth 100000
set_option maxHeartbeats 4000000 in
theorem h_place {G : GG} {d : Nat} {h : AH} (p q : Nat) : CP G d M1_place [.int (nI p), .int (nI q)] h (.int (nI (8 * p + q))) := by
  refine CA.w ?_
  show RA _ _ M1_place 0 [.int (nI p), .int (nI q)] [] _ _
  refine x_bipush (v := nI 8) d1_place_0 (by decide) ?_
  refine x_iload_n d1_place_2 rfl ?_
  refine x_imulN d1_place_3 ?_
  refine x_iload_n d1_place_4 rfl ?_
  refine x_iaddN d1_place_5 ?_
  exact x_ireturn d1_place_6 ⟨rfl, rfl⟩
set_option maxHeartbeats 4000000 in
theorem h_resultOf {G : GG} {d : Nat} {h : AH} (p : Nat) : CP G d M1_resultOf [.int (nI p)] h (.int (nI (80 + p))) := by
  refine CA.w ?_
  show RA _ _ M1_resultOf 0 [.int (nI p)] [] _ _
  refine x_bipush (v := nI 80) d1_resultOf_0 (by decide) ?_
  refine x_iload_n d1_resultOf_2 rfl ?_
  refine x_iaddN d1_resultOf_3 ?_
  exact x_ireturn d1_resultOf_4 ⟨rfl, rfl⟩
set_option maxHeartbeats 4000000 in
theorem h_adds {G : GG} (d : Nat) {t : Nat → Option (Nat × Nat)} {J : Nat → Nat → Int64} {P : Nat → Nat → Value} {n sl : Nat} {I : Nat → Nat → Int32} (hS : SH t P) {f : Nat} (hf : FlT t P f) {h : Nat → Nat} (hr : FlR I f h) (hh : ∀ q, q < 107 → h q < 65536) {q x : Nat} (hq : q < 90) (hx : x < 65536) : CA G d M4_adds [.ref f, .int (nI q), .int (nI x)] (t, I, J, P, n, sl) (fun o h' => o = .inl (some (.int (nI (if h q ||| x = h (q) then 0 else 1)))) ∧ h' = (t, u2 I (f + 2) q (nI (h q ||| x)), J, P, n, sl)) := by
  refine CA.w ?_
  show RA _ _ M4_adds 0 [.ref f, .int (nI q), .int (nI x), U0] [] _ _
  have h108 := hf.2.2.2.2.2.2.2.2.1
  have h112 := hf.2.2.2.2.2.2.2.2.2
  refine x_aload_n d4_adds_0 rfl ?_
  refine x_getP d4_adds_1 f4_15 hf.1 hf.2.2.2.2.1 ?_
  refine x_iload_n d4_adds_4 rfl ?_
  refine x_ialdN d4_adds_5 hf.2.2.2.2.2.1 (by omega) ?_
  refine x_top (congrArg Value.int (show I (f + 2) q = nI (h q) from (hr.1 _ (by omega)))) ?_
  refine x_istore_n d4_adds_6 ?_
  refine x_aload_n d4_adds_7 rfl ?_
  refine x_getP d4_adds_8 f4_15 hf.1 hf.2.2.2.2.1 ?_
  refine x_iload_n d4_adds_11 rfl ?_
  refine x_dup2 d4_adds_12 rfl rfl ?_
  refine x_ialdN d4_adds_13 hf.2.2.2.2.2.1 (by omega) ?_
  refine x_top (congrArg Value.int (show I (f + 2) q = nI (h q) from (hr.1 _ (by omega)))) ?_
  refine x_iload_n d4_adds_14 rfl ?_
  refine x_iorN d4_adds_15 ?_
  refine x_iastN d4_adds_16 hf.2.2.2.2.2.1 (by omega) (fun I1 hI1 => ?_) (ha := (by omega))
  have hv1 : h q ||| x < 65536 := or_lt (hh q (by omega)) hx
  have hv2 := hh (q) (by omega)
  refine x_aload_n d4_adds_17 rfl ?_
  refine x_getP d4_adds_18 f4_15 hf.1 hf.2.2.2.2.1 ?_
  refine x_iload_n d4_adds_21 rfl ?_
  refine x_ialdN d4_adds_22 hf.2.2.2.2.2.1 (by omega) ?_
  refine x_top (congrArg Value.int (show I1 (f + 2) q = nI (h q ||| x) from (by rw [hI1, u2_self]))) ?_
  refine x_iload_n d4_adds_23 rfl ?_
  refine x_icmp_eqN 31 d4_adds_24 (by decide) (by omega) (by omega) (fun b24 => ?_) (fun b24 => ?_)
  · refine x_iconst (v := nI 0) d4_adds_31 (by decide) ?_
    exact x_ireturn d4_adds_32 ⟨by rw [if_pos b24], by rw [hI1]⟩
  · refine x_iconst (v := nI 1) d4_adds_27 (by decide) ?_
    refine x_goto 32 d4_adds_28 (by decide) ?_
    exact x_ireturn d4_adds_32 ⟨by rw [if_neg b24], by rw [hI1]⟩
set_option maxHeartbeats 4000000 in
theorem h_out {G : GG} (d : Nat) {t : Nat → Option (Nat × Nat)} {J : Nat → Nat → Int64} {P : Nat → Nat → Value} {n sl : Nat} {I : Nat → Nat → Int32} (hS : SH t P) {f : Nat} (hf : FlT t P f) {h : Nat → Nat} (hr : FlR I f h) (hh : ∀ q, q < 107 → h q < 65536) {q x : Nat} (hq : q < 16) (hx : x < 65536) : CA G d M4_out [.ref f, .int (nI q), .int (nI x)] (t, I, J, P, n, sl) (fun o h' => o = .inl (some (.int (nI (if h (90 + q) ||| x = h (90 + q) then 0 else 1)))) ∧ h' = (t, u2 I (f + 3) q (nI (h (90 + q) ||| x)), J, P, n, sl)) := by
  refine CA.w ?_
  show RA _ _ M4_out 0 [.ref f, .int (nI q), .int (nI x), U0] [] _ _
  have h108 := hf.2.2.2.2.2.2.2.2.1
  have h112 := hf.2.2.2.2.2.2.2.2.2
  refine x_aload_n d4_out_0 rfl ?_
  refine x_getP d4_out_1 f4_18 hf.1 hf.2.2.2.2.2.2.1 ?_
  refine x_iload_n d4_out_4 rfl ?_
  refine x_ialdN d4_out_5 hf.2.2.2.2.2.2.2.1 (by omega) ?_
  refine x_top (congrArg Value.int (show I (f + 3) q = nI (h (90 + q)) from (hr.2.1 _ (by omega)))) ?_
  refine x_istore_n d4_out_6 ?_
  refine x_aload_n d4_out_7 rfl ?_
  refine x_getP d4_out_8 f4_18 hf.1 hf.2.2.2.2.2.2.1 ?_
  refine x_iload_n d4_out_11 rfl ?_
  refine x_dup2 d4_out_12 rfl rfl ?_
  refine x_ialdN d4_out_13 hf.2.2.2.2.2.2.2.1 (by omega) ?_
  refine x_top (congrArg Value.int (show I (f + 3) q = nI (h (90 + q)) from (hr.2.1 _ (by omega)))) ?_
  refine x_iload_n d4_out_14 rfl ?_
  refine x_iorN d4_out_15 ?_
  refine x_iastN d4_out_16 hf.2.2.2.2.2.2.2.1 (by omega) (fun I1 hI1 => ?_) (ha := (by omega))
  have hv1 : h (90 + q) ||| x < 65536 := or_lt (hh (90 + q) (by omega)) hx
  have hv2 := hh (90 + q) (by omega)
  refine x_aload_n d4_out_17 rfl ?_
  refine x_getP d4_out_18 f4_18 hf.1 hf.2.2.2.2.2.2.1 ?_
  refine x_iload_n d4_out_21 rfl ?_
  refine x_ialdN d4_out_22 hf.2.2.2.2.2.2.2.1 (by omega) ?_
  refine x_top (congrArg Value.int (show I1 (f + 3) q = nI (h (90 + q) ||| x) from (by rw [hI1, u2_self]))) ?_
  refine x_iload_n d4_out_23 rfl ?_
  refine x_icmp_eqN 31 d4_out_24 (by decide) (by omega) (by omega) (fun b24 => ?_) (fun b24 => ?_)
  · refine x_iconst (v := nI 0) d4_out_31 (by decide) ?_
    exact x_ireturn d4_out_32 ⟨by rw [if_pos b24], by rw [hI1]⟩
  · refine x_iconst (v := nI 1) d4_out_27 (by decide) ?_
    refine x_goto 32 d4_out_28 (by decide) ?_
    exact x_ireturn d4_out_32 ⟨by rw [if_neg b24], by rw [hI1]⟩
set_option maxHeartbeats 4000000 in
theorem h_fasks {G : GG} (d : Nat) {t : Nat → Option (Nat × Nat)} {J : Nat → Nat → Int64} {P : Nat → Nat → Value} {n sl : Nat} {I : Nat → Nat → Int32} (hS : SH t P) {f : Nat} (hf : FlT t P f) {h : Nat → Nat} (hr : FlR I f h) (hh : ∀ q, q < 107 → h q < 65536) {q : Nat} (hq : q < 10) : CA G d M4_asks [.ref f, .int (nI q)] (t, I, J, P, n, sl) (fun o h' => o = .inl (some (.int (nI (if h 106 ||| 2 ^ q = h (106) then 0 else 1)))) ∧ h' = (t, u2 I f 4 (nI (h 106 ||| 2 ^ q)), J, P, n, sl)) := by
  refine CA.w ?_
  show RA _ _ M4_asks 0 [.ref f, .int (nI q), U0] [] _ _
  have h108 := hf.2.2.2.2.2.2.2.2.1
  have h112 := hf.2.2.2.2.2.2.2.2.2
  refine x_aload_n d4_asks_0 rfl ?_
  refine x_getI d4_asks_1 f4_38 hf.1 ?_
  refine x_top (congrArg Value.int (show I f 4 = nI (h 106) from hr.2.2)) ?_
  refine x_istore_n d4_asks_4 ?_
  refine x_aload_n d4_asks_5 rfl ?_
  refine x_dup d4_asks_6 rfl ?_
  refine x_getI d4_asks_7 f4_38 hf.1 ?_
  refine x_top (congrArg Value.int (show I f 4 = nI (h 106) from hr.2.2)) ?_
  refine x_iconst (v := nI 1) d4_asks_10 (by decide) ?_
  refine x_iload_n d4_asks_11 rfl ?_
  refine x_1shlN d4_asks_12 (by omega) ?_
  refine x_iorN d4_asks_13 ?_
  refine x_putIE d4_asks_14 p4_38 hf.1 (fun I1 hI1 => ?_) (ha := (by omega))
  have hv1 : h 106 ||| 2 ^ q < 65536 := or_lt (hh 106 (by omega)) (p2_lt (by omega))
  have hv2 := hh (106) (by omega)
  refine x_aload_n d4_asks_17 rfl ?_
  refine x_getI d4_asks_18 f4_38 hf.1 ?_
  refine x_top (congrArg Value.int (show I1 f 4 = nI (h 106 ||| 2 ^ q) from (by rw [hI1, u2_self]))) ?_
  refine x_iload_n d4_asks_21 rfl ?_
  refine x_icmp_eqN 29 d4_asks_22 (by decide) (by omega) (by omega) (fun b22 => ?_) (fun b22 => ?_)
  · refine x_iconst (v := nI 0) d4_asks_29 (by decide) ?_
    exact x_ireturn d4_asks_30 ⟨by rw [if_pos b22], by rw [hI1]⟩
  · refine x_iconst (v := nI 1) d4_asks_25 (by decide) ?_
    refine x_goto 30 d4_asks_26 (by decide) ?_
    exact x_ireturn d4_asks_30 ⟨by rw [if_neg b22], by rw [hI1]⟩
set_option maxHeartbeats 4000000 in
theorem h_passes {G : GG} (d : Nat) {t : Nat → Option (Nat × Nat)} {J : Nat → Nat → Int64} {P : Nat → Nat → Value} {n sl : Nat} {I : Nat → Nat → Int32} (hS : SH t P) {f : Nat} (hf : FlT t P f) {h : Nat → Nat} (hr : FlR I f h) (hh : ∀ q, q < 107 → h q < 65536) {σ : Sg} {y : Lay} (hσ : SgOK σ) (hP : HP t I P σ y) {p m x : Nat} (hp : p < s_np σ) (hm : m < 8) (hx : x < 65536) (hB : n ≤ 601124) (hSl : sl ≤ 7293033) : CA G (d + 1) M4_passes [.ref f, .int (nI p), .int (nI m), .int (nI x)] (t, I, J, P, n, sl) (fun o h' => o = .inl (some (.int (nI (if h (8 * p + m) ||| adf x (wS σ (8 * p + m)) = h (8 * p + m) then 0 else 1)))) ∧ h' = (t, u2 I (f + 2) (8 * p + m) (nI (h (8 * p + m) ||| adf x (wS σ (8 * p + m)))), J, P, n, sl)) := by
  refine CA.w ?_
  show RA _ _ M4_passes 0 [.ref f, .int (nI p), .int (nI m), .int (nI x)] [] _ _
  have hnp := hσ.1
  refine x_aload_n d4_passes_0 rfl ?_
  refine x_iload_n d4_passes_1 rfl ?_
  refine x_iload_n d4_passes_2 rfl ?_
  refine x_invS 2 d4_passes_3 s4_25 (h_place p m) (Cont.p ?_) (hB := hB) (hS := hSl)
  refine x_iload_n d4_passes_6 rfl ?_
  refine x_aload_n d4_passes_7 rfl ?_
  refine x_getP d4_passes_8 f4_21 hf.1 hf.2.1 ?_
  refine x_iload_n d4_passes_11 rfl ?_
  refine x_aald5N d4_passes_12 (hS.T rfl) (by omega) (hP.at_ hp) ?_
  refine x_getP d4_passes_13 f4_29 (hP.ty hp) (hP.pw hp) ?_
  refine x_iload_n d4_passes_16 rfl ?_
  refine x_ialdN d4_passes_17 (hP.tw hp) (by omega) ?_
  refine x_top (congrArg Value.int (show I (y.1 p + 2) m = nI (wS σ (8 * p + m)) from (hP.w hp hm))) ?_
  refine x_iconst (v := -1) d4_passes_18 (by decide) ?_
  refine x_ixor d4_passes_19 ?_
  refine x_andnN d4_passes_20 hx ?_
  refine x_invV f 2 d4_passes_21 hf.1 v4_34_4 (h_adds _ hS hf hr hh (q := 8 * p + m) (x := adf x (wS σ (8 * p + m))) (by omega) (adf_lt hx)) (Cont.e ?_) (hB := hB) (hS := hSl)
  exact x_ireturn d4_passes_24 ⟨rfl, rfl⟩ (hn := nar_b (by split <;> decide))
set_option maxHeartbeats 4000000 in
theorem h_isWashed {G : GG} (d : Nat) {t : Nat → Option (Nat × Nat)} {J : Nat → Nat → Int64} {P : Nat → Nat → Value} {n sl : Nat} {I : Nat → Nat → Int32} (hS : SH t P) {f : Nat} (hf : FlT t P f) {σ : Sg} {y : Lay} (hσ : SgOK σ) (hP : HP t I P σ y) {p m s : Nat} (hp : p < s_np σ) (hm : m < 8) (hs : s < 16) : CP G d M4_isWashed [.ref f, .int (nI p), .int (nI m), .int (nI s)] (t, I, J, P, n, sl) (.int (nI (bP ((wS σ (8 * p + m)).testBit s = true)))) := by
  refine CA.w ?_
  show RA _ _ M4_isWashed 0 [.ref f, .int (nI p), .int (nI m), .int (nI s)] [] _ _
  have hnp := hσ.1
  refine x_aload_n d4_isWashed_0 rfl ?_
  refine x_getP d4_isWashed_1 f4_21 hf.1 hf.2.1 ?_
  refine x_iload_n d4_isWashed_4 rfl ?_
  refine x_aald5N d4_isWashed_5 (hS.T rfl) (by omega) (hP.at_ hp) ?_
  refine x_getP d4_isWashed_6 f4_29 (hP.ty hp) (hP.pw hp) ?_
  refine x_iload_n d4_isWashed_9 rfl ?_
  refine x_ialdN d4_isWashed_10 (hP.tw hp) (by omega) ?_
  refine x_top (congrArg Value.int (show I (y.1 p + 2) m = nI (wS σ (8 * p + m)) from (hP.w hp hm))) ?_
  have hw_ : wS σ (8 * p + m) < 65536 := mk16_lt _
  refine x_iload_n d4_isWashed_11 rfl ?_
  refine x_ishrN d4_isWashed_12 (by omega) (by omega) ?_
  refine x_iconst (v := nI 1) d4_isWashed_13 (by decide) ?_
  refine x_tbN d4_isWashed_14 ?_
  have htb_ := tb_lt (wS σ (8 * p + m)) s
  refine x_iconst (v := nI 1) d4_isWashed_15 (by decide) ?_
  refine x_icmp_neN 23 d4_isWashed_16 (by decide) (by omega) (by omega) (fun b16 => ?_) (fun b16 => ?_)
  · refine x_iconst (v := nI 0) d4_isWashed_23 (by decide) ?_
    exact x_ireturn d4_isWashed_24 ⟨by rw [bP_f (fun z => by rw [tb_ne1.mp b16] at z; cases z)], rfl⟩
  · refine x_iconst (v := nI 1) d4_isWashed_19 (by decide) ?_
    refine x_goto 24 d4_isWashed_20 (by decide) ?_
    exact x_ireturn d4_isWashed_24 ⟨by rw [bP_t (tb1.mp b16)], rfl⟩
/-- what a line's step leaves -/
def GoR (t : Nat → Option (Nat × Nat)) (J : Nat → Nat → Int64) (P : Nat → Nat → Value) (n sl : Nat) (f : Nat) (I : Nat → Nat → Int32) (h h' : Nat → Nat) : AO → AH → Prop := fun o H => ∃ I' c, o = .inl (some (.int (nI c))) ∧ H = (t, I', J, P, n, sl) ∧ FlF f I I' ∧ FlR I' f h' ∧ Gro h h' c
theorem Gro.adds {h : Nat → Nat} {q x : Nat} (hq : q < 107) (hh : h q < 65536) (hx : x < 65536) : Gro h (upN h q (h q ||| x)) (if h q ||| x = h q then 0 else 1) := Gro.up hq hh (or_lt hh hx) (fun _ hi => or_sub hi)
theorem Gro.com {h w : Nat → Nat} {q x : Nat} (hq : q < 107) (hh : h q < 65536) (hx : x < 65536) : Gro h (com h w q x) (if h q ||| adf x (w q) = h q then 0 else 1) := Gro.up hq hh (or_lt hh (adf_lt hx)) (fun _ hi => or_sub hi)
theorem com_lt {h w : Nat → Nat} {q x : Nat} (hh : ∀ q, q < 107 → h q < 65536) (hx : x < 65536) (hq : q < 107) : ∀ j, j < 107 → com h w q x j < 65536 := fun j hj => by
  unfold com upN; split
  · exact or_lt (hh q hq) (adf_lt hx)
  · exact hh j hj
theorem stG_0t {σ : Sg} {h : Nat → Nat} {p k : Nat} (e : s_kk σ (12 * p + k) = 0) (hg : (s_gr σ p).testBit (s_nu σ (12 * p + k)) = true) : stG σ h p k = upN h (8 * p + s_fs σ (12 * p + k)) (h (8 * p + s_fs σ (12 * p + k)) ||| 2 ^ s_nu σ (12 * p + k)) := by unfold stG; rw [if_pos e, if_pos hg]
theorem stG_0f {σ : Sg} {h : Nat → Nat} {p k : Nat} (e : s_kk σ (12 * p + k) = 0) (hg : ¬ (s_gr σ p).testBit (s_nu σ (12 * p + k)) = true) : stG σ h p k = h := by unfold stG; rw [if_pos e, if_neg hg]
theorem stG_1 {σ : Sg} {h : Nat → Nat} {p k : Nat} (e : s_kk σ (12 * p + k) = 1) : stG σ h p k = com h (wS σ) (8 * p + s_fs σ (12 * p + k)) (orF (fun i => h (8 * p + s_fr σ (4 * (12 * p + k) + i))) (s_nu σ (12 * p + k))) := by unfold stG; rw [if_neg (by omega), if_pos e]
theorem stG_2 {σ : Sg} {h : Nat → Nat} {p k : Nat} (e : s_kk σ (12 * p + k) = 2) : stG σ h p k = com (com (upN h 106 (h 106 ||| 2 ^ s_nu σ (12 * p + k))) (wS σ) (8 * s_nu σ (12 * p + k)) (h (8 * p + s_fs σ (12 * p + k)))) (wS σ) (8 * p + s_sc σ (12 * p + k)) (h (80 + s_nu σ (12 * p + k))) := by unfold stG; rw [if_neg (by omega), if_neg (by omega), if_pos e]
theorem stG_3t {σ : Sg} {h : Nat → Nat} {p k : Nat} (e : s_kk σ (12 * p + k) = 3) (hg : (s_gr σ p).testBit (s_nu σ (12 * p + k)) = true) : stG σ h p k = upN h (90 + s_nu σ (12 * p + k)) (h (90 + s_nu σ (12 * p + k)) ||| h (8 * p + s_fs σ (12 * p + k))) := by unfold stG; rw [if_neg (by omega), if_neg (by omega), if_neg (by omega), if_pos e, if_pos hg]
theorem stG_3f {σ : Sg} {h : Nat → Nat} {p k : Nat} (e : s_kk σ (12 * p + k) = 3) (hg : ¬ (s_gr σ p).testBit (s_nu σ (12 * p + k)) = true) : stG σ h p k = h := by unfold stG; rw [if_neg (by omega), if_neg (by omega), if_neg (by omega), if_pos e, if_neg hg]
theorem stG_4 {σ : Sg} {h : Nat → Nat} {p k : Nat} (e : s_kk σ (12 * p + k) = 4) : stG σ h p k = h := by unfold stG; rw [if_neg (by omega), if_neg (by omega), if_neg (by omega), if_neg (by omega), if_neg (by omega)]
theorem stG_5 {σ : Sg} {h : Nat → Nat} {p k : Nat} (e : s_kk σ (12 * p + k) = 5) : stG σ h p k = upN h (80 + p) (h (80 + p) ||| h (8 * p + s_fs σ (12 * p + k))) := by unfold stG; rw [if_neg (by omega), if_neg (by omega), if_neg (by omega), if_neg (by omega), if_pos e]
theorem ite01 {P : Prop} [Decidable P] : (if P then 0 else 1) < 2 := by split <;> decide
set_option maxHeartbeats 4000000 in
theorem h_goes0 {G : GG} (d : Nat) {t : Nat → Option (Nat × Nat)} {J : Nat → Nat → Int64} {P : Nat → Nat → Value} {n sl : Nat} {I : Nat → Nat → Int32} (hS : SH t P) {f : Nat} (hf : FlT t P f) {h : Nat → Nat} (hr : FlR I f h) (hh : ∀ q, q < 107 → h q < 65536) {σ : Sg} {y : Lay} (hσ : SgOK σ) (hP : HP t I P σ y) {g : Nat → Nat} (hg : ∀ p, p < s_np σ → I (f + 1) p = nI (g p) ∧ g p < 65536) {p k a : Nat} (hp : p < s_np σ) (hk : k < s_ln σ p) (ha : LnR t I P σ (12 * p + k) a) (hkk : s_kk σ (12 * p + k) = 0) (hB : n ≤ 601124) (hSl : sl ≤ 7293033) : CA G (d + 1) M9_goes [.ref a, .ref f, .int (nI p)] (t, I, J, P, n, sl) (GoR t J P n sl f I h (stG (sGr σ g) h p k)) := by
  refine CA.w ?_
  show RA _ _ M9_goes 0 [.ref a, .ref f, .int (nI p)] [] _ _
  have hnp := hσ.1
  have hln := hσ.ln hp
  obtain ⟨r1, r2, r3, r4, r5, r6, r7⟩ := hσ.row hp hk
  have ha144 := ha.1
  have hta : t a = some (9, 0) := by rw [ha.2.1, hkk]
  have h108 := hf.2.2.2.2.2.2.2.2.1
  have h112 := hf.2.2.2.2.2.2.2.2.2
  refine x_aload_n d9_goes_0 rfl ?_
  refine x_getP d9_goes_1 f9_9 hf.1 hf.2.2.1 ?_
  refine x_iload_n d9_goes_4 rfl ?_
  refine x_ialdN d9_goes_5 hf.2.2.2.1 (by omega) ?_
  refine x_top (congrArg Value.int (show I (f + 1) p = nI (g p) from (hg p hp).1)) ?_
  have hg_ := (hg p hp).2
  refine x_aload_n d9_goes_6 rfl ?_
  refine x_getI d9_goes_7 f9_15 hta ?_
  refine x_top (congrArg Value.int (show I a 1 = nI (s_nu σ (12 * p + k)) from ha.2.2.2.1)) ?_
  refine x_ishrN d9_goes_10 (by omega) (by omega) ?_
  refine x_iconst (v := nI 1) d9_goes_11 (by decide) ?_
  refine x_tbN d9_goes_12 ?_
  have htb_ := tb_lt (g p) (s_nu σ (12 * p + k))
  refine x_iconst (v := nI 1) d9_goes_13 (by decide) ?_
  refine x_icmp_neN 42 d9_goes_14 (by decide) (by omega) (by omega) (fun b14 => ?_) (fun b14 => ?_)
  · refine x_iconst (v := nI 0) d9_goes_42 (by decide) ?_
    refine x_ireturn d9_goes_43 ?_
    have hst : stG (sGr σ g) h p k = h := stG_0f (σ := sGr σ g) hkk (show ¬ (g p).testBit (s_nu σ (12 * p + k)) = true from fun z => by rw [tb_ne1.mp b14] at z; cases z)
    exact ⟨I, 0, rfl, rfl, FlF.rf f I, by rw [hst]; exact hr, by rw [hst]; exact Gro.rf h⟩
  · refine x_aload_n d9_goes_17 rfl ?_
    refine x_iload_n d9_goes_18 rfl ?_
    refine x_aload_n d9_goes_19 rfl ?_
    refine x_getI d9_goes_20 f9_21 hta ?_
    refine x_top (congrArg Value.int (show I a 2 = nI (s_fs σ (12 * p + k)) from ha.2.2.2.2.1)) ?_
    refine x_invS 2 d9_goes_23 s9_24 (h_place p (s_fs σ (12 * p + k))) (Cont.p ?_) (hB := hB) (hS := hSl)
    refine x_iconst (v := nI 1) d9_goes_26 (by decide) ?_
    refine x_aload_n d9_goes_27 rfl ?_
    refine x_getI d9_goes_28 f9_15 hta ?_
    refine x_top (congrArg Value.int (show I a 1 = nI (s_nu σ (12 * p + k)) from ha.2.2.2.1)) ?_
    refine x_1shlN d9_goes_31 (by omega) ?_
    refine x_invV f 2 d9_goes_32 hf.1 v9_28_4 (h_adds _ hS hf hr hh (q := 8 * p + s_fs σ (12 * p + k)) (x := 2 ^ s_nu σ (12 * p + k)) (by omega) (p2_lt r2)) (Cont.e ?_) (hB := hB) (hS := hSl)
    obtain ⟨I1, hI1⟩ : ∃ z, z = u2 I (f + 2) (8 * p + s_fs σ (12 * p + k)) (nI (h (8 * p + s_fs σ (12 * p + k)) ||| 2 ^ s_nu σ (12 * p + k))) := ⟨_, rfl⟩
    rw [← hI1]
    have hgro := Gro.adds (h := h) (q := 8 * p + s_fs σ (12 * p + k)) (x := 2 ^ s_nu σ (12 * p + k)) (by omega) (hh _ (by omega)) (p2_lt r2)
    have hc2 := hgro.1
    have hst : stG (sGr σ g) h p k = upN h (8 * p + s_fs σ (12 * p + k)) (h (8 * p + s_fs σ (12 * p + k)) ||| 2 ^ s_nu σ (12 * p + k)) := stG_0t (σ := sGr σ g) hkk (show (g p).testBit (s_nu σ (12 * p + k)) = true from tb1.mp b14)
    refine x_if_eqN 42 d9_goes_35 (by decide) (by omega) (fun b35 => ?_) (fun b35 => ?_)
    · refine x_iconst (v := nI 0) d9_goes_42 (by decide) ?_
      exact x_ireturn d9_goes_43 ⟨I1, 0, rfl, rfl, FlF.held hI1, by rw [hst]; exact hr.held hI1 (by omega), by rw [hst]; rw [b35] at hgro; exact hgro⟩
    · refine x_iconst (v := nI 1) d9_goes_38 (by decide) ?_
      refine x_goto 43 d9_goes_39 (by decide) ?_
      exact x_ireturn d9_goes_43 ⟨I1, 1, rfl, rfl, FlF.held hI1, by rw [hst]; exact hr.held hI1 (by omega), by rw [hst]; rw [show (if h (8 * p + s_fs σ (12 * p + k)) ||| 2 ^ s_nu σ (12 * p + k) = h (8 * p + s_fs σ (12 * p + k)) then 0 else 1) = 1 by omega] at hgro; exact hgro⟩
set_option maxHeartbeats 4000000 in
theorem h_goes3 {G : GG} (d : Nat) {t : Nat → Option (Nat × Nat)} {J : Nat → Nat → Int64} {P : Nat → Nat → Value} {n sl : Nat} {I : Nat → Nat → Int32} (hS : SH t P) {f : Nat} (hf : FlT t P f) {h : Nat → Nat} (hr : FlR I f h) (hh : ∀ q, q < 107 → h q < 65536) {σ : Sg} {y : Lay} (hσ : SgOK σ) (hP : HP t I P σ y) {g : Nat → Nat} (hg : ∀ p, p < s_np σ → I (f + 1) p = nI (g p) ∧ g p < 65536) {p k a : Nat} (hp : p < s_np σ) (hk : k < s_ln σ p) (ha : LnR t I P σ (12 * p + k) a) (hkk : s_kk σ (12 * p + k) = 3) (hB : n ≤ 601124) (hSl : sl ≤ 7293033) : CA G (d + 1) M12_goes [.ref a, .ref f, .int (nI p)] (t, I, J, P, n, sl) (GoR t J P n sl f I h (stG (sGr σ g) h p k)) := by
  refine CA.w ?_
  show RA _ _ M12_goes 0 [.ref a, .ref f, .int (nI p)] [] _ _
  have hnp := hσ.1
  have hln := hσ.ln hp
  obtain ⟨r1, r2, r3, r4, r5, r6, r7⟩ := hσ.row hp hk
  have ha144 := ha.1
  have hta : t a = some (12, 0) := by rw [ha.2.1, hkk]
  have h108 := hf.2.2.2.2.2.2.2.2.1
  have h112 := hf.2.2.2.2.2.2.2.2.2
  refine x_aload_n d12_goes_0 rfl ?_
  refine x_getP d12_goes_1 f12_15 hf.1 hf.2.2.1 ?_
  refine x_iload_n d12_goes_4 rfl ?_
  refine x_ialdN d12_goes_5 hf.2.2.2.1 (by omega) ?_
  refine x_top (congrArg Value.int (show I (f + 1) p = nI (g p) from (hg p hp).1)) ?_
  have hg_ := (hg p hp).2
  refine x_aload_n d12_goes_6 rfl ?_
  refine x_getI d12_goes_7 f12_9 hta ?_
  refine x_top (congrArg Value.int (show I a 1 = nI (s_nu σ (12 * p + k)) from ha.2.2.2.1)) ?_
  refine x_ishrN d12_goes_10 (by omega) (by omega) ?_
  refine x_iconst (v := nI 1) d12_goes_11 (by decide) ?_
  refine x_tbN d12_goes_12 ?_
  have htb_ := tb_lt (g p) (s_nu σ (12 * p + k))
  refine x_iconst (v := nI 1) d12_goes_13 (by decide) ?_
  refine x_icmp_neN 45 d12_goes_14 (by decide) (by omega) (by omega) (fun b14 => ?_) (fun b14 => ?_)
  · refine x_iconst (v := nI 0) d12_goes_45 (by decide) ?_
    refine x_ireturn d12_goes_46 ?_
    have hst : stG (sGr σ g) h p k = h := stG_3f (σ := sGr σ g) hkk (show ¬ (g p).testBit (s_nu σ (12 * p + k)) = true from fun z => by rw [tb_ne1.mp b14] at z; cases z)
    exact ⟨I, 0, rfl, rfl, FlF.rf f I, by rw [hst]; exact hr, by rw [hst]; exact Gro.rf h⟩
  · refine x_aload_n d12_goes_17 rfl ?_
    refine x_aload_n d12_goes_18 rfl ?_
    refine x_getI d12_goes_19 f12_9 hta ?_
    refine x_top (congrArg Value.int (show I a 1 = nI (s_nu σ (12 * p + k)) from ha.2.2.2.1)) ?_
    refine x_aload_n d12_goes_22 rfl ?_
    refine x_getP d12_goes_23 f12_21 hf.1 hf.2.2.2.2.1 ?_
    refine x_iload_n d12_goes_26 rfl ?_
    refine x_aload_n d12_goes_27 rfl ?_
    refine x_getI d12_goes_28 f12_24 hta ?_
    refine x_top (congrArg Value.int (show I a 2 = nI (s_fs σ (12 * p + k)) from ha.2.2.2.2.1)) ?_
    refine x_invS 2 d12_goes_31 s12_27 (h_place p (s_fs σ (12 * p + k))) (Cont.p ?_) (hB := hB) (hS := hSl)
    refine x_ialdN d12_goes_34 hf.2.2.2.2.2.1 (by omega) ?_
    refine x_top (congrArg Value.int (show I (f + 2) (8 * p + (s_fs σ (12 * p + k))) = nI (h (8 * p + (s_fs σ (12 * p + k)))) from (hr.1 _ (by omega)))) ?_
    refine x_invV f 2 d12_goes_35 hf.1 v12_31_4 (h_out _ hS hf hr hh (q := s_nu σ (12 * p + k)) (x := h (8 * p + s_fs σ (12 * p + k))) (by omega) (hh _ (by omega))) (Cont.e ?_) (hB := hB) (hS := hSl)
    obtain ⟨I1, hI1⟩ : ∃ z, z = u2 I (f + 3) (s_nu σ (12 * p + k)) (nI (h (90 + s_nu σ (12 * p + k)) ||| h (8 * p + s_fs σ (12 * p + k)))) := ⟨_, rfl⟩
    rw [← hI1]
    have hgro := Gro.adds (h := h) (q := 90 + s_nu σ (12 * p + k)) (x := h (8 * p + s_fs σ (12 * p + k))) (by omega) (hh _ (by omega)) (hh _ (by omega))
    have hc2 := hgro.1
    have hst : stG (sGr σ g) h p k = upN h (90 + s_nu σ (12 * p + k)) (h (90 + s_nu σ (12 * p + k)) ||| h (8 * p + s_fs σ (12 * p + k))) := stG_3t (σ := sGr σ g) hkk (show (g p).testBit (s_nu σ (12 * p + k)) = true from tb1.mp b14)
    refine x_if_eqN 45 d12_goes_38 (by decide) (by omega) (fun b38 => ?_) (fun b38 => ?_)
    · refine x_iconst (v := nI 0) d12_goes_45 (by decide) ?_
      exact x_ireturn d12_goes_46 ⟨I1, 0, rfl, rfl, FlF.door hI1, by rw [hst]; exact hr.door hI1 (by omega), by rw [hst]; rw [b38] at hgro; exact hgro⟩
    · refine x_iconst (v := nI 1) d12_goes_41 (by decide) ?_
      refine x_goto 46 d12_goes_42 (by decide) ?_
      exact x_ireturn d12_goes_46 ⟨I1, 1, rfl, rfl, FlF.door hI1, by rw [hst]; exact hr.door hI1 (by omega), by rw [hst]; rw [show (if h (90 + s_nu σ (12 * p + k)) ||| h (8 * p + s_fs σ (12 * p + k)) = h (90 + s_nu σ (12 * p + k)) then 0 else 1) = 1 by omega] at hgro; exact hgro⟩
set_option maxHeartbeats 4000000 in
theorem h_goes5 {G : GG} (d : Nat) {t : Nat → Option (Nat × Nat)} {J : Nat → Nat → Int64} {P : Nat → Nat → Value} {n sl : Nat} {I : Nat → Nat → Int32} (hS : SH t P) {f : Nat} (hf : FlT t P f) {h : Nat → Nat} (hr : FlR I f h) (hh : ∀ q, q < 107 → h q < 65536) {σ : Sg} {y : Lay} (hσ : SgOK σ) (hP : HP t I P σ y) {g : Nat → Nat} (hg : ∀ p, p < s_np σ → I (f + 1) p = nI (g p) ∧ g p < 65536) {p k a : Nat} (hp : p < s_np σ) (hk : k < s_ln σ p) (ha : LnR t I P σ (12 * p + k) a) (hkk : s_kk σ (12 * p + k) = 5) (hB : n ≤ 601124) (hSl : sl ≤ 7293033) : CA G (d + 1) M14_goes [.ref a, .ref f, .int (nI p)] (t, I, J, P, n, sl) (GoR t J P n sl f I h (stG (sGr σ g) h p k)) := by
  refine CA.w ?_
  show RA _ _ M14_goes 0 [.ref a, .ref f, .int (nI p)] [] _ _
  have hnp := hσ.1
  have hln := hσ.ln hp
  obtain ⟨r1, r2, r3, r4, r5, r6, r7⟩ := hσ.row hp hk
  have ha144 := ha.1
  have hta : t a = some (14, 0) := by rw [ha.2.1, hkk]
  have h108 := hf.2.2.2.2.2.2.2.2.1
  have h112 := hf.2.2.2.2.2.2.2.2.2
  refine x_aload_n d14_goes_0 rfl ?_
  refine x_iload_n d14_goes_1 rfl ?_
  refine x_invS 1 d14_goes_2 s14_9 (h_resultOf p) (Cont.p ?_) (hB := hB) (hS := hSl)
  refine x_aload_n d14_goes_5 rfl ?_
  refine x_getP d14_goes_6 f14_13 hf.1 hf.2.2.2.2.1 ?_
  refine x_iload_n d14_goes_9 rfl ?_
  refine x_aload_n d14_goes_10 rfl ?_
  refine x_getI d14_goes_11 f14_19 hta ?_
  refine x_top (congrArg Value.int (show I a 2 = nI (s_fs σ (12 * p + k)) from ha.2.2.2.2.1)) ?_
  refine x_invS 2 d14_goes_14 s14_25 (h_place p (s_fs σ (12 * p + k))) (Cont.p ?_) (hB := hB) (hS := hSl)
  refine x_ialdN d14_goes_17 hf.2.2.2.2.2.1 (by omega) ?_
  refine x_top (congrArg Value.int (show I (f + 2) (8 * p + (s_fs σ (12 * p + k))) = nI (h (8 * p + (s_fs σ (12 * p + k)))) from (hr.1 _ (by omega)))) ?_
  refine x_invV f 2 d14_goes_18 hf.1 v14_29_4 (h_adds _ hS hf hr hh (q := 80 + p) (x := h (8 * p + s_fs σ (12 * p + k))) (by omega) (hh _ (by omega))) (Cont.e ?_) (hB := hB) (hS := hSl)
  obtain ⟨I1, hI1⟩ : ∃ z, z = u2 I (f + 2) (80 + p) (nI (h (80 + p) ||| h (8 * p + s_fs σ (12 * p + k)))) := ⟨_, rfl⟩
  rw [← hI1]
  have hgro := Gro.adds (h := h) (q := 80 + p) (x := h (8 * p + s_fs σ (12 * p + k))) (by omega) (hh _ (by omega)) (hh _ (by omega))
  have hst : stG (sGr σ g) h p k = upN h (80 + p) (h (80 + p) ||| h (8 * p + s_fs σ (12 * p + k))) := stG_5 (σ := sGr σ g) hkk
  exact x_ireturn d14_goes_21 ⟨I1, _, rfl, rfl, FlF.held hI1, by rw [hst]; exact hr.held hI1 (by omega), by rw [hst]; exact hgro⟩ (hn := nar_b ite01)
set_option maxHeartbeats 4000000 in
theorem h_goes4 {G : GG} (d : Nat) {t : Nat → Option (Nat × Nat)} {J : Nat → Nat → Int64} {P : Nat → Nat → Value} {n sl : Nat} {I : Nat → Nat → Int32} (hS : SH t P) {f : Nat} (hf : FlT t P f) {h : Nat → Nat} (hr : FlR I f h) (hh : ∀ q, q < 107 → h q < 65536) {σ : Sg} {y : Lay} (hσ : SgOK σ) (hP : HP t I P σ y) {g : Nat → Nat} (hg : ∀ p, p < s_np σ → I (f + 1) p = nI (g p) ∧ g p < 65536) {p k a : Nat} (hp : p < s_np σ) (hk : k < s_ln σ p) (ha : LnR t I P σ (12 * p + k) a) (hkk : s_kk σ (12 * p + k) = 4) (hB : n ≤ 601124) (hSl : sl ≤ 7293033) : CA G (d + 0) M8_goes [.ref a, .ref f, .int (nI p)] (t, I, J, P, n, sl) (GoR t J P n sl f I h (stG (sGr σ g) h p k)) := by
  refine CA.w ?_
  show RA _ _ M8_goes 0 [.ref a, .ref f, .int (nI p)] [] _ _
  have hnp := hσ.1
  have hln := hσ.ln hp
  obtain ⟨r1, r2, r3, r4, r5, r6, r7⟩ := hσ.row hp hk
  have ha144 := ha.1
  have hta : t a = some (13, 0) := by rw [ha.2.1, hkk]
  have h108 := hf.2.2.2.2.2.2.2.2.1
  have h112 := hf.2.2.2.2.2.2.2.2.2
  refine x_iconst (v := nI 0) d8_goes_0 (by decide) ?_
  refine x_ireturn d8_goes_1 ?_
  have hst : stG (sGr σ g) h p k = h := stG_4 (σ := sGr σ g) hkk
  exact ⟨I, 0, rfl, rfl, FlF.rf f I, by rw [hst]; exact hr, by rw [hst]; exact Gro.rf h⟩
set_option maxHeartbeats 4000000 in
theorem h_goes1 {G : GG} (d : Nat) {t : Nat → Option (Nat × Nat)} {J : Nat → Nat → Int64} {P : Nat → Nat → Value} {n sl : Nat} {I : Nat → Nat → Int32} (hS : SH t P) {f : Nat} (hf : FlT t P f) {h : Nat → Nat} (hr : FlR I f h) (hh : ∀ q, q < 107 → h q < 65536) {σ : Sg} {y : Lay} (hσ : SgOK σ) (hP : HP t I P σ y) {g : Nat → Nat} (hg : ∀ p, p < s_np σ → I (f + 1) p = nI (g p) ∧ g p < 65536) {p k a : Nat} (hp : p < s_np σ) (hk : k < s_ln σ p) (ha : LnR t I P σ (12 * p + k) a) (hkk : s_kk σ (12 * p + k) = 1) (hB : n ≤ 601124) (hSl : sl ≤ 7293033) : CA G (d + 2) M10_goes [.ref a, .ref f, .int (nI p)] (t, I, J, P, n, sl) (GoR t J P n sl f I h (stG (sGr σ g) h p k)) := by
  refine CA.w ?_
  show RA _ _ M10_goes 0 [.ref a, .ref f, .int (nI p), U0, U0] [] _ _
  have hnp := hσ.1
  have hln := hσ.ln hp
  obtain ⟨r1, r2, r3, r4, r5, r6, r7⟩ := hσ.row hp hk
  have ha144 := ha.1
  have hta : t a = some (10, 0) := by rw [ha.2.1, hkk]
  have h108 := hf.2.2.2.2.2.2.2.2.1
  have h112 := hf.2.2.2.2.2.2.2.2.2
  refine x_iconst (v := nI 0) d10_goes_0 (by decide) ?_
  refine x_istore_n d10_goes_1 ?_
  refine x_iconst (v := nI 0) d10_goes_2 (by decide) ?_
  refine x_istore d10_goes_3 ?_
  have hL : ∀ i, i ≤ s_nu σ (12 * p + k) → RA G (d + 2) M10_goes 5 [.ref a, .ref f, .int (nI p), .int (nI (orF (fun i => h (8 * p + s_fr σ (4 * (12 * p + k) + i))) i)), .int (nI i)] [] (t, I, J, P, n, sl) (GoR t J P n sl f I h (stG (sGr σ g) h p k)) := by
    refine up_ind ?_
    intro i hi_ ih
    refine x_iload d10_goes_5 rfl ?_
    refine x_aload_n d10_goes_7 rfl ?_
    refine x_getI d10_goes_8 f10_21 hta ?_
    refine x_top (congrArg Value.int (show I a 1 = nI (s_nu σ (12 * p + k)) from ha.2.2.2.1)) ?_
    refine x_icmp_geN 39 d10_goes_11 (by decide) (by omega) (by omega) (fun b11 => ?_) (fun b11 => ?_)
    · refine x_aload_n d10_goes_39 rfl ?_
      refine x_iload_n d10_goes_40 rfl ?_
      refine x_aload_n d10_goes_41 rfl ?_
      refine x_getI d10_goes_42 f10_34 hta ?_
      refine x_top (congrArg Value.int (show I a 2 = nI (s_fs σ (12 * p + k)) from ha.2.2.2.2.1)) ?_
      refine x_iload_n d10_goes_45 rfl ?_
      have hie : i = s_nu σ (12 * p + k) := by omega
      subst hie
      have hX : orF (fun i => h (8 * p + s_fr σ (4 * (12 * p + k) + i))) (s_nu σ (12 * p + k)) < 65536 := orF_lt (fun i hi => hh _ (by have := r7 hkk i hi; omega))
      refine x_invV f 3 d10_goes_46 hf.1 v10_37_4 (h_passes _ hS hf hr hh hσ hP (p := p) (m := s_fs σ (12 * p + k)) hp r3 hX hB hSl) (Cont.e ?_) (hB := hB) (hS := hSl)
      obtain ⟨I1, hI1⟩ : ∃ z, z = u2 I (f + 2) (8 * p + s_fs σ (12 * p + k)) (nI (h (8 * p + s_fs σ (12 * p + k)) ||| adf (orF (fun i => h (8 * p + s_fr σ (4 * (12 * p + k) + i))) (s_nu σ (12 * p + k))) (wS σ (8 * p + s_fs σ (12 * p + k))))) := ⟨_, rfl⟩
      rw [← hI1]
      have hgro := Gro.com (h := h) (w := wS σ) (q := 8 * p + s_fs σ (12 * p + k)) (x := orF (fun i => h (8 * p + s_fr σ (4 * (12 * p + k) + i))) (s_nu σ (12 * p + k))) (by omega) (hh _ (by omega)) hX
      have hst : stG (sGr σ g) h p k = com h (wS σ) (8 * p + s_fs σ (12 * p + k)) (orF (fun i => h (8 * p + s_fr σ (4 * (12 * p + k) + i))) (s_nu σ (12 * p + k))) := stG_1 (σ := sGr σ g) hkk
      exact x_ireturn d10_goes_49 ⟨I1, _, rfl, rfl, FlF.held hI1, by rw [hst]; exact hr.held hI1 (by omega), by rw [hst]; exact hgro⟩ (hn := nar_b ite01)
    · refine x_iload_n d10_goes_14 rfl ?_
      refine x_aload_n d10_goes_15 rfl ?_
      refine x_getP d10_goes_16 f10_25 hf.1 hf.2.2.2.2.1 ?_
      refine x_iload_n d10_goes_19 rfl ?_
      refine x_aload_n d10_goes_20 rfl ?_
      refine x_getP d10_goes_21 f10_9 hta (ha.2.2.2.2.2.2 hkk).1 ?_
      refine x_iload d10_goes_24 rfl ?_
      refine x_ialdN d10_goes_26 (ha.2.2.2.2.2.2 hkk).2.1 (by omega) ?_
      refine x_top (congrArg Value.int (show I (a + 1) i = nI (s_fr σ (4 * (12 * p + k) + i)) from ((ha.2.2.2.2.2.2 hkk).2.2 i b11))) ?_
      have hfr_ := r7 hkk i b11
      refine x_invS 2 d10_goes_27 s10_30 (h_place p (s_fr σ (4 * (12 * p + k) + i))) (Cont.p ?_) (hB := hB) (hS := hSl)
      refine x_ialdN d10_goes_30 hf.2.2.2.2.2.1 (by omega) ?_
      refine x_top (congrArg Value.int (show I (f + 2) (8 * p + (s_fr σ (4 * (12 * p + k) + i))) = nI (h (8 * p + (s_fr σ (4 * (12 * p + k) + i)))) from (hr.1 _ (by omega)))) ?_
      refine x_iorN d10_goes_31 ?_
      refine x_istore_n d10_goes_32 ?_
      refine x_iincN (c := 1) d10_goes_33 rfl (by decide) ?_
      refine x_goto 5 d10_goes_36 (by decide) ?_
      exact ih b11
  exact hL 0 (Nat.zero_le _)
set_option maxHeartbeats 4000000 in
theorem h_goes2 {G : GG} (d : Nat) {t : Nat → Option (Nat × Nat)} {J : Nat → Nat → Int64} {P : Nat → Nat → Value} {n sl : Nat} {I : Nat → Nat → Int32} (hS : SH t P) {f : Nat} (hf : FlT t P f) {h : Nat → Nat} (hr : FlR I f h) (hh : ∀ q, q < 107 → h q < 65536) {σ : Sg} {y : Lay} (hσ : SgOK σ) (hP : HP t I P σ y) {g : Nat → Nat} (hg : ∀ p, p < s_np σ → I (f + 1) p = nI (g p) ∧ g p < 65536) {p k a : Nat} (hp : p < s_np σ) (hk : k < s_ln σ p) (ha : LnR t I P σ (12 * p + k) a) (hkk : s_kk σ (12 * p + k) = 2) (hB : n ≤ 601124) (hSl : sl ≤ 7293033) : CA G (d + 2) M11_goes [.ref a, .ref f, .int (nI p)] (t, I, J, P, n, sl) (GoR t J P n sl f I h (stG (sGr σ g) h p k)) := by
  refine CA.w ?_
  show RA _ _ M11_goes 0 [.ref a, .ref f, .int (nI p), U0] [] _ _
  have hnp := hσ.1
  have hln := hσ.ln hp
  obtain ⟨r1, r2, r3, r4, r5, r6, r7⟩ := hσ.row hp hk
  have ha144 := ha.1
  have hta : t a = some (11, 0) := by rw [ha.2.1, hkk]
  have h108 := hf.2.2.2.2.2.2.2.2.1
  have h112 := hf.2.2.2.2.2.2.2.2.2
  refine x_aload_n d11_goes_0 rfl ?_
  refine x_aload_n d11_goes_1 rfl ?_
  refine x_getI d11_goes_2 f11_15 hta ?_
  refine x_top (congrArg Value.int (show I a 1 = nI (s_nu σ (12 * p + k)) from ha.2.2.2.1)) ?_
  obtain ⟨e1, e2⟩ := r5 hkk
  refine x_invV f 1 d11_goes_5 hf.1 v11_18_4 (h_fasks _ hS hf hr hh (q := s_nu σ (12 * p + k)) (by omega)) (Cont.e ?_) (hB := hB) (hS := hSl)
  obtain ⟨I1, hI1⟩ : ∃ z, z = u2 I f 4 (nI (h 106 ||| 2 ^ s_nu σ (12 * p + k))) := ⟨_, rfl⟩
  rw [← hI1]
  have g1 := Gro.adds (h := h) (q := 106) (x := 2 ^ s_nu σ (12 * p + k)) (by omega) (hh _ (by omega)) (p2_lt r2)
  have hr1 := hr.ask hI1
  have hF1 : FlF f I I1 := FlF.ask hI1
  generalize hc1 : (if h 106 ||| 2 ^ s_nu σ (12 * p + k) = h 106 then 0 else 1) = c1 at g1 ⊢
  generalize hh1 : upN h 106 (h 106 ||| 2 ^ s_nu σ (12 * p + k)) = h1 at g1 hr1
  have hb1 : ∀ q, q < 107 → h1 q < 65536 := fun q hq => by
    rw [← hh1]; unfold upN; split
    · exact or_lt (hh _ (by omega)) (p2_lt r2)
    · exact hh q hq
  have hP1 := hF1.hp hf hP
  refine x_istore_n d11_goes_8 ?_
  refine x_iload_n d11_goes_9 rfl ?_
  refine x_aload_n d11_goes_10 rfl ?_
  refine x_aload_n d11_goes_11 rfl ?_
  refine x_getI d11_goes_12 f11_15 hta ?_
  refine x_top (congrArg Value.int (show I1 a 1 = nI (s_nu σ (12 * p + k)) from ((congrFun (hF1.1 a (by omega) (by omega) (by omega)) _).trans ha.2.2.2.1))) ?_
  refine x_iconst (v := nI 0) d11_goes_15 (by decide) ?_
  refine x_aload_n d11_goes_16 rfl ?_
  refine x_getP d11_goes_17 f11_24 hf.1 hf.2.2.2.2.1 ?_
  refine x_iload_n d11_goes_20 rfl ?_
  refine x_aload_n d11_goes_21 rfl ?_
  refine x_getI d11_goes_22 f11_28 hta ?_
  refine x_top (congrArg Value.int (show I1 a 2 = nI (s_fs σ (12 * p + k)) from ((congrFun (hF1.1 a (by omega) (by omega) (by omega)) _).trans ha.2.2.2.2.1))) ?_
  refine x_invS 2 d11_goes_25 s11_31 (h_place p (s_fs σ (12 * p + k))) (Cont.p ?_) (hB := hB) (hS := hSl)
  refine x_ialdN d11_goes_28 hf.2.2.2.2.2.1 (by omega) ?_
  refine x_top (congrArg Value.int (show I1 (f + 2) (8 * p + (s_fs σ (12 * p + k))) = nI (h (8 * p + (s_fs σ (12 * p + k)))) from ((hr1.1 _ (by omega)).trans (by rw [← hh1, upN_ne _ _ (by omega)])))) ?_
  refine x_invV f 3 d11_goes_29 hf.1 v11_35_4 (h_passes _ hS hf hr1 hb1 hσ hP1 (p := s_nu σ (12 * p + k)) (m := 0) (x := h (8 * p + s_fs σ (12 * p + k))) e1 (by decide) (hh _ (by omega)) hB hSl) (Cont.e ?_) (hB := hB) (hS := hSl)
  obtain ⟨I2, hI2⟩ : ∃ z, z = u2 I1 (f + 2) (8 * s_nu σ (12 * p + k) + 0) (nI (h1 (8 * s_nu σ (12 * p + k) + 0) ||| adf (h (8 * p + s_fs σ (12 * p + k))) (wS σ (8 * s_nu σ (12 * p + k) + 0)))) := ⟨_, rfl⟩
  rw [← hI2]
  have g2 := Gro.com (h := h1) (w := wS σ) (q := 8 * s_nu σ (12 * p + k) + 0) (x := h (8 * p + s_fs σ (12 * p + k))) (by omega) (hb1 _ (by omega)) (hh _ (by omega))
  have hr2 := hr1.held hI2 (by omega)
  have hF2 : FlF f I I2 := hF1.trans (FlF.held hI2)
  generalize hc2 : (if h1 (8 * s_nu σ (12 * p + k) + 0) ||| adf (h (8 * p + s_fs σ (12 * p + k))) (wS σ (8 * s_nu σ (12 * p + k) + 0)) = h1 (8 * s_nu σ (12 * p + k) + 0) then 0 else 1) = c2 at g2 ⊢
  have hb2 := com_lt (w := wS σ) (q := 8 * s_nu σ (12 * p + k) + 0) hb1 (hh (8 * p + s_fs σ (12 * p + k)) (by omega)) (by omega)
  generalize hh2 : com h1 (wS σ) (8 * s_nu σ (12 * p + k) + 0) (h (8 * p + s_fs σ (12 * p + k))) = h2 at g2 hb2
  replace hr2 : FlR I2 f h2 := by rw [← hh2]; exact hr2
  have hP2 := hF2.hp hf hP
  have g12 := g1.trans g2
  have hl12 := g12.1
  refine x_iorN d11_goes_32 ?_
  refine x_istore_n d11_goes_33 ?_
  refine x_aload_n d11_goes_34 rfl ?_
  refine x_iload_n d11_goes_35 rfl ?_
  refine x_aload_n d11_goes_36 rfl ?_
  refine x_getI d11_goes_37 f11_9 hta ?_
  refine x_top (congrArg Value.int (show I2 a 3 = nI (s_sc σ (12 * p + k)) from ((congrFun (hF2.1 a (by omega) (by omega) (by omega)) _).trans (ha.2.2.2.2.2.1 hkk)))) ?_
  refine x_aload_n d11_goes_40 rfl ?_
  refine x_getP d11_goes_41 f11_24 hf.1 hf.2.2.2.2.1 ?_
  refine x_aload_n d11_goes_44 rfl ?_
  refine x_getI d11_goes_45 f11_15 hta ?_
  refine x_top (congrArg Value.int (show I2 a 1 = nI (s_nu σ (12 * p + k)) from ((congrFun (hF2.1 a (by omega) (by omega) (by omega)) _).trans ha.2.2.2.1))) ?_
  refine x_invS 1 d11_goes_48 s11_39 (h_resultOf (s_nu σ (12 * p + k))) (Cont.p ?_) (hB := hB) (hS := hSl)
  refine x_ialdN d11_goes_51 hf.2.2.2.2.2.1 (by omega) ?_
  refine x_top (congrArg Value.int (show I2 (f + 2) (80 + (s_nu σ (12 * p + k))) = nI (h (80 + (s_nu σ (12 * p + k)))) from ((hr2.1 _ (by omega)).trans (by rw [← hh2]; unfold com; rw [upN_ne _ _ (by omega), ← hh1, upN_ne _ _ (by omega)])))) ?_
  refine x_invV f 3 d11_goes_52 hf.1 v11_35_4 (h_passes _ hS hf hr2 hb2 hσ hP2 (p := p) (m := s_sc σ (12 * p + k)) (x := h (80 + s_nu σ (12 * p + k))) hp e2 (hh _ (by omega)) hB hSl) (Cont.e ?_) (hB := hB) (hS := hSl)
  obtain ⟨I3, hI3⟩ : ∃ z, z = u2 I2 (f + 2) (8 * p + s_sc σ (12 * p + k)) (nI (h2 (8 * p + s_sc σ (12 * p + k)) ||| adf (h (80 + s_nu σ (12 * p + k))) (wS σ (8 * p + s_sc σ (12 * p + k))))) := ⟨_, rfl⟩
  rw [← hI3]
  have g3 := Gro.com (h := h2) (w := wS σ) (q := 8 * p + s_sc σ (12 * p + k)) (x := h (80 + s_nu σ (12 * p + k))) (by omega) (hb2 _ (by omega)) (hh _ (by omega))
  have hr3 := hr2.held hI3 (by omega)
  have hF3 : FlF f I I3 := hF2.trans (FlF.held hI3)
  generalize hc3 : (if h2 (8 * p + s_sc σ (12 * p + k)) ||| adf (h (80 + s_nu σ (12 * p + k))) (wS σ (8 * p + s_sc σ (12 * p + k))) = h2 (8 * p + s_sc σ (12 * p + k)) then 0 else 1) = c3 at g3 ⊢
  have g123 := g12.trans g3
  have hst : stG (sGr σ g) h p k = com h2 (wS σ) (8 * p + s_sc σ (12 * p + k)) (h (80 + s_nu σ (12 * p + k))) := by rw [← hh2, ← hh1]; exact stG_2 (σ := sGr σ g) hkk
  refine x_iload_n d11_goes_55 rfl ?_
  refine x_iorN d11_goes_56 ?_
  exact x_ireturn d11_goes_57 ⟨I3, _, rfl, rfl, hF3, by rw [hst]; exact hr3, by rw [hst, Nat.or_comm]; exact g123⟩ (hn := by rw [Nat.or_comm]; exact nar_b (by have := g123.1; omega))
