/-! the reference: comes, goes -/
set_option maxRecDepth 100000
set_option maxHeartbeats 4000000 in
theorem m_comes {G : GG} (d : Nat) {t : Nat → Option (Nat × Nat)} {J : Nat → Nat → Int64} {P : Nat → Nat → Value} {n sl : Nat} {I : Nat → Nat → Int32} {h w : Nat → Nat} (hS : SH t P) (hr : ∀ q, q < 80 → I 133 q = nI (h q)) (hw : ∀ q, q < 80 → I 134 q = nI (w q)) {q x : Nat} (hq : q < 80) (hx : x < 65536) (hh : h q < 65536) : CA G d M5_comes [.ref 122, .int (nI q), .int (nI x)] (t, I, J, P, n, sl) (fun o h' => o = .inl (some (.int (nI (if h q ||| adf x (w q) = h q then 0 else 1)))) ∧ h' = (t, u2 I 133 q (nI (h q ||| adf x (w q))), J, P, n, sl)) := by
  refine CA.w ?_
  show RA _ _ M5_comes 0 [.ref 122, .int (nI q), .int (nI x), U0] [] _ _
  refine x_aload_n d5_comes_0 rfl ?_
  refine x_getP d5_comes_1 f5_49 (hS.T rfl) (hS.P rfl) ?_
  refine x_iload_n d5_comes_4 rfl ?_
  refine x_ialdN d5_comes_5 (hS.T rfl) (by omega) ?_
  refine x_top (congrArg Value.int (hr _ (by omega))) ?_
  refine x_istore_n d5_comes_6 ?_
  refine x_aload_n d5_comes_7 rfl ?_
  refine x_getP d5_comes_8 f5_49 (hS.T rfl) (hS.P rfl) ?_
  refine x_iload_n d5_comes_11 rfl ?_
  refine x_dup2 d5_comes_12 rfl rfl ?_
  refine x_ialdN d5_comes_13 (hS.T rfl) (by omega) ?_
  refine x_top (congrArg Value.int (hr _ (by omega))) ?_
  refine x_iload_n d5_comes_14 rfl ?_
  refine x_aload_n d5_comes_15 rfl ?_
  refine x_getP d5_comes_16 f5_52 (hS.T rfl) (hS.P rfl) ?_
  refine x_iload_n d5_comes_19 rfl ?_
  refine x_ialdN d5_comes_20 (hS.T rfl) (by omega) ?_
  refine x_top (congrArg Value.int (hw _ (by omega))) ?_
  refine x_iconst (v := -1) d5_comes_21 (by decide) ?_
  refine x_ixor d5_comes_22 ?_
  refine x_andnN d5_comes_23 hx ?_
  refine x_iorN d5_comes_24 ?_
  refine x_iastN d5_comes_25 (hS.T rfl) (by omega) (fun I1 hI1 => ?_)
  refine x_aload_n d5_comes_26 rfl ?_
  refine x_getP d5_comes_27 f5_49 (hS.T rfl) (hS.P rfl) ?_
  refine x_iload_n d5_comes_30 rfl ?_
  refine x_ialdN d5_comes_31 (hS.T rfl) (by omega) ?_
  refine x_top (congrArg Value.int (by rw [hI1, u2_self])) ?_
  have hv1 := or_lt hh (adf_lt (b := w q) hx)
  have hv2 := hh
  refine x_iload_n d5_comes_32 rfl ?_
  refine x_icmp_eqN 40 d5_comes_33 (by decide) (by omega) (by omega) (fun b33 => ?_) (fun b33 => ?_)
  · refine x_iconst (v := nI 0) d5_comes_40 (by decide) ?_
    exact x_ireturn d5_comes_41 ⟨by rw [if_pos b33], by rw [hI1]⟩
  · refine x_iconst (v := nI 1) d5_comes_36 (by decide) ?_
    refine x_goto 41 d5_comes_37 (by decide) ?_
    exact x_ireturn d5_comes_41 ⟨by rw [if_neg b33], by rw [hI1]⟩
/-- the reference's rows of places -/
def RHm (I : Nat → Nat → Int32) (h : Nat → Nat) : Prop := (∀ q, q < 80 → I 133 q = nI (h q)) ∧ ∀ p, p < 10 → I 135 p = nI (h (80 + p))
theorem RHm.set {I I' : Nat → Nat → Int32} {h : Nat → Nat} {q v : Nat} (hr : RHm I h) (hI : I' = u2 I 133 q (nI v)) (hq : q < 80) : RHm I' (upN h q v) := by
  refine ⟨row_set hr.1 hI rfl, fun p hp => ?_⟩
  rw [hI, u2_row _ _ _ (by decide), upN_ne _ _ (by omega)]
  exact hr.2 p hp
theorem RHm.setR {I I' : Nat → Nat → Int32} {h : Nat → Nat} {q v : Nat} (hr : RHm I h) (hI : I' = u2 I 135 q (nI v)) : RHm I' (upN h (80 + q) v) := by
  refine ⟨fun j hj => ?_, fun p hp => ?_⟩
  · rw [hI, u2_row _ _ _ (by decide), upN_ne _ _ (by omega)]
    exact hr.1 j hj
  · rw [hI, u2_at]
    by_cases e : p = q
    · rw [if_pos e, e, upN_self]
    · rw [if_neg e, upN_ne _ _ (by omega)]
      exact hr.2 p hp
set_option maxHeartbeats 4000000 in
theorem m_goes {G : GG} (d : Nat) {t : Nat → Option (Nat × Nat)} {J : Nat → Nat → Int64} {P : Nat → Nat → Value} {n sl : Nat} {I : Nat → Nat → Int32} {σ : Sg} {h w : Nat → Nat} (hS : SH t P) (hσ : SgOK σ) (hM : MP I σ) (hr : RHm I h) (hw : ∀ q, q < 80 → I 134 q = nI (w q)) (hh : ∀ q, q < 90 → h q < 65536) {p k : Nat} (hp : p < s_np σ) (hk : k < s_ln σ p) (hB : n ≤ 601124) (hSl : sl ≤ 7293033) : CA G (d + 1) M5_goes [.ref 122, .int (nI p), .int (nI (12 * p + k))] (t, I, J, P, n, sl) (fun o h' => ∃ I' c, o = .inl (some (.int (nI c))) ∧ h' = (t, I', J, P, n, sl) ∧ (∀ b, b ∉ [133, 135] → I' b = I b) ∧ RHm I' (stepL σ w h p k) ∧ Grow h (stepL σ w h p k) c) := by
  refine CA.w ?_
  show RA _ _ M5_goes 0 [.ref 122, .int (nI p), .int (nI (12 * p + k)), U0, U0] [] _ _
  have hnp := hσ.1
  have hln := hσ.ln hp
  have hrow := hσ.row hp hk
  have hnu := hrow.2.1
  have hl : s_kk σ (12 * p + k) = 1 → ∀ i, i ≤ s_nu σ (12 * p + k) → RA G (d + 1) M5_goes 15 [.ref 122, .int (nI p), .int (nI (12 * p + k)), .int (nI (orF (fun i => h (8 * p + s_fr σ (4 * (12 * p + k) + i))) i)), .int (nI i)] [] (t, I, J, P, n, sl) (fun o h' => ∃ I' c, o = .inl (some (.int (nI c))) ∧ h' = (t, I', J, P, n, sl) ∧ (∀ b, b ∉ [133, 135] → I' b = I b) ∧ RHm I' (stepL σ w h p k) ∧ Grow h (stepL σ w h p k) c) := by
    intro b7
    refine up_ind ?_
    intro i hi ih
    refine x_iload d5_goes_15 rfl ?_
    refine x_aload_n d5_goes_17 rfl ?_
    refine x_getP d5_goes_18 f5_26 (hS.T rfl) (hS.P rfl) ?_
    refine x_iload_n d5_goes_21 rfl ?_
    refine x_ialdN d5_goes_22 (hS.T rfl) (by omega) ?_
    refine x_top (congrArg Value.int (hM.nu hp hk)) ?_
    have hnu_ := (hσ.row hp hk).2.1
    refine x_icmp_geN 56 d5_goes_23 (by decide) (by omega) (by omega) (fun b23 => ?_) (fun b23 => ?_)
    · have hie : i = s_nu σ (12 * p + k) := by omega
      subst hie
      have hf := hrow.2.2.2.2.2.2 b7
      refine x_aload_n d5_goes_56 rfl ?_
      refine x_bipush (v := nI 8) d5_goes_57 (by decide) ?_
      refine x_iload_n d5_goes_59 rfl ?_
      refine x_imulN d5_goes_60 ?_
      refine x_aload_n d5_goes_61 rfl ?_
      refine x_getP d5_goes_62 f5_29 (hS.T rfl) (hS.P rfl) ?_
      refine x_iload_n d5_goes_65 rfl ?_
      refine x_ialdN d5_goes_66 (hS.T rfl) (by omega) ?_
      refine x_top (congrArg Value.int (hM.fs hp hk)) ?_
      have hfs_ := (hσ.row hp hk).2.2.1
      refine x_iaddN d5_goes_67 ?_
      refine x_iload_n d5_goes_68 rfl ?_
      refine x_invV 122 2 d5_goes_69 (hS.T rfl) v5_238_5 (m_comes _ hS hr.1 hw (q := 8 * p + s_fs σ (12 * p + k)) (x := orF (fun i => h (8 * p + s_fr σ (4 * (12 * p + k) + i))) (s_nu σ (12 * p + k))) (by omega) (orF_lt (fun i hi => hh _ (by have := hf i hi; omega))) (hh _ (by omega))) (Cont.e ?_) (hB := hB) (hS := hSl)
      obtain ⟨I1, hI1⟩ : ∃ z, z = u2 I 133 (8 * p + s_fs σ (12 * p + k)) (nI (h (8 * p + s_fs σ (12 * p + k)) ||| adf (orF (fun i => h (8 * p + s_fr σ (4 * (12 * p + k) + i))) (s_nu σ (12 * p + k))) (w (8 * p + s_fs σ (12 * p + k))))) := ⟨_, rfl⟩
      rw [← hI1]
      have hst : stepL σ w h p k = com h w (8 * p + s_fs σ (12 * p + k)) (orF (fun i => h (8 * p + s_fr σ (4 * (12 * p + k) + i))) (s_nu σ (12 * p + k))) := by
        unfold stepL
        rw [if_pos b7]
      exact x_ireturn d5_goes_72 ⟨I1, _, rfl, rfl, fun b hb => by rw [hI1, u2_row _ _ _ (fun e => hb (by rw [e]; decide))], by rw [hst]; exact hr.set hI1 (by omega), by rw [hst]; exact Grow.com (by omega) (hh _ (by omega)) (orF_lt (fun i hi => hh _ (by have := hf i hi; omega)))⟩ (hn := by show narrow .boolean _ = _; split <;> rfl)
    · refine x_iload_n d5_goes_26 rfl ?_
      refine x_aload_n d5_goes_27 rfl ?_
      refine x_getP d5_goes_28 f5_49 (hS.T rfl) (hS.P rfl) ?_
      refine x_bipush (v := nI 8) d5_goes_31 (by decide) ?_
      refine x_iload_n d5_goes_33 rfl ?_
      refine x_imulN d5_goes_34 ?_
      refine x_aload_n d5_goes_35 rfl ?_
      refine x_getP d5_goes_36 f5_35 (hS.T rfl) (hS.P rfl) ?_
      refine x_iconst (v := nI 4) d5_goes_39 (by decide) ?_
      refine x_iload_n d5_goes_40 rfl ?_
      refine x_imulN d5_goes_41 ?_
      refine x_iload d5_goes_42 rfl ?_
      refine x_iaddN d5_goes_44 ?_
      refine x_ialdN d5_goes_45 (hS.T rfl) (by omega) ?_
      refine x_top (congrArg Value.int (hM.fr hp hk b7 b23)) ?_
      have hfr_ := hrow.2.2.2.2.2.2 b7 i b23
      refine x_iaddN d5_goes_46 ?_
      refine x_ialdN d5_goes_47 (hS.T rfl) (by omega) ?_
      refine x_top (congrArg Value.int (hr.1 _ (by omega))) ?_
      refine x_iorN d5_goes_48 ?_
      refine x_istore_n d5_goes_49 ?_
      refine x_iincN (c := 1) d5_goes_50 rfl (by decide) ?_
      refine x_goto 15 d5_goes_53 (by decide) ?_
      exact ih b23
  refine x_aload_n d5_goes_0 rfl ?_
  refine x_getP d5_goes_1 f5_23 (hS.T rfl) (hS.P rfl) ?_
  refine x_iload_n d5_goes_4 rfl ?_
  refine x_ialdN d5_goes_5 (hS.T rfl) (by omega) ?_
  refine x_top (congrArg Value.int (hM.kk hp hk)) ?_
  have hkk_ := (hσ.row hp hk).1
  refine x_iconst (v := nI 1) d5_goes_6 (by decide) ?_
  refine x_icmp_neN 73 d5_goes_7 (by decide) (by omega) (by omega) (fun b7 => ?_) (fun b7 => ?_)
  · refine x_aload_n d5_goes_73 rfl ?_
    refine x_getP d5_goes_74 f5_23 (hS.T rfl) (hS.P rfl) ?_
    refine x_iload_n d5_goes_77 rfl ?_
    refine x_ialdN d5_goes_78 (hS.T rfl) (by omega) ?_
    refine x_top (congrArg Value.int (hM.kk hp hk)) ?_
    have hkk_ := (hσ.row hp hk).1
    refine x_iconst (v := nI 2) d5_goes_79 (by decide) ?_
    refine x_icmp_neN 156 d5_goes_80 (by decide) (by omega) (by omega) (fun b80 => ?_) (fun b80 => ?_)
    · refine x_aload_n d5_goes_156 rfl ?_
      refine x_getP d5_goes_157 f5_23 (hS.T rfl) (hS.P rfl) ?_
      refine x_iload_n d5_goes_160 rfl ?_
      refine x_ialdN d5_goes_161 (hS.T rfl) (by omega) ?_
      refine x_top (congrArg Value.int (hM.kk hp hk)) ?_
      have hkk_ := (hσ.row hp hk).1
      refine x_iconst (v := nI 5) d5_goes_162 (by decide) ?_
      refine x_icmp_eqN 168 d5_goes_163 (by decide) (by omega) (by omega) (fun b163 => ?_) (fun b163 => ?_)
      · have hst5 : stepL σ w h p k = upN h (80 + p) (h (80 + p) ||| h (8 * p + s_fs σ (12 * p + k))) := by
          unfold stepL
          rw [if_neg b7, if_neg b80, if_pos b163]
        refine x_aload_n d5_goes_168 rfl ?_
        refine x_getP d5_goes_169 f5_55 (hS.T rfl) (hS.P rfl) ?_
        refine x_iload_n d5_goes_172 rfl ?_
        refine x_ialdN d5_goes_173 (hS.T rfl) (by omega) ?_
        refine x_top (congrArg Value.int (hr.2 _ (by omega))) ?_
        refine x_istore_n d5_goes_174 ?_
        refine x_aload_n d5_goes_175 rfl ?_
        refine x_getP d5_goes_176 f5_55 (hS.T rfl) (hS.P rfl) ?_
        refine x_iload_n d5_goes_179 rfl ?_
        refine x_dup2 d5_goes_180 rfl rfl ?_
        refine x_ialdN d5_goes_181 (hS.T rfl) (by omega) ?_
        refine x_top (congrArg Value.int (hr.2 _ (by omega))) ?_
        refine x_aload_n d5_goes_182 rfl ?_
        refine x_getP d5_goes_183 f5_49 (hS.T rfl) (hS.P rfl) ?_
        refine x_bipush (v := nI 8) d5_goes_186 (by decide) ?_
        refine x_iload_n d5_goes_188 rfl ?_
        refine x_imulN d5_goes_189 ?_
        refine x_aload_n d5_goes_190 rfl ?_
        refine x_getP d5_goes_191 f5_29 (hS.T rfl) (hS.P rfl) ?_
        refine x_iload_n d5_goes_194 rfl ?_
        refine x_ialdN d5_goes_195 (hS.T rfl) (by omega) ?_
        refine x_top (congrArg Value.int (hM.fs hp hk)) ?_
        have hfs_ := (hσ.row hp hk).2.2.1
        refine x_iaddN d5_goes_196 ?_
        refine x_ialdN d5_goes_197 (hS.T rfl) (by omega) ?_
        refine x_top (congrArg Value.int (hr.1 _ (by omega))) ?_
        refine x_iorN d5_goes_198 ?_
        refine x_iastN d5_goes_199 (hS.T rfl) (by omega) (fun I1 hI1 => ?_)
        have hFI1 : ∀ b, b ∉ [133, 135] → I1 b = I b := fun b hb => by rw [hI1, u2_row _ _ _ (fun e => hb (by rw [e]; decide))]
        have hv1 := or_lt (hh (80 + p) (by omega)) (hh (8 * p + s_fs σ (12 * p + k)) (by omega))
        have hv2 := hh (80 + p) (by omega)
        refine x_aload_n d5_goes_200 rfl ?_
        refine x_getP d5_goes_201 f5_55 (hS.T rfl) (hS.P rfl) ?_
        refine x_iload_n d5_goes_204 rfl ?_
        refine x_ialdN d5_goes_205 (hS.T rfl) (by omega) ?_
        refine x_top (congrArg Value.int (by rw [hI1, u2_self])) ?_
        refine x_iload_n d5_goes_206 rfl ?_
        refine x_icmp_eqN 214 d5_goes_207 (by decide) (by omega) (by omega) (fun b207 => ?_) (fun b207 => ?_)
        · refine x_iconst (v := nI 0) d5_goes_214 (by decide) ?_
          exact x_ireturn d5_goes_215 ⟨I1, 0, rfl, rfl, hFI1, by rw [hst5]; exact hr.setR hI1, by rw [hst5]; have g := Grow.up (h := h) (q := 80 + p) (v := h (80 + p) ||| h (8 * p + s_fs σ (12 * p + k))) (by omega) (hh _ (by omega)) (or_lt (hh _ (by omega)) (hh _ (by omega))) (fun _ hi => or_sub hi); rw [if_pos b207] at g; exact g⟩
        · refine x_iconst (v := nI 1) d5_goes_210 (by decide) ?_
          refine x_goto 215 d5_goes_211 (by decide) ?_
          exact x_ireturn d5_goes_215 ⟨I1, 1, rfl, rfl, hFI1, by rw [hst5]; exact hr.setR hI1, by rw [hst5]; have g := Grow.up (h := h) (q := 80 + p) (v := h (80 + p) ||| h (8 * p + s_fs σ (12 * p + k))) (by omega) (hh _ (by omega)) (or_lt (hh _ (by omega)) (hh _ (by omega))) (fun _ hi => or_sub hi); rw [if_neg b207] at g; exact g⟩
      · have hst0 : stepL σ w h p k = h := by
          unfold stepL
          rw [if_neg b7, if_neg b80, if_neg b163]
        refine x_iconst (v := nI 0) d5_goes_166 (by decide) ?_
        exact x_ireturn d5_goes_167 ⟨I, 0, rfl, rfl, fun _ _ => rfl, by rw [hst0]; exact hr, by rw [hst0]; exact ⟨by decide, fun _ _ _ => rfl, fun h => absurd h (by decide)⟩⟩
    · have hsc := hrow.2.2.2.2.1 b80
      refine x_aload_n d5_goes_83 rfl ?_
      refine x_bipush (v := nI 8) d5_goes_84 (by decide) ?_
      refine x_aload_n d5_goes_86 rfl ?_
      refine x_getP d5_goes_87 f5_26 (hS.T rfl) (hS.P rfl) ?_
      refine x_iload_n d5_goes_90 rfl ?_
      refine x_ialdN d5_goes_91 (hS.T rfl) (by omega) ?_
      refine x_top (congrArg Value.int (hM.nu hp hk)) ?_
      have hnu_ := (hσ.row hp hk).2.1
      refine x_imulN d5_goes_92 ?_
      refine x_aload_n d5_goes_93 rfl ?_
      refine x_getP d5_goes_94 f5_49 (hS.T rfl) (hS.P rfl) ?_
      refine x_bipush (v := nI 8) d5_goes_97 (by decide) ?_
      refine x_iload_n d5_goes_99 rfl ?_
      refine x_imulN d5_goes_100 ?_
      refine x_aload_n d5_goes_101 rfl ?_
      refine x_getP d5_goes_102 f5_29 (hS.T rfl) (hS.P rfl) ?_
      refine x_iload_n d5_goes_105 rfl ?_
      refine x_ialdN d5_goes_106 (hS.T rfl) (by omega) ?_
      refine x_top (congrArg Value.int (hM.fs hp hk)) ?_
      have hfs_ := (hσ.row hp hk).2.2.1
      refine x_iaddN d5_goes_107 ?_
      refine x_ialdN d5_goes_108 (hS.T rfl) (by omega) ?_
      refine x_top (congrArg Value.int (hr.1 _ (by omega))) ?_
      refine x_invV 122 2 d5_goes_109 (hS.T rfl) v5_238_5 (m_comes _ hS hr.1 hw (q := 8 * s_nu σ (12 * p + k)) (x := h (8 * p + s_fs σ (12 * p + k))) (by omega) (hh _ (by omega)) (hh _ (by omega))) (Cont.e ?_) (hB := hB) (hS := hSl)
      obtain ⟨I1, hI1⟩ : ∃ z, z = u2 I 133 (8 * s_nu σ (12 * p + k)) (nI (h (8 * s_nu σ (12 * p + k)) ||| adf (h (8 * p + s_fs σ (12 * p + k))) (w (8 * s_nu σ (12 * p + k))))) := ⟨_, rfl⟩
      rw [← hI1]
      have hr1 := hr.set hI1 (by omega)
      have hFI1 : ∀ b, b ∉ [133, 135] → I1 b = I b := fun b hb => by rw [hI1, u2_row _ _ _ (fun e => hb (by rw [e]; decide))]
      have g1 : Grow h (com h w (8 * s_nu σ (12 * p + k)) (h (8 * p + s_fs σ (12 * p + k)))) _ := Grow.com (by omega) (hh _ (by omega)) (hh _ (by omega))
      generalize hcc : (if h (8 * s_nu σ (12 * p + k)) ||| adf (h (8 * p + s_fs σ (12 * p + k))) (w (8 * s_nu σ (12 * p + k))) = h (8 * s_nu σ (12 * p + k)) then 0 else 1) = cc at g1 ⊢
      generalize hh1 : com h w (8 * s_nu σ (12 * p + k)) (h (8 * p + s_fs σ (12 * p + k))) = h1 at g1
      have hr1 : RHm I1 h1 := by rw [← hh1]; exact hr1
      have hb1 : ∀ q, q < 90 → h1 q < 65536 := by
        intro q hq
        rw [← hh1]
        unfold com upN
        split
        · exact or_lt (hh _ (by omega)) (adf_lt (hh _ (by omega)))
        · exact hh q hq
      have e80 : h1 (80 + s_nu σ (12 * p + k)) = h (80 + s_nu σ (12 * p + k)) := by rw [← hh1]; exact upN_ne _ _ (by omega)
      refine x_istore_n d5_goes_112 ?_
      refine x_aload_n d5_goes_113 rfl ?_
      refine x_bipush (v := nI 8) d5_goes_114 (by decide) ?_
      refine x_iload_n d5_goes_116 rfl ?_
      refine x_imulN d5_goes_117 ?_
      refine x_aload_n d5_goes_118 rfl ?_
      refine x_getP d5_goes_119 f5_32 (hS.T rfl) (hS.P rfl) ?_
      refine x_iload_n d5_goes_122 rfl ?_
      refine x_ialdN d5_goes_123 (hS.T rfl) (by omega) ?_
      refine x_top (congrArg Value.int ((congrFun (hFI1 129 (by decide)) _).trans ((hM.se hp hk).trans (by unfold secv; rw [if_neg b7, if_pos b80])))) ?_
      refine x_iaddN d5_goes_124 ?_
      refine x_aload_n d5_goes_125 rfl ?_
      refine x_getP d5_goes_126 f5_55 (hS.T rfl) (hS.P rfl) ?_
      refine x_aload_n d5_goes_129 rfl ?_
      refine x_getP d5_goes_130 f5_26 (hS.T rfl) (hS.P rfl) ?_
      refine x_iload_n d5_goes_133 rfl ?_
      refine x_ialdN d5_goes_134 (hS.T rfl) (by omega) ?_
      refine x_top (congrArg Value.int ((congrFun (hFI1 127 (by decide)) _).trans (hM.nu hp hk))) ?_
      have hnu_ := (hσ.row hp hk).2.1
      refine x_ialdN d5_goes_135 (hS.T rfl) (by omega) ?_
      refine x_top (congrArg Value.int ((hr1.2 _ (by omega)).trans (by rw [e80]))) ?_
      refine x_invV 122 2 d5_goes_136 (hS.T rfl) v5_238_5 (m_comes _ hS hr1.1 (fun q hq => (congrFun (hFI1 134 (by decide)) q).trans (hw q hq)) (q := 8 * p + s_sc σ (12 * p + k)) (x := h (80 + s_nu σ (12 * p + k))) (by omega) (hh _ (by omega)) (hb1 _ (by omega))) (Cont.e ?_) (hB := hB) (hS := hSl)
      obtain ⟨I2, hI2⟩ : ∃ z, z = u2 I1 133 (8 * p + s_sc σ (12 * p + k)) (nI (h1 (8 * p + s_sc σ (12 * p + k)) ||| adf (h (80 + s_nu σ (12 * p + k))) (w (8 * p + s_sc σ (12 * p + k))))) := ⟨_, rfl⟩
      rw [← hI2]
      have hr2 := hr1.set hI2 (by omega)
      have hFI2 : ∀ b, b ∉ [133, 135] → I2 b = I b := fun b hb => by rw [hI2, u2_row _ _ _ (fun e => hb (by rw [e]; decide))]; exact hFI1 b hb
      have g2 : Grow h1 (com h1 w (8 * p + s_sc σ (12 * p + k)) (h (80 + s_nu σ (12 * p + k)))) _ := Grow.com (by omega) (hb1 _ (by omega)) (hh _ (by omega))
      generalize hce : (if h1 (8 * p + s_sc σ (12 * p + k)) ||| adf (h (80 + s_nu σ (12 * p + k))) (w (8 * p + s_sc σ (12 * p + k))) = h1 (8 * p + s_sc σ (12 * p + k)) then 0 else 1) = ce at g2 ⊢
      have hst : stepL σ w h p k = com h1 w (8 * p + s_sc σ (12 * p + k)) (h (80 + s_nu σ (12 * p + k))) := by
        unfold stepL
        rw [if_neg b7, if_pos b80, hh1]
      have g1l := g1.1
      have g2l := g2.1
      refine x_istore d5_goes_139 ?_
      refine x_iload_n d5_goes_141 rfl ?_
      refine x_if_neN 150 d5_goes_142 (by decide) (by omega) (fun b142 => ?_) (fun b142 => ?_)
      · refine x_iconst (v := nI 1) d5_goes_150 (by decide) ?_
        refine x_goto 155 d5_goes_151 (by decide) ?_
        exact x_ireturn d5_goes_155 ⟨I2, 1, rfl, rfl, hFI2, by rw [hst]; exact hr2, by rw [hst]; exact g1.trans g2 (by rw [if_neg (by omega)])⟩
      · refine x_iload d5_goes_145 rfl ?_
        refine x_if_eqN 154 d5_goes_147 (by decide) (by omega) (fun b147 => ?_) (fun b147 => ?_)
        · refine x_iconst (v := nI 0) d5_goes_154 (by decide) ?_
          exact x_ireturn d5_goes_155 ⟨I2, 0, rfl, rfl, hFI2, by rw [hst]; exact hr2, by rw [hst]; exact g1.trans g2 (by rw [if_pos ⟨by omega, by omega⟩])⟩
        · refine x_iconst (v := nI 1) d5_goes_150 (by decide) ?_
          refine x_goto 155 d5_goes_151 (by decide) ?_
          exact x_ireturn d5_goes_155 ⟨I2, 1, rfl, rfl, hFI2, by rw [hst]; exact hr2, by rw [hst]; exact g1.trans g2 (by rw [if_neg (by omega)])⟩
  · refine x_iconst (v := nI 0) d5_goes_10 (by decide) ?_
    refine x_istore_n d5_goes_11 ?_
    refine x_iconst (v := nI 0) d5_goes_12 (by decide) ?_
    refine x_istore d5_goes_13 ?_
    exact hl b7 0 (Nat.zero_le _)
