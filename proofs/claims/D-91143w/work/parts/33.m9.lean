/-! the reference: into, leads, measures, follows, way -/
set_option maxRecDepth 100000
theorem nI_m2 {q : Nat} (h : q ≤ 90) : ¬ nI q = -2 := fun e => by
  have h1 := congrArg Int32.toInt e
  rw [nI_toInt (by omega)] at h1
  have h2 : (-2 : Int32).toInt = -2 := by decide
  omega
theorem ldI_no {σ : Sg} {s d q p k : Nat} (hσ : SgOK σ) (hp : p < s_np σ) (hk : k < s_ln σ p) (h : ldI σ s d q p k = -2) : ∀ q', ¬ Ld σ s d q p k q' := fun q' hL => by
  rw [ldI_t hσ hp hk hL] at h
  exact nI_m2 (hL.lt hσ hp hk).2 h
theorem ldI_yes {σ : Sg} {s d q p k : Nat} (h : ¬ ldI σ s d q p k = -2) : ∃ q', Ld σ s d q p k q' :=
  Classical.byContradiction fun z => h (ldI_f (fun q' hL => z ⟨q', hL⟩))
theorem ld_of {σ : Sg} {s d q p k x : Nat} {w : Nat → Nat} (hσ : SgOK σ) (hp : p < s_np σ) (hk : k < s_ln σ p) (h1 : (w x).testBit s = false → Ld σ s d q p k x) (h2 : (w x).testBit s = true → ∀ q', ¬ Ld σ s d q p k q') : (if (w x).testBit s = true then (-2 : Int32) else nI x) = ldI σ s d q p k := by
  cases hb : (w x).testBit s with
  | true => rw [if_pos rfl, ldI_f (h2 hb)]
  | false => rw [if_neg (by decide), ldI_t hσ hp hk (h1 hb)]
set_option maxHeartbeats 4000000 in
theorem m_into {G : GG} (d : Nat) {t : Nat → Option (Nat × Nat)} {J : Nat → Nat → Int64} {P : Nat → Nat → Value} {n sl : Nat} {I : Nat → Nat → Int32} {w : Nat → Nat} (hS : SH t P) {q s : Nat} (hq : q < 80) (hs : s < 16) (hw : I 134 q = nI (w q)) (hw2 : w q < 65536) : CP G d M5_into [.ref 122, .int (nI q), .int (nI s)] (t, I, J, P, n, sl) (.int (if (w q).testBit s = true then -2 else nI q)) := by
  refine CA.w ?_
  show RA _ _ M5_into 0 [.ref 122, .int (nI q), .int (nI s)] [] _ _
  refine x_aload_n d5_into_0 rfl ?_
  refine x_getP d5_into_1 f5_52 (hS.T rfl) (hS.P rfl) ?_
  refine x_iload_n d5_into_4 rfl ?_
  refine x_ialdN d5_into_5 (hS.T rfl) (by omega) ?_
  refine x_top (congrArg Value.int (show I 134 q = nI (w q) from hw)) ?_
  refine x_iload_n d5_into_6 rfl ?_
  refine x_ishrN d5_into_7 (by omega) (by omega) ?_
  refine x_iconst (v := nI 1) d5_into_8 (by decide) ?_
  refine x_tbN d5_into_9 ?_
  have htb_ := tb_lt (w q) s
  refine x_iconst (v := nI 1) d5_into_10 (by decide) ?_
  refine x_icmp_neN 19 d5_into_11 (by decide) (by omega) (by omega) (fun b11 => ?_) (fun b11 => ?_)
  · refine x_iload_n d5_into_19 rfl ?_
    exact x_ireturn d5_into_20 ⟨by rw [if_neg (fun z => by rw [tb_ne1.mp b11] at z; cases z)], rfl⟩
  · refine x_bipush (v := -2) d5_into_14 (by decide) ?_
    refine x_goto 20 d5_into_16 (by decide) ?_
    exact x_ireturn d5_into_20 ⟨by rw [if_pos (tb1.mp b11)], rfl⟩
set_option maxHeartbeats 4000000 in
theorem m_leads {G : GG} (d : Nat) {t : Nat → Option (Nat × Nat)} {J : Nat → Nat → Int64} {P : Nat → Nat → Value} {n sl : Nat} {I : Nat → Nat → Int32} {σ : Sg} {w : Nat → Nat} (hS : SH t P) (hσ : SgOK σ) (hM : MP I σ) (hw : ∀ q, q < 80 → I 134 q = nI (w q) ∧ w q < 65536) (hWI : WI σ w) {q p k s dr : Nat} (hq : q < 90) (hp : p < s_np σ) (hA : Asked σ p) (hk : k < s_ln σ p) (hs : s < 16) (hd : dr < 16) (hB : n ≤ 601124) (hSl : sl ≤ 7293033) : CP G (d + 1) M5_leads [.ref 122, .int (nI q), .int (nI p), .int (nI (12 * p + k)), .int (nI s), .int (nI dr)] (t, I, J, P, n, sl) (.int (ldI σ s dr q p k)) := by
  refine CA.w ?_
  show RA _ _ M5_leads 0 [.ref 122, .int (nI q), .int (nI p), .int (nI (12 * p + k)), .int (nI s), .int (nI dr), U0, U0, U0] [] _ _
  have hnp := hσ.1
  have hln := hσ.ln hp
  have hrow := hσ.row hp hk
  have hnu := hrow.2.1
  have hfs := hrow.2.2.1
  rcases (by have := hrow.1; omega : s_kk σ (12 * p + k) = 0 ∨ s_kk σ (12 * p + k) = 1 ∨ s_kk σ (12 * p + k) = 2 ∨ s_kk σ (12 * p + k) = 3 ∨ s_kk σ (12 * p + k) = 4 ∨ s_kk σ (12 * p + k) = 5) with hkk | hkk | hkk | hkk | hkk | hkk
  · refine x_bipush (v := nI 8) d5_leads_0 (by decide) ?_
    refine x_iload_n d5_leads_2 rfl ?_
    refine x_imulN d5_leads_3 ?_
    refine x_istore d5_leads_4 ?_
    refine x_aload_n d5_leads_6 rfl ?_
    refine x_getP d5_leads_7 f5_23 (hS.T rfl) (hS.P rfl) ?_
    refine x_iload_n d5_leads_10 rfl ?_
    refine x_ialdN d5_leads_11 (hS.T rfl) (by omega) ?_
    refine x_top (congrArg Value.int (show I 126 (12 * p + k) = nI 0 from ((hM.kk hp hk).trans (by rw [hkk])))) ?_
    refine x_tableOut 260 d5_leads_12 (by decide) (by decide) ?_
    refine x_bipush (v := -2) d5_leads_260 (by decide) ?_
    exact x_ireturn d5_leads_262 ⟨by rw [ldI_f (fun q' h => by rcases h with ⟨a1, -, -, a2⟩ | ⟨a1, a3, -, a2⟩ | ⟨a1, a3, -, a2⟩ | ⟨a1, a3, -, -, a2⟩ | ⟨a1, a3, a2⟩ <;> omega)], rfl⟩
  · refine x_bipush (v := nI 8) d5_leads_0 (by decide) ?_
    refine x_iload_n d5_leads_2 rfl ?_
    refine x_imulN d5_leads_3 ?_
    refine x_istore d5_leads_4 ?_
    refine x_aload_n d5_leads_6 rfl ?_
    refine x_getP d5_leads_7 f5_23 (hS.T rfl) (hS.P rfl) ?_
    refine x_iload_n d5_leads_10 rfl ?_
    refine x_ialdN d5_leads_11 (hS.T rfl) (by omega) ?_
    refine x_top (congrArg Value.int (show I 126 (12 * p + k) = nI 1 from ((hM.kk hp hk).trans (by rw [hkk])))) ?_
    refine x_tableIn (off := 36) 48 d5_leads_12 (by decide) (by decide) (by decide) (by decide) ?_
    refine x_iconst (v := nI 0) d5_leads_48 (by decide) ?_
    refine x_istore d5_leads_49 ?_
    refine x_iconst (v := nI 0) d5_leads_51 (by decide) ?_
    refine x_istore d5_leads_52 ?_
    have hL : ∀ i, i ≤ s_nu σ (12 * p + k) → RA G (d + 1) M5_leads 54 [.ref 122, .int (nI q), .int (nI p), .int (nI (12 * p + k)), .int (nI s), .int (nI dr), .int (nI (8 * p)), .int (nI (bP (∃ j, j < i ∧ q = 8 * p + s_fr σ (4 * (12 * p + k) + j)))), .int (nI i)] [] (t, I, J, P, n, sl) (fun o h' => o = .inl (some (.int (ldI σ s dr q p k))) ∧ h' = (t, I, J, P, n, sl)) := by
      refine up_ind ?_
      intro i hk_ ih
      have hbl := bP_lt (∃ j, j < i ∧ q = 8 * p + s_fr σ (4 * (12 * p + k) + j))
      refine x_iload d5_leads_54 rfl ?_
      refine x_aload_n d5_leads_56 rfl ?_
      refine x_getP d5_leads_57 f5_26 (hS.T rfl) (hS.P rfl) ?_
      refine x_iload_n d5_leads_60 rfl ?_
      refine x_ialdN d5_leads_61 (hS.T rfl) (by omega) ?_
      refine x_top (congrArg Value.int (show I 127 (12 * p + k) = nI (s_nu σ (12 * p + k)) from (hM.nu hp hk))) ?_
      refine x_icmp_geN 101 d5_leads_62 (by decide) (by omega) (by omega) (fun b62 => ?_) (fun b62 => ?_)
      · refine x_iload d5_leads_101 rfl ?_
        refine x_if_eqN 124 d5_leads_103 (by decide) (by omega) (fun b103 => ?_) (fun b103 => ?_)
        · refine x_bipush (v := -2) d5_leads_124 (by decide) ?_
          exact x_ireturn d5_leads_126 ⟨by rw [ldI_f (fun q' h => by rcases h with ⟨a1, ⟨j, a3, a4⟩, -, a2⟩ | ⟨a1, a3, -, a2⟩ | ⟨a1, a3, -, a2⟩ | ⟨a1, a3, -, -, a2⟩ | ⟨a1, a3, a2⟩; exact bP_0.mp b103 ⟨j, by omega, a4⟩; all_goals omega)], rfl⟩
        · refine x_aload_n d5_leads_106 rfl ?_
          refine x_iload d5_leads_107 rfl ?_
          refine x_aload_n d5_leads_109 rfl ?_
          refine x_getP d5_leads_110 f5_29 (hS.T rfl) (hS.P rfl) ?_
          refine x_iload_n d5_leads_113 rfl ?_
          refine x_ialdN d5_leads_114 (hS.T rfl) (by omega) ?_
          refine x_top (congrArg Value.int (show I 128 (12 * p + k) = nI (s_fs σ (12 * p + k)) from (hM.fs hp hk))) ?_
          have hfs_ := (hσ.row hp hk).2.2.1
          refine x_iaddN d5_leads_115 ?_
          refine x_iload d5_leads_116 rfl ?_
          refine x_invV 122 2 d5_leads_118 (hS.T rfl) v5_250_5 (m_into _ hS (q := (8 * p) + (s_fs σ (12 * p + k))) (s := s) (by omega) hs (hw _ (by omega)).1 (hw _ (by omega)).2) (Cont.p ?_) (hB := hB) (hS := hSl)
          refine x_goto 126 d5_leads_121 (by decide) ?_
          exact x_ireturn d5_leads_126 ⟨congrArg (fun z => Sum.inl (some (Value.int z))) (ld_of hσ hp hk (fun hb => Or.inl ⟨hkk, by obtain ⟨j, a, b⟩ := bP_1.mp (show bP (∃ j, j < i ∧ q = 8 * p + s_fr σ (4 * (12 * p + k) + j)) = 1 by omega); exact ⟨j, by omega, b⟩, (hWI.bit hσ hp hA hrow.2.2.1).mp hb, rfl⟩) (fun hb q' h => by rcases h with ⟨a1, -, a3, a2⟩ | ⟨a1, a3, -, a2⟩ | ⟨a1, a3, -, a2⟩ | ⟨a1, a3, -, -, a2⟩ | ⟨a1, a3, a2⟩; rw [(hWI.bit hσ hp hA hrow.2.2.1).mpr a3] at hb; cases hb; all_goals omega)), rfl⟩
      · refine x_iload d5_leads_65 rfl ?_
        refine x_if_neN 88 d5_leads_67 (by decide) (by omega) (fun b67 => ?_) (fun b67 => ?_)
        · refine x_iconst (v := nI 1) d5_leads_88 (by decide) ?_
          refine x_goto 93 d5_leads_89 (by decide) ?_
          refine x_istore d5_leads_93 ?_
          refine x_iincN (c := 1) d5_leads_95 rfl (by decide) ?_
          refine x_goto 54 d5_leads_98 (by decide) ?_
          have hex := bP_1.mp (show bP (∃ j, j < i ∧ q = 8 * p + s_fr σ (4 * (12 * p + k) + j)) = 1 by omega)
          rw [show nI 1 = nI (bP (∃ j, j < i + 1 ∧ q = 8 * p + s_fr σ (4 * (12 * p + k) + j))) by rw [bP_t (by obtain ⟨j, a, b⟩ := hex; exact ⟨j, by omega, b⟩)]]
          exact ih (by omega)
        · refine x_iload_n d5_leads_70 rfl ?_
          refine x_iload d5_leads_71 rfl ?_
          refine x_aload_n d5_leads_73 rfl ?_
          refine x_getP d5_leads_74 f5_35 (hS.T rfl) (hS.P rfl) ?_
          refine x_iconst (v := nI 4) d5_leads_77 (by decide) ?_
          refine x_iload_n d5_leads_78 rfl ?_
          refine x_imulN d5_leads_79 ?_
          refine x_iload d5_leads_80 rfl ?_
          refine x_iaddN d5_leads_82 ?_
          refine x_ialdN d5_leads_83 (hS.T rfl) (by omega) ?_
          refine x_top (congrArg Value.int (show I 130 ((4 * (12 * p + k)) + i) = nI (s_fr σ (4 * (12 * p + k) + i)) from (hM.fr hp hk hkk b62))) ?_
          have hfr_ := hrow.2.2.2.2.2.2 hkk i b62
          refine x_iaddN d5_leads_84 ?_
          refine x_icmp_neN 92 d5_leads_85 (by decide) (by omega) (by omega) (fun b85 => ?_) (fun b85 => ?_)
          · refine x_iconst (v := nI 0) d5_leads_92 (by decide) ?_
            refine x_istore d5_leads_93 ?_
            refine x_iincN (c := 1) d5_leads_95 rfl (by decide) ?_
            refine x_goto 54 d5_leads_98 (by decide) ?_
            have hno := bP_0.mp b67
            rw [show nI 0 = nI (bP (∃ j, j < i + 1 ∧ q = 8 * p + s_fr σ (4 * (12 * p + k) + j))) by rw [bP_f (fun z => by obtain ⟨j, a, b⟩ := z; by_cases ej : j = i; exact b85 (by rw [← ej]; exact b); exact hno ⟨j, by omega, b⟩)]]
            exact ih (by omega)
          · refine x_iconst (v := nI 1) d5_leads_88 (by decide) ?_
            refine x_goto 93 d5_leads_89 (by decide) ?_
            refine x_istore d5_leads_93 ?_
            refine x_iincN (c := 1) d5_leads_95 rfl (by decide) ?_
            refine x_goto 54 d5_leads_98 (by decide) ?_
            rw [show nI 1 = nI (bP (∃ j, j < i + 1 ∧ q = 8 * p + s_fr σ (4 * (12 * p + k) + j))) by rw [bP_t ⟨i, by omega, b85⟩]]
            exact ih (by omega)
    have hL0 := hL 0 (Nat.zero_le _)
    rw [bP_f (fun z => by obtain ⟨j, a, -⟩ := z; omega)] at hL0
    exact hL0
  · refine x_bipush (v := nI 8) d5_leads_0 (by decide) ?_
    refine x_iload_n d5_leads_2 rfl ?_
    refine x_imulN d5_leads_3 ?_
    refine x_istore d5_leads_4 ?_
    refine x_aload_n d5_leads_6 rfl ?_
    refine x_getP d5_leads_7 f5_23 (hS.T rfl) (hS.P rfl) ?_
    refine x_iload_n d5_leads_10 rfl ?_
    refine x_ialdN d5_leads_11 (hS.T rfl) (by omega) ?_
    refine x_top (congrArg Value.int (show I 126 (12 * p + k) = nI 2 from ((hM.kk hp hk).trans (by rw [hkk])))) ?_
    refine x_tableIn (off := 115) 127 d5_leads_12 (by decide) (by decide) (by decide) (by decide) ?_
    have hsc := hrow.2.2.2.2.1 hkk
    refine x_iload_n d5_leads_127 rfl ?_
    refine x_bipush (v := nI 80) d5_leads_128 (by decide) ?_
    refine x_aload_n d5_leads_130 rfl ?_
    refine x_getP d5_leads_131 f5_26 (hS.T rfl) (hS.P rfl) ?_
    refine x_iload_n d5_leads_134 rfl ?_
    refine x_ialdN d5_leads_135 (hS.T rfl) (by omega) ?_
    refine x_top (congrArg Value.int (show I 127 (12 * p + k) = nI (s_nu σ (12 * p + k)) from (hM.nu hp hk))) ?_
    have hnu_ := (hσ.row hp hk).2.1
    refine x_iaddN d5_leads_136 ?_
    refine x_icmp_neN 156 d5_leads_137 (by decide) (by omega) (by omega) (fun b137 => ?_) (fun b137 => ?_)
    · refine x_iload_n d5_leads_156 rfl ?_
      refine x_iload d5_leads_157 rfl ?_
      refine x_aload_n d5_leads_159 rfl ?_
      refine x_getP d5_leads_160 f5_29 (hS.T rfl) (hS.P rfl) ?_
      refine x_iload_n d5_leads_163 rfl ?_
      refine x_ialdN d5_leads_164 (hS.T rfl) (by omega) ?_
      refine x_top (congrArg Value.int (show I 128 (12 * p + k) = nI (s_fs σ (12 * p + k)) from (hM.fs hp hk))) ?_
      have hfs_ := (hσ.row hp hk).2.2.1
      refine x_iaddN d5_leads_165 ?_
      refine x_icmp_neN 187 d5_leads_166 (by decide) (by omega) (by omega) (fun b166 => ?_) (fun b166 => ?_)
      · refine x_bipush (v := -2) d5_leads_187 (by decide) ?_
        exact x_ireturn d5_leads_189 ⟨by rw [ldI_f (fun q' h => by rcases h with ⟨a1, -, -, a2⟩ | ⟨a1, a3, -, a2⟩ | ⟨a1, a3, -, a2⟩ | ⟨a1, a3, -, -, a2⟩ | ⟨a1, a3, a2⟩ <;> omega)], rfl⟩
      · refine x_aload_n d5_leads_169 rfl ?_
        refine x_bipush (v := nI 8) d5_leads_170 (by decide) ?_
        refine x_aload_n d5_leads_172 rfl ?_
        refine x_getP d5_leads_173 f5_26 (hS.T rfl) (hS.P rfl) ?_
        refine x_iload_n d5_leads_176 rfl ?_
        refine x_ialdN d5_leads_177 (hS.T rfl) (by omega) ?_
        refine x_top (congrArg Value.int (show I 127 (12 * p + k) = nI (s_nu σ (12 * p + k)) from (hM.nu hp hk))) ?_
        have hnu_ := (hσ.row hp hk).2.1
        refine x_imulN d5_leads_178 ?_
        refine x_iload d5_leads_179 rfl ?_
        refine x_invV 122 2 d5_leads_181 (hS.T rfl) v5_250_5 (m_into _ hS (q := 8 * (s_nu σ (12 * p + k))) (s := s) (by omega) hs (hw _ (by omega)).1 (hw _ (by omega)).2) (Cont.p ?_) (hB := hB) (hS := hSl)
        refine x_goto 189 d5_leads_184 (by decide) ?_
        exact x_ireturn d5_leads_189 ⟨congrArg (fun z => Sum.inl (some (Value.int z))) (ld_of hσ hp hk (fun hb => Or.inr (Or.inr (Or.inl ⟨hkk, b166, (hWI.bit hσ hsc.1 (hA.step hp hk hkk) (n := 0) (by decide)).mp hb, rfl⟩))) (fun hb q' h => by rcases h with ⟨a1, -, -, a2⟩ | ⟨a1, a3, -, a2⟩ | ⟨a1, a3, a4, a2⟩ | ⟨a1, a3, -, -, a2⟩ | ⟨a1, a3, a2⟩; omega; omega; rw [show (w (8 * s_nu σ (12 * p + k))).testBit s = false from (hWI.bit hσ hsc.1 (hA.step hp hk hkk) (n := 0) (by decide)).mpr a4] at hb; cases hb; all_goals omega)), rfl⟩
    · refine x_aload_n d5_leads_140 rfl ?_
      refine x_iload d5_leads_141 rfl ?_
      refine x_aload_n d5_leads_143 rfl ?_
      refine x_getP d5_leads_144 f5_32 (hS.T rfl) (hS.P rfl) ?_
      refine x_iload_n d5_leads_147 rfl ?_
      refine x_ialdN d5_leads_148 (hS.T rfl) (by omega) ?_
      refine x_top (congrArg Value.int (show I 129 (12 * p + k) = nI (s_sc σ (12 * p + k)) from ((hM.se hp hk).trans (by unfold secv; rw [if_neg (by omega), if_pos hkk])))) ?_
      refine x_iaddN d5_leads_149 ?_
      refine x_iload d5_leads_150 rfl ?_
      refine x_invV 122 2 d5_leads_152 (hS.T rfl) v5_250_5 (m_into _ hS (q := (8 * p) + (s_sc σ (12 * p + k))) (s := s) (by omega) hs (hw _ (by omega)).1 (hw _ (by omega)).2) (Cont.p ?_) (hB := hB) (hS := hSl)
      exact x_ireturn d5_leads_155 ⟨congrArg (fun z => Sum.inl (some (Value.int z))) (ld_of hσ hp hk (fun hb => Or.inr (Or.inl ⟨hkk, b137, (hWI.bit hσ hp hA hsc.2).mp hb, rfl⟩)) (fun hb q' h => by rcases h with ⟨a1, -, -, a2⟩ | ⟨a1, a3, a4, a2⟩ | ⟨a1, a3, -, a2⟩ | ⟨a1, a3, -, -, a2⟩ | ⟨a1, a3, a2⟩; omega; rw [(hWI.bit hσ hp hA hsc.2).mpr a4] at hb; cases hb; all_goals omega)), rfl⟩
  · refine x_bipush (v := nI 8) d5_leads_0 (by decide) ?_
    refine x_iload_n d5_leads_2 rfl ?_
    refine x_imulN d5_leads_3 ?_
    refine x_istore d5_leads_4 ?_
    refine x_aload_n d5_leads_6 rfl ?_
    refine x_getP d5_leads_7 f5_23 (hS.T rfl) (hS.P rfl) ?_
    refine x_iload_n d5_leads_10 rfl ?_
    refine x_ialdN d5_leads_11 (hS.T rfl) (by omega) ?_
    refine x_top (congrArg Value.int (show I 126 (12 * p + k) = nI 3 from ((hM.kk hp hk).trans (by rw [hkk])))) ?_
    refine x_tableIn (off := 178) 190 d5_leads_12 (by decide) (by decide) (by decide) (by decide) ?_
    have hgr0 := hσ.gr hp
    refine x_iload_n d5_leads_190 rfl ?_
    refine x_iload d5_leads_191 rfl ?_
    refine x_aload_n d5_leads_193 rfl ?_
    refine x_getP d5_leads_194 f5_29 (hS.T rfl) (hS.P rfl) ?_
    refine x_iload_n d5_leads_197 rfl ?_
    refine x_ialdN d5_leads_198 (hS.T rfl) (by omega) ?_
    refine x_top (congrArg Value.int (show I 128 (12 * p + k) = nI (s_fs σ (12 * p + k)) from (hM.fs hp hk))) ?_
    have hfs_ := (hσ.row hp hk).2.2.1
    refine x_iaddN d5_leads_199 ?_
    refine x_icmp_neN 234 d5_leads_200 (by decide) (by omega) (by omega) (fun b200 => ?_) (fun b200 => ?_)
    · refine x_bipush (v := -2) d5_leads_234 (by decide) ?_
      exact x_ireturn d5_leads_236 ⟨by rw [ldI_f (fun q' h => by rcases h with ⟨a1, -, -, a2⟩ | ⟨a1, a3, -, a2⟩ | ⟨a1, a3, -, a2⟩ | ⟨a1, a3, -, -, a2⟩ | ⟨a1, a3, a2⟩ <;> omega)], rfl⟩
    · refine x_aload_n d5_leads_203 rfl ?_
      refine x_getP d5_leads_204 f5_26 (hS.T rfl) (hS.P rfl) ?_
      refine x_iload_n d5_leads_207 rfl ?_
      refine x_ialdN d5_leads_208 (hS.T rfl) (by omega) ?_
      refine x_top (congrArg Value.int (show I 127 (12 * p + k) = nI (s_nu σ (12 * p + k)) from (hM.nu hp hk))) ?_
      have hnu_ := (hσ.row hp hk).2.1
      refine x_iload d5_leads_209 rfl ?_
      refine x_icmp_neN 234 d5_leads_211 (by decide) (by omega) (by omega) (fun b211 => ?_) (fun b211 => ?_)
      · refine x_bipush (v := -2) d5_leads_234 (by decide) ?_
        exact x_ireturn d5_leads_236 ⟨by rw [ldI_f (fun q' h => by rcases h with ⟨a1, -, -, a2⟩ | ⟨a1, a3, -, a2⟩ | ⟨a1, a3, -, a2⟩ | ⟨a1, a3, a4, -, a2⟩ | ⟨a1, a3, a2⟩ <;> omega)], rfl⟩
      · refine x_aload_n d5_leads_214 rfl ?_
        refine x_getP d5_leads_215 f5_13 (hS.T rfl) (hS.P rfl) ?_
        refine x_iload_n d5_leads_218 rfl ?_
        refine x_ialdN d5_leads_219 (hS.T rfl) (by omega) ?_
        refine x_top (congrArg Value.int (show I 123 p = nI (s_gr σ p) from (hM.gr hp))) ?_
        have hgr_ := hσ.gr hp
        refine x_iload d5_leads_220 rfl ?_
        refine x_ishrN d5_leads_222 (by omega) (by omega) ?_
        refine x_iconst (v := nI 1) d5_leads_223 (by decide) ?_
        refine x_tbN d5_leads_224 ?_
        have htb_ := tb_lt (s_gr σ p) dr
        refine x_iconst (v := nI 1) d5_leads_225 (by decide) ?_
        refine x_icmp_neN 234 d5_leads_226 (by decide) (by omega) (by omega) (fun b226 => ?_) (fun b226 => ?_)
        · refine x_bipush (v := -2) d5_leads_234 (by decide) ?_
          exact x_ireturn d5_leads_236 ⟨by rw [ldI_f (fun q' h => by rcases h with ⟨a1, -, -, a2⟩ | ⟨a1, a3, -, a2⟩ | ⟨a1, a3, -, a2⟩ | ⟨a1, a3, -, a4, a2⟩ | ⟨a1, a3, a2⟩; omega; omega; omega; rw [tb_ne1.mp b226] at a4; cases a4; omega)], rfl⟩
        · refine x_bipush (v := nI 90) d5_leads_229 (by decide) ?_
          refine x_goto 236 d5_leads_231 (by decide) ?_
          exact x_ireturn d5_leads_236 ⟨by rw [ldI_t hσ hp hk (Or.inr (Or.inr (Or.inr (Or.inl ⟨hkk, b200, b211, tb1.mp b226, rfl⟩))))], rfl⟩
  · refine x_bipush (v := nI 8) d5_leads_0 (by decide) ?_
    refine x_iload_n d5_leads_2 rfl ?_
    refine x_imulN d5_leads_3 ?_
    refine x_istore d5_leads_4 ?_
    refine x_aload_n d5_leads_6 rfl ?_
    refine x_getP d5_leads_7 f5_23 (hS.T rfl) (hS.P rfl) ?_
    refine x_iload_n d5_leads_10 rfl ?_
    refine x_ialdN d5_leads_11 (hS.T rfl) (by omega) ?_
    refine x_top (congrArg Value.int (show I 126 (12 * p + k) = nI 4 from ((hM.kk hp hk).trans (by rw [hkk])))) ?_
    refine x_tableIn (off := 248) 260 d5_leads_12 (by decide) (by decide) (by decide) (by decide) ?_
    refine x_bipush (v := -2) d5_leads_260 (by decide) ?_
    exact x_ireturn d5_leads_262 ⟨by rw [ldI_f (fun q' h => by rcases h with ⟨a1, -, -, a2⟩ | ⟨a1, a3, -, a2⟩ | ⟨a1, a3, -, a2⟩ | ⟨a1, a3, -, -, a2⟩ | ⟨a1, a3, a2⟩ <;> omega)], rfl⟩
  · refine x_bipush (v := nI 8) d5_leads_0 (by decide) ?_
    refine x_iload_n d5_leads_2 rfl ?_
    refine x_imulN d5_leads_3 ?_
    refine x_istore d5_leads_4 ?_
    refine x_aload_n d5_leads_6 rfl ?_
    refine x_getP d5_leads_7 f5_23 (hS.T rfl) (hS.P rfl) ?_
    refine x_iload_n d5_leads_10 rfl ?_
    refine x_ialdN d5_leads_11 (hS.T rfl) (by omega) ?_
    refine x_top (congrArg Value.int (show I 126 (12 * p + k) = nI 5 from ((hM.kk hp hk).trans (by rw [hkk])))) ?_
    refine x_tableIn (off := 225) 237 d5_leads_12 (by decide) (by decide) (by decide) (by decide) ?_
    refine x_iload_n d5_leads_237 rfl ?_
    refine x_iload d5_leads_238 rfl ?_
    refine x_aload_n d5_leads_240 rfl ?_
    refine x_getP d5_leads_241 f5_29 (hS.T rfl) (hS.P rfl) ?_
    refine x_iload_n d5_leads_244 rfl ?_
    refine x_ialdN d5_leads_245 (hS.T rfl) (by omega) ?_
    refine x_top (congrArg Value.int (show I 128 (12 * p + k) = nI (s_fs σ (12 * p + k)) from (hM.fs hp hk))) ?_
    have hfs_ := (hσ.row hp hk).2.2.1
    refine x_iaddN d5_leads_246 ?_
    refine x_icmp_neN 257 d5_leads_247 (by decide) (by omega) (by omega) (fun b247 => ?_) (fun b247 => ?_)
    · refine x_bipush (v := -2) d5_leads_257 (by decide) ?_
      exact x_ireturn d5_leads_259 ⟨by rw [ldI_f (fun q' h => by rcases h with ⟨a1, -, -, a2⟩ | ⟨a1, a3, -, a2⟩ | ⟨a1, a3, -, a2⟩ | ⟨a1, a3, -, -, a2⟩ | ⟨a1, a3, a2⟩ <;> omega)], rfl⟩
    · refine x_bipush (v := nI 80) d5_leads_250 (by decide) ?_
      refine x_iload_n d5_leads_252 rfl ?_
      refine x_iaddN d5_leads_253 ?_
      refine x_goto 259 d5_leads_254 (by decide) ?_
      exact x_ireturn d5_leads_259 ⟨by rw [ldI_t hσ hp hk (Or.inr (Or.inr (Or.inr (Or.inr ⟨hkk, b247, rfl⟩))))], rfl⟩
theorem FI.le {σ : Sg} {s d j : Nat} {f : Nat → Nat} (h : FI σ s d f) (hj : j < 91) : f j ≤ 100000 := by
  by_cases e : j = 90
  · rw [e, h.1]; exact Nat.zero_le _
  · exact (h.2 j (by omega)).2.1
theorem FI.init (σ : Sg) (s d : Nat) : FI σ s d (fun j => if j = 90 then 0 else 100000) := by
  refine ⟨rfl, fun q hq => ?_⟩
  have e : (fun j : Nat => if j = 90 then 0 else 100000) q = 100000 := if_neg (by omega)
  rw [e]
  exact ⟨by decide, Nat.le_refl _, fun h => absurd h (by decide)⟩
theorem MP.fr138 {I0 I : Nat → Nat → Int32} {σ : Sg} (hM : MP I0 σ) (hF : ∀ b, b ∉ [138] → I b = I0 b) : MP I σ :=
  hM.same (by rw [hF 122 (by decide)]) (fun b hb => hF b (by rintro e; simp only [List.mem_cons, List.not_mem_nil, or_false] at e hb; omega))
set_option maxHeartbeats 8000000 in
theorem m_measures {G : GG} (d : Nat) {t : Nat → Option (Nat × Nat)} {J : Nat → Nat → Int64} {P : Nat → Nat → Value} {n sl : Nat} {I0 : Nat → Nat → Int32} {σ : Sg} {w : Nat → Nat} (hS : SH t P) (hσ : SgOK σ) (hM : MP I0 σ) (hw : ∀ q, q < 80 → I0 134 q = nI (w q) ∧ w q < 65536) (hWI : WI σ w) (hak : ∀ p, p < 10 → I0 137 p = nI (bP (Asked σ p))) {s dr : Nat} (hs : s < 16) (hd : dr < 16) (hB : n ≤ 601124) (hSl : sl ≤ 7293033) : CA G (d + 2) M5_measures [.ref 122, .int (nI s), .int (nI dr)] (t, I0, J, P, n, sl) (fun o h' => o = .inl none ∧ ∃ I', h' = (t, I', J, P, n, sl) ∧ (∀ b, b ∉ [138] → I' b = I0 b) ∧ ∀ j, j < 91 → I' 138 j = nI (dF σ s dr j)) := by
  refine CA.w ?_
  show RA _ _ M5_measures 0 [.ref 122, .int (nI s), .int (nI dr), U0, U0, U0, U0, U0] [] _ _
  have hnp := hσ.1
  have h4 : ∀ (f : Nat → Nat) I, (∀ b, b ∉ [138] → I b = I0 b) → (∀ j, j < 91 → I 138 j = nI (f j)) → FI σ s dr f → ∀ v4 v5 v6 v7, RA G (d + 2) M5_measures 32 [.ref 122, .int (nI s), .int (nI dr), .int (nI 1), v4, v5, v6, v7] [] (t, I, J, P, n, sl) (fun o h' => o = .inl none ∧ ∃ I', h' = (t, I', J, P, n, sl) ∧ (∀ b, b ∉ [138] → I' b = I0 b) ∧ ∀ j, j < 91 → I' 138 j = nI (dF σ s dr j)) := by
    have h4q : ∀ f0 : Nat → Nat, (∀ z, sumN 90 z < sumN 90 f0 → ∀ I, (∀ b, b ∉ [138] → I b = I0 b) → (∀ j, j < 91 → I 138 j = nI (z j)) → FI σ s dr z → ∀ v4 v5 v6 v7, RA G (d + 2) M5_measures 32 [.ref 122, .int (nI s), .int (nI dr), .int (nI 1), v4, v5, v6, v7] [] (t, I, J, P, n, sl) (fun o h' => o = .inl none ∧ ∃ I', h' = (t, I', J, P, n, sl) ∧ (∀ b, b ∉ [138] → I' b = I0 b) ∧ ∀ j, j < 91 → I' 138 j = nI (dF σ s dr j))) → ∀ q, q ≤ 90 → ∀ (f : Nat → Nat) I m, (∀ b, b ∉ [138] → I b = I0 b) → (∀ j, j < 91 → I 138 j = nI (f j)) → FLv σ s dr f0 f m (q) 0 0 → ∀ v5 v6 v7, RA G (d + 2) M5_measures 41 [.ref 122, .int (nI s), .int (nI dr), .int (nI m), .int (nI (q)), v5, v6, v7] [] (t, I, J, P, n, sl) (fun o h' => o = .inl none ∧ ∃ I', h' = (t, I', J, P, n, sl) ∧ (∀ b, b ∉ [138] → I' b = I0 b) ∧ ∀ j, j < 91 → I' 138 j = nI (dF σ s dr j)) := by
      intro f0 hnext
      refine up_ind ?_
      intro q hq_ ih f I m hF hf hL v5 v6 v7
      have h4p : ∀ q, q < 90 → (q < 90 → ∀ (f : Nat → Nat) I m, (∀ b, b ∉ [138] → I b = I0 b) → (∀ j, j < 91 → I 138 j = nI (f j)) → FLv σ s dr f0 f m (q + 1) 0 0 → ∀ v5 v6 v7, RA G (d + 2) M5_measures 41 [.ref 122, .int (nI s), .int (nI dr), .int (nI m), .int (nI (q + 1)), v5, v6, v7] [] (t, I, J, P, n, sl) (fun o h' => o = .inl none ∧ ∃ I', h' = (t, I', J, P, n, sl) ∧ (∀ b, b ∉ [138] → I' b = I0 b) ∧ ∀ j, j < 91 → I' 138 j = nI (dF σ s dr j))) → ∀ p, p ≤ s_np σ → ∀ (f : Nat → Nat) I m, (∀ b, b ∉ [138] → I b = I0 b) → (∀ j, j < 91 → I 138 j = nI (f j)) → FLv σ s dr f0 f m q (p) 0 → ∀ v6 v7, RA G (d + 2) M5_measures 51 [.ref 122, .int (nI s), .int (nI dr), .int (nI m), .int (nI q), .int (nI (p)), v6, v7] [] (t, I, J, P, n, sl) (fun o h' => o = .inl none ∧ ∃ I', h' = (t, I', J, P, n, sl) ∧ (∀ b, b ∉ [138] → I' b = I0 b) ∧ ∀ j, j < 91 → I' 138 j = nI (dF σ s dr j)) := by
        clear ih hF hf hL I f m
        intro q hq ihq
        refine up_ind ?_
        intro p hp_ ih f I m hF hf hL v6 v7
        have h4k : ∀ p, p < s_np σ → (p < s_np σ → ∀ (f : Nat → Nat) I m, (∀ b, b ∉ [138] → I b = I0 b) → (∀ j, j < 91 → I 138 j = nI (f j)) → FLv σ s dr f0 f m q (p + 1) 0 → ∀ v6 v7, RA G (d + 2) M5_measures 51 [.ref 122, .int (nI s), .int (nI dr), .int (nI m), .int (nI q), .int (nI (p + 1)), v6, v7] [] (t, I, J, P, n, sl) (fun o h' => o = .inl none ∧ ∃ I', h' = (t, I', J, P, n, sl) ∧ (∀ b, b ∉ [138] → I' b = I0 b) ∧ ∀ j, j < 91 → I' 138 j = nI (dF σ s dr j))) → ∀ k, k ≤ s_ln σ p → ∀ (f : Nat → Nat) I m, (∀ b, b ∉ [138] → I b = I0 b) → (∀ j, j < 91 → I 138 j = nI (f j)) → FLv σ s dr f0 f m q p k → ∀ v7, RA G (d + 2) M5_measures 67 [.ref 122, .int (nI s), .int (nI dr), .int (nI m), .int (nI q), .int (nI p), .int (nI (12 * p + k)), v7] [] (t, I, J, P, n, sl) (fun o h' => o = .inl none ∧ ∃ I', h' = (t, I', J, P, n, sl) ∧ (∀ b, b ∉ [138] → I' b = I0 b) ∧ ∀ j, j < 91 → I' 138 j = nI (dF σ s dr j)) := by
          clear ih hF hf hL I f m
          intro p hp ihp
          have hln := hσ.ln hp
          refine up_ind ?_
          intro k hk_ ih f I m hF hf hL v7
          have hm1 := hL.1
          refine x_iload d5_measures_67 rfl ?_
          refine x_bipush (v := nI 12) d5_measures_69 (by decide) ?_
          refine x_iload d5_measures_71 rfl ?_
          refine x_imulN d5_measures_73 ?_
          refine x_aload_n d5_measures_74 rfl ?_
          refine x_getP d5_measures_75 f5_17 (hS.T rfl) (hS.P rfl) ?_
          refine x_iload d5_measures_78 rfl ?_
          refine x_ialdN d5_measures_80 (hS.T rfl) (by omega) ?_
          refine x_top (congrArg Value.int (show I 124 p = nI (s_ln σ p) from ((congrFun (hF 124 (by decide)) _).trans (hM.ln hp)))) ?_
          have hln_ := hσ.ln hp
          refine x_iaddN d5_measures_81 ?_
          refine x_icmp_geN 162 d5_measures_82 (by decide) (by omega) (by omega) (fun b82 => ?_) (fun b82 => ?_)
          · refine x_iincN (c := 1) d5_measures_162 rfl (by decide) ?_
            refine x_goto 51 d5_measures_165 (by decide) ?_
            exact ihp hp f I m hF hf (hL.nextp (fun _ => by omega)) _ _
          · have b82k : k < s_ln σ p := by omega
            refine x_aload_n d5_measures_85 rfl ?_
            refine x_getP d5_measures_86 f5_61 (hS.T rfl) (hS.P rfl) ?_
            refine x_iload d5_measures_89 rfl ?_
            refine x_zaldN d5_measures_91 (hS.T rfl) (by omega) ?_
            refine x_top (congrArg Value.int (show I 137 p = nI (bP (Asked σ p)) from ((congrFun (hF 137 (by decide)) _).trans (hak _ (by omega))))) ?_
            have hbp_ := bP_lt (Asked σ p)
            refine x_if_eqN 162 d5_measures_92 (by decide) (by omega) (fun b92 => ?_) (fun b92 => ?_)
            · refine x_iincN (c := 1) d5_measures_162 rfl (by decide) ?_
              refine x_goto 51 d5_measures_165 (by decide) ?_
              exact ihp hp f I m hF hf (hL.nextp (fun z => absurd b92 (by rw [bP_t z]; decide))) _ _
            · have hA : Asked σ p := Classical.byContradiction (fun z => b92 (bP_f z))
              have hFI := hL.2.1
              refine x_aload_n d5_measures_95 rfl ?_
              refine x_iload d5_measures_96 rfl ?_
              refine x_iload d5_measures_98 rfl ?_
              refine x_iload d5_measures_100 rfl ?_
              refine x_iload_n d5_measures_102 rfl ?_
              refine x_iload_n d5_measures_103 rfl ?_
              refine x_invV 122 5 d5_measures_104 (hS.T rfl) v5_255_5 (m_leads _ hS hσ (hM.fr138 hF) (fun q hq => by rw [hF 134 (by decide)]; exact hw q hq) hWI (by omega) hp hA b82k hs hd hB hSl) (Cont.p ?_) (hB := hB) (hS := hSl)
              refine x_istore d5_measures_107 ?_
              refine x_iload d5_measures_109 rfl ?_
              refine x_bipush (v := -2) d5_measures_111 (by decide) ?_
              refine x_icmp_eq 156 d5_measures_113 (by decide) (fun b113 => ?_) (fun b113 => ?_)
              · refine x_iincN (c := 1) d5_measures_156 rfl (by decide) ?_
                refine x_goto 67 d5_measures_159 (by decide) ?_
                exact ih b82k f I m hF hf (hL.skip (fun q' h => absurd h (ldI_no hσ hp b82k b113 q'))) _
              · obtain ⟨x, hLx⟩ := ldI_yes b113
                rw [ldI_t hσ hp b82k hLx]
                have hxl := (hLx.lt hσ hp b82k).2
                refine x_aload_n d5_measures_116 rfl ?_
                refine x_getP d5_measures_117 f5_65 (hS.T rfl) (hS.P rfl) ?_
                refine x_iload d5_measures_120 rfl ?_
                refine x_ialdN d5_measures_122 (hS.T rfl) (by omega) ?_
                refine x_top (congrArg Value.int (show I 138 x = nI (f x) from (hf _ (by omega)))) ?_
                have hfl_x := hFI.le (j := x) (by omega)
                refine x_iconst (v := nI 1) d5_measures_123 (by decide) ?_
                refine x_iaddN d5_measures_124 ?_
                refine x_aload_n d5_measures_125 rfl ?_
                refine x_getP d5_measures_126 f5_65 (hS.T rfl) (hS.P rfl) ?_
                refine x_iload d5_measures_129 rfl ?_
                refine x_ialdN d5_measures_131 (hS.T rfl) (by omega) ?_
                refine x_top (congrArg Value.int (show I 138 q = nI (f q) from (hf _ (by omega)))) ?_
                have hfl_q := hFI.le (j := q) (by omega)
                refine x_icmp_ltN 138 d5_measures_132 (by decide) (by omega) (by omega) (fun b132 => ?_) (fun b132 => ?_)
                · refine x_aload_n d5_measures_138 rfl ?_
                  refine x_getP d5_measures_139 f5_65 (hS.T rfl) (hS.P rfl) ?_
                  refine x_iload d5_measures_142 rfl ?_
                  refine x_aload_n d5_measures_144 rfl ?_
                  refine x_getP d5_measures_145 f5_65 (hS.T rfl) (hS.P rfl) ?_
                  refine x_iload d5_measures_148 rfl ?_
                  refine x_ialdN d5_measures_150 (hS.T rfl) (by omega) ?_
                  refine x_top (congrArg Value.int (show I 138 x = nI (f x) from (hf _ (by omega)))) ?_
                  have hfl_x := hFI.le (j := x) (by omega)
                  refine x_iconst (v := nI 1) d5_measures_151 (by decide) ?_
                  refine x_iaddN d5_measures_152 ?_
                  refine x_iastN d5_measures_153 (hS.T rfl) (by omega) (fun I1 hI1 => ?_)
                  have hFI1 : ∀ b, b ∉ [138] → I1 b = I0 b := fun b hb => by rw [hI1, u2_row _ _ _ (fun e => hb (by rw [e]; decide))]; exact hF b hb
                  refine x_iconst (v := nI 1) d5_measures_154 (by decide) ?_
                  refine x_istore_n d5_measures_155 ?_
                  refine x_iincN (c := 1) d5_measures_156 rfl (by decide) ?_
                  refine x_goto 67 d5_measures_159 (by decide) ?_
                  exact ih b82k _ I1 1 hFI1 (row_set hf hI1 rfl) (hL.set hσ hp hA b82k hLx (by omega)) _
                · refine x_goto 156 d5_measures_135 (by decide) ?_
                  refine x_iincN (c := 1) d5_measures_156 rfl (by decide) ?_
                  refine x_goto 67 d5_measures_159 (by decide) ?_
                  exact ih b82k f I m hF hf (hL.skip (fun q' h => by rw [Ld.fn hσ hp b82k h hLx]; omega)) _
        have hm1 := hL.1
        refine x_iload d5_measures_51 rfl ?_
        refine x_aload_n d5_measures_53 rfl ?_
        refine x_getI d5_measures_54 f5_86 (hS.T rfl) ?_
        refine x_top (congrArg Value.int (show I 122 4 = nI (s_np σ) from ((congrFun (hF 122 (by decide)) _).trans hM.np))) ?_
        refine x_icmp_geN 168 d5_measures_57 (by decide) (by omega) (by omega) (fun b57 => ?_) (fun b57 => ?_)
        · refine x_iincN (c := 1) d5_measures_168 rfl (by decide) ?_
          refine x_goto 41 d5_measures_171 (by decide) ?_
          have hpe : p = s_np σ := by omega
          subst hpe
          exact ihq hq f I m hF hf hL.nextq _ _ _
        · refine x_bipush (v := nI 12) d5_measures_60 (by decide) ?_
          refine x_iload d5_measures_62 rfl ?_
          refine x_imulN d5_measures_64 ?_
          refine x_istore d5_measures_65 ?_
          exact h4k p b57 ih 0 (Nat.zero_le _) f I m hF hf hL _
      have hm1 := hL.1
      refine x_iload d5_measures_41 rfl ?_
      refine x_bipush (v := nI 90) d5_measures_43 (by decide) ?_
      refine x_icmp_geN 174 d5_measures_45 (by decide) (by omega) (by omega) (fun b45 => ?_) (fun b45 => ?_)
      · refine x_goto 32 d5_measures_174 (by decide) ?_
        have hqe : q = 90 := by omega
        subst hqe
        rcases (by have := hL.1; omega : m = 0 ∨ m = 1) with rfl | rfl
        · refine x_iload_n d5_measures_32 rfl ?_
          refine x_if_eqN 177 d5_measures_33 (by decide) (by decide) (fun _ => ?_) (fun h => absurd rfl h)
          exact x_return d5_measures_177 ⟨rfl, I, rfl, hF, fun j hj => by rw [hf j hj, hL.fin hσ hj]⟩
        · exact hnext f (hL.2.2.2 rfl) I hF hf hL.2.1 _ _ _ _
      · refine x_iconst (v := nI 0) d5_measures_48 (by decide) ?_
        refine x_istore d5_measures_49 ?_
        exact h4p q b45 ih 0 (Nat.zero_le _) f I m hF hf hL _ _
    refine wh_ind (fun f => sumN 90 f) ?_
    intro f ih I hF hf hFI v4 v5 v6 v7
    refine x_iload_n d5_measures_32 rfl ?_
    refine x_if_eqN 177 d5_measures_33 (by decide) (by omega) (fun b33 => absurd b33 (by decide)) (fun b33 => ?_)
    refine x_iconst (v := nI 0) d5_measures_36 (by decide) ?_
    refine x_istore_n d5_measures_37 ?_
    refine x_iconst (v := nI 0) d5_measures_38 (by decide) ?_
    refine x_istore d5_measures_39 ?_
    exact h4q f (fun z hz => ih z hz) 0 (Nat.zero_le _) f I 0 hF hf (FLv.init hFI) _ _ _
  have h1 : ∀ k, k ≤ 90 → ∀ I, (∀ b, b ∉ [138] → I b = I0 b) → (∀ j, j < k → I 138 j = nI 100000) → RA G (d + 2) M5_measures 2 [.ref 122, .int (nI s), .int (nI dr), .int (nI k), U0, U0, U0, U0] [] (t, I, J, P, n, sl) (fun o h' => o = .inl none ∧ ∃ I', h' = (t, I', J, P, n, sl) ∧ (∀ b, b ∉ [138] → I' b = I0 b) ∧ ∀ j, j < 91 → I' 138 j = nI (dF σ s dr j)) := by
    refine up_ind ?_
    intro k hk ih I hF z1
    refine x_iload_n d5_measures_2 rfl ?_
    refine x_bipush (v := nI 90) d5_measures_3 (by decide) ?_
    refine x_icmp_geN 22 d5_measures_5 (by decide) (by omega) (by omega) (fun b5 => ?_) (fun b5 => ?_)
    · refine x_aload_n d5_measures_22 rfl ?_
      refine x_getP d5_measures_23 f5_65 (hS.T rfl) (hS.P rfl) ?_
      refine x_bipush (v := nI 90) d5_measures_26 (by decide) ?_
      refine x_iconst (v := nI 0) d5_measures_28 (by decide) ?_
      refine x_iastN d5_measures_29 (hS.T rfl) (by omega) (fun I1 hI1 => ?_)
      have hFI1 : ∀ b, b ∉ [138] → I1 b = I0 b := fun b hb => by rw [hI1, u2_row _ _ _ (fun e => hb (by rw [e]; decide))]; exact hF b hb
      refine x_iconst (v := nI 1) d5_measures_30 (by decide) ?_
      refine x_istore_n d5_measures_31 ?_
      exact h4 (fun j => if j = 90 then 0 else 100000) I1 hFI1 (fun j hj => by
        rw [hI1, u2_at]
        by_cases e : j = 90
        · rw [if_pos e]; show nI 0 = nI (if j = 90 then 0 else 100000); rw [if_pos e]
        · rw [if_neg e, z1 j (by omega)]; show nI 100000 = nI (if j = 90 then 0 else 100000); rw [if_neg e]) (FI.init σ s dr) _ _ _ _
    · refine x_aload_n d5_measures_8 rfl ?_
      refine x_getP d5_measures_9 f5_65 (hS.T rfl) (hS.P rfl) ?_
      refine x_iload_n d5_measures_12 rfl ?_
      refine x_ldc (v := nI 100000) d5_measures_13 (lw_g (lw_at lw_m6 87 rfl) rfl) ?_
      refine x_iastN d5_measures_15 (hS.T rfl) (by omega) (fun I2 hI2 => ?_)
      have hFI2 : ∀ b, b ∉ [138] → I2 b = I0 b := fun b hb => by rw [hI2, u2_row _ _ _ (fun e => hb (by rw [e]; decide))]; exact hF b hb
      refine x_iincN (c := 1) d5_measures_16 rfl (by decide) ?_
      refine x_goto 2 d5_measures_19 (by decide) ?_
      exact ih (by omega) I2 hFI2 (fun j hj => by rw [hI2, u2_at]; split; rfl; exact z1 j (by omega))
  refine x_iconst (v := nI 0) d5_measures_0 (by decide) ?_
  refine x_istore_n d5_measures_1 ?_
  exact h1 0 (Nat.zero_le _) I0 (fun _ _ => rfl) (fun j hj => absurd hj (Nat.not_lt_zero _))
set_option maxHeartbeats 4000000 in
theorem m_follows {G : GG} (d : Nat) {t : Nat → Option (Nat × Nat)} {J : Nat → Nat → Int64} {P : Nat → Nat → Value} {n sl : Nat} {I : Nat → Nat → Int32} {σ : Sg} {w : Nat → Nat} (hS : SH t P) (hσ : SgOK σ) (hM : MP I σ) (hw : ∀ q, q < 80 → I 134 q = nI (w q) ∧ w q < 65536) (hWI : WI σ w) (hak : ∀ p, p < 10 → I 137 p = nI (bP (Asked σ p))) {s dr : Nat} (hs : s < 16) (hd : dr < 16) (hf : ∀ j, j < 91 → I 138 j = nI (dF σ s dr j)) {q m c : Nat} (hq : q < 90) (hn : dF σ s dr q = m + 1) (hn9 : m + 1 < 100000) (hc : I 122 30 = nI c) (hc9 : c < 92) (hB : n ≤ 601124) (hSl : sl ≤ 7293033) : CA G (d + 2) M5_follows [.ref 122, .int (nI q), .int (nI s), .int (nI dr)] (t, I, J, P, n, sl) (fun o h' => o = .inl (some (.int (nI (nxQ σ s dr q)))) ∧ h' = (t, u2 I 139 c (nI (cdF (nxL σ s dr q))), J, P, n, sl)) := by
  refine CA.w ?_
  show RA _ _ M5_follows 0 [.ref 122, .int (nI q), .int (nI s), .int (nI dr), U0, U0, U0] [] _ _
  have hnp := hσ.1
  have hp0 : ∀ p, p ≤ s_np σ → (∀ l', l' < 12 * (p) → Rw σ l' → ∀ q', Ld σ s dr q (l' / 12) (l' % 12) q' → dF σ s dr q' + 1 ≠ dF σ s dr q) → ∀ v5 v6, RA G (d + 2) M5_follows 3 [.ref 122, .int (nI q), .int (nI s), .int (nI dr), .int (nI (p)), v5, v6] [] (t, I, J, P, n, sl) (fun o h' => o = .inl (some (.int (nI (nxQ σ s dr q)))) ∧ h' = (t, u2 I 139 c (nI (cdF (nxL σ s dr q))), J, P, n, sl)) := by
    refine up_ind ?_
    intro p hp_ ih hno v5 v6
    have hk0 : ∀ p, p < s_np σ → (p < s_np σ → (∀ l', l' < 12 * (p + 1) → Rw σ l' → ∀ q', Ld σ s dr q (l' / 12) (l' % 12) q' → dF σ s dr q' + 1 ≠ dF σ s dr q) → ∀ v5 v6, RA G (d + 2) M5_follows 3 [.ref 122, .int (nI q), .int (nI s), .int (nI dr), .int (nI (p + 1)), v5, v6] [] (t, I, J, P, n, sl) (fun o h' => o = .inl (some (.int (nI (nxQ σ s dr q)))) ∧ h' = (t, u2 I 139 c (nI (cdF (nxL σ s dr q))), J, P, n, sl))) → ∀ k, k ≤ s_ln σ p → (∀ l', l' < 12 * p + k → Rw σ l' → ∀ q', Ld σ s dr q (l' / 12) (l' % 12) q' → dF σ s dr q' + 1 ≠ dF σ s dr q) → ∀ v6, RA G (d + 2) M5_follows 19 [.ref 122, .int (nI q), .int (nI s), .int (nI dr), .int (nI p), .int (nI (12 * p + k)), v6] [] (t, I, J, P, n, sl) (fun o h' => o = .inl (some (.int (nI (nxQ σ s dr q)))) ∧ h' = (t, u2 I 139 c (nI (cdF (nxL σ s dr q))), J, P, n, sl)) := by
      clear ih hno
      intro p hp ihp
      have hln := hσ.ln hp
      refine up_ind ?_
      intro k hk_ ih hno v6
      refine x_iload d5_follows_19 rfl ?_
      refine x_bipush (v := nI 12) d5_follows_21 (by decide) ?_
      refine x_iload d5_follows_23 rfl ?_
      refine x_imulN d5_follows_25 ?_
      refine x_aload_n d5_follows_26 rfl ?_
      refine x_getP d5_follows_27 f5_17 (hS.T rfl) (hS.P rfl) ?_
      refine x_iload d5_follows_30 rfl ?_
      refine x_ialdN d5_follows_32 (hS.T rfl) (by omega) ?_
      refine x_top (congrArg Value.int (show I 124 p = nI (s_ln σ p) from (hM.ln hp))) ?_
      have hln_ := hσ.ln hp
      refine x_iaddN d5_follows_33 ?_
      refine x_icmp_geN 120 d5_follows_34 (by decide) (by omega) (by omega) (fun b34 => ?_) (fun b34 => ?_)
      · refine x_iincN (c := 1) d5_follows_120 rfl (by decide) ?_
        refine x_goto 3 d5_follows_123 (by decide) ?_
        exact ihp hp (fun l' hl' hr q' h1 => hno l' (by
          rcases Nat.lt_or_ge l' (12 * p + k) with z | z
          · exact z
          · have h3 : l' / 12 = p := by omega
            have h4 := hr.2.2
            rw [h3] at h4
            omega) hr q' h1) _ _
      · have b34k : k < s_ln σ p := by omega
        have e1 : (12 * p + k) / 12 = p := by omega
        have e2 : (12 * p + k) % 12 = k := by omega
        refine x_aload_n d5_follows_37 rfl ?_
        refine x_getP d5_follows_38 f5_61 (hS.T rfl) (hS.P rfl) ?_
        refine x_iload d5_follows_41 rfl ?_
        refine x_zaldN d5_follows_43 (hS.T rfl) (by omega) ?_
        refine x_top (congrArg Value.int (show I 137 p = nI (bP (Asked σ p)) from (hak _ (by omega)))) ?_
        have hbp_ := bP_lt (Asked σ p)
        refine x_if_eqN 120 d5_follows_44 (by decide) (by omega) (fun b44 => ?_) (fun b44 => ?_)
        · refine x_iincN (c := 1) d5_follows_120 rfl (by decide) ?_
          refine x_goto 3 d5_follows_123 (by decide) ?_
          exact ihp hp (fun l' hl' hr q' h1 => by
            rcases Nat.lt_or_ge l' (12 * p + k) with z | z
            · exact hno l' z hr q' h1
            · have h3 : l' / 12 = p := by omega
              have h4 := hr.2.1
              rw [h3] at h4
              rw [bP_t h4] at b44
              cases b44) _ _
        · have hA : Asked σ p := Classical.byContradiction (fun z => b44 (bP_f z))
          refine x_aload_n d5_follows_47 rfl ?_
          refine x_iload_n d5_follows_48 rfl ?_
          refine x_iload d5_follows_49 rfl ?_
          refine x_iload d5_follows_51 rfl ?_
          refine x_iload_n d5_follows_53 rfl ?_
          refine x_iload_n d5_follows_54 rfl ?_
          refine x_invV 122 5 d5_follows_55 (hS.T rfl) v5_255_5 (m_leads _ hS hσ hM hw hWI hq hp hA b34k hs hd hB hSl) (Cont.p ?_) (hB := hB) (hS := hSl)
          refine x_istore d5_follows_58 ?_
          refine x_iload d5_follows_60 rfl ?_
          refine x_bipush (v := -2) d5_follows_62 (by decide) ?_
          refine x_icmp_eq 114 d5_follows_64 (by decide) (fun b64 => ?_) (fun b64 => ?_)
          · refine x_iincN (c := 1) d5_follows_114 rfl (by decide) ?_
            refine x_goto 19 d5_follows_117 (by decide) ?_
            exact ih b34k (fun l' hl' hr q' h1 => by
              rcases Nat.lt_or_ge l' (12 * p + k) with z | z
              · exact hno l' z hr q' h1
              · have el : l' = 12 * p + k := by omega
                subst el
                rw [e1, e2] at h1
                exact absurd h1 (ldI_no hσ hp b34k b64 q')) _
          · obtain ⟨x, hLx⟩ := ldI_yes b64
            rw [ldI_t hσ hp b34k hLx]
            have hxl := (hLx.lt hσ hp b34k).2
            refine x_aload_n d5_follows_67 rfl ?_
            refine x_getP d5_follows_68 f5_65 (hS.T rfl) (hS.P rfl) ?_
            refine x_iload d5_follows_71 rfl ?_
            refine x_ialdN d5_follows_73 (hS.T rfl) (by omega) ?_
            refine x_top (congrArg Value.int (show I 138 x = nI (dF σ s dr x) from (hf _ (by omega)))) ?_
            have hdl_x := dF_le5 hσ s dr x
            refine x_iconst (v := nI 1) d5_follows_74 (by decide) ?_
            refine x_iaddN d5_follows_75 ?_
            refine x_aload_n d5_follows_76 rfl ?_
            refine x_getP d5_follows_77 f5_65 (hS.T rfl) (hS.P rfl) ?_
            refine x_iload_n d5_follows_80 rfl ?_
            refine x_ialdN d5_follows_81 (hS.T rfl) (by omega) ?_
            refine x_top (congrArg Value.int (show I 138 q = nI (dF σ s dr q) from (hf _ (by omega)))) ?_
            have hdl_q := dF_le5 hσ s dr q
            refine x_icmp_eqN 88 d5_follows_82 (by decide) (by omega) (by omega) (fun b82 => ?_) (fun b82 => ?_)
            · refine x_aload_n d5_follows_88 rfl ?_
              refine x_getP d5_follows_89 f5_68 (hS.T rfl) (hS.P rfl) ?_
              refine x_aload_n d5_follows_92 rfl ?_
              refine x_getI d5_follows_93 f5_262 (hS.T rfl) ?_
              refine x_top (congrArg Value.int (show I 122 30 = nI c from hc)) ?_
              refine x_bipush (v := nI 100) d5_follows_96 (by decide) ?_
              refine x_iload d5_follows_98 rfl ?_
              refine x_imulN d5_follows_100 ?_
              refine x_iload d5_follows_101 rfl ?_
              refine x_iaddN d5_follows_103 ?_
              refine x_bipush (v := nI 12) d5_follows_104 (by decide) ?_
              refine x_iload d5_follows_106 rfl ?_
              refine x_imulN d5_follows_108 ?_
              refine x_isubN d5_follows_109 (by omega) ?_
              refine x_iastN d5_follows_110 (hS.T rfl) (by omega) (fun I1 hI1 => ?_)
              refine x_iload d5_follows_111 rfl ?_
              refine x_ireturn d5_follows_113 ?_
              have hNx : Nx σ s dr q (12 * p + k) := ⟨⟨by rw [e1]; exact hp, by rw [e1]; exact hA, by rw [e1, e2]; exact b34k⟩, ⟨x, by rw [e1, e2]; exact hLx, b82⟩, hno⟩
              refine ⟨by rw [nxQ_eq hσ hNx (by rw [e1, e2]; exact hLx)], ?_⟩
              rw [hI1, nxL_eq hNx, show cdF (12 * p + k) = 100 * p + (12 * p + k) - 12 * p by unfold cdF; omega]
            · refine x_goto 114 d5_follows_85 (by decide) ?_
              refine x_iincN (c := 1) d5_follows_114 rfl (by decide) ?_
              refine x_goto 19 d5_follows_117 (by decide) ?_
              exact ih b34k (fun l' hl' hr q' h1 => by
                rcases Nat.lt_or_ge l' (12 * p + k) with z | z
                · exact hno l' z hr q' h1
                · have el : l' = 12 * p + k := by omega
                  subst el
                  rw [e1, e2] at h1
                  rw [Ld.fn hσ hp b34k h1 hLx]; exact b82) _
    refine x_iload d5_follows_3 rfl ?_
    refine x_aload_n d5_follows_5 rfl ?_
    refine x_getI d5_follows_6 f5_86 (hS.T rfl) ?_
    refine x_top (congrArg Value.int (show I 122 4 = nI (s_np σ) from hM.np)) ?_
    refine x_icmp_geN 126 d5_follows_9 (by decide) (by omega) (by omega) (fun b9 => ?_) (fun b9 => ?_)
    · refine x_bipush (v := nI 90) d5_follows_126 (by decide) ?_
      refine x_ireturn d5_follows_128 ?_
      exfalso
      obtain ⟨l, hl⟩ := Nx.ex hσ hn hn9
      obtain ⟨q', h1, h2⟩ := hl.2.1
      exact hno l (by have := hl.1.1; have := hσ.ln hl.1.1; have := hl.1.2.2; omega) hl.1 q' h1 h2
    · refine x_bipush (v := nI 12) d5_follows_12 (by decide) ?_
      refine x_iload d5_follows_14 rfl ?_
      refine x_imulN d5_follows_16 ?_
      refine x_istore d5_follows_17 ?_
      exact hk0 p b9 ih 0 (Nat.zero_le _) hno _
  refine x_iconst (v := nI 0) d5_follows_0 (by decide) ?_
  refine x_istore d5_follows_1 ?_
  exact hp0 0 (Nat.zero_le _) (fun l' h => absurd h (Nat.not_lt_zero _)) _ _
def WyS (σ : Sg) (s d : Nat) (o : Option Nat) (b : Nat) (c st : Int32) : Prop := match o with
  | none => b = 100000
  | some l => b = dF σ s d (plc σ l) + 1 ∧ c = nI (cdF l) ∧ st = nI (plc σ l)
def wx (σ : Sg) (s d : Nat) (o : Option Nat) : Nat → Prop := dO σ s d o
/-- the memory while the steps are laid -/
def WyM (σ : Sg) (s d : Nat) (I2 I : Nat → Nat → Int32) (c : Nat) : Prop := (∀ b, b ∉ [122, 139] → I b = I2 b) ∧ (∀ k, k ≠ 30 → I 122 k = I2 122 k) ∧ I 122 30 = nI c ∧ ∀ j, j < c → I 139 j = nI (wyS σ s d j)
theorem MdS.way {I2 I : Nat → Nat → Int32} {σ : Sg} {ρ : Rs} {s d c : Nat} (h : MdS I2 σ ρ) (hW : WyM σ s d I2 I c) (hc : c ≤ 92) : MdS I σ (rSp ρ c (wyS σ s d)) := by
  obtain ⟨h1, h2, h3, a1, a2, a3, a4, a5, a6, a7, a8, a9, a10⟩ := h
  obtain ⟨e1, e2, e3, e4⟩ := hW
  refine ⟨h1, ⟨h2.1, h2.2.1, h2.2.2.1, h2.2.2.2.1, hc, h2.2.2.2.2.2⟩, h3.same (e2 4 (by decide)) (fun b hb => e1 b (by rintro e; simp only [List.mem_cons, List.not_mem_nil, or_false] at e hb; omega)), ?_, ?_, ?_, ?_, ?_, ?_, e3, e4, ?_, ?_⟩
  · rw [e1 125 (by decide)]; exact a1
  · rw [e2 15 (by decide)]; exact a2
  · rw [e1 132 (by decide)]; exact a3
  · rw [e2 1 (by decide)]; exact a4
  · rw [e2 2 (by decide)]; exact a5
  · rw [e2 3 (by decide)]; exact a6
  · rw [e2 34 (by decide)]; exact a9
  · rw [e1 141 (by decide)]; exact a10
theorem WyS.x {σ : Sg} {s d b : Nat} {o : Option Nat} {c st : Int32} (h : WyS σ s d o b c st) : ∃ x, dO σ s d o x ∧ ((x = 100000 ∧ b = 100000) ∨ (b = x + 1)) := by
  cases o with
  | none => exact ⟨100000, rfl, Or.inl ⟨rfl, h⟩⟩
  | some l => exact ⟨dF σ s d (plc σ l), rfl, Or.inr h.1⟩
theorem WyS.le {σ : Sg} (hσ : SgOK σ) {s d b : Nat} {o : Option Nat} {c st : Int32} (h : WyS σ s d o b c st) : b ≤ 100001 := by
  cases o with
  | none => have : b = 100000 := h; omega
  | some l => have := h.1; have := dF_le5 hσ s d (plc σ l); omega
theorem dO.le {σ : Sg} (hσ : SgOK σ) {s d x : Nat} {o : Option Nat} (h : dO σ s d o x) : x ≤ 100000 := by
  cases o with
  | none => have : x = 100000 := h; omega
  | some l => have h : x = dF σ s d (plc σ l) := h; rw [h]; exact dF_le5 hσ s d _
theorem wq_le {σ : Sg} (hσ : SgOK σ) {s d q n : Nat} (hq : q ≤ 90) (hd : dF σ s d q = n) (hn : n ≤ 90) : ∀ i, i ≤ n → wq σ s d q i ≤ 90 := by
  intro i
  cases i with
  | zero => intro _; exact hq
  | succ i =>
    intro hi
    have h1 := wq_d hσ hd hn i (by omega)
    obtain ⟨l, hl⟩ := Nx.ex hσ (s := s) (d := d) (q := wq σ s d q i) (n := n - i - 1) (by omega) (by omega)
    exact ((hl.q hσ).1.lt hσ hl.1.1 hl.1.2.2).2
theorem qWay_t {σ : Sg} {ρ : Rs} {v u : Int32} {s d : Nat} (e : ixOf v 16 = some s) (e2 : ixOf u 16 = some d) (h : ∃ l, Fst σ s d l) : qWay σ ρ v u = (nI (wyN σ s d + 1), rT (rSp ρ (wyN σ s d + 1) (wyS σ s d)) 0) := by
  unfold qWay; rw [e, e2]; exact @if_pos _ (Classical.propDecidable _) h _ _ _
theorem qWay_f {σ : Sg} {ρ : Rs} {v u : Int32} {s d : Nat} (e : ixOf v 16 = some s) (e2 : ixOf u 16 = some d) (h : ¬ ∃ l, Fst σ s d l) : qWay σ ρ v u = (-2, rT ρ 0) := by
  unfold qWay; rw [e, e2]; exact @if_neg _ (Classical.propDecidable _) h _ _ _
set_option maxHeartbeats 8000000 in
theorem m_way (G : GG) (d : Nat) (v u : Int32) (σ : Sg) (ρ : Rs) : MCon G (d + 3) M5_way [.ref 122, .int v, .int u] σ ρ (qWay σ ρ v u).1 σ (qWay σ ρ v u).2 := by
  intro t I J P n sl hS hD hB hSl
  have hσ := hD.1
  have hρ := hD.2.1
  have hM := hD.2.2.1
  have hR := hD.2.2.2
  have hnp := hσ.1
  rcases ix_cases v (n := 16) (by decide) with ⟨hv, e⟩ | ⟨s, hs, rfl, hv, e⟩
  · rw [show qWay σ ρ v u = (-1, rT ρ 2) by simp only [qWay, e]]
    refine CA.w ?_
    show RA _ _ M5_way 0 [.ref 122, .int v, .int u, U0, U0, U0, U0, U0] [] _ _
    refine x_aload_n d5_way_0 rfl ?_
    refine x_iconst (v := nI 0) d5_way_1 (by decide) ?_
    refine x_putIE d5_way_2 p5_80 (hS.T rfl) (fun I1 hI1 => ?_)
    have hsmI1 : MSm I I1 := MSm.thr hI1
    have hthI1 : I1 122 0 = 0 := by rw [hI1, u2_self]; rfl
    refine x_iload_n d5_way_5 rfl ?_
    refine x_invS 1 d5_way_6 s5_228 (m_isRight G _ _ (v)) (Cont.p ?_) (hB := hB) (hS := hSl)
    refine x_top (congrArg Value.int (b2i_f hv)) ?_
    refine x_if_eq 19 d5_way_9 (by decide) (fun b9 => ?_) (fun b9 => absurd b9 (by decide))
    refine x_aload_n d5_way_19 rfl ?_
    refine x_iconst (v := nI 2) d5_way_20 (by decide) ?_
    refine x_invV 122 1 d5_way_21 (hS.T rfl) v5_94_5 (m_refused _ hS (k := 2)) (Cont.e ?_) (hB := hB) (hS := hSl)
    obtain ⟨I2, hI2⟩ : ∃ z, z = u2 (u2 I1 122 1 (nI 2)) 122 2 (-1) := ⟨_, rfl⟩
    rw [← hI2]
    have hthI2 : I2 122 0 = 0 := by rw [hI2, u2_ne _ _ (by decide), u2_ne _ _ (by decide)]; exact hthI1
    exact x_ireturn d5_way_24 ⟨rfl, I2, J, rfl, (hsmI1.mds hD).tr hI2 (by decide), (hsmI1.mf).trans (MF.tell hI2), JF.rf J, hthI2⟩
  rcases ix_cases u (n := 16) (by decide) with ⟨hu, e2'⟩ | ⟨dr, hd, rfl, hu, e2'⟩
  · rw [show qWay σ ρ (nI s) u = (-1, rT ρ 2) by simp only [qWay, e, e2']]
    refine CA.w ?_
    show RA _ _ M5_way 0 [.ref 122, .int (nI s), .int u, U0, U0, U0, U0, U0] [] _ _
    refine x_aload_n d5_way_0 rfl ?_
    refine x_iconst (v := nI 0) d5_way_1 (by decide) ?_
    refine x_putIE d5_way_2 p5_80 (hS.T rfl) (fun I1 hI1 => ?_)
    have hsmI1 : MSm I I1 := MSm.thr hI1
    have hthI1 : I1 122 0 = 0 := by rw [hI1, u2_self]; rfl
    refine x_iload_n d5_way_5 rfl ?_
    refine x_invS 1 d5_way_6 s5_228 (m_isRight G _ _ (nI s)) (Cont.p ?_) (hB := hB) (hS := hSl)
    refine x_top (congrArg Value.int (b2i_t hv)) ?_
    refine x_if_eq 19 d5_way_9 (by decide) (fun b9 => absurd b9 (by decide)) (fun b9 => ?_)
    refine x_iload_n d5_way_12 rfl ?_
    refine x_invS 1 d5_way_13 s5_228 (m_isRight G _ _ (u)) (Cont.p ?_) (hB := hB) (hS := hSl)
    refine x_top (congrArg Value.int (b2i_f hu)) ?_
    refine x_if_ne 25 d5_way_16 (by decide) (fun b16 => absurd b16 (by decide)) (fun b16 => ?_)
    refine x_aload_n d5_way_19 rfl ?_
    refine x_iconst (v := nI 2) d5_way_20 (by decide) ?_
    refine x_invV 122 1 d5_way_21 (hS.T rfl) v5_94_5 (m_refused _ hS (k := 2)) (Cont.e ?_) (hB := hB) (hS := hSl)
    obtain ⟨I2, hI2⟩ : ∃ z, z = u2 (u2 I1 122 1 (nI 2)) 122 2 (-1) := ⟨_, rfl⟩
    rw [← hI2]
    have hthI2 : I2 122 0 = 0 := by rw [hI2, u2_ne _ _ (by decide), u2_ne _ _ (by decide)]; exact hthI1
    exact x_ireturn d5_way_24 ⟨rfl, I2, J, rfl, (hsmI1.mds hD).tr hI2 (by decide), (hsmI1.mf).trans (MF.tell hI2), JF.rf J, hthI2⟩
  · refine CA.w ?_
    show RA _ _ M5_way 0 [.ref 122, .int (nI s), .int (nI dr), U0, U0, U0, U0, U0] [] _ _
    refine x_aload_n d5_way_0 rfl ?_
    refine x_iconst (v := nI 0) d5_way_1 (by decide) ?_
    refine x_putIE d5_way_2 p5_80 (hS.T rfl) (fun I1 hI1 => ?_)
    have hsmI1 : MSm I I1 := MSm.thr hI1
    have hthI1 : I1 122 0 = 0 := by rw [hI1, u2_self]; rfl
    refine x_iload_n d5_way_5 rfl ?_
    refine x_invS 1 d5_way_6 s5_228 (m_isRight G _ _ (nI s)) (Cont.p ?_) (hB := hB) (hS := hSl)
    refine x_top (congrArg Value.int (b2i_t hv)) ?_
    refine x_if_eq 19 d5_way_9 (by decide) (fun b9 => absurd b9 (by decide)) (fun b9 => ?_)
    refine x_iload_n d5_way_12 rfl ?_
    refine x_invS 1 d5_way_13 s5_228 (m_isRight G _ _ (nI dr)) (Cont.p ?_) (hB := hB) (hS := hSl)
    refine x_top (congrArg Value.int (b2i_t hu)) ?_
    refine x_if_ne 25 d5_way_16 (by decide) (fun b16 => ?_) (fun b16 => absurd b16 (by decide))
    refine x_aload_n d5_way_25 rfl ?_
    refine x_invV 122 0 d5_way_26 (hS.T rfl) v5_241_5 (m_works _ hS hσ (hsmI1.mp hM) hB hSl) ?_ (hB := hB) (hS := hSl)
    rintro o h' ⟨rfl, I2, rfl, hWK⟩
    have hsmI2 : MSm I I2 := hsmI1.trans (MSm.wk hWK)
    have hthI2 : I2 122 0 = 0 := by rw [hWK.1 122 (by decide)]; exact hthI1
    refine x_aload_n d5_way_29 rfl ?_
    refine x_iload_n d5_way_30 rfl ?_
    refine x_iload_n d5_way_31 rfl ?_
    obtain ⟨w, hw, hWI⟩ := hWK.2.2.2.2.1
    refine x_invV 122 2 d5_way_32 (hS.T rfl) v5_259_5 (m_measures _ hS hσ (hsmI2.mp hM) hw hWI hWK.2.1 hs hd hB hSl) ?_ (hB := hB) (hS := hSl)
    rintro o h' ⟨rfl, I3, rfl, hFI3, hfar⟩
    have hsmI3 : MSm I I3 := hsmI2.trans ⟨fun b hb => hFI3 b (fun e => hb (by simp only [List.mem_cons, List.not_mem_nil, or_false] at e ⊢; omega)), fun k _ => by rw [hFI3 122 (by decide)]⟩
    have hthI3 : I3 122 0 = 0 := by rw [hFI3 122 (by decide)]; exact hthI2
    have hak : ∀ p, p < 10 → I3 137 p = nI (bP (Asked σ p)) := fun p hp => by rw [hFI3 137 (by decide)]; exact hWK.2.1 p hp
    have hw' : ∀ q, q < 80 → I3 134 q = nI (w q) ∧ w q < 65536 := fun q hq => by rw [hFI3 134 (by decide)]; exact hw q hq
    refine x_ldc (v := nI 100000) d5_way_35 (lw_g (lw_at lw_m6 87 rfl) rfl) ?_
    refine x_istore_n d5_way_37 ?_
    refine x_iconst (v := -1) d5_way_38 (by decide) ?_
    refine x_istore d5_way_39 ?_
    refine x_bipush (v := -2) d5_way_41 (by decide) ?_
    refine x_istore d5_way_43 ?_
    refine x_iconst (v := nI 0) d5_way_45 (by decide) ?_
    refine x_istore d5_way_46 ?_
    have hlay : ∀ o b c st p v7, GS σ s dr (12 * p) o → WyS σ s dr o b c st → b < 100000 → s_np σ ≤ p → RA G (d + 3) M5_way 231 [.ref 122, .int (nI s), .int (nI dr), .int (nI b), .int c, .int st, .int (nI p), v7] [] (t, I3, J, P, n, sl) (fun o h' => o = .inl (some (.int (qWay σ ρ (nI s) (nI dr)).1)) ∧ ∃ I' J', h' = (t, I', J', P, n, sl) ∧ MdS I' σ (qWay σ ρ (nI s) (nI dr)).2 ∧ MF I I' ∧ JF J J' ∧ I' 122 0 = 0) := by
      intro o b c st p v7 hG hW hb hp
      cases o with
      | none => have : b = 100000 := hW; omega
      | some l =>
      have hFst := GS.fst hσ hG (by omega)
      obtain ⟨hb, hcc, hst⟩ := hW
      have hbd := hFst.bd hσ
      have hp0 := hFst.1.1.1
      have hpl : plc σ l < 80 := by
        unfold plc
        have h1 := (hσ.row hFst.1.1.1 hFst.1.1.2.2).2.2.1
        rw [show 12 * (l / 12) + l % 12 = l by omega] at h1
        omega
      have hloop : ∀ i, i ≤ dF σ s dr (plc σ l) → ∀ I9, WyM σ s dr I3 I9 (i + 1) → ∀ v7, RA G (d + 3) M5_way 257 [.ref 122, .int (nI s), .int (nI dr), .int (nI b), .int c, .int (nI (wq σ s dr (plc σ l) i)), .int (nI p), v7] [] (t, I9, J, P, n, sl) (fun o h' => o = .inl (some (.int (qWay σ ρ (nI s) (nI dr)).1)) ∧ ∃ I' J', h' = (t, I', J', P, n, sl) ∧ MdS I' σ (qWay σ ρ (nI s) (nI dr)).2 ∧ MF I I' ∧ JF J J' ∧ I' 122 0 = 0) := by
        refine up_ind ?_
        intro i hi_ ih I9 hM9 v7
        have hdd := wq_d hσ (s := s) (d := dr) rfl hbd i hi_
        have hwl : wq σ s dr (plc σ l) i ≤ 90 := wq_le hσ (by omega) rfl hbd i hi_
        refine x_iload d5_way_257 rfl ?_
        refine x_bipush (v := nI 90) d5_way_259 (by decide) ?_
        refine x_icmp_eqN 287 d5_way_261 (by decide) (by omega) (by omega) (fun b261 => ?_) (fun b261 => ?_)
        · refine x_aload_n d5_way_287 rfl ?_
          refine x_iload_n d5_way_288 rfl ?_
          refine x_invV 122 1 d5_way_289 (hS.T rfl) v5_98_5 (m_done _ hS (v := nI b)) (Cont.e ?_) (hB := hB) (hS := hSl)
          have hin : i = dF σ s dr (plc σ l) := by rw [b261, dF_90] at hdd; omega
          have hwn : wyN σ s dr = dF σ s dr (plc σ l) := by unfold wyN; rw [wyL_eq hFst]
          rw [qWay_t e e2' ⟨l, hFst⟩]
          refine x_ireturn d5_way_292 ⟨by rw [hwn, hb], u2 (u2 I9 122 1 (nI 0)) 122 2 (-1), J, rfl, ?_, ?_, JF.rf J, ?_⟩
          · refine MdS.tr ?_ rfl (by decide)
            have := MdS.way (hsmI3.mds hD) hM9 (by omega)
            rw [hwn, ← hin]; exact this
          · exact (hsmI3.mf).trans ((show MF I3 I9 from fun b hb => hM9.1 b (fun e => by simp only [List.mem_cons, List.not_mem_nil, or_false] at e; omega)).trans (MF.tell rfl))
          · rw [u2_ne _ _ (by decide), u2_ne _ _ (by decide), hM9.2.1 0 (by decide)]; exact hthI3
        · refine x_aload_n d5_way_264 rfl ?_
          refine x_iload d5_way_265 rfl ?_
          refine x_iload_n d5_way_267 rfl ?_
          refine x_iload_n d5_way_268 rfl ?_
          have hdi : dF σ s dr (wq σ s dr (plc σ l) i) = (dF σ s dr (plc σ l) - i - 1) + 1 := by have := dF_pos hσ (s := s) (d := dr) (q := wq σ s dr (plc σ l) i) (by omega); omega
          obtain ⟨l2, hl2⟩ := Nx.ex hσ hdi (by omega)
          have hwq2 := ((hl2.q hσ).1.lt hσ hl2.1.1 hl2.1.2.2).2
          refine x_invV 122 3 d5_way_269 (hS.T rfl) v5_265_5 (m_follows _ hS hσ ((hsmI3.mp hM).same (hM9.2.1 4 (by decide)) (fun b hb => hM9.1 b (by rintro e; simp only [List.mem_cons, List.not_mem_nil, or_false] at e hb; omega))) (fun q hq => by rw [hM9.1 134 (by decide)]; exact hw' q hq) hWI (fun p hp => by rw [hM9.1 137 (by decide)]; exact hak p hp) hs hd (fun j hj => by rw [hM9.1 138 (by decide)]; exact hfar j hj) (q := wq σ s dr (plc σ l) i) (by omega) hdi (by omega) hM9.2.2.1 (by omega) hB hSl) (Cont.e ?_) (hB := hB) (hS := hSl)
          obtain ⟨I61, hI61⟩ : ∃ z, z = u2 I9 139 (i + 1) (nI (cdF (nxL σ s dr (wq σ s dr (plc σ l) i)))) := ⟨_, rfl⟩
          rw [← hI61]
          refine x_top (show Value.int (nI (nxQ σ s dr (wq σ s dr (plc σ l) i))) = Value.int (nI (wq σ s dr (plc σ l) (i + 1))) from rfl) ?_
          refine x_istore d5_way_272 ?_
          refine x_aload_n d5_way_274 rfl ?_
          refine x_dup d5_way_275 rfl ?_
          refine x_getI d5_way_276 f5_262 (hS.T rfl) ?_
          refine x_top (congrArg Value.int (show I61 122 30 = nI (i + 1) from (by rw [hI61, u2_row _ _ _ (by decide)]; exact hM9.2.2.1))) ?_
          refine x_iconst (v := nI 1) d5_way_279 (by decide) ?_
          refine x_iaddN d5_way_280 ?_
          refine x_putIE d5_way_281 p5_262 (hS.T rfl) (fun I62 hI62 => ?_)
          refine x_goto 257 d5_way_284 (by decide) ?_
          have hM8 : WyM σ s dr I3 I62 (i + 1 + 1) := by
            refine ⟨fun b hb => ?_, fun k hk => ?_, ?_, fun j hj => ?_⟩
            · rw [hI62, u2_row _ _ _ (fun e => hb (by rw [e]; decide)), hI61, u2_row _ _ _ (fun e => hb (by rw [e]; decide))]; exact hM9.1 b hb
            · rw [hI62, u2_ne _ _ hk, hI61, u2_row _ _ _ (by decide)]; exact hM9.2.1 k hk
            · rw [hI62, u2_self]
            · rw [hI62, u2_row _ _ _ (by decide), hI61, u2_at]
              by_cases ej : j = i + 1
              · rw [if_pos ej, ej]
                show _ = nI (cdF (nxL σ s dr (wq σ s dr (plc σ (wyL σ s dr)) i)))
                rw [wyL_eq hFst]
              · rw [if_neg ej]; exact hM9.2.2.2 j (by omega)
          exact ih (by have := dF_pos hσ (s := s) (d := dr) (q := wq σ s dr (plc σ l) i) (by omega); omega) I62 hM8 v7
      refine x_aload_n d5_way_231 rfl ?_
      refine x_iconst (v := nI 0) d5_way_232 (by decide) ?_
      refine x_putIE d5_way_233 p5_262 (hS.T rfl) (fun I41 hI41 => ?_)
      refine x_aload_n d5_way_236 rfl ?_
      refine x_getP d5_way_237 f5_68 (hS.T rfl) (hS.P rfl) ?_
      refine x_aload_n d5_way_240 rfl ?_
      refine x_getI d5_way_241 f5_262 (hS.T rfl) ?_
      refine x_top (congrArg Value.int (show I41 122 30 = nI 0 from (by rw [hI41, u2_self]))) ?_
      refine x_iload d5_way_244 rfl ?_
      refine x_iastN d5_way_246 (hS.T rfl) (by omega) (fun I42 hI42 => ?_)
      refine x_aload_n d5_way_247 rfl ?_
      refine x_dup d5_way_248 rfl ?_
      refine x_getI d5_way_249 f5_262 (hS.T rfl) ?_
      refine x_top (congrArg Value.int (show I42 122 30 = nI 0 from (by rw [hI42, u2_row _ _ _ (by decide), hI41, u2_self]))) ?_
      refine x_iconst (v := nI 1) d5_way_252 (by decide) ?_
      refine x_iaddN d5_way_253 ?_
      refine x_putIE d5_way_254 p5_262 (hS.T rfl) (fun I43 hI43 => ?_)
      have hM1 : WyM σ s dr I3 I43 1 := by
        refine ⟨fun b hb => ?_, fun k hk => ?_, ?_, fun j hj => ?_⟩
        · rw [hI43, u2_row _ _ _ (fun e => hb (by rw [e]; decide)), hI42, u2_row _ _ _ (fun e => hb (by rw [e]; decide)), hI41, u2_row _ _ _ (fun e => hb (by rw [e]; decide))]
        · rw [hI43, u2_ne _ _ hk, hI42, u2_row _ _ _ (by decide), hI41, u2_ne _ _ hk]
        · rw [hI43, u2_self]
        · have hj0 : j = 0 := by omega
          subst hj0
          rw [hI43, u2_row _ _ _ (by decide), hI42, u2_self, hcc]
          show nI (cdF l) = nI (cdF (wyL σ s dr))
          rw [wyL_eq hFst]
      rw [hst]
      exact hloop 0 (Nat.zero_le _) I43 hM1 v7
    have hkk : ∀ p, p < s_np σ → (p < s_np σ → ∀ o b c st, GS σ s dr (12 * (p + 1)) o → WyS σ s dr o b c st → ∀ v7, RA G (d + 3) M5_way 48 [.ref 122, .int (nI s), .int (nI dr), .int (nI b), .int c, .int st, .int (nI (p + 1)), v7] [] (t, I3, J, P, n, sl) (fun o h' => o = .inl (some (.int (qWay σ ρ (nI s) (nI dr)).1)) ∧ ∃ I' J', h' = (t, I', J', P, n, sl) ∧ MdS I' σ (qWay σ ρ (nI s) (nI dr)).2 ∧ MF I I' ∧ JF J J' ∧ I' 122 0 = 0)) → ∀ k, k ≤ s_ln σ p → ∀ o b c st, GS σ s dr (12 * p + k) o → WyS σ s dr o b c st → RA G (d + 3) M5_way 64 [.ref 122, .int (nI s), .int (nI dr), .int (nI b), .int c, .int st, .int (nI p), .int (nI (12 * p + k))] [] (t, I3, J, P, n, sl) (fun o h' => o = .inl (some (.int (qWay σ ρ (nI s) (nI dr)).1)) ∧ ∃ I' J', h' = (t, I', J', P, n, sl) ∧ MdS I' σ (qWay σ ρ (nI s) (nI dr)).2 ∧ MF I I' ∧ JF J J' ∧ I' 122 0 = 0) := by
      intro p hp ihp
      have hln := hσ.ln hp
      refine up_ind ?_
      intro k hk_ ih o b c st hG hW
      have hb5 := hW.le hσ
      refine x_iload d5_way_64 rfl ?_
      refine x_bipush (v := nI 12) d5_way_66 (by decide) ?_
      refine x_iload d5_way_68 rfl ?_
      refine x_imulN d5_way_70 ?_
      refine x_aload_n d5_way_71 rfl ?_
      refine x_getP d5_way_72 f5_17 (hS.T rfl) (hS.P rfl) ?_
      refine x_iload d5_way_75 rfl ?_
      refine x_ialdN d5_way_77 (hS.T rfl) (by omega) ?_
      refine x_top (congrArg Value.int (show I3 124 p = nI (s_ln σ p) from ((hsmI3.mp hM).ln hp))) ?_
      have hln_ := hσ.ln hp
      refine x_iaddN d5_way_78 ?_
      refine x_icmp_geN 212 d5_way_79 (by decide) (by omega) (by omega) (fun b79 => ?_) (fun b79 => ?_)
      · refine x_iincN (c := 1) d5_way_212 rfl (by decide) ?_
        refine x_goto 48 d5_way_215 (by decide) ?_
        exact ihp hp o b c st (hG.jump (by omega) (fun l' h1 h2 g => by have h3 : l' / 12 = p := (by omega); have h4 := g.1.2.2; rw [h3] at h4; omega)) hW _
      · have b79k : k < s_ln σ p := by omega
        have e1 : (12 * p + k) / 12 = p := by omega
        have e2 : (12 * p + k) % 12 = k := by omega
        refine x_aload_n d5_way_82 rfl ?_
        refine x_getP d5_way_83 f5_61 (hS.T rfl) (hS.P rfl) ?_
        refine x_iload d5_way_86 rfl ?_
        refine x_zaldN d5_way_88 (hS.T rfl) (by omega) ?_
        refine x_top (congrArg Value.int (show I3 137 p = nI (bP (Asked σ p)) from (hak _ (by omega)))) ?_
        have hbp_ := bP_lt (Asked σ p)
        refine x_if_eqN 212 d5_way_89 (by decide) (by omega) (fun b89 => ?_) (fun b89 => ?_)
        · refine x_iincN (c := 1) d5_way_212 rfl (by decide) ?_
          refine x_goto 48 d5_way_215 (by decide) ?_
          exact ihp hp o b c st (hG.jump (by omega) (fun l' h1 h2 g => by have h3 : l' / 12 = p := (by omega); have h4 := g.1.2.1; rw [h3] at h4; rw [bP_t h4] at b89; cases b89)) hW _
        · have hA : Asked σ p := Classical.byContradiction (fun z => b89 (bP_f z))
          have hRw : Rw σ (12 * p + k) := ⟨by rw [e1]; exact hp, by rw [e1]; exact hA, by rw [e1, e2]; exact b79k⟩
          have hgr0 := hσ.gr hp
          have hpl : plc σ (12 * p + k) = 8 * p + s_fs σ (12 * p + k) := by unfold plc; rw [e1]
          have hfs0 := (hσ.row hp b79k).2.2.1
          refine x_aload_n d5_way_92 rfl ?_
          refine x_getP d5_way_93 f5_23 (hS.T rfl) (hS.P rfl) ?_
          refine x_iload d5_way_96 rfl ?_
          refine x_ialdN d5_way_98 (hS.T rfl) (by omega) ?_
          refine x_top (congrArg Value.int (show I3 126 (12 * p + k) = nI (s_kk σ (12 * p + k)) from ((hsmI3.mp hM).kk hp b79k))) ?_
          have hkk_ := (hσ.row hp b79k).1
          refine x_if_neN 206 d5_way_99 (by decide) (by omega) (fun b99 => ?_) (fun b99 => ?_)
          · refine x_iincN (c := 1) d5_way_206 rfl (by decide) ?_
            refine x_goto 64 d5_way_209 (by decide) ?_
            exact ih b79k o b c st (hG.skip (fun g => b99 g.2.1)) hW
          · refine x_aload_n d5_way_102 rfl ?_
            refine x_getP d5_way_103 f5_26 (hS.T rfl) (hS.P rfl) ?_
            refine x_iload d5_way_106 rfl ?_
            refine x_ialdN d5_way_108 (hS.T rfl) (by omega) ?_
            refine x_top (congrArg Value.int (show I3 127 (12 * p + k) = nI (s_nu σ (12 * p + k)) from ((hsmI3.mp hM).nu hp b79k))) ?_
            have hnu_ := (hσ.row hp b79k).2.1
            refine x_iload_n d5_way_109 rfl ?_
            refine x_icmp_neN 206 d5_way_110 (by decide) (by omega) (by omega) (fun b110 => ?_) (fun b110 => ?_)
            · refine x_iincN (c := 1) d5_way_206 rfl (by decide) ?_
              refine x_goto 64 d5_way_209 (by decide) ?_
              exact ih b79k o b c st (hG.skip (fun g => b110 g.2.2.1)) hW
            · refine x_aload_n d5_way_113 rfl ?_
              refine x_getP d5_way_114 f5_13 (hS.T rfl) (hS.P rfl) ?_
              refine x_iload d5_way_117 rfl ?_
              refine x_ialdN d5_way_119 (hS.T rfl) (by omega) ?_
              refine x_top (congrArg Value.int (show I3 123 p = nI (s_gr σ p) from ((hsmI3.mp hM).gr hp))) ?_
              refine x_iload_n d5_way_120 rfl ?_
              refine x_ishrN d5_way_121 (by omega) (by omega) ?_
              refine x_iconst (v := nI 1) d5_way_122 (by decide) ?_
              refine x_tbN d5_way_123 ?_
              have htb_ := tb_lt (s_gr σ p) s
              refine x_if_eqN 206 d5_way_124 (by decide) (by omega) (fun b124 => ?_) (fun b124 => ?_)
              · refine x_iincN (c := 1) d5_way_206 rfl (by decide) ?_
                refine x_goto 64 d5_way_209 (by decide) ?_
                exact ih b79k o b c st (hG.skip (fun g => by have := g.2.2.2; rw [e1, tb0.mp b124] at this; cases this)) hW
              · refine x_aload_n d5_way_127 rfl ?_
                refine x_getP d5_way_128 f5_65 (hS.T rfl) (hS.P rfl) ?_
                refine x_bipush (v := nI 8) d5_way_131 (by decide) ?_
                refine x_iload d5_way_133 rfl ?_
                refine x_imulN d5_way_135 ?_
                refine x_aload_n d5_way_136 rfl ?_
                refine x_getP d5_way_137 f5_29 (hS.T rfl) (hS.P rfl) ?_
                refine x_iload d5_way_140 rfl ?_
                refine x_ialdN d5_way_142 (hS.T rfl) (by omega) ?_
                refine x_top (congrArg Value.int (show I3 128 (12 * p + k) = nI (s_fs σ (12 * p + k)) from ((hsmI3.mp hM).fs hp b79k))) ?_
                have hfs_ := (hσ.row hp b79k).2.2.1
                refine x_iaddN d5_way_143 ?_
                refine x_ialdN d5_way_144 (hS.T rfl) (by omega) ?_
                refine x_top (congrArg Value.int (show I3 138 ((8 * p) + (s_fs σ (12 * p + k))) = nI (dF σ s dr ((8 * p) + (s_fs σ (12 * p + k)))) from (hfar _ (by omega)))) ?_
                have hdl_ := dF_le5 hσ s dr ((8 * p) + (s_fs σ (12 * p + k)))
                refine x_iconst (v := nI 1) d5_way_145 (by decide) ?_
                refine x_iaddN d5_way_146 ?_
                refine x_iload_n d5_way_147 rfl ?_
                refine x_icmp_ltN 154 d5_way_148 (by decide) (by omega) (by omega) (fun b148 => ?_) (fun b148 => ?_)
                · refine x_aload_n d5_way_154 rfl ?_
                  refine x_getP d5_way_155 f5_65 (hS.T rfl) (hS.P rfl) ?_
                  refine x_bipush (v := nI 8) d5_way_158 (by decide) ?_
                  refine x_iload d5_way_160 rfl ?_
                  refine x_imulN d5_way_162 ?_
                  refine x_aload_n d5_way_163 rfl ?_
                  refine x_getP d5_way_164 f5_29 (hS.T rfl) (hS.P rfl) ?_
                  refine x_iload d5_way_167 rfl ?_
                  refine x_ialdN d5_way_169 (hS.T rfl) (by omega) ?_
                  refine x_top (congrArg Value.int (show I3 128 (12 * p + k) = nI (s_fs σ (12 * p + k)) from ((hsmI3.mp hM).fs hp b79k))) ?_
                  have hfs_ := (hσ.row hp b79k).2.2.1
                  refine x_iaddN d5_way_170 ?_
                  refine x_ialdN d5_way_171 (hS.T rfl) (by omega) ?_
                  refine x_top (congrArg Value.int (show I3 138 ((8 * p) + (s_fs σ (12 * p + k))) = nI (dF σ s dr ((8 * p) + (s_fs σ (12 * p + k)))) from (hfar _ (by omega)))) ?_
                  have hdl_ := dF_le5 hσ s dr ((8 * p) + (s_fs σ (12 * p + k)))
                  refine x_iconst (v := nI 1) d5_way_172 (by decide) ?_
                  refine x_iaddN d5_way_173 ?_
                  refine x_istore_n d5_way_174 ?_
                  refine x_bipush (v := nI 100) d5_way_175 (by decide) ?_
                  refine x_iload d5_way_177 rfl ?_
                  refine x_imulN d5_way_179 ?_
                  refine x_iload d5_way_180 rfl ?_
                  refine x_iaddN d5_way_182 ?_
                  refine x_bipush (v := nI 12) d5_way_183 (by decide) ?_
                  refine x_iload d5_way_185 rfl ?_
                  refine x_imulN d5_way_187 ?_
                  refine x_isubN d5_way_188 (by omega) ?_
                  refine x_istore d5_way_189 ?_
                  refine x_bipush (v := nI 8) d5_way_191 (by decide) ?_
                  refine x_iload d5_way_193 rfl ?_
                  refine x_imulN d5_way_195 ?_
                  refine x_aload_n d5_way_196 rfl ?_
                  refine x_getP d5_way_197 f5_29 (hS.T rfl) (hS.P rfl) ?_
                  refine x_iload d5_way_200 rfl ?_
                  refine x_ialdN d5_way_202 (hS.T rfl) (by omega) ?_
                  refine x_top (congrArg Value.int (show I3 128 (12 * p + k) = nI (s_fs σ (12 * p + k)) from ((hsmI3.mp hM).fs hp b79k))) ?_
                  have hfs_ := (hσ.row hp b79k).2.2.1
                  refine x_iaddN d5_way_203 ?_
                  refine x_istore d5_way_204 ?_
                  refine x_iincN (c := 1) d5_way_206 rfl (by decide) ?_
                  refine x_goto 64 d5_way_209 (by decide) ?_
                  obtain ⟨x, hx1, hx2⟩ := hW.x
                  exact ih b79k (some (12 * p + k)) _ _ _ (hG.better hx1 ⟨hRw, b99, b110, by rw [e1]; exact tb_ne0.mp b124⟩ (by rw [hpl]; rcases dF_cases hσ s dr (8 * p + s_fs σ (12 * p + k)) with ⟨z, -⟩ | ⟨z, -⟩ <;> omega) (hx1.le hσ)) ⟨by rw [hpl], by rw [show 100 * p + (12 * p + k) - 12 * p = cdF (12 * p + k) by unfold cdF; omega], by rw [hpl]⟩
                · refine x_goto 206 d5_way_151 (by decide) ?_
                  refine x_iincN (c := 1) d5_way_206 rfl (by decide) ?_
                  refine x_goto 64 d5_way_209 (by decide) ?_
                  obtain ⟨x, hx1, hx2⟩ := hW.x
                  exact ih b79k o b c st (hG.worse hx1 (by rw [hpl]; rcases dF_cases hσ s dr (8 * p + s_fs σ (12 * p + k)) with ⟨z, -⟩ | ⟨z, -⟩ <;> omega) (dF_le5 hσ s dr _)) hW
    have hpp : ∀ p, p ≤ s_np σ → ∀ o b c st, GS σ s dr (12 * (p)) o → WyS σ s dr o b c st → ∀ v7, RA G (d + 3) M5_way 48 [.ref 122, .int (nI s), .int (nI dr), .int (nI b), .int c, .int st, .int (nI p), v7] [] (t, I3, J, P, n, sl) (fun o h' => o = .inl (some (.int (qWay σ ρ (nI s) (nI dr)).1)) ∧ ∃ I' J', h' = (t, I', J', P, n, sl) ∧ MdS I' σ (qWay σ ρ (nI s) (nI dr)).2 ∧ MF I I' ∧ JF J J' ∧ I' 122 0 = 0) := by
      refine up_ind ?_
      intro p hp_ ih o b c st hG hW v7
      have hb5 := hW.le hσ
      refine x_iload d5_way_48 rfl ?_
      refine x_aload_n d5_way_50 rfl ?_
      refine x_getI d5_way_51 f5_86 (hS.T rfl) ?_
      refine x_top (congrArg Value.int (show I3 122 4 = nI (s_np σ) from (hsmI3.mp hM).np)) ?_
      refine x_icmp_geN 218 d5_way_54 (by decide) (by omega) (by omega) (fun b54 => ?_) (fun b54 => ?_)
      · refine x_iload_n d5_way_218 rfl ?_
        refine x_ldc (v := nI 100000) d5_way_219 (lw_g (lw_at lw_m6 87 rfl) rfl) ?_
        refine x_icmp_ltN 231 d5_way_221 (by decide) (by omega) (by omega) (fun b221 => ?_) (fun b221 => ?_)
        · exact hlay o b c st p v7 hG hW b221 (by omega)
        · refine x_aload_n d5_way_224 rfl ?_
          refine x_bipush (v := -2) d5_way_225 (by decide) ?_
          refine x_invV 122 1 d5_way_227 (hS.T rfl) v5_98_5 (m_done _ hS (v := (-2))) (Cont.e ?_) (hB := hB) (hS := hSl)
          obtain ⟨I21, hI21⟩ : ∃ z, z = u2 (u2 I3 122 1 (nI 0)) 122 2 (-1) := ⟨_, rfl⟩
          rw [← hI21]
          have hthI21 : I21 122 0 = 0 := by rw [hI21, u2_ne _ _ (by decide), u2_ne _ _ (by decide)]; exact hthI3
          refine x_ireturn d5_way_230 ?_
          have hno : ¬ ∃ l, Fst σ s dr l := by
            cases o with
            | none => exact hG.no hσ (by omega)
            | some l => exfalso; have h1 := (GS.fst hσ hG (by omega)).bd hσ; have h2 := hW.1; omega
          rw [qWay_f e e2' hno]
          exact ⟨rfl, I21, J, rfl, (hsmI3.mds hD).tr hI21 (by decide), (hsmI3.mf).trans (MF.tell hI21), JF.rf J, hthI21⟩
      · refine x_bipush (v := nI 12) d5_way_57 (by decide) ?_
        refine x_iload d5_way_59 rfl ?_
        refine x_imulN d5_way_61 ?_
        refine x_istore d5_way_62 ?_
        exact hkk p b54 ih 0 (Nat.zero_le _) o b c st hG hW
    exact hpp 0 (Nat.zero_le _) none 100000 (-1) (-2) (fun l' h => absurd h (Nat.not_lt_zero _)) rfl _
