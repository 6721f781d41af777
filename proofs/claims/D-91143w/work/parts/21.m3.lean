/-! the reference: asks -/
set_option maxRecDepth 100000
def AI (σ : Sg) (a : Nat → Nat) : Prop := (∀ j, j < 10 → a j ≤ 1) ∧ (∀ j, j < 10 → a j = 1 → Asked σ j) ∧ (0 < s_np σ → a 0 = 1)
def mu10 (a : Nat → Nat) : Nat := sumN 10 (fun j => 1 - a j)
def AcK (σ : Sg) (a : Nat → Nat) (p k : Nat) : Prop := a p = 1 → s_kk σ (12 * p + k) = 2 → a (s_nu σ (12 * p + k)) = 1
def AL2 (σ : Sg) (a0 a : Nat → Nat) (m p k : Nat) : Prop := m ≤ 1 ∧ AI σ a ∧ (m = 0 → (∀ j, j < 10 → a j = a0 j) ∧ (∀ p', p' < p → ∀ k, k < s_ln σ p' → AcK σ a p' k) ∧ ∀ k', k' < k → AcK σ a p k') ∧ (m = 1 → mu10 a < mu10 a0)
def upN (a : Nat → Nat) (k v : Nat) : Nat → Nat := fun j => if j = k then v else a j
theorem AL2.skip {σ : Sg} {a0 a : Nat → Nat} {m p k : Nat} (h : AL2 σ a0 a m p k) (hk : AcK σ a p k) : AL2 σ a0 a m p (k + 1) :=
  ⟨h.1, h.2.1, fun hm => ⟨(h.2.2.1 hm).1, (h.2.2.1 hm).2.1, fun k' hk' => by
    by_cases e : k' = k
    · subst e; exact hk
    · exact (h.2.2.1 hm).2.2 k' (by omega)⟩, h.2.2.2⟩
theorem AL2.next {σ : Sg} {a0 a : Nat → Nat} {m p : Nat} (h : AL2 σ a0 a m p (s_ln σ p)) : AL2 σ a0 a m (p + 1) 0 :=
  ⟨h.1, h.2.1, fun hm => ⟨(h.2.2.1 hm).1, fun p' hp' k hk => by
    by_cases e : p' = p
    · subst e; exact (h.2.2.1 hm).2.2 k hk
    · exact (h.2.2.1 hm).2.1 p' (by omega) k hk, fun k' hk' => absurd hk' (Nat.not_lt_zero _)⟩, h.2.2.2⟩
theorem AL2.out {σ : Sg} {a0 a : Nat → Nat} {m p k : Nat} (h : AL2 σ a0 a m p k) (hp : a p = 0) : AL2 σ a0 a m (p + 1) 0 :=
  ⟨h.1, h.2.1, fun hm => ⟨(h.2.2.1 hm).1, fun p' hp' k hk => by
    by_cases e : p' = p
    · subst e; intro h1; omega
    · exact (h.2.2.1 hm).2.1 p' (by omega) k hk, fun k' hk' => absurd hk' (Nat.not_lt_zero _)⟩, h.2.2.2⟩
theorem sumN_lt {n : Nat} {f g : Nat → Nat} (h : ∀ i, i < n → f i ≤ g i) {j : Nat} (hj : j < n) (hlt : f j < g j) : sumN n f < sumN n g := by
  induction n with
  | zero => omega
  | succ n ih =>
    rw [sumN, sumN]
    have h1 : sumN n f ≤ sumN n g := by
      clear ih hlt hj
      induction n with
      | zero => exact Nat.le_refl _
      | succ n ih => rw [sumN, sumN]; have := ih (fun i hi => h i (by omega)); have := h n (by omega); omega
    by_cases e : j = n
    · subst e; omega
    · have := ih (fun i hi => h i (by omega)) (by omega)
      have := h n (by omega)
      omega
theorem AL2.set {σ : Sg} {a0 a : Nat → Nat} {m p k : Nat} (hσ : SgOK σ) (h : AL2 σ a0 a m p k) (hp : p < s_np σ) (hk : k < s_ln σ p) (h1 : a p = 1) (h2 : s_kk σ (12 * p + k) = 2) (h0 : a (s_nu σ (12 * p + k)) = 0) : AL2 σ a0 (upN a (s_nu σ (12 * p + k)) 1) 1 p (k + 1) := by
  have hnp := hσ.1
  have hnu := ((hσ.row hp hk).2.2.2.2.1 h2).1
  refine ⟨Nat.le_refl _, ⟨fun j hj => ?_, fun j hj hj1 => ?_, fun h3 => ?_⟩, fun hm => absurd hm (by decide), fun _ => ?_⟩
  · unfold upN; split
    · exact Nat.le_refl _
    · exact h.2.1.1 j hj
  · unfold upN at hj1
    split at hj1
    next e => rw [e]; exact (h.2.1.2.1 p (by omega) h1).step hp hk h2
    next => exact h.2.1.2.1 j hj hj1
  · unfold upN; split
    · rfl
    · exact h.2.1.2.2 h3
  · have hlt : mu10 (upN a (s_nu σ (12 * p + k)) 1) < mu10 a := by
      refine sumN_lt (fun i hi => ?_) (j := s_nu σ (12 * p + k)) (by omega) ?_
      · unfold upN; split <;> omega
      · simp [upN, h0]
    rcases (by have := h.1; omega : m = 0 ∨ m = 1) with e | e
    · have e2 : mu10 a = mu10 a0 := sumN_congr (fun i hi => by rw [(h.2.2.1 e).1 i hi])
      omega
    · have := h.2.2.2 e; omega
theorem AL2.fin {σ : Sg} {a0 a : Nat → Nat} (hσ : SgOK σ) (h : AL2 σ a0 a 0 (s_np σ) 0) {j : Nat} (hj : j < 10) : a j = bP (Asked σ j) := by
  have h3 := h.2.2.1 rfl
  by_cases hA : Asked σ j
  · rw [bP_t hA]
    refine (hA (fun q => a q = 1) h.2.1.2.2 (fun p hp h1 k hk h2 => h3.2.1 p hp k hk h1 h2))
  · rw [bP_f hA]
    have h1 := h.2.1.1 j hj
    rcases (by omega : a j = 0 ∨ a j = 1) with e | e
    · exact e
    · exact absurd (h.2.1.2.1 j hj e) hA
theorem row_set {I I' : Nat → Nat → Int32} {a : Nat → Nat} {r e v n : Nat} {x : Int32} (h : ∀ j, j < n → I r j = nI (a j)) (hI : I' = u2 I r e x) (hx : x = nI v) : ∀ j, j < n → I' r j = nI (upN a e v j) := by
  intro j hj
  rw [hI, u2_at]
  unfold upN
  split
  · exact hx
  · exact h j hj
theorem ask_init {I I' : Nat → Nat → Int32} {f : Nat → Int32} {p : Nat} {x : Int32} (hr : ∀ j, j < p → I 137 j = f j) (hI : I' = u2 I 137 p x) (hx : x = f p) : ∀ j, j < p + 1 → I' 137 j = f j := by
  intro j hj
  rw [hI, u2_at]
  split
  · next e => rw [e]; exact hx
  · exact hr j (by omega)
theorem AI_0 (σ : Sg) : AI σ (fun j => if j = 0 ∧ 0 < s_np σ then 1 else 0) := by
  refine ⟨fun j hj => ?_, fun j hj h1 => ?_, fun h => if_pos ⟨rfl, h⟩⟩
  · show (if j = 0 ∧ 0 < s_np σ then 1 else 0) ≤ 1
    split <;> decide
  · have h1 : (if j = 0 ∧ 0 < s_np σ then 1 else 0) = 1 := h1
    split at h1
    next e => rw [e.1]; exact Asked.zero e.2
    next => cases h1
set_option maxHeartbeats 4000000 in
theorem m_asks {G : GG} (d : Nat) {t : Nat → Option (Nat × Nat)} {J : Nat → Nat → Int64} {P : Nat → Nat → Value} {n sl : Nat} {I0 : Nat → Nat → Int32} {σ : Sg} (hS : SH t P) (hσ : SgOK σ) (hM : MP I0 σ) : CA G d M5_asks [.ref 122] (t, I0, J, P, n, sl) (fun o h' => o = .inl none ∧ ∃ I', h' = (t, I', J, P, n, sl) ∧ (∀ b, b ∉ [137] → I' b = I0 b) ∧ ∀ p, p < 10 → I' 137 p = nI (bP (Asked σ p))) := by
  refine CA.w ?_
  show RA _ _ M5_asks 0 [.ref 122, U0, U0, U0] [] _ _
  have hnp := hσ.1
  have hp0 : ∀ a0 : Nat → Nat, (∀ z, mu10 z < mu10 a0 → ∀ I, (∀ b, b ∉ [137] → I b = I0 b) → (∀ j, j < 10 → I 137 j = nI (z j)) → AI σ z → ∀ v2 v3, RA G d M5_asks 38 [.ref 122, .int (nI 1), v2, v3] [] (t, I, J, P, n, sl) (fun o h' => o = .inl none ∧ ∃ I', h' = (t, I', J, P, n, sl) ∧ (∀ b, b ∉ [137] → I' b = I0 b) ∧ ∀ p, p < 10 → I' 137 p = nI (bP (Asked σ p)))) →
      ∀ p, p ≤ s_np σ → ∀ a I m, (∀ b, b ∉ [137] → I b = I0 b) → (∀ j, j < 10 → I 137 j = nI (a j)) → AL2 σ a0 a m p 0 → ∀ v3, RA G d M5_asks 46 [.ref 122, .int (nI m), .int (nI p), v3] [] (t, I, J, P, n, sl) (fun o h' => o = .inl none ∧ ∃ I', h' = (t, I', J, P, n, sl) ∧ (∀ b, b ∉ [137] → I' b = I0 b) ∧ ∀ p, p < 10 → I' 137 p = nI (bP (Asked σ p))) := by
    intro a0 hnext
    refine up_ind ?_
    intro p hple ih a I m hF hr hL v3
    have hlp : ∀ p, p < s_np σ → (p < s_np σ → ∀ a I m, (∀ b, b ∉ [137] → I b = I0 b) → (∀ j, j < 10 → I 137 j = nI (a j)) → AL2 σ a0 a m (p + 1) 0 → ∀ v3, RA G d M5_asks 46 [.ref 122, .int (nI m), .int (nI (p + 1)), v3] [] (t, I, J, P, n, sl) (fun o h' => o = .inl none ∧ ∃ I', h' = (t, I', J, P, n, sl) ∧ (∀ b, b ∉ [137] → I' b = I0 b) ∧ ∀ p, p < 10 → I' 137 p = nI (bP (Asked σ p)))) →
        ∀ k, k ≤ s_ln σ p → ∀ a I m, (∀ b, b ∉ [137] → I b = I0 b) → (∀ j, j < 10 → I 137 j = nI (a j)) → AL2 σ a0 a m p k → RA G d M5_asks 59 [.ref 122, .int (nI m), .int (nI p), .int (nI (12 * p + k))] [] (t, I, J, P, n, sl) (fun o h' => o = .inl none ∧ ∃ I', h' = (t, I', J, P, n, sl) ∧ (∀ b, b ∉ [137] → I' b = I0 b) ∧ ∀ p, p < 10 → I' 137 p = nI (bP (Asked σ p))) := by
      clear ih hL hr hF
      intro p hp ihp
      have hln := hσ.ln hp
      refine up_ind ?_
      intro k hk ih a I m hF hr hL
      have hm1 := hL.1
      refine x_iload_n d5_asks_59 rfl ?_
      refine x_bipush (v := nI 12) d5_asks_60 (by decide) ?_
      refine x_iload_n d5_asks_62 rfl ?_
      refine x_imulN d5_asks_63 ?_
      refine x_aload_n d5_asks_64 rfl ?_
      refine x_getP d5_asks_65 f5_17 (hS.T rfl) (hS.P rfl) ?_
      refine x_iload_n d5_asks_68 rfl ?_
      refine x_ialdN d5_asks_69 (hS.T rfl) (by omega) ?_
      refine x_top (congrArg Value.int ((congrFun (hF 124 (by decide)) _).trans (hM.ln hp))) ?_
      have hln_ := hσ.ln hp
      refine x_iaddN d5_asks_70 ?_
      refine x_icmp_geN 130 d5_asks_71 (by decide) (by omega) (by omega) (fun b71 => ?_) (fun b71 => ?_)
      · refine x_iincN (c := 1) d5_asks_130 rfl (by decide) ?_
        refine x_goto 46 d5_asks_133 (by decide) ?_
        exact ihp hp a I m hF hr (by have e : k = s_ln σ p := (by omega); subst e; exact hL.next) _
      · have b71k : k < s_ln σ p := by omega
        have hrow := hσ.row hp b71k
        refine x_aload_n d5_asks_74 rfl ?_
        refine x_getP d5_asks_75 f5_61 (hS.T rfl) (hS.P rfl) ?_
        refine x_iload_n d5_asks_78 rfl ?_
        refine x_zaldN d5_asks_79 (hS.T rfl) (by omega) ?_
        refine x_top (congrArg Value.int (hr _ (by omega))) ?_
        have ha_ := hL.2.1.1 p (by omega)
        refine x_if_eqN 130 d5_asks_80 (by decide) (by omega) (fun b80 => ?_) (fun b80 => ?_)
        · refine x_iincN (c := 1) d5_asks_130 rfl (by decide) ?_
          refine x_goto 46 d5_asks_133 (by decide) ?_
          exact ihp hp a I m hF hr (hL.out b80) _
        · refine x_aload_n d5_asks_83 rfl ?_
          refine x_getP d5_asks_84 f5_23 (hS.T rfl) (hS.P rfl) ?_
          refine x_iload_n d5_asks_87 rfl ?_
          refine x_ialdN d5_asks_88 (hS.T rfl) (by omega) ?_
          refine x_top (congrArg Value.int ((congrFun (hF 126 (by decide)) _).trans (hM.kk hp b71k))) ?_
          have hkk_ := (hσ.row hp b71k).1
          refine x_iconst (v := nI 2) d5_asks_89 (by decide) ?_
          refine x_icmp_neN 124 d5_asks_90 (by decide) (by omega) (by omega) (fun b90 => ?_) (fun b90 => ?_)
          · refine x_iincN (c := 1) d5_asks_124 rfl (by decide) ?_
            refine x_goto 59 d5_asks_127 (by decide) ?_
            exact ih b71k a I m hF hr (hL.skip (fun _ h2 => absurd h2 b90))
          · have hnu := (hrow.2.2.2.2.1 b90).1
            refine x_aload_n d5_asks_93 rfl ?_
            refine x_getP d5_asks_94 f5_61 (hS.T rfl) (hS.P rfl) ?_
            refine x_aload_n d5_asks_97 rfl ?_
            refine x_getP d5_asks_98 f5_26 (hS.T rfl) (hS.P rfl) ?_
            refine x_iload_n d5_asks_101 rfl ?_
            refine x_ialdN d5_asks_102 (hS.T rfl) (by omega) ?_
            refine x_top (congrArg Value.int ((congrFun (hF 127 (by decide)) _).trans (hM.nu hp b71k))) ?_
            have hnu_ := (hσ.row hp b71k).2.1
            refine x_zaldN d5_asks_103 (hS.T rfl) (by omega) ?_
            refine x_top (congrArg Value.int (hr _ (by omega))) ?_
            have ha_ := hL.2.1.1 (s_nu σ (12 * p + k)) (by omega)
            refine x_if_eqN 110 d5_asks_104 (by decide) (by omega) (fun b104 => ?_) (fun b104 => ?_)
            · refine x_aload_n d5_asks_110 rfl ?_
              refine x_getP d5_asks_111 f5_61 (hS.T rfl) (hS.P rfl) ?_
              refine x_aload_n d5_asks_114 rfl ?_
              refine x_getP d5_asks_115 f5_26 (hS.T rfl) (hS.P rfl) ?_
              refine x_iload_n d5_asks_118 rfl ?_
              refine x_ialdN d5_asks_119 (hS.T rfl) (by omega) ?_
              refine x_top (congrArg Value.int ((congrFun (hF 127 (by decide)) _).trans (hM.nu hp b71k))) ?_
              have hnu_ := (hσ.row hp b71k).2.1
              refine x_iconst (v := nI 1) d5_asks_120 (by decide) ?_
              refine x_zastN d5_asks_121 (hS.T rfl) (by omega) (fun I1 hI1 => ?_)
              have hFI1 : ∀ b, b ∉ [137] → I1 b = I0 b := fun b hb => by rw [hI1, u2_row _ _ _ (fun e => hb (by rw [e]; decide))]; exact hF b hb
              refine x_iconst (v := nI 1) d5_asks_122 (by decide) ?_
              refine x_istore_n d5_asks_123 ?_
              refine x_iincN (c := 1) d5_asks_124 rfl (by decide) ?_
              refine x_goto 59 d5_asks_127 (by decide) ?_
              exact ih b71k _ I1 1 hFI1 (row_set hr hI1 (by decide)) (hL.set hσ hp b71k (by have := hL.2.1.1 p (by omega); omega) b90 b104)
            · refine x_goto 124 d5_asks_107 (by decide) ?_
              refine x_iincN (c := 1) d5_asks_124 rfl (by decide) ?_
              refine x_goto 59 d5_asks_127 (by decide) ?_
              exact ih b71k a I m hF hr (hL.skip (fun _ _ => by have := hL.2.1.1 _ (show s_nu σ (12 * p + k) < 10 by omega); omega))
    have hm1 := hL.1
    refine x_iload_n d5_asks_46 rfl ?_
    refine x_aload_n d5_asks_47 rfl ?_
    refine x_getI d5_asks_48 f5_86 (hS.T rfl) ?_
    refine x_top (congrArg Value.int ((congrFun (hF 122 (by decide)) _).trans hM.np)) ?_
    refine x_icmp_geN 136 d5_asks_51 (by decide) (by omega) (by omega) (fun b51 => ?_) (fun b51 => ?_)
    · refine x_goto 38 d5_asks_136 (by decide) ?_
      have hpe : p = s_np σ := by omega
      subst hpe
      rcases (by have := hL.1; omega : m = 0 ∨ m = 1) with rfl | rfl
      · refine x_iload_n d5_asks_38 rfl ?_
        refine x_if_eqN 139 d5_asks_39 (by decide) (by decide) (fun _ => ?_) (fun h => absurd rfl h)
        exact x_return d5_asks_139 ⟨rfl, I, rfl, hF, fun q hq => by rw [hr q hq, hL.fin hσ hq]⟩
      · exact hnext a (hL.2.2.2 rfl) I hF hr hL.2.1 _ _
    · refine x_bipush (v := nI 12) d5_asks_54 (by decide) ?_
      refine x_iload_n d5_asks_56 rfl ?_
      refine x_imulN d5_asks_57 ?_
      refine x_istore_n d5_asks_58 ?_
      exact hlp p b51 ih 0 (Nat.zero_le _) a I m hF hr hL
  have hw : ∀ (a : Nat → Nat) I, (∀ b, b ∉ [137] → I b = I0 b) → (∀ j, j < 10 → I 137 j = nI (a j)) → AI σ a → ∀ v2 v3, RA G d M5_asks 38 [.ref 122, .int (nI 1), v2, v3] [] (t, I, J, P, n, sl) (fun o h' => o = .inl none ∧ ∃ I', h' = (t, I', J, P, n, sl) ∧ (∀ b, b ∉ [137] → I' b = I0 b) ∧ ∀ p, p < 10 → I' 137 p = nI (bP (Asked σ p))) := by
    refine wh_ind mu10 ?_
    intro a ih I hF hr hA v2 v3
    refine x_iload_n d5_asks_38 rfl ?_
    refine x_if_eqN 139 d5_asks_39 (by decide) (by omega) (fun b39 => absurd b39 (by decide)) (fun b39 => ?_)
    refine x_iconst (v := nI 0) d5_asks_42 (by decide) ?_
    refine x_istore_n d5_asks_43 ?_
    refine x_iconst (v := nI 0) d5_asks_44 (by decide) ?_
    refine x_istore_n d5_asks_45 ?_
    exact hp0 a (fun z hz => ih z hz) 0 (Nat.zero_le _) a I 0 hF hr ⟨by decide, hA, fun _ => ⟨fun _ _ => rfl, fun p hp => absurd hp (Nat.not_lt_zero _), fun k hk => absurd hk (Nat.not_lt_zero _)⟩, fun h => absurd h (by decide)⟩ _
  have hw36 : ∀ I, (∀ b, b ∉ [137] → I b = I0 b) → (∀ j, j < 10 → I 137 j = nI (if j = 0 ∧ 0 < s_np σ then 1 else 0)) → ∀ v1 v2 v3, RA G d M5_asks 36 [.ref 122, v1, v2, v3] [] (t, I, J, P, n, sl) (fun o h' => o = .inl none ∧ ∃ I', h' = (t, I', J, P, n, sl) ∧ (∀ b, b ∉ [137] → I' b = I0 b) ∧ ∀ p, p < 10 → I' 137 p = nI (bP (Asked σ p))) := by
    intro I hF hr v1 v2 v3
    refine x_iconst (v := nI 1) d5_asks_36 (by decide) ?_
    refine x_istore_n d5_asks_37 ?_
    exact hw (fun j => if j = 0 ∧ 0 < s_np σ then 1 else 0) I hF (fun j hj => hr j hj) (AI_0 σ) _ _
  have h1 : ∀ p, p ≤ 10 → ∀ I, (∀ b, b ∉ [137] → I b = I0 b) → (∀ j, j < p → I 137 j = nI (if j = 0 ∧ 0 < s_np σ then 1 else 0)) → RA G d M5_asks 2 [.ref 122, .int (nI p), U0, U0] [] (t, I, J, P, n, sl) (fun o h' => o = .inl none ∧ ∃ I', h' = (t, I', J, P, n, sl) ∧ (∀ b, b ∉ [137] → I' b = I0 b) ∧ ∀ p, p < 10 → I' 137 p = nI (bP (Asked σ p))) := by
    refine up_ind ?_
    intro p hple ih I hF hr
    refine x_iload_n d5_asks_2 rfl ?_
    refine x_bipush (v := nI 10) d5_asks_3 (by decide) ?_
    refine x_icmp_geN 36 d5_asks_5 (by decide) (by omega) (by omega) (fun b5 => ?_) (fun b5 => ?_)
    · exact hw36 I hF (fun j hj => hr j (by omega)) _ _ _
    · refine x_aload_n d5_asks_8 rfl ?_
      refine x_getP d5_asks_9 f5_61 (hS.T rfl) (hS.P rfl) ?_
      refine x_iload_n d5_asks_12 rfl ?_
      refine x_iload_n d5_asks_13 rfl ?_
      refine x_if_neN 28 d5_asks_14 (by decide) (by omega) (fun b14 => ?_) (fun b14 => ?_)
      · refine x_iconst (v := nI 0) d5_asks_28 (by decide) ?_
        refine x_zastN d5_asks_29 (hS.T rfl) (by omega) (fun I1 hI1 => ?_)
        have hFI1 : ∀ b, b ∉ [137] → I1 b = I0 b := fun b hb => by rw [hI1, u2_row _ _ _ (fun e => hb (by rw [e]; decide))]; exact hF b hb
        refine x_iincN (c := 1) d5_asks_30 rfl (by decide) ?_
        refine x_goto 2 d5_asks_33 (by decide) ?_
        exact ih (by omega) I1 hFI1 (ask_init hr hI1 (by rw [if_neg (by omega)]; decide))
      · refine x_aload_n d5_asks_17 rfl ?_
        refine x_getI d5_asks_18 f5_86 (hS.T rfl) ?_
        refine x_top (congrArg Value.int ((congrFun (hF 122 (by decide)) _).trans hM.np)) ?_
        refine x_if_leN 28 d5_asks_21 (by decide) (by omega) (fun b21 => ?_) (fun b21 => ?_)
        · refine x_iconst (v := nI 0) d5_asks_28 (by decide) ?_
          refine x_zastN d5_asks_29 (hS.T rfl) (by omega) (fun I2 hI2 => ?_)
          have hFI2 : ∀ b, b ∉ [137] → I2 b = I0 b := fun b hb => by rw [hI2, u2_row _ _ _ (fun e => hb (by rw [e]; decide))]; exact hF b hb
          refine x_iincN (c := 1) d5_asks_30 rfl (by decide) ?_
          refine x_goto 2 d5_asks_33 (by decide) ?_
          exact ih (by omega) I2 hFI2 (ask_init hr hI2 (by rw [if_neg (by omega)]; decide))
        · refine x_iconst (v := nI 1) d5_asks_24 (by decide) ?_
          refine x_goto 29 d5_asks_25 (by decide) ?_
          refine x_zastN d5_asks_29 (hS.T rfl) (by omega) (fun I3 hI3 => ?_)
          have hFI3 : ∀ b, b ∉ [137] → I3 b = I0 b := fun b hb => by rw [hI3, u2_row _ _ _ (fun e => hb (by rw [e]; decide))]; exact hF b hb
          refine x_iincN (c := 1) d5_asks_30 rfl (by decide) ?_
          refine x_goto 2 d5_asks_33 (by decide) ?_
          exact ih (by omega) I3 hFI3 (ask_init hr hI3 (by rw [if_pos ⟨by omega, by omega⟩]; decide))
  refine x_iconst (v := nI 0) d5_asks_0 (by decide) ?_
  refine x_istore_n d5_asks_1 ?_
  exact h1 0 (Nat.zero_le _) I0 (fun b _ => rfl) (fun j hj => absurd hj (Nat.not_lt_zero _))
