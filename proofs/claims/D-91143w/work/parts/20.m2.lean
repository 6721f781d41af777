/-! the reference: bits, isPart, isRight, asks -/
set_option maxRecDepth 100000
set_option maxHeartbeats 4000000 in
theorem m_bits (G : GG) (d : Nat) (h : AH) (v : Nat) (hv : v < 65536) : CP G d M5_bits [.int (nI v)] h (.int (nI (pop v))) := by
  refine CA.w ?_
  show RA _ _ M5_bits 0 [.int (nI v), U0, U0] [] _ _
  have hl : ∀ k c, k ≤ v → c + pop k = pop v → k < 65536 → RA G d M5_bits 4 [.int (nI v), .int (nI c), .int (nI k)] [] h (fun o h' => o = .inl (some (.int (nI (pop v)))) ∧ h' = h) := by
    intro k
    induction k using Nat.strongRecOn with
    | _ k ih =>
    intro c hkv hc hk
    have hpv := pop_le v
    refine x_iload_n d5_bits_4 rfl ?_
    refine x_if_eqN 20 d5_bits_5 (by decide) (by omega) (fun b5 => ?_) (fun b5 => ?_)
    · refine x_iload_n d5_bits_20 rfl ?_
      exact x_ireturn d5_bits_21 ⟨by rw [b5, pop_0, Nat.add_zero] at hc; rw [hc], rfl⟩
    · refine x_iincN (c := 1) d5_bits_8 rfl (by decide) ?_
      refine x_iload_n d5_bits_11 rfl ?_
      refine x_iload_n d5_bits_12 rfl ?_
      refine x_iconst (v := nI 1) d5_bits_13 (by decide) ?_
      refine x_isubN d5_bits_14 (by omega) ?_
      refine x_iandN d5_bits_15 ?_
      refine x_istore_n d5_bits_16 ?_
      refine x_goto 4 d5_bits_17 (by decide) ?_
      exact ih _ (Nat.lt_of_le_of_lt Nat.and_le_right (by omega)) (c + 1) (by have := Nat.and_le_left (n := k) (m := k - 1); omega) (by have := pop_step (k := k) (by omega) (by omega); omega) (Nat.lt_of_le_of_lt Nat.and_le_left hk)
  refine x_iconst (v := nI 0) d5_bits_0 (by decide) ?_
  refine x_istore_n d5_bits_1 ?_
  refine x_iload_n d5_bits_2 rfl ?_
  refine x_istore_n d5_bits_3 ?_
  exact hl v 0 (Nat.le_refl _) (by omega) hv
set_option maxHeartbeats 4000000 in
theorem h_ones (G : GG) (d : Nat) (h : AH) (v : Nat) (hv : v < 65536) : CP G d M1_ones [.int (nI v)] h (.int (nI (pop v))) := by
  refine CA.w ?_
  show RA _ _ M1_ones 0 [.int (nI v), U0, U0] [] _ _
  have hl : ∀ k c, k ≤ v → c + pop k = pop v → k < 65536 → RA G d M1_ones 4 [.int (nI v), .int (nI c), .int (nI k)] [] h (fun o h' => o = .inl (some (.int (nI (pop v)))) ∧ h' = h) := by
    intro k
    induction k using Nat.strongRecOn with
    | _ k ih =>
    intro c hkv hc hk
    have hpv := pop_le v
    refine x_iload_n d1_ones_4 rfl ?_
    refine x_if_eqN 20 d1_ones_5 (by decide) (by omega) (fun b5 => ?_) (fun b5 => ?_)
    · refine x_iload_n d1_ones_20 rfl ?_
      exact x_ireturn d1_ones_21 ⟨by rw [b5, pop_0, Nat.add_zero] at hc; rw [hc], rfl⟩
    · refine x_iincN (c := 1) d1_ones_8 rfl (by decide) ?_
      refine x_iload_n d1_ones_11 rfl ?_
      refine x_iload_n d1_ones_12 rfl ?_
      refine x_iconst (v := nI 1) d1_ones_13 (by decide) ?_
      refine x_isubN d1_ones_14 (by omega) ?_
      refine x_iandN d1_ones_15 ?_
      refine x_istore_n d1_ones_16 ?_
      refine x_goto 4 d1_ones_17 (by decide) ?_
      exact ih _ (Nat.lt_of_le_of_lt Nat.and_le_right (by omega)) (c + 1) (by have := Nat.and_le_left (n := k) (m := k - 1); omega) (by have := pop_step (k := k) (by omega) (by omega); omega) (Nat.lt_of_le_of_lt Nat.and_le_left hk)
  refine x_iconst (v := nI 0) d1_ones_0 (by decide) ?_
  refine x_istore_n d1_ones_1 ?_
  refine x_iload_n d1_ones_2 rfl ?_
  refine x_istore_n d1_ones_3 ?_
  exact hl v 0 (Nat.le_refl _) (by omega) hv
set_option maxHeartbeats 4000000 in
theorem m_isRight (G : GG) (d : Nat) (h : AH) (v : Int32) : CP G d M5_isRight [.int v] h (.int (b2i (0 ≤ v ∧ v < 16))) := by
  refine CA.w ?_
  show RA _ _ M5_isRight 0 [.int v] [] _ _
  refine x_iload_n d5_isRight_0 rfl ?_
  refine x_if_lt 14 d5_isRight_1 (by decide) (fun b1 => ?_) (fun b1 => ?_)
  · refine x_iconst (v := nI 0) d5_isRight_14 (by decide) ?_
    exact x_ireturn d5_isRight_15 ⟨congrArg (fun z => Sum.inl (some (Value.int z))) (b2i_f (fun z => i_ltn b1 z.1)).symm, rfl⟩
  · refine x_iload_n d5_isRight_4 rfl ?_
    refine x_bipush (v := nI 16) d5_isRight_5 (by decide) ?_
    refine x_icmp_ge 14 d5_isRight_7 (by decide) (fun b7 => ?_) (fun b7 => ?_)
    · refine x_iconst (v := nI 0) d5_isRight_14 (by decide) ?_
      exact x_ireturn d5_isRight_15 ⟨congrArg (fun z => Sum.inl (some (Value.int z))) (b2i_f (fun z => i_ltn z.2 b7)).symm, rfl⟩
    · refine x_iconst (v := nI 1) d5_isRight_10 (by decide) ?_
      refine x_goto 15 d5_isRight_11 (by decide) ?_
      exact x_ireturn d5_isRight_15 ⟨congrArg (fun z => Sum.inl (some (Value.int z))) (b2i_t ⟨i_nlt b1, i_nle b7⟩).symm, rfl⟩
set_option maxHeartbeats 4000000 in
theorem m_isPart {G : GG} (d : Nat) {t : Nat → Option (Nat × Nat)} {J : Nat → Nat → Int64} {P : Nat → Nat → Value} {n sl : Nat} {I : Nat → Nat → Int32} {σ : Sg} (hS : SH t P) (hM : MP I σ) (v : Int32) : CP G d M5_isPart [.ref 122, .int v] (t, I, J, P, n, sl) (.int (b2i (0 ≤ v ∧ v < nI (s_np σ)))) := by
  refine CA.w ?_
  show RA _ _ M5_isPart 0 [.ref 122, .int v] [] _ _
  refine x_iload_n d5_isPart_0 rfl ?_
  refine x_if_lt 16 d5_isPart_1 (by decide) (fun b1 => ?_) (fun b1 => ?_)
  · refine x_iconst (v := nI 0) d5_isPart_16 (by decide) ?_
    exact x_ireturn d5_isPart_17 ⟨congrArg (fun z => Sum.inl (some (Value.int z))) (b2i_f (fun z => i_ltn b1 z.1)).symm, rfl⟩
  · refine x_iload_n d5_isPart_4 rfl ?_
    refine x_aload_n d5_isPart_5 rfl ?_
    refine x_getI d5_isPart_6 f5_86 (hS.T rfl) ?_
    refine x_top (congrArg Value.int hM.np) ?_
    refine x_icmp_ge 16 d5_isPart_9 (by decide) (fun b9 => ?_) (fun b9 => ?_)
    · refine x_iconst (v := nI 0) d5_isPart_16 (by decide) ?_
      exact x_ireturn d5_isPart_17 ⟨congrArg (fun z => Sum.inl (some (Value.int z))) (b2i_f (fun z => i_ltn z.2 b9)).symm, rfl⟩
    · refine x_iconst (v := nI 1) d5_isPart_12 (by decide) ?_
      refine x_goto 17 d5_isPart_13 (by decide) ?_
      exact x_ireturn d5_isPart_17 ⟨congrArg (fun z => Sum.inl (some (Value.int z))) (b2i_t ⟨i_nlt b1, i_nle b9⟩).symm, rfl⟩
