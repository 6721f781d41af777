/-! small static and leaf methods -/
set_option maxRecDepth 100000
theorem i_nlt {a b : Int32} (h : ¬ a < b) : b ≤ a := Int32.not_lt.mp h
theorem i_nle {a b : Int32} (h : ¬ a ≤ b) : b < a := Int32.not_le.mp h
theorem i_ltn {a b : Int32} (h : a < b) : ¬ b ≤ a := Int32.not_le.mpr h
set_option maxHeartbeats 4000000 in
theorem m_in (G : GG) (d : Nat) (h : AH) (v lo hi : Int32) : CP G d M5_in [.int v, .int lo, .int hi] h (.int (b2i (lo ≤ v ∧ v ≤ hi))) := by
  refine CA.w ?_
  show RA _ _ M5_in 0 [.int v, .int lo, .int hi] [] _ _
  refine x_iload_n d5_in_0 rfl ?_
  refine x_iload_n d5_in_1 rfl ?_
  refine x_icmp_lt 14 d5_in_2 (by decide) (fun b2 => ?_) (fun b2 => ?_)
  · refine x_iconst (v := nI 0) d5_in_14 (by decide) ?_
    exact x_ireturn d5_in_15 ⟨congrArg (fun z => Sum.inl (some (Value.int z))) (b2i_f (fun z => i_ltn b2 z.1)).symm, rfl⟩
  · refine x_iload_n d5_in_5 rfl ?_
    refine x_iload_n d5_in_6 rfl ?_
    refine x_icmp_gt 14 d5_in_7 (by decide) (fun b7 => ?_) (fun b7 => ?_)
    · refine x_iconst (v := nI 0) d5_in_14 (by decide) ?_
      exact x_ireturn d5_in_15 ⟨congrArg (fun z => Sum.inl (some (Value.int z))) (b2i_f (fun z => i_ltn b7 z.2)).symm, rfl⟩
    · refine x_iconst (v := nI 1) d5_in_10 (by decide) ?_
      refine x_goto 15 d5_in_11 (by decide) ?_
      exact x_ireturn d5_in_15 ⟨congrArg (fun z => Sum.inl (some (Value.int z))) (b2i_t ⟨i_nlt b2, i_nlt b7⟩).symm, rfl⟩
set_option maxHeartbeats 4000000 in
theorem h_in (G : GG) (d : Nat) (h : AH) (v lo hi : Int32) : CP G d M1_in [.int v, .int lo, .int hi] h (.int (b2i (lo ≤ v ∧ v ≤ hi))) := by
  refine CA.w ?_
  show RA _ _ M1_in 0 [.int v, .int lo, .int hi] [] _ _
  refine x_iload_n d1_in_0 rfl ?_
  refine x_iload_n d1_in_1 rfl ?_
  refine x_icmp_lt 14 d1_in_2 (by decide) (fun b2 => ?_) (fun b2 => ?_)
  · refine x_iconst (v := nI 0) d1_in_14 (by decide) ?_
    exact x_ireturn d1_in_15 ⟨congrArg (fun z => Sum.inl (some (Value.int z))) (b2i_f (fun z => i_ltn b2 z.1)).symm, rfl⟩
  · refine x_iload_n d1_in_5 rfl ?_
    refine x_iload_n d1_in_6 rfl ?_
    refine x_icmp_gt 14 d1_in_7 (by decide) (fun b7 => ?_) (fun b7 => ?_)
    · refine x_iconst (v := nI 0) d1_in_14 (by decide) ?_
      exact x_ireturn d1_in_15 ⟨congrArg (fun z => Sum.inl (some (Value.int z))) (b2i_f (fun z => i_ltn b7 z.2)).symm, rfl⟩
    · refine x_iconst (v := nI 1) d1_in_10 (by decide) ?_
      refine x_goto 15 d1_in_11 (by decide) ?_
      exact x_ireturn d1_in_15 ⟨congrArg (fun z => Sum.inl (some (Value.int z))) (b2i_t ⟨i_nlt b2, i_nlt b7⟩).symm, rfl⟩
