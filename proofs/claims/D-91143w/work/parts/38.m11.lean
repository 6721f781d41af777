/-! the reference: bytes, tokens, words, names, numbers -/
set_option maxRecDepth 100000
def bA (z : Nat) (f : Nat → Nat) (k : Nat) : Int32 := if k < z then nI (f k) else -1
def TxM (z : Nat) (f : Nat → Nat) (I : Nat → Nat → Int32) : Prop := I 122 16 = nI z ∧ z ≤ 300 ∧ ∀ j, j < z → I 132 j &&& 255 = nI (f j) ∧ f j < 256
/-- nothing but the reader's own fields has changed -/
def RdS (I I' : Nat → Nat → Int32) : Prop := (∀ b, b ≠ 122 → I' b = I b) ∧ ∀ k, k ∉ [17, 18, 19, 20, 21] → I' 122 k = I 122 k
theorem RdS.rf (I : Nat → Nat → Int32) : RdS I I := ⟨fun _ _ => rfl, fun _ _ => rfl⟩
theorem RdS.trans {I1 I2 I3 : Nat → Nat → Int32} (h : RdS I1 I2) (h' : RdS I2 I3) : RdS I1 I3 := ⟨fun b hb => (h'.1 b hb).trans (h.1 b hb), fun k hk => (h'.2 k hk).trans (h.2 k hk)⟩
theorem RdS.u {I I1 I2 : Nat → Nat → Int32} {k : Nat} {v : Int32} (h : RdS I I1) (hI : I2 = u2 I1 122 k v) (hk : k ∈ [17, 18, 19, 20, 21]) : RdS I I2 :=
  ⟨fun b hb => by rw [hI, u2_row _ _ _ hb]; exact h.1 b hb, fun j hj => by rw [hI, u2_ne _ _ (fun e => hj (by rw [e]; exact hk))]; exact h.2 j hj⟩
theorem RdS.tx {I I' : Nat → Nat → Int32} (h : RdS I I') {z : Nat} {f : Nat → Nat} (hT : TxM z f I) : TxM z f I' :=
  ⟨(h.2 16 (by decide)).trans hT.1, hT.2.1, by rw [h.1 132 (by decide)]; exact hT.2.2⟩
theorem bA_eq {z k c : Nat} {f : Nat → Nat} (hf : ∀ j, j < z → f j < 256) (hc : c < 256) : bA z f k = nI c ↔ k < z ∧ f k = c := by
  unfold bA
  split
  · next h => rw [nI_eq (by have := hf k h; omega) (by omega)]; exact ⟨fun e => ⟨h, e⟩, fun e => e.2⟩
  · next h => exact ⟨fun e => absurd e.symm (nI_m1 (by omega)), fun e => absurd e.1 h⟩
theorem bA_m1 {z k : Nat} {f : Nat → Nat} (hf : ∀ j, j < z → f j < 256) : bA z f k = -1 ↔ ¬ k < z := by
  unfold bA
  split
  · next h => exact ⟨fun e => absurd e (nI_m1 (by have := hf k h; omega)), fun e => absurd h e⟩
  · next h => exact ⟨fun _ => h, fun _ => rfl⟩
theorem bA_in {z k lo hi : Nat} {f : Nat → Nat} (hf : ∀ j, j < z → f j < 256) (hlo : lo < 256) (hhi : hi < 256) : (nI lo ≤ bA z f k ∧ bA z f k ≤ nI hi) ↔ (k < z ∧ lo ≤ f k ∧ f k ≤ hi) := by
  unfold bA
  split
  · next h =>
    have := hf k h
    rw [nI_leI (by omega) (by omega), nI_leI (by omega) (by omega)]
    exact ⟨fun e => ⟨h, e⟩, fun e => e.2⟩
  · next h =>
    constructor
    · intro e
      have h1 := Int32.le_iff_toInt_le.mp e.1
      rw [nI_toInt (by omega)] at h1
      have h2 : (-1 : Int32).toInt = -1 := by decide
      omega
    · intro e; exact absurd e.1 h
theorem b2i_bP {p q : Prop} [Decidable p] (h : p ↔ q) : b2i p = nI (bP q) := by
  by_cases hp : p
  · rw [b2i_t hp, bP_t (h.mp hp)]; rfl
  · rw [b2i_f hp, bP_f (fun z => hp (h.mpr z))]; rfl
/-- the token at p, as the reference holds it -/
def TokM (z : Nat) (f : Nat → Nat) (p : Nat) (I : Nat → Nat → Int32) (J : Nat → Nat → Int64) : Prop := I 122 19 = nI (tA z f p) ∧ (tK z f p = 0 → I 122 18 = nI 1) ∧ (tK z f p = 1 → I 122 18 = nI 0) ∧ (tK z f p = 2 → I 122 18 = nI 2 ∧ J 122 22 = lN (encN (tW z f p) (tL z f p))) ∧ (tK z f p = 3 → I 122 18 = nI 3 ∧ I 122 21 = nI (tV z f p)) ∧
  (tK z f p = 44 ∨ tK z f p = 59 → I 122 18 = nI 4 ∧ I 122 20 = nI (tK z f p)) ∧ (tK z f p ≠ 1 → I 122 17 = nI (tE z f p))
theorem tK_cases (z : Nat) (f : Nat → Nat) (p : Nat) : tK z f p = 0 ∨ tK z f p = 1 ∨ tK z f p = 2 ∨ tK z f p = 3 ∨ tK z f p = 44 ∨ tK z f p = 59 := by
  unfold tK
  split
  · split
    · split <;> simp
    · split
      · split <;> simp
      · split
        · simp
        · split <;> simp
  · simp
section TokMs
variable {z p : Nat} {f : Nat → Nat} {I : Nat → Nat → Int32} {J : Nat → Nat → Int64}
theorem TokM.mk_ {k : Nat} (hk : tK z f p = k) (h19 : I 122 19 = nI (tA z f p)) (h0 : k = 0 → I 122 18 = nI 1) (h1 : k = 1 → I 122 18 = nI 0) (h2 : k = 2 → I 122 18 = nI 2 ∧ J 122 22 = lN (encN (tW z f p) (tL z f p))) (h3 : k = 3 → I 122 18 = nI 3 ∧ I 122 21 = nI (tV z f p)) (h4 : k = 44 ∨ k = 59 → I 122 18 = nI 4 ∧ I 122 20 = nI k) (h5 : k ≠ 1 → I 122 17 = nI (tE z f p)) : TokM z f p I J := by
  unfold TokM
  rw [hk]
  exact ⟨h19, h0, h1, h2, h3, h4, h5⟩
theorem TokM.end_ (h19 : I 122 19 = nI (tA z f p)) (h : ¬ tA z f p < z) (h18 : I 122 18 = nI 1) (h17 : I 122 17 = nI (tA z f p)) : TokM z f p I J :=
  .mk_ (tK_end h).1 h19 (fun _ => h18) (fun e => by cases e) (fun e => by cases e) (fun e => by cases e) (fun e => by cases e with | inl e => cases e | inr e => cases e) (fun _ => by rw [(tK_end h).2]; exact h17)
theorem TokM.word (h19 : I 122 19 = nI (tA z f p)) (h : Ltr z f (tA z f p)) {e : Nat} (he : tLe z f p = e) (h8 : e - tA z f p ≤ 8) (h18 : I 122 18 = nI 2) (h17 : I 122 17 = nI e) (hJ : J 122 22 = lN (encN (fun i => f (tA z f p + i)) (e - tA z f p))) : TokM z f p I J :=
  .mk_ (by rw [(tK_word h).1, if_pos (by rw [he]; exact h8)]) h19 (fun e => by cases e) (fun e => by cases e) (fun _ => ⟨h18, by unfold tL; rw [he]; exact hJ⟩) (fun e => by cases e) (fun e => by cases e with | inl e => cases e | inr e => cases e) (fun _ => by rw [(tK_word h).2, he]; exact h17)
theorem TokM.badw (h19 : I 122 19 = nI (tA z f p)) (h : Ltr z f (tA z f p)) {e : Nat} (he : tLe z f p = e) (h8 : ¬ e - tA z f p ≤ 8) (h18 : I 122 18 = nI 0) : TokM z f p I J :=
  .mk_ (by rw [(tK_word h).1, if_neg (by rw [he]; exact h8)]) h19 (fun e => by cases e) (fun _ => h18) (fun e => by cases e) (fun e => by cases e) (fun e => by cases e with | inl e => cases e | inr e => cases e) (fun e => absurd rfl e)
theorem TokM.num (h19 : I 122 19 = nI (tA z f p)) (h : Dgt z f (tA z f p)) {e : Nat} (he : tDe z f p = e) (h8 : e - tA z f p ≤ 2) (h18 : I 122 18 = nI 3) (h17 : I 122 17 = nI e) (h21 : I 122 21 = nI (tV z f p)) : TokM z f p I J :=
  .mk_ (by rw [(tK_num h).1, if_pos (by rw [he]; exact h8)]) h19 (fun e => by cases e) (fun e => by cases e) (fun e => by cases e) (fun _ => ⟨h18, h21⟩) (fun e => by cases e with | inl e => cases e | inr e => cases e) (fun _ => by rw [(tK_num h).2, he]; exact h17)
theorem TokM.badn (h19 : I 122 19 = nI (tA z f p)) (h : Dgt z f (tA z f p)) {e : Nat} (he : tDe z f p = e) (h8 : ¬ e - tA z f p ≤ 2) (h18 : I 122 18 = nI 0) : TokM z f p I J :=
  .mk_ (by rw [(tK_num h).1, if_neg (by rw [he]; exact h8)]) h19 (fun e => by cases e) (fun _ => h18) (fun e => by cases e) (fun e => by cases e) (fun e => by cases e with | inl e => cases e | inr e => cases e) (fun e => absurd rfl e)
theorem TokM.sign (h19 : I 122 19 = nI (tA z f p)) (h : tA z f p < z) (h1 : ¬ Ltr z f (tA z f p)) (h2 : ¬ Dgt z f (tA z f p)) (hs : f (tA z f p) = 44 ∨ f (tA z f p) = 59) (h18 : I 122 18 = nI 4) (h20 : I 122 20 = nI (f (tA z f p))) (h17 : I 122 17 = nI (tA z f p + 1)) : TokM z f p I J := by
  have hk : tK z f p = f (tA z f p) := by
    rw [(tK_sign h h1 h2).1]
    rcases hs with e | e
    · rw [if_pos e, e]
    · rw [if_neg (by omega), if_pos e, e]
  refine .mk_ hk h19 (fun e => ?_) (fun e => ?_) (fun e => ?_) (fun e => ?_) (fun _ => ⟨h18, h20⟩) (fun _ => by rw [(tK_sign h h1 h2).2]; exact h17) <;> omega
theorem TokM.bad (h19 : I 122 19 = nI (tA z f p)) (h : tA z f p < z) (h1 : ¬ Ltr z f (tA z f p)) (h2 : ¬ Dgt z f (tA z f p)) (h3 : ¬ f (tA z f p) = 44) (h4 : ¬ f (tA z f p) = 59) (h18 : I 122 18 = nI 0) : TokM z f p I J :=
  .mk_ (by rw [(tK_sign h h1 h2).1, if_neg h3, if_neg h4]) h19 (fun e => by cases e) (fun _ => h18) (fun e => by cases e) (fun e => by cases e) (fun e => by cases e with | inl e => cases e | inr e => cases e) (fun e => absurd rfl e)
end TokMs
/-- the number so far -/
def dvN (f : Nat → Nat) (a n : Nat) : Nat := if n = 0 then 0 else if n = 1 then f a - 48 else 10 * (f a - 48) + (f (a + 1) - 48)
set_option maxHeartbeats 4000000 in
theorem m_byteAt {G : GG} (d : Nat) {t : Nat → Option (Nat × Nat)} {J : Nat → Nat → Int64} {P : Nat → Nat → Value} {n sl : Nat} {I : Nat → Nat → Int32} {z : Nat} {f : Nat → Nat} (hS : SH t P) (hT : TxM z f I) {k : Nat} (hk : k ≤ 300) : CP G d M5_byteAt [.ref 122, .int (nI k)] (t, I, J, P, n, sl) (.int (bA z f k)) := by
  refine CA.w ?_
  show RA _ _ M5_byteAt 0 [.ref 122, .int (nI k)] [] _ _
  have hz := hT.2.1
  refine x_iload_n d5_byteAt_0 rfl ?_
  refine x_aload_n d5_byteAt_1 rfl ?_
  refine x_getI d5_byteAt_2 f5_118 (hS.T rfl) ?_
  refine x_top (congrArg Value.int (show I 122 16 = nI z from hT.1)) ?_
  refine x_icmp_geN 21 d5_byteAt_5 (by decide) (by omega) (by omega) (fun b5 => ?_) (fun b5 => ?_)
  · refine x_iconst (v := -1) d5_byteAt_21 (by decide) ?_
    exact x_ireturn d5_byteAt_22 ⟨by unfold bA; rw [if_neg (by omega)], rfl⟩
  · refine x_aload_n d5_byteAt_8 rfl ?_
    refine x_getP d5_byteAt_9 f5_45 (hS.T rfl) (hS.P rfl) ?_
    refine x_iload_n d5_byteAt_12 rfl ?_
    refine x_baldN d5_byteAt_13 (hS.T rfl) (by omega) ?_
    refine x_sipush (v := nI 255) d5_byteAt_14 (by decide) ?_
    refine x_iand d5_byteAt_17 ?_
    refine x_goto 22 d5_byteAt_18 (by decide) ?_
    exact x_ireturn d5_byteAt_22 ⟨by unfold bA; rw [if_pos b5, show nI 255 = (255 : Int32) from rfl, (hT.2.2 k b5).1], rfl⟩
set_option maxHeartbeats 4000000 in
theorem m_isLetter {G : GG} (d : Nat) {h : AH} {v : Int32} : CP G d M5_isLetter [.int v] h (.int (b2i (nI 97 ≤ v ∧ v ≤ nI 122))) := by
  refine CA.w ?_
  show RA _ _ M5_isLetter 0 [.int v] [] _ _
  refine x_iload_n d5_isLetter_0 rfl ?_
  refine x_bipush (v := nI 97) d5_isLetter_1 (by decide) ?_
  refine x_icmp_lt 16 d5_isLetter_3 (by decide) (fun b3 => ?_) (fun b3 => ?_)
  · refine x_iconst (v := nI 0) d5_isLetter_16 (by decide) ?_
    exact x_ireturn d5_isLetter_17 ⟨congrArg (fun z => Sum.inl (some (Value.int z))) (b2i_f (fun z => i_ltn b3 z.1)).symm, rfl⟩
  · refine x_iload_n d5_isLetter_6 rfl ?_
    refine x_bipush (v := nI 122) d5_isLetter_7 (by decide) ?_
    refine x_icmp_gt 16 d5_isLetter_9 (by decide) (fun b9 => ?_) (fun b9 => ?_)
    · refine x_iconst (v := nI 0) d5_isLetter_16 (by decide) ?_
      exact x_ireturn d5_isLetter_17 ⟨congrArg (fun z => Sum.inl (some (Value.int z))) (b2i_f (fun z => i_ltn b9 z.2)).symm, rfl⟩
    · refine x_iconst (v := nI 1) d5_isLetter_12 (by decide) ?_
      refine x_goto 17 d5_isLetter_13 (by decide) ?_
      exact x_ireturn d5_isLetter_17 ⟨congrArg (fun z => Sum.inl (some (Value.int z))) (b2i_t ⟨i_nlt b3, i_nlt b9⟩).symm, rfl⟩
set_option maxHeartbeats 4000000 in
theorem m_isDigit {G : GG} (d : Nat) {h : AH} {v : Int32} : CP G d M5_isDigit [.int v] h (.int (b2i (nI 48 ≤ v ∧ v ≤ nI 57))) := by
  refine CA.w ?_
  show RA _ _ M5_isDigit 0 [.int v] [] _ _
  refine x_iload_n d5_isDigit_0 rfl ?_
  refine x_bipush (v := nI 48) d5_isDigit_1 (by decide) ?_
  refine x_icmp_lt 16 d5_isDigit_3 (by decide) (fun b3 => ?_) (fun b3 => ?_)
  · refine x_iconst (v := nI 0) d5_isDigit_16 (by decide) ?_
    exact x_ireturn d5_isDigit_17 ⟨congrArg (fun z => Sum.inl (some (Value.int z))) (b2i_f (fun z => i_ltn b3 z.1)).symm, rfl⟩
  · refine x_iload_n d5_isDigit_6 rfl ?_
    refine x_bipush (v := nI 57) d5_isDigit_7 (by decide) ?_
    refine x_icmp_gt 16 d5_isDigit_9 (by decide) (fun b9 => ?_) (fun b9 => ?_)
    · refine x_iconst (v := nI 0) d5_isDigit_16 (by decide) ?_
      exact x_ireturn d5_isDigit_17 ⟨congrArg (fun z => Sum.inl (some (Value.int z))) (b2i_f (fun z => i_ltn b9 z.2)).symm, rfl⟩
    · refine x_iconst (v := nI 1) d5_isDigit_12 (by decide) ?_
      refine x_goto 17 d5_isDigit_13 (by decide) ?_
      exact x_ireturn d5_isDigit_17 ⟨congrArg (fun z => Sum.inl (some (Value.int z))) (b2i_t ⟨i_nlt b3, i_nlt b9⟩).symm, rfl⟩
set_option maxHeartbeats 4000000 in
theorem h_isSmall {G : GG} (d : Nat) {h : AH} {v : Int32} : CP G d M2_isSmall [.int v] h (.int (b2i (nI 97 ≤ v ∧ v ≤ nI 122))) := by
  refine CA.w ?_
  show RA _ _ M2_isSmall 0 [.int v] [] _ _
  refine x_iload_n d2_isSmall_0 rfl ?_
  refine x_bipush (v := nI 97) d2_isSmall_1 (by decide) ?_
  refine x_icmp_lt 16 d2_isSmall_3 (by decide) (fun b3 => ?_) (fun b3 => ?_)
  · refine x_iconst (v := nI 0) d2_isSmall_16 (by decide) ?_
    exact x_ireturn d2_isSmall_17 ⟨congrArg (fun z => Sum.inl (some (Value.int z))) (b2i_f (fun z => i_ltn b3 z.1)).symm, rfl⟩
  · refine x_iload_n d2_isSmall_6 rfl ?_
    refine x_bipush (v := nI 122) d2_isSmall_7 (by decide) ?_
    refine x_icmp_gt 16 d2_isSmall_9 (by decide) (fun b9 => ?_) (fun b9 => ?_)
    · refine x_iconst (v := nI 0) d2_isSmall_16 (by decide) ?_
      exact x_ireturn d2_isSmall_17 ⟨congrArg (fun z => Sum.inl (some (Value.int z))) (b2i_f (fun z => i_ltn b9 z.2)).symm, rfl⟩
    · refine x_iconst (v := nI 1) d2_isSmall_12 (by decide) ?_
      refine x_goto 17 d2_isSmall_13 (by decide) ?_
      exact x_ireturn d2_isSmall_17 ⟨congrArg (fun z => Sum.inl (some (Value.int z))) (b2i_t ⟨i_nlt b3, i_nlt b9⟩).symm, rfl⟩
set_option maxHeartbeats 4000000 in
theorem h_isDigit {G : GG} (d : Nat) {h : AH} {v : Int32} : CP G d M2_isDigit [.int v] h (.int (b2i (nI 48 ≤ v ∧ v ≤ nI 57))) := by
  refine CA.w ?_
  show RA _ _ M2_isDigit 0 [.int v] [] _ _
  refine x_iload_n d2_isDigit_0 rfl ?_
  refine x_bipush (v := nI 48) d2_isDigit_1 (by decide) ?_
  refine x_icmp_lt 16 d2_isDigit_3 (by decide) (fun b3 => ?_) (fun b3 => ?_)
  · refine x_iconst (v := nI 0) d2_isDigit_16 (by decide) ?_
    exact x_ireturn d2_isDigit_17 ⟨congrArg (fun z => Sum.inl (some (Value.int z))) (b2i_f (fun z => i_ltn b3 z.1)).symm, rfl⟩
  · refine x_iload_n d2_isDigit_6 rfl ?_
    refine x_bipush (v := nI 57) d2_isDigit_7 (by decide) ?_
    refine x_icmp_gt 16 d2_isDigit_9 (by decide) (fun b9 => ?_) (fun b9 => ?_)
    · refine x_iconst (v := nI 0) d2_isDigit_16 (by decide) ?_
      exact x_ireturn d2_isDigit_17 ⟨congrArg (fun z => Sum.inl (some (Value.int z))) (b2i_f (fun z => i_ltn b9 z.2)).symm, rfl⟩
    · refine x_iconst (v := nI 1) d2_isDigit_12 (by decide) ?_
      refine x_goto 17 d2_isDigit_13 (by decide) ?_
      exact x_ireturn d2_isDigit_17 ⟨congrArg (fun z => Sum.inl (some (Value.int z))) (b2i_t ⟨i_nlt b3, i_nlt b9⟩).symm, rfl⟩
theorem tV_dv {z p a c : Nat} {f : Nat → Nat} (hA : tA z f p = a) (he : tDe z f p = c) (hac : a < c) : tV z f p = dvN f a (c - a) := by
  unfold tV dvN
  rw [hA, he, if_neg (show ¬ c - a = 0 by omega)]
  by_cases h1 : c - a = 1
  · rw [if_pos (show c - a ≤ 1 by omega), if_pos h1]
  · rw [if_neg (show ¬ c - a ≤ 1 by omega), if_neg h1]
theorem enc_step {f : Nat → Nat} {a c : Nat} {w : Int64} (hJ : w = lN (encN (fun i => f (a + i)) (c - a))) (hc : a ≤ c) (hf : f c < 256) (h97 : 97 ≤ f c) : 32 * w + (nI (f c - 97 + 1)).toInt64 = lN (encN (fun i => f (a + i)) (c - a + 1)) := by
  rw [hJ, nI_l (by omega), show (32 : Int64) = lN 32 from rfl, lN_mul, lN_add, encN]
  show lN (32 * encN (fun i => f (a + i)) (c - a) + (f c - 97 + 1)) = lN (32 * encN (fun i => f (a + i)) (c - a) + (f (a + (c - a)) - 96))
  rw [show a + (c - a) = c by omega, show f c - 97 + 1 = f c - 96 by omega]
theorem dvN_lt {z a n : Nat} {f : Nat → Nat} (hf : ∀ j, j < z → f j < 256) (ha : Dgt z f a) (h1 : 2 ≤ n → Dgt z f (a + 1)) : dvN f a n < 1000 := by
  unfold dvN
  split
  · decide
  · split
    · have := ha.2; omega
    · next h0 h1' => have := ha.2; have := (h1 (by omega)).2; omega
theorem dvN_same {f : Nat → Nat} {a n m : Nat} (hn : 2 ≤ n) (hm : 2 ≤ m) : dvN f a n = dvN f a m := by
  unfold dvN
  rw [if_neg (by omega), if_neg (by omega), if_neg (by omega), if_neg (by omega)]
theorem dvN_step {z a c : Nat} {f : Nat → Nat} (hc : a ≤ c) (h2 : c - a < 2) (hd : Dgt z f c) (ha : Dgt z f a) : 10 * dvN f a (c - a) + f c - 48 = dvN f a (c + 1 - a) := by
  have h48 := hd.2.1
  rcases (by omega : c = a ∨ c = a + 1) with e | e
  · subst e
    unfold dvN
    rw [if_pos (by omega), if_neg (by omega), if_pos (by omega)]; omega
  · subst e
    unfold dvN
    rw [if_neg (by omega), if_pos (by omega), if_neg (by omega), if_neg (by omega)]; omega
set_option maxHeartbeats 4000000 in
theorem m_next {G : GG} (d : Nat) {t : Nat → Option (Nat × Nat)} {J : Nat → Nat → Int64} {P : Nat → Nat → Value} {n sl : Nat} {I : Nat → Nat → Int32} {z : Nat} {f : Nat → Nat} (hS : SH t P) (hT : TxM z f I) {p : Nat} (hp : p ≤ z) (hat : I 122 17 = nI p) (hB : n ≤ 601124) (hSl : sl ≤ 7293033) : CA G (d + 1) M5_next [.ref 122] (t, I, J, P, n, sl) (fun o h' => o = .inl none ∧ ∃ I' J', h' = (t, I', J', P, n, sl) ∧ RdS I I' ∧ JF J J' ∧ TokM z f p I' J') := by
  refine CA.w ?_
  show RA _ _ M5_next 0 [.ref 122, U0, U0] [] _ _
  have hz := hT.2.1
  have hf : ∀ j, j < z → f j < 256 := fun j hj => (hT.2.2 j hj).2
  have hlet : ∀ a I9 J9, RdS I I9 → tA z f p = a → Ltr z f a → I9 122 19 = nI a → I9 122 18 = nI 0 → ∀ c, a ≤ c → I9 122 17 = nI c → c ≤ z → (∀ i, a ≤ i → i < c → Ltr z f i) → JF J J9 → J9 122 22 = lN (encN (fun i => f (a + i)) (min (c - a) 8)) → RA G (d + 1) M5_next 80 [.ref 122, .int ((bA z f a)), .int (nI (c - a))] [] (t, I9, J9, P, n, sl) (fun o h' => o = .inl none ∧ ∃ I' J', h' = (t, I', J', P, n, sl) ∧ RdS I I' ∧ JF J J' ∧ TokM z f p I' J') := by
    intro a I9 J9 hrd hA hla h19 h18 c hac h17 hcz hpre hjf hJ9
    have key : ∀ c, c ≤ z → ∀ I9 J9, RdS I I9 → I9 122 19 = nI a → I9 122 18 = nI 0 → I9 122 17 = nI c → a ≤ c → (∀ i, a ≤ i → i < c → Ltr z f i) → JF J J9 → J9 122 22 = lN (encN (fun i => f (a + i)) (min (c - a) 8)) → ∀ u : Unit, RA G (d + 1) M5_next 80 [.ref 122, .int ((bA z f a)), .int (nI (c - a))] [] (t, I9, J9, P, n, sl) (fun o h' => o = .inl none ∧ ∃ I' J', h' = (t, I', J', P, n, sl) ∧ RdS I I' ∧ JF J J' ∧ TokM z f p I' J') := by
      clear hrd h19 h18 h17 hac hcz hpre hjf hJ9 I9 J9 c
      refine up_ind ?_
      intro c hcz ih I9 J9 hrd h19 h18 h17 hac hpre hjf hJ9 _
      refine x_aload_n d5_next_80 rfl ?_
      refine x_aload_n d5_next_81 rfl ?_
      refine x_getI d5_next_82 f5_133 (hS.T rfl) ?_
      refine x_top (congrArg Value.int (show I9 122 17 = nI c from h17)) ?_
      refine x_invV 122 1 d5_next_85 (hS.T rfl) v5_136_5 (m_byteAt _ hS (hrd.tx hT) (k := c) (by omega)) (Cont.p ?_) (hB := hB) (hS := hSl)
      refine x_invS 1 d5_next_88 s5_145 (m_isLetter _) (Cont.p ?_) (hB := hB) (hS := hSl)
      refine x_top (congrArg Value.int (b2i_bP (q := Ltr z f c) (bA_in hf (by decide) (by decide)))) ?_
      have hbl_88 := bP_lt (Ltr z f c)
      refine x_if_eqN 143 d5_next_91 (by decide) (by omega) (fun b91 => ?_) (fun b91 => ?_)
      · refine x_iload_n d5_next_143 rfl ?_
        refine x_bipush (v := nI 9) d5_next_144 (by decide) ?_
        refine x_icmp_geN 272 d5_next_146 (by decide) (by omega) (by omega) (fun b146 => ?_) (fun b146 => ?_)
        · exact x_return d5_next_272 ⟨rfl, I9, J9, rfl, hrd, hjf, TokM.badw (by rw [hA]; exact h19) (by rw [hA]; exact hla) (rn_eq (C := Ltr z f) (k := tA z f p) (by rw [hA]; omega) (fun h => by rw [bP_t h] at b91; cases b91) (fun i h1 h2 => hpre i (by rw [← hA]; exact h1) h2) : tLe z f p = c) (by rw [hA]; omega) h18⟩
        · refine x_aload_n d5_next_149 rfl ?_
          refine x_iconst (v := nI 2) d5_next_150 (by decide) ?_
          refine x_putIE d5_next_151 p5_139 (hS.T rfl) (fun I1 hI1 => ?_)
          have hrdI1 : RdS I I1 := hrd.u hI1 (by decide)
          have hI1_17 := (show I1 122 17 = nI c by rw [hI1, u2_ne _ _ (by decide)]; exact h17)
          have hI1_18 := (show I1 122 18 = nI 2 by rw [hI1, u2_self])
          have hI1_19 := (show I1 122 19 = nI a by rw [hI1, u2_ne _ _ (by decide)]; exact h19)
          refine x_goto 272 d5_next_154 (by decide) ?_
          exact x_return d5_next_272 ⟨rfl, I1, J9, rfl, hrdI1, hjf, TokM.word (by rw [hA]; exact hI1_19) (by rw [hA]; exact hla) (rn_eq (C := Ltr z f) (k := tA z f p) (by rw [hA]; omega) (fun h => by rw [bP_t h] at b91; cases b91) (fun i h1 h2 => hpre i (by rw [← hA]; exact h1) h2) : tLe z f p = c) (by rw [hA]; omega) hI1_18 hI1_17 (by rw [hA, hJ9, show min (c - a) 8 = c - a by omega])⟩
      · have hlc : Ltr z f c := bP_1.mp (by omega)
        have hfc := hf c hlc.1
        refine x_iload_n d5_next_94 rfl ?_
        refine x_bipush (v := nI 8) d5_next_95 (by decide) ?_
        refine x_icmp_geN 127 d5_next_97 (by decide) (by omega) (by omega) (fun b97 => ?_) (fun b97 => ?_)
        · refine x_iincN (c := 1) d5_next_127 rfl (by decide) ?_
          refine x_aload_n d5_next_130 rfl ?_
          refine x_dup d5_next_131 rfl ?_
          refine x_getI d5_next_132 f5_133 (hS.T rfl) ?_
          refine x_top (congrArg Value.int (show I9 122 17 = nI c from h17)) ?_
          refine x_iconst (v := nI 1) d5_next_135 (by decide) ?_
          refine x_iaddN d5_next_136 ?_
          refine x_putIE d5_next_137 p5_133 (hS.T rfl) (fun I2 hI2 => ?_)
          have hrdI2 : RdS I I2 := hrd.u hI2 (by decide)
          have hI2_17 := (show I2 122 17 = nI (c + 1) by rw [hI2, u2_self])
          have hI2_18 := (show I2 122 18 = nI 0 by rw [hI2, u2_ne _ _ (by decide)]; exact h18)
          have hI2_19 := (show I2 122 19 = nI a by rw [hI2, u2_ne _ _ (by decide)]; exact h19)
          refine x_goto 80 d5_next_140 (by decide) ?_
          rw [show c - a + 1 = c + 1 - a by omega]
          exact ih (by omega) I2 J9 hrdI2 hI2_19 hI2_18 hI2_17 (by omega) (fun i h1 h2 => by by_cases e : i = c; rw [e]; exact hlc; exact hpre i h1 (by omega)) hjf (by rw [hJ9, show min (c + 1 - a) 8 = min (c - a) 8 by omega]) ()
        · have hJ : J9 122 22 = lN (encN (fun i => f (a + i)) (c - a)) := by rw [hJ9, show min (c - a) 8 = c - a by omega]
          refine x_aload_n d5_next_100 rfl ?_
          refine x_ldc2 (v := 32) d5_next_101 (lw_g (lw_at lw_m5 192 rfl) rfl) ?_
          refine x_aload_n d5_next_104 rfl ?_
          refine x_getJ d5_next_105 f5_148 (hS.T rfl) ?_
          refine x_lmul d5_next_108 ?_
          refine x_aload_n d5_next_109 rfl ?_
          refine x_aload_n d5_next_110 rfl ?_
          refine x_getI d5_next_111 f5_133 (hS.T rfl) ?_
          refine x_top (congrArg Value.int (show I9 122 17 = nI c from h17)) ?_
          refine x_invV 122 1 d5_next_114 (hS.T rfl) v5_136_5 (m_byteAt _ hS (hrd.tx hT) (k := c) (by omega)) (Cont.p ?_) (hB := hB) (hS := hSl)
          refine x_top (congrArg Value.int (show bA z f c = nI (f c) from if_pos hlc.1)) ?_
          refine x_bipush (v := nI 97) d5_next_117 (by decide) ?_
          refine x_isubN d5_next_119 (by omega) ?_
          refine x_iconst (v := nI 1) d5_next_120 (by decide) ?_
          refine x_iaddN d5_next_121 ?_
          refine x_i2l d5_next_122 ?_
          refine x_ladd d5_next_123 ?_
          refine x_top (congrArg Value.long (enc_step hJ (by omega) hfc (by omega))) ?_
          refine x_putJE d5_next_124 p5_148 (hS.T rfl) (fun J3 hJ3 => ?_)
          refine x_iincN (c := 1) d5_next_127 rfl (by decide) ?_
          refine x_aload_n d5_next_130 rfl ?_
          refine x_dup d5_next_131 rfl ?_
          refine x_getI d5_next_132 f5_133 (hS.T rfl) ?_
          refine x_top (congrArg Value.int (show I9 122 17 = nI c from h17)) ?_
          refine x_iconst (v := nI 1) d5_next_135 (by decide) ?_
          refine x_iaddN d5_next_136 ?_
          refine x_putIE d5_next_137 p5_133 (hS.T rfl) (fun I4 hI4 => ?_)
          have hrdI4 : RdS I I4 := hrd.u hI4 (by decide)
          have hI4_17 := (show I4 122 17 = nI (c + 1) by rw [hI4, u2_self])
          have hI4_18 := (show I4 122 18 = nI 0 by rw [hI4, u2_ne _ _ (by decide)]; exact h18)
          have hI4_19 := (show I4 122 19 = nI a by rw [hI4, u2_ne _ _ (by decide)]; exact h19)
          refine x_goto 80 d5_next_140 (by decide) ?_
          rw [show c - a + 1 = c + 1 - a by omega]
          exact ih (by omega) I4 J3 hrdI4 hI4_19 hI4_18 hI4_17 (by omega) (fun i h1 h2 => by by_cases e : i = c; rw [e]; exact hlc; exact hpre i h1 (by omega)) (fun b hb => by rw [hJ3, u2_row _ _ _ hb]; exact hjf b hb) (by rw [hJ3, u2_self, show min (c + 1 - a) 8 = c - a + 1 by omega]) ()
    exact key c hcz I9 J9 hrd h19 h18 h17 hac hpre hjf hJ9 ()
  have hdig : ∀ a I9, RdS I I9 → tA z f p = a → Dgt z f a → I9 122 19 = nI a → I9 122 18 = nI 0 → ∀ c, a ≤ c → I9 122 17 = nI c → c ≤ z → (∀ i, a ≤ i → i < c → Dgt z f i) → I9 122 21 = nI (dvN f a (c - a)) → RA G (d + 1) M5_next 169 [.ref 122, .int ((bA z f a)), .int (nI (c - a))] [] (t, I9, J, P, n, sl) (fun o h' => o = .inl none ∧ ∃ I' J', h' = (t, I', J', P, n, sl) ∧ RdS I I' ∧ JF J J' ∧ TokM z f p I' J') := by
    intro a I9 hrd hA hla h19 h18 c hac h17 hcz hpre h21
    have key : ∀ c, c ≤ z → ∀ I9, RdS I I9 → I9 122 19 = nI a → I9 122 18 = nI 0 → I9 122 17 = nI c → a ≤ c → (∀ i, a ≤ i → i < c → Dgt z f i) → I9 122 21 = nI (dvN f a (c - a)) → ∀ u : Unit, RA G (d + 1) M5_next 169 [.ref 122, .int ((bA z f a)), .int (nI (c - a))] [] (t, I9, J, P, n, sl) (fun o h' => o = .inl none ∧ ∃ I' J', h' = (t, I', J', P, n, sl) ∧ RdS I I' ∧ JF J J' ∧ TokM z f p I' J') := by
      clear hrd h19 h18 h17 hac hcz hpre h21 I9 c
      refine up_ind ?_
      intro c hcz ih I9 hrd h19 h18 h17 hac hpre h21 _
      refine x_aload_n d5_next_169 rfl ?_
      refine x_aload_n d5_next_170 rfl ?_
      refine x_getI d5_next_171 f5_133 (hS.T rfl) ?_
      refine x_top (congrArg Value.int (show I9 122 17 = nI c from h17)) ?_
      refine x_invV 122 1 d5_next_174 (hS.T rfl) v5_136_5 (m_byteAt _ hS (hrd.tx hT) (k := c) (by omega)) (Cont.p ?_) (hB := hB) (hS := hSl)
      refine x_invS 1 d5_next_177 s5_152 (m_isDigit _) (Cont.p ?_) (hB := hB) (hS := hSl)
      refine x_top (congrArg Value.int (b2i_bP (q := Dgt z f c) (bA_in hf (by decide) (by decide)))) ?_
      have hbl_177 := bP_lt (Dgt z f c)
      refine x_if_eqN 227 d5_next_180 (by decide) (by omega) (fun b180 => ?_) (fun b180 => ?_)
      · refine x_iload_n d5_next_227 rfl ?_
        refine x_iconst (v := nI 3) d5_next_228 (by decide) ?_
        refine x_icmp_geN 272 d5_next_229 (by decide) (by omega) (by omega) (fun b229 => ?_) (fun b229 => ?_)
        · exact x_return d5_next_272 ⟨rfl, I9, J, rfl, hrd, JF.rf J, TokM.badn (by rw [hA]; exact h19) (by rw [hA]; exact hla) (rn_eq (C := Dgt z f) (k := tA z f p) (by rw [hA]; omega) (fun h => by rw [bP_t h] at b180; cases b180) (fun i h1 h2 => hpre i (by rw [← hA]; exact h1) h2) : tDe z f p = c) (by rw [hA]; omega) h18⟩
        · refine x_aload_n d5_next_232 rfl ?_
          refine x_iconst (v := nI 3) d5_next_233 (by decide) ?_
          refine x_putIE d5_next_234 p5_139 (hS.T rfl) (fun I1 hI1 => ?_)
          have hrdI1 : RdS I I1 := hrd.u hI1 (by decide)
          have hI1_17 := (show I1 122 17 = nI c by rw [hI1, u2_ne _ _ (by decide)]; exact h17)
          have hI1_18 := (show I1 122 18 = nI 3 by rw [hI1, u2_self])
          have hI1_19 := (show I1 122 19 = nI a by rw [hI1, u2_ne _ _ (by decide)]; exact h19)
          have hI1_21 := (show I1 122 21 = nI (dvN f a (c - a)) by rw [hI1, u2_ne _ _ (by decide)]; exact h21)
          refine x_goto 272 d5_next_237 (by decide) ?_
          exact x_return d5_next_272 ⟨rfl, I1, J, rfl, hrdI1, JF.rf J, TokM.num (by rw [hA]; exact hI1_19) (by rw [hA]; exact hla) (rn_eq (C := Dgt z f) (k := tA z f p) (by rw [hA]; omega) (fun h => by rw [bP_t h] at b180; cases b180) (fun i h1 h2 => hpre i (by rw [← hA]; exact h1) h2) : tDe z f p = c) (by rw [hA]; omega) hI1_18 hI1_17 (by rw [tV_dv hA (show tDe z f p = c from (rn_eq (C := Dgt z f) (k := tA z f p) (by rw [hA]; omega) (fun h => by rw [bP_t h] at b180; cases b180) (fun i h1 h2 => hpre i (by rw [← hA]; exact h1) h2) : tDe z f p = c)) (by rcases Nat.lt_or_ge a c with y | y; exact y; exfalso; rw [show c = a by omega, bP_t hla] at b180; cases b180)]; exact hI1_21)⟩
      · have hlc : Dgt z f c := bP_1.mp (by omega)
        have hfc := hf c hlc.1
        have hdv : dvN f a (c - a) < 1000 := dvN_lt hf hla (fun h => by have := hpre (a + 1) (by omega) (by omega); exact this)
        refine x_iload_n d5_next_183 rfl ?_
        refine x_iconst (v := nI 2) d5_next_184 (by decide) ?_
        refine x_icmp_geN 211 d5_next_185 (by decide) (by omega) (by omega) (fun b185 => ?_) (fun b185 => ?_)
        · refine x_iincN (c := 1) d5_next_211 rfl (by decide) ?_
          refine x_aload_n d5_next_214 rfl ?_
          refine x_dup d5_next_215 rfl ?_
          refine x_getI d5_next_216 f5_133 (hS.T rfl) ?_
          refine x_top (congrArg Value.int (show I9 122 17 = nI c from h17)) ?_
          refine x_iconst (v := nI 1) d5_next_219 (by decide) ?_
          refine x_iaddN d5_next_220 ?_
          refine x_putIE d5_next_221 p5_133 (hS.T rfl) (fun I2 hI2 => ?_)
          have hrdI2 : RdS I I2 := hrd.u hI2 (by decide)
          have hI2_17 := (show I2 122 17 = nI (c + 1) by rw [hI2, u2_self])
          have hI2_18 := (show I2 122 18 = nI 0 by rw [hI2, u2_ne _ _ (by decide)]; exact h18)
          have hI2_19 := (show I2 122 19 = nI a by rw [hI2, u2_ne _ _ (by decide)]; exact h19)
          have hI2_21 := (show I2 122 21 = nI (dvN f a (c - a)) by rw [hI2, u2_ne _ _ (by decide)]; exact h21)
          refine x_goto 169 d5_next_224 (by decide) ?_
          rw [show c - a + 1 = c + 1 - a by omega]
          exact ih (by omega) I2 hrdI2 hI2_19 hI2_18 hI2_17 (by omega) (fun i h1 h2 => by by_cases e : i = c; rw [e]; exact hlc; exact hpre i h1 (by omega)) (by rw [hI2_21, show dvN f a (c + 1 - a) = dvN f a (c - a) from dvN_same (by omega) (by omega)]) ()
        · refine x_aload_n d5_next_188 rfl ?_
          refine x_bipush (v := nI 10) d5_next_189 (by decide) ?_
          refine x_aload_n d5_next_191 rfl ?_
          refine x_getI d5_next_192 f5_155 (hS.T rfl) ?_
          refine x_top (congrArg Value.int (show I9 122 21 = nI (dvN f a (c - a)) from h21)) ?_
          refine x_imulN d5_next_195 ?_
          refine x_aload_n d5_next_196 rfl ?_
          refine x_aload_n d5_next_197 rfl ?_
          refine x_getI d5_next_198 f5_133 (hS.T rfl) ?_
          refine x_top (congrArg Value.int (show I9 122 17 = nI c from h17)) ?_
          refine x_invV 122 1 d5_next_201 (hS.T rfl) v5_136_5 (m_byteAt _ hS (hrd.tx hT) (k := c) (by omega)) (Cont.p ?_) (hB := hB) (hS := hSl)
          refine x_top (congrArg Value.int (show bA z f c = nI (f c) from if_pos hlc.1)) ?_
          refine x_iaddN d5_next_204 ?_
          refine x_bipush (v := nI 48) d5_next_205 (by decide) ?_
          refine x_isubN d5_next_207 (by omega) ?_
          refine x_top (congrArg Value.int (show nI (10 * dvN f a (c - a) + f c - 48) = nI (dvN f a (c + 1 - a)) by rw [dvN_step (by omega) (by omega) hlc hla])) ?_
          refine x_putIE d5_next_208 p5_155 (hS.T rfl) (fun I3 hI3 => ?_)
          have hrdI3 : RdS I I3 := hrd.u hI3 (by decide)
          have hI3_17 := (show I3 122 17 = nI c by rw [hI3, u2_ne _ _ (by decide)]; exact h17)
          have hI3_18 := (show I3 122 18 = nI 0 by rw [hI3, u2_ne _ _ (by decide)]; exact h18)
          have hI3_19 := (show I3 122 19 = nI a by rw [hI3, u2_ne _ _ (by decide)]; exact h19)
          have hI3_21 := (show I3 122 21 = nI (dvN f a (c + 1 - a)) by rw [hI3, u2_self])
          refine x_iincN (c := 1) d5_next_211 rfl (by decide) ?_
          refine x_aload_n d5_next_214 rfl ?_
          refine x_dup d5_next_215 rfl ?_
          refine x_getI d5_next_216 f5_133 (hS.T rfl) ?_
          refine x_top (congrArg Value.int (show I3 122 17 = nI c from hI3_17)) ?_
          refine x_iconst (v := nI 1) d5_next_219 (by decide) ?_
          refine x_iaddN d5_next_220 ?_
          refine x_putIE d5_next_221 p5_133 (hS.T rfl) (fun I4 hI4 => ?_)
          have hrdI4 : RdS I I4 := hrdI3.u hI4 (by decide)
          have hI4_17 := (show I4 122 17 = nI (c + 1) by rw [hI4, u2_self])
          have hI4_18 := (show I4 122 18 = nI 0 by rw [hI4, u2_ne _ _ (by decide)]; exact hI3_18)
          have hI4_19 := (show I4 122 19 = nI a by rw [hI4, u2_ne _ _ (by decide)]; exact hI3_19)
          have hI4_21 := (show I4 122 21 = nI (dvN f a (c + 1 - a)) by rw [hI4, u2_ne _ _ (by decide)]; exact hI3_21)
          refine x_goto 169 d5_next_224 (by decide) ?_
          rw [show c - a + 1 = c + 1 - a by omega]
          exact ih (by omega) I4 hrdI4 hI4_19 hI4_18 hI4_17 (by omega) (fun i h1 h2 => by by_cases e : i = c; rw [e]; exact hlc; exact hpre i h1 (by omega)) hI4_21 ()
    exact key c hcz I9 hrd h19 h18 h17 hac hpre h21 ()
  have hrest : ∀ k I9, RdS I I9 → I9 122 17 = nI k → tA z f p = k → k ≤ z → ∀ v1 v2, RA G (d + 1) M5_next 26 [.ref 122, v1, v2] [] (t, I9, J, P, n, sl) (fun o h' => o = .inl none ∧ ∃ I' J', h' = (t, I', J', P, n, sl) ∧ RdS I I' ∧ JF J J' ∧ TokM z f p I' J') := by
    intro k I9 hrd h17 hA hkz0 v1 v2
    refine x_aload_n d5_next_26 rfl ?_
    refine x_aload_n d5_next_27 rfl ?_
    refine x_getI d5_next_28 f5_133 (hS.T rfl) ?_
    refine x_top (congrArg Value.int (show I9 122 17 = nI k from h17)) ?_
    refine x_putIE d5_next_31 p5_114 (hS.T rfl) (fun I1 hI1 => ?_)
    have hrdI1 : RdS I I1 := hrd.u hI1 (by decide)
    have hI1_17 := (show I1 122 17 = nI k by rw [hI1, u2_ne _ _ (by decide)]; exact h17)
    have hI1_19 := (show I1 122 19 = nI k by rw [hI1, u2_self])
    refine x_aload_n d5_next_34 rfl ?_
    refine x_iconst (v := nI 0) d5_next_35 (by decide) ?_
    refine x_putIE d5_next_36 p5_139 (hS.T rfl) (fun I2 hI2 => ?_)
    have hrdI2 : RdS I I2 := hrdI1.u hI2 (by decide)
    have hI2_17 := (show I2 122 17 = nI k by rw [hI2, u2_ne _ _ (by decide)]; exact hI1_17)
    have hI2_19 := (show I2 122 19 = nI k by rw [hI2, u2_ne _ _ (by decide)]; exact hI1_19)
    have hI2_18 := (show I2 122 18 = nI 0 by rw [hI2, u2_self])
    refine x_aload_n d5_next_39 rfl ?_
    refine x_iconst (v := nI 0) d5_next_40 (by decide) ?_
    refine x_putIE d5_next_41 p5_142 (hS.T rfl) (fun I3 hI3 => ?_)
    have hrdI3 : RdS I I3 := hrdI2.u hI3 (by decide)
    have hI3_17 := (show I3 122 17 = nI k by rw [hI3, u2_ne _ _ (by decide)]; exact hI2_17)
    have hI3_19 := (show I3 122 19 = nI k by rw [hI3, u2_ne _ _ (by decide)]; exact hI2_19)
    have hI3_18 := (show I3 122 18 = nI 0 by rw [hI3, u2_ne _ _ (by decide)]; exact hI2_18)
    have hI3_20 := (show I3 122 20 = nI 0 by rw [hI3, u2_self])
    refine x_aload_n d5_next_44 rfl ?_
    refine x_aload_n d5_next_45 rfl ?_
    refine x_getI d5_next_46 f5_133 (hS.T rfl) ?_
    refine x_top (congrArg Value.int (show I3 122 17 = nI k from hI3_17)) ?_
    refine x_invV 122 1 d5_next_49 (hS.T rfl) v5_136_5 (m_byteAt _ hS (hrdI3.tx hT) (k := k) (by omega)) (Cont.p ?_) (hB := hB) (hS := hSl)
    refine x_istore_n d5_next_52 ?_
    refine x_iconst (v := nI 0) d5_next_53 (by decide) ?_
    refine x_istore_n d5_next_54 ?_
    refine x_iload_n d5_next_55 rfl ?_
    refine x_iconst (v := -1) d5_next_56 (by decide) ?_
    refine x_icmp_ne 68 d5_next_57 (by decide) (fun b57 => ?_) (fun b57 => ?_)
    · have hkz : k < z := Classical.byContradiction (fun h => b57 ((bA_m1 hf).mpr h))
      refine x_iload_n d5_next_68 rfl ?_
      refine x_invS 1 d5_next_69 s5_145 (m_isLetter _) (Cont.p ?_) (hB := hB) (hS := hSl)
      refine x_top (congrArg Value.int (b2i_bP (q := Ltr z f k) (bA_in hf (by decide) (by decide)))) ?_
      have hbl_69 := bP_lt (Ltr z f k)
      refine x_if_eqN 157 d5_next_72 (by decide) (by omega) (fun b72 => ?_) (fun b72 => ?_)
      · refine x_iload_n d5_next_157 rfl ?_
        refine x_invS 1 d5_next_158 s5_152 (m_isDigit _) (Cont.p ?_) (hB := hB) (hS := hSl)
        refine x_top (congrArg Value.int (b2i_bP (q := Dgt z f k) (bA_in hf (by decide) (by decide)))) ?_
        have hbl_158 := bP_lt (Dgt z f k)
        refine x_if_eqN 240 d5_next_161 (by decide) (by omega) (fun b161 => ?_) (fun b161 => ?_)
        · refine x_iload_n d5_next_240 rfl ?_
          refine x_bipush (v := nI 44) d5_next_241 (by decide) ?_
          refine x_icmp_eq 252 d5_next_243 (by decide) (fun b243 => ?_) (fun b243 => ?_)
          · refine x_aload_n d5_next_252 rfl ?_
            refine x_iconst (v := nI 4) d5_next_253 (by decide) ?_
            refine x_putIE d5_next_254 p5_139 (hS.T rfl) (fun I4 hI4 => ?_)
            have hrdI4 : RdS I I4 := hrdI3.u hI4 (by decide)
            have hI4_17 := (show I4 122 17 = nI k by rw [hI4, u2_ne _ _ (by decide)]; exact hI3_17)
            have hI4_19 := (show I4 122 19 = nI k by rw [hI4, u2_ne _ _ (by decide)]; exact hI3_19)
            have hI4_18 := (show I4 122 18 = nI 4 by rw [hI4, u2_self])
            have hI4_20 := (show I4 122 20 = nI 0 by rw [hI4, u2_ne _ _ (by decide)]; exact hI3_20)
            refine x_aload_n d5_next_257 rfl ?_
            refine x_iload_n d5_next_258 rfl ?_
            refine x_putIE d5_next_259 p5_142 (hS.T rfl) (fun I5 hI5 => ?_)
            have hrdI5 : RdS I I5 := hrdI4.u hI5 (by decide)
            have hI5_17 := (show I5 122 17 = nI k by rw [hI5, u2_ne _ _ (by decide)]; exact hI4_17)
            have hI5_19 := (show I5 122 19 = nI k by rw [hI5, u2_ne _ _ (by decide)]; exact hI4_19)
            have hI5_18 := (show I5 122 18 = nI 4 by rw [hI5, u2_ne _ _ (by decide)]; exact hI4_18)
            have hI5_20 := (show I5 122 20 = bA z f k by rw [hI5, u2_self])
            refine x_aload_n d5_next_262 rfl ?_
            refine x_dup d5_next_263 rfl ?_
            refine x_getI d5_next_264 f5_133 (hS.T rfl) ?_
            refine x_top (congrArg Value.int (show I5 122 17 = nI k from hI5_17)) ?_
            refine x_iconst (v := nI 1) d5_next_267 (by decide) ?_
            refine x_iaddN d5_next_268 ?_
            refine x_putIE d5_next_269 p5_133 (hS.T rfl) (fun I6 hI6 => ?_)
            have hrdI6 : RdS I I6 := hrdI5.u hI6 (by decide)
            have hI6_17 := (show I6 122 17 = nI (k + 1) by rw [hI6, u2_self])
            have hI6_19 := (show I6 122 19 = nI k by rw [hI6, u2_ne _ _ (by decide)]; exact hI5_19)
            have hI6_18 := (show I6 122 18 = nI 4 by rw [hI6, u2_ne _ _ (by decide)]; exact hI5_18)
            have hI6_20 := (show I6 122 20 = bA z f k by rw [hI6, u2_ne _ _ (by decide)]; exact hI5_20)
            exact x_return d5_next_272 ⟨rfl, I6, J, rfl, hrdI6, JF.rf J, TokM.sign (by rw [hA]; exact hI6_19) (by rw [hA]; exact hkz) (fun h => by rw [hA] at h; rw [bP_t h] at b72; cases b72) (fun h => by rw [hA] at h; rw [bP_t h] at b161; cases b161) (Or.inl (by rw [hA]; exact ((bA_eq hf (by decide)).mp b243).2)) hI6_18 (by rw [hA]; exact hI6_20.trans (show bA z f k = nI (f k) from if_pos hkz)) (by rw [hA]; exact hI6_17)⟩
          · refine x_iload_n d5_next_246 rfl ?_
            refine x_bipush (v := nI 59) d5_next_247 (by decide) ?_
            refine x_icmp_ne 272 d5_next_249 (by decide) (fun b249 => ?_) (fun b249 => ?_)
            · exact x_return d5_next_272 ⟨rfl, I3, J, rfl, hrdI3, JF.rf J, TokM.bad (by rw [hA]; exact hI3_19) (by rw [hA]; exact hkz) (fun h => by rw [hA] at h; rw [bP_t h] at b72; cases b72) (fun h => by rw [hA] at h; rw [bP_t h] at b161; cases b161) (fun h => b243 ((bA_eq hf (by decide)).mpr ⟨hkz, by rw [← hA]; exact h⟩)) (fun h => b249 ((bA_eq hf (by decide)).mpr ⟨hkz, by rw [← hA]; exact h⟩)) hI3_18⟩
            · refine x_aload_n d5_next_252 rfl ?_
              refine x_iconst (v := nI 4) d5_next_253 (by decide) ?_
              refine x_putIE d5_next_254 p5_139 (hS.T rfl) (fun I7 hI7 => ?_)
              have hrdI7 : RdS I I7 := hrdI3.u hI7 (by decide)
              have hI7_17 := (show I7 122 17 = nI k by rw [hI7, u2_ne _ _ (by decide)]; exact hI3_17)
              have hI7_19 := (show I7 122 19 = nI k by rw [hI7, u2_ne _ _ (by decide)]; exact hI3_19)
              have hI7_18 := (show I7 122 18 = nI 4 by rw [hI7, u2_self])
              have hI7_20 := (show I7 122 20 = nI 0 by rw [hI7, u2_ne _ _ (by decide)]; exact hI3_20)
              refine x_aload_n d5_next_257 rfl ?_
              refine x_iload_n d5_next_258 rfl ?_
              refine x_putIE d5_next_259 p5_142 (hS.T rfl) (fun I8 hI8 => ?_)
              have hrdI8 : RdS I I8 := hrdI7.u hI8 (by decide)
              have hI8_17 := (show I8 122 17 = nI k by rw [hI8, u2_ne _ _ (by decide)]; exact hI7_17)
              have hI8_19 := (show I8 122 19 = nI k by rw [hI8, u2_ne _ _ (by decide)]; exact hI7_19)
              have hI8_18 := (show I8 122 18 = nI 4 by rw [hI8, u2_ne _ _ (by decide)]; exact hI7_18)
              have hI8_20 := (show I8 122 20 = bA z f k by rw [hI8, u2_self])
              refine x_aload_n d5_next_262 rfl ?_
              refine x_dup d5_next_263 rfl ?_
              refine x_getI d5_next_264 f5_133 (hS.T rfl) ?_
              refine x_top (congrArg Value.int (show I8 122 17 = nI k from hI8_17)) ?_
              refine x_iconst (v := nI 1) d5_next_267 (by decide) ?_
              refine x_iaddN d5_next_268 ?_
              refine x_putIE d5_next_269 p5_133 (hS.T rfl) (fun I9 hI9 => ?_)
              have hrdI9 : RdS I I9 := hrdI8.u hI9 (by decide)
              have hI9_17 := (show I9 122 17 = nI (k + 1) by rw [hI9, u2_self])
              have hI9_19 := (show I9 122 19 = nI k by rw [hI9, u2_ne _ _ (by decide)]; exact hI8_19)
              have hI9_18 := (show I9 122 18 = nI 4 by rw [hI9, u2_ne _ _ (by decide)]; exact hI8_18)
              have hI9_20 := (show I9 122 20 = bA z f k by rw [hI9, u2_ne _ _ (by decide)]; exact hI8_20)
              exact x_return d5_next_272 ⟨rfl, I9, J, rfl, hrdI9, JF.rf J, TokM.sign (by rw [hA]; exact hI9_19) (by rw [hA]; exact hkz) (fun h => by rw [hA] at h; rw [bP_t h] at b72; cases b72) (fun h => by rw [hA] at h; rw [bP_t h] at b161; cases b161) (Or.inr (by rw [hA]; exact ((bA_eq hf (by decide)).mp b249).2)) hI9_18 (by rw [hA]; exact hI9_20.trans (show bA z f k = nI (f k) from if_pos hkz)) (by rw [hA]; exact hI9_17)⟩
        · refine x_aload_n d5_next_164 rfl ?_
          refine x_iconst (v := nI 0) d5_next_165 (by decide) ?_
          refine x_putIE d5_next_166 p5_155 (hS.T rfl) (fun I10 hI10 => ?_)
          have hrdI10 : RdS I I10 := hrdI3.u hI10 (by decide)
          have hI10_17 := (show I10 122 17 = nI k by rw [hI10, u2_ne _ _ (by decide)]; exact hI3_17)
          have hI10_19 := (show I10 122 19 = nI k by rw [hI10, u2_ne _ _ (by decide)]; exact hI3_19)
          have hI10_18 := (show I10 122 18 = nI 0 by rw [hI10, u2_ne _ _ (by decide)]; exact hI3_18)
          have hI10_20 := (show I10 122 20 = nI 0 by rw [hI10, u2_ne _ _ (by decide)]; exact hI3_20)
          have hI10_21 := (show I10 122 21 = nI 0 by rw [hI10, u2_self])
          have hgo := hdig k I10 hrdI10 hA (bP_1.mp (by omega)) hI10_19 hI10_18 k (Nat.le_refl _) hI10_17 (by omega) (fun i h1 h2 => by omega) (by rw [Nat.sub_self]; exact hI10_21)
          rw [Nat.sub_self] at hgo
          exact hgo
      · refine x_aload_n d5_next_75 rfl ?_
        refine x_lconst (v := 0) d5_next_76 (by decide) ?_
        refine x_putJE d5_next_77 p5_148 (hS.T rfl) (fun J11 hJ11 => ?_)
        have hgo := hlet k I3 J11 hrdI3 hA (bP_1.mp (by omega)) hI3_19 hI3_18 k (Nat.le_refl _) hI3_17 (by omega) (fun i h1 h2 => by omega) (fun b hb => by rw [hJ11, u2_row _ _ _ hb]) (by rw [hJ11, u2_self, Nat.sub_self]; rfl)
        rw [Nat.sub_self] at hgo
        exact hgo
    · refine x_aload_n d5_next_60 rfl ?_
      refine x_iconst (v := nI 1) d5_next_61 (by decide) ?_
      refine x_putIE d5_next_62 p5_139 (hS.T rfl) (fun I12 hI12 => ?_)
      have hrdI12 : RdS I I12 := hrdI3.u hI12 (by decide)
      have hI12_17 := (show I12 122 17 = nI k by rw [hI12, u2_ne _ _ (by decide)]; exact hI3_17)
      have hI12_19 := (show I12 122 19 = nI k by rw [hI12, u2_ne _ _ (by decide)]; exact hI3_19)
      have hI12_18 := (show I12 122 18 = nI 1 by rw [hI12, u2_self])
      have hI12_20 := (show I12 122 20 = nI 0 by rw [hI12, u2_ne _ _ (by decide)]; exact hI3_20)
      refine x_goto 272 d5_next_65 (by decide) ?_
      exact x_return d5_next_272 ⟨rfl, I12, J, rfl, hrdI12, JF.rf J, TokM.end_ (by rw [hA]; exact hI12_19) (by rw [hA]; exact (bA_m1 hf).mp b57) hI12_18 (by rw [hA]; exact hI12_17)⟩
  have h0 : ∀ k, k ≤ z → ∀ I9, RdS I I9 → I9 122 17 = nI k → (∀ i, p ≤ i → i < k → Sp z f i) → p ≤ k → RA G (d + 1) M5_next 0 [.ref 122, U0, U0] [] (t, I9, J, P, n, sl) (fun o h' => o = .inl none ∧ ∃ I' J', h' = (t, I', J', P, n, sl) ∧ RdS I I' ∧ JF J J' ∧ TokM z f p I' J') := by
    refine up_ind ?_
    intro k hkz ih I9 hrd h17 hpre hpk
    refine x_aload_n d5_next_0 rfl ?_
    refine x_aload_n d5_next_1 rfl ?_
    refine x_getI d5_next_2 f5_133 (hS.T rfl) ?_
    refine x_top (congrArg Value.int (show I9 122 17 = nI k from h17)) ?_
    refine x_invV 122 1 d5_next_5 (hS.T rfl) v5_136_5 (m_byteAt _ hS (hrd.tx hT) (k := k) (by omega)) (Cont.p ?_) (hB := hB) (hS := hSl)
    refine x_bipush (v := nI 32) d5_next_8 (by decide) ?_
    refine x_icmp_ne 26 d5_next_10 (by decide) (fun b10 => ?_) (fun b10 => ?_)
    · have hA : tA z f p = k := rn_eq hpk (fun h => b10 ((bA_eq hf (by decide)).mpr h)) hpre
      exact hrest k I9 hrd h17 hA (by omega) _ _
    · have hsp := (bA_eq hf (by decide)).mp b10
      refine x_aload_n d5_next_13 rfl ?_
      refine x_dup d5_next_14 rfl ?_
      refine x_getI d5_next_15 f5_133 (hS.T rfl) ?_
      refine x_top (congrArg Value.int (show I9 122 17 = nI k from h17)) ?_
      refine x_iconst (v := nI 1) d5_next_18 (by decide) ?_
      refine x_iaddN d5_next_19 ?_
      refine x_putIE d5_next_20 p5_133 (hS.T rfl) (fun I1 hI1 => ?_)
      have hrdI1 : RdS I I1 := hrd.u hI1 (by decide)
      have hI1_17 := (show I1 122 17 = nI (k + 1) by rw [hI1, u2_self])
      refine x_goto 0 d5_next_23 (by decide) ?_
      exact ih (by omega) I1 hrdI1 hI1_17 (fun i h1 h2 => by by_cases e : i = k; rw [e]; exact hsp; exact hpre i h1 (by omega)) (by omega)
  exact h0 p hp I (RdS.rf I) hat (fun i h1 h2 => by omega) (Nat.le_refl _)
