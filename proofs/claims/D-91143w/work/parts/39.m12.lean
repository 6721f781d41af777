/-! the reference: words, names, numbers, lines are read -/
set_option maxRecDepth 100000
def RdZ (I I' : Nat → Nat → Int32) : Prop := (∀ b, b ∉ [122, 131] → I' b = I b) ∧ ∀ k, k ∉ [17, 18, 19, 20, 21] → I' 122 k = I 122 k
theorem RdS.z {I I' : Nat → Nat → Int32} (h : RdS I I') : RdZ I I' := ⟨fun b hb => h.1 b (fun e => hb (by rw [e]; decide)), h.2⟩
theorem RdZ.rf (I : Nat → Nat → Int32) : RdZ I I := ⟨fun _ _ => rfl, fun _ _ => rfl⟩
theorem RdZ.trans {I1 I2 I3 : Nat → Nat → Int32} (h : RdZ I1 I2) (h' : RdZ I2 I3) : RdZ I1 I3 := ⟨fun b hb => (h'.1 b hb).trans (h.1 b hb), fun k hk => (h'.2 k hk).trans (h.2 k hk)⟩
theorem RdZ.stop {I I' : Nat → Nat → Int32} {a b : Int32} (hI : I' = u2 (u2 I 131 6 a) 131 7 b) : RdZ I I' :=
  ⟨fun c hc => by rw [hI, u2_row _ _ _ (fun e => hc (by rw [e]; decide)), u2_row _ _ _ (fun e => hc (by rw [e]; decide))], fun k _ => by rw [hI, u2_row _ _ _ (by decide), u2_row _ _ _ (by decide)]⟩
theorem JF.trans {J1 J2 J3 : Nat → Nat → Int64} (h : JF J1 J2) (h' : JF J2 J3) : JF J1 J3 := fun b hb => (h' b hb).trans (h b hb)
def Rd (z : Nat) (f : Nat → Nat) (p : Nat) (I : Nat → Nat → Int32) (J : Nat → Nat → Int64) : Prop := TxM z f I ∧ TokM z f p I J ∧ p ≤ z
def ErrM (F pl : Nat) (I : Nat → Nat → Int32) : Prop := I 131 6 = nI F ∧ I 131 7 = nI pl
theorem stop_err {I I' : Nat → Nat → Int32} {F pl : Nat} (hI : I' = u2 (u2 I 131 6 (nI F)) 131 7 (I 122 19)) (ht : I 122 19 = nI pl) : ErrM F pl I' :=
  ⟨by rw [hI, u2_ne _ _ (by decide), u2_self], by rw [hI, u2_self]; exact ht⟩
theorem CSt.fr {t : Nat → Option (Nat × Nat)} {I I' : Nat → Nat → Int32} {P : Nat → Nat → Value} (h : CSt t I P) (hI : ∀ b, b < 100 → I' b = I b) : CSt t I' P := by
  intro e he
  have h1 := h e he
  have hlt : e.1 < 25 := (by decide : ∀ e ∈ cstT, e.1 < 25) e he
  refine ⟨h1.1, h1.2.1, h1.2.2.1, ?_, ?_, h1.2.2.2.2.2⟩
  · rw [hI e.1 (by omega)]; exact h1.2.2.2.1
  · rw [hI (e.1 + 30) (by omega)]; exact h1.2.2.2.2.1
theorem RdZ.c {I I' : Nat → Nat → Int32} (h : RdZ I I') {t : Nat → Option (Nat × Nat)} {P : Nat → Nat → Value} (hC : CSt t I P) : CSt t I' P := hC.fr (fun b hb => h.1 b (fun e => by simp only [List.mem_cons, List.not_mem_nil, or_false] at e; omega))
theorem cst_lt : ∀ e ∈ cstT, ∀ i, i < e.2.length → 97 ≤ lt_ e.2 i ∧ lt_ e.2 i ≤ 122 := by decide
def srt (k : Nat) : Nat := if k = 0 then 1 else if k = 1 then 0 else if k = 2 then 2 else if k = 3 then 3 else 4
theorem srt_lt (k : Nat) : srt k < 5 := by unfold srt; split; decide; split; decide; split; decide; split <;> decide
theorem TokM.srt {z p : Nat} {f : Nat → Nat} {I : Nat → Nat → Int32} {J : Nat → Nat → Int64} (h : TokM z f p I J) : I 122 18 = nI (srt (tK z f p)) := by
  obtain ⟨-, h0, h1, h2, h3, h4, -⟩ := h
  rcases tK_cases z f p with e | e | e | e | e | e
  · rw [h0 e, e]; rfl
  · rw [h1 e, e]; rfl
  · rw [(h2 e).1, e]; rfl
  · rw [(h3 e).1, e]; rfl
  · rw [(h4 (Or.inl e)).1, e]; rfl
  · rw [(h4 (Or.inr e)).1, e]; rfl
theorem srt_2 {z p : Nat} {f : Nat → Nat} : srt (tK z f p) = 2 ↔ tK z f p = 2 := by rcases tK_cases z f p with e | e | e | e | e | e <;> rw [e] <;> decide
theorem srt_3 {z p : Nat} {f : Nat → Nat} : srt (tK z f p) = 3 ↔ tK z f p = 3 := by rcases tK_cases z f p with e | e | e | e | e | e <;> rw [e] <;> decide
theorem srt_1 {z p : Nat} {f : Nat → Nat} : srt (tK z f p) = 1 ↔ tK z f p = 0 := by rcases tK_cases z f p with e | e | e | e | e | e <;> rw [e] <;> decide
theorem srt_4 {z p : Nat} {f : Nat → Nat} : srt (tK z f p) = 4 ↔ (tK z f p = 44 ∨ tK z f p = 59) := by rcases tK_cases z f p with e | e | e | e | e | e <;> rw [e] <;> decide
theorem tK_lt (z : Nat) (f : Nat → Nat) (p : Nat) : tK z f p < 60 := by rcases tK_cases z f p with e | e | e | e | e | e <;> rw [e] <;> decide
/-- what comes of reading: frame, then the answer or the error -/
def PQ (t : Nat → Option (Nat × Nat)) (P : Nat → Nat → Value) (n sl : Nat) (Fr : (Nat → Nat → Int32) → Prop) (J : Nat → Nat → Int64) {α : Type} (r : RR α) (ok : α → AO → (Nat → Nat → Int32) → (Nat → Nat → Int64) → Prop) : AO → AH → Prop := fun o h' =>
  ∃ I' J', h' = (t, I', J', P, n, sl) ∧ Fr I' ∧ JF J J' ∧ match r with
    | .inr x => ok x o I' J'
    | .inl (F, pl) => o = .inr 131 ∧ ErrM F pl I'
theorem psW_t {z p : Nat} {f : Nat → Nat} {L : List Nat} (h : wIs z f p L) : psW z f L p = .inr (tE z f p) := @if_pos _ (Classical.propDecidable _) h _ _ _
theorem psW_f {z p : Nat} {f : Nat → Nat} {L : List Nat} (h : ¬ wIs z f p L) : psW z f L p = .inl (1, tA z f p) := @if_neg _ (Classical.propDecidable _) h _ _ _
theorem psN_1 {z p : Nat} {f : Nat → Nat} (h : ¬ tK z f p = 2) : psN z f p = .inl (1, tA z f p) := if_neg h
theorem psN_2 {z p : Nat} {f : Nat → Nat} (h : tK z f p = 2) (h2 : ¬ (tL z f p = 1 ∧ tW z f p 0 ≤ 104)) : psN z f p = .inl (2, tA z f p) := by unfold psN; rw [if_pos h, if_neg h2]
theorem psN_r {z p : Nat} {f : Nat → Nat} (h : tK z f p = 2) (h2 : tL z f p = 1 ∧ tW z f p 0 ≤ 104) : psN z f p = .inr (tW z f p 0 - 97) := by unfold psN; rw [if_pos h, if_pos h2]
theorem psN_k {z p x : Nat} {f : Nat → Nat} (h : psN z f p = .inr x) (hp : p ≤ z) : tK z f p = 2 ∧ x < 8 := by
  unfold psN at h
  split at h
  · next h2 =>
    split at h
    · next h3 =>
      cases h
      have := (tW_ok hp h2).2.2 0 (by omega)
      exact ⟨h2, by omega⟩
    · cases h
  · cases h
theorem psV_1 {z p m : Nat} {f : Nat → Nat} (h : ¬ tK z f p = 3) : psV z f m p = .inl (1, tA z f p) := if_neg h
theorem psV_2 {z p m : Nat} {f : Nat → Nat} (h : tK z f p = 3) (h2 : ¬ tV z f p < m) : psV z f m p = .inl (3, tA z f p) := by unfold psV; rw [if_pos h, if_neg h2]
theorem psV_r {z p m : Nat} {f : Nat → Nat} (h : tK z f p = 3) (h2 : tV z f p < m) : psV z f m p = .inr (tV z f p, tE z f p) := by unfold psV; rw [if_pos h, if_pos h2]
theorem enc_name {c : Nat → Nat} {n : Nat} (hn : 1 ≤ n) (h : ∀ i, i < n → 97 ≤ c i ∧ c i ≤ 122) : encN c n ≤ 8 ↔ (n = 1 ∧ c 0 ≤ 104) := by
  cases n with
  | zero => omega
  | succ n =>
    cases n with
    | zero =>
      have := h 0 (by omega)
      show 32 * 0 + (c 0 - 96) ≤ 8 ↔ _
      omega
    | succ n =>
      have h1 := encN_pos (c := c) (n := n + 1) (fun i hi => h i (by omega)) (by omega)
      rw [encN]
      omega
theorem enc_big {z p : Nat} {f : Nat → Nat} (hp : p ≤ z) (h : tK z f p = 2) : encN (tW z f p) (tL z f p) < 2 ^ 40 ∧ 1 ≤ encN (tW z f p) (tL z f p) := by
  obtain ⟨h1, h2, h3⟩ := tW_ok hp h
  refine ⟨?_, encN_pos h3 (by omega)⟩
  have h4 := encN_lt h3
  have h5 : 32 ^ tL z f p ≤ 32 ^ 8 := Nat.pow_le_pow_right (by decide) h2
  have h6 : (32 : Nat) ^ 8 = 2 ^ 40 := by decide
  omega
theorem lcmp_eq {a b : Nat} (ha : a < 2 ^ 63) (hb : b < 2 ^ 63) : lg_cmp (lN a) (lN b) = 0 ↔ a = b := by
  rw [lg_cmp_eq]; exact ⟨fun h => lN_inj ha hb h, fun h => by rw [h]⟩
theorem lcmp_le {a b : Nat} (ha : a < 2 ^ 63) (hb : b < 2 ^ 63) : lg_cmp (lN a) (lN b) ≤ 0 ↔ a ≤ b := by
  rw [lg_cmp_le, Int64.le_iff_toInt_le, lN_toI ha, lN_toI hb]; omega
theorem lcmp_lt {a b : Nat} (ha : a < 2 ^ 63) (hb : b < 2 ^ 63) : lg_cmp (lN a) (lN b) < 0 ↔ a < b := by
  rw [lg_cmp_lt, Int64.lt_iff_toInt_lt, lN_toI ha, lN_toI hb]; omega
theorem enc_st {c : Nat → Nat} {k : Nat} (h97 : 97 ≤ c k) (hc : c k < 256) : 32 * lN (encN c k) + (nI (c k - 97 + 1)).toInt64 = lN (encN c (k + 1)) := by
  rw [nI_l (by omega), show (32 : Int64) = lN 32 from rfl, lN_mul, lN_add, encN, show c k - 97 + 1 = c k - 96 by omega]
set_option maxHeartbeats 4000000 in
theorem m_wordOf {G : GG} (d : Nat) {t : Nat → Option (Nat × Nat)} {J : Nat → Nat → Int64} {P : Nat → Nat → Value} {n sl : Nat} {I : Nat → Nat → Int32} {a v len : Nat} {c : Nat → Nat} (hx : StrT t I P a v len c) (hc : ∀ i, i < len → 97 ≤ c i ∧ c i ≤ 122) (hB : n ≤ 601124) (hSl : sl ≤ 7293033) : CP G (d + 4) M5_wordOf [.ref a] (t, I, J, P, n, sl) (.long (lN (encN c len))) := by
  refine CA.w ?_
  show RA _ _ M5_wordOf 0 [.ref a, U0, U0, U0] [] _ _
  have hl := hx.2.2.2.2.2
  refine x_lconst (v := 0) d5_wordOf_0 (by decide) ?_
  refine x_lstore_n d5_wordOf_1 ?_
  refine x_iconst (v := nI 0) d5_wordOf_2 (by decide) ?_
  refine x_istore_n d5_wordOf_3 ?_
  have hL : ∀ k, k ≤ len → RA G (d + 4) M5_wordOf 4 [.ref a, .long (lN (encN c k)), U0, .int (nI k)] [] (t, I, J, P, n, sl) (fun o h' => o = .inl (some (.long (lN (encN c len)))) ∧ h' = (t, I, J, P, n, sl)) := by
    refine up_ind ?_
    intro k hk_ ih
    refine x_iload_n d5_wordOf_4 rfl ?_
    refine x_aload_n d5_wordOf_5 rfl ?_
    refine x_invV a 0 d5_wordOf_6 hx.1 v5_121_15 (j_length hx hB hSl) (Cont.p ?_) (hB := hB) (hS := hSl)
    refine x_icmp_geN 36 d5_wordOf_9 (by decide) (by omega) (by omega) (fun b9 => ?_) (fun b9 => ?_)
    · refine x_lload_n d5_wordOf_36 rfl ?_
      exact x_lreturn d5_wordOf_37 ⟨by rw [show k = len by omega], rfl⟩
    · refine x_ldc2 (v := 32) d5_wordOf_12 (lw_g (lw_at lw_m5 192 rfl) rfl) ?_
      refine x_lload_n d5_wordOf_15 rfl ?_
      refine x_lmul d5_wordOf_16 ?_
      refine x_aload_n d5_wordOf_17 rfl ?_
      refine x_iload_n d5_wordOf_18 rfl ?_
      refine x_invV a 1 d5_wordOf_19 hx.1 v5_129_15 (j_charAt hx b9 hB hSl) (Cont.p ?_) (hB := hB) (hS := hSl)
      have hck := hc k b9
      refine x_bipush (v := nI 97) d5_wordOf_22 (by decide) ?_
      refine x_isubN d5_wordOf_24 (by omega) ?_
      refine x_iconst (v := nI 1) d5_wordOf_25 (by decide) ?_
      refine x_iaddN d5_wordOf_26 ?_
      refine x_i2l d5_wordOf_27 ?_
      refine x_ladd d5_wordOf_28 ?_
      refine x_top (congrArg Value.long (enc_st hck.1 (by omega))) ?_
      refine x_lstore_n d5_wordOf_29 ?_
      refine x_iincN (c := 1) d5_wordOf_30 rfl (by decide) ?_
      refine x_goto 4 d5_wordOf_33 (by decide) ?_
      exact ih b9
  exact hL 0 (Nat.zero_le _)
theorem enc_cst : ∀ {a : Nat} {L : List Nat}, (a, L) ∈ cstT → encN (lt_ L) L.length < 2 ^ 63 := by
  intro a L h
  exact (by decide : ∀ e ∈ cstT, encN (lt_ e.2) e.2.length < 2 ^ 63) (a, L) h
set_option maxHeartbeats 4000000 in
theorem m_isWord {G : GG} (d : Nat) {t : Nat → Option (Nat × Nat)} {J : Nat → Nat → Int64} {P : Nat → Nat → Value} {n sl : Nat} {I : Nat → Nat → Int32} {z p : Nat} {f : Nat → Nat} (hS : SH t P) (hC : CSt t I P) (hR : Rd z f p I J) (hB : n ≤ 601124) (hSl : sl ≤ 7293033) {a : Nat} {L : List Nat} (hm : (a, L) ∈ cstT) : CP G (d + 5) M5_isWord [.ref 122, .ref a] (t, I, J, P, n, sl) (.int (nI (bP (wIs z f p L)))) := by
  refine CA.w ?_
  show RA _ _ M5_isWord 0 [.ref 122, .ref a] [] _ _
  refine x_aload_n d5_isWord_0 rfl ?_
  refine x_getI d5_isWord_1 f5_139 (hS.T rfl) ?_
  refine x_top (congrArg Value.int (show I 122 18 = nI (srt (tK z f p)) from hR.2.1.srt)) ?_
  have hsr_ := srt_lt (tK z f p)
  refine x_iconst (v := nI 2) d5_isWord_4 (by decide) ?_
  refine x_icmp_neN 24 d5_isWord_5 (by decide) (by omega) (by omega) (fun b5 => ?_) (fun b5 => ?_)
  · refine x_iconst (v := nI 0) d5_isWord_24 (by decide) ?_
    exact x_ireturn d5_isWord_25 ⟨by rw [bP_f (fun h => b5 (srt_2.mpr h.1))], rfl⟩
  · refine x_aload_n d5_isWord_8 rfl ?_
    refine x_getJ d5_isWord_9 f5_148 (hS.T rfl) ?_
    refine x_top (congrArg Value.long (show J 122 22 = lN (encN (tW z f p) (tL z f p)) from (hR.2.1.2.2.2.1 (srt_2.mp b5)).2)) ?_
    refine x_aload_n d5_isWord_12 rfl ?_
    refine x_invS 1 d5_isWord_13 s5_158 (m_wordOf _ (hC _ hm) (cst_lt _ hm) hB hSl) (Cont.p ?_) (hB := hB) (hS := hSl)
    refine x_lcmp d5_isWord_16 ?_
    refine x_if_ne 24 d5_isWord_17 (by decide) (fun b17 => ?_) (fun b17 => ?_)
    · refine x_iconst (v := nI 0) d5_isWord_24 (by decide) ?_
      exact x_ireturn d5_isWord_25 ⟨by rw [bP_f (fun h => b17 ((lcmp_eq (by have := (enc_big hR.2.2 (srt_2.mp b5)).1; omega) (enc_cst hm)).mpr ((encN_inj _ _ (tW_ok hR.2.2 (srt_2.mp b5)).2.2 (cst_lt _ hm)).mpr h.2)))], rfl⟩
    · refine x_iconst (v := nI 1) d5_isWord_20 (by decide) ?_
      refine x_goto 25 d5_isWord_21 (by decide) ?_
      exact x_ireturn d5_isWord_25 ⟨by rw [bP_t ⟨srt_2.mp b5, (encN_inj _ _ (tW_ok hR.2.2 (srt_2.mp b5)).2.2 (cst_lt _ hm)).mp ((lcmp_eq (by have := (enc_big hR.2.2 (srt_2.mp b5)).1; omega) (enc_cst hm)).mp b17)⟩], rfl⟩
set_option maxHeartbeats 4000000 in
theorem m_is {G : GG} (d : Nat) {t : Nat → Option (Nat × Nat)} {J : Nat → Nat → Int64} {P : Nat → Nat → Value} {n sl : Nat} {I : Nat → Nat → Int32} {z p : Nat} {f : Nat → Nat} (hS : SH t P) (hR : Rd z f p I J) (hB : n ≤ 601124) (hSl : sl ≤ 7293033) {c : Nat} (hc : c = 44 ∨ c = 59) : CP G d M5_is [.ref 122, .int (nI c)] (t, I, J, P, n, sl) (.int (nI (bP (tK z f p = c)))) := by
  refine CA.w ?_
  show RA _ _ M5_is 0 [.ref 122, .int (nI c)] [] _ _
  refine x_aload_n d5_is_0 rfl ?_
  refine x_getI d5_is_1 f5_139 (hS.T rfl) ?_
  refine x_top (congrArg Value.int (show I 122 18 = nI (srt (tK z f p)) from hR.2.1.srt)) ?_
  have hsr_ := srt_lt (tK z f p)
  refine x_iconst (v := nI 4) d5_is_4 (by decide) ?_
  refine x_icmp_neN 20 d5_is_5 (by decide) (by omega) (by omega) (fun b5 => ?_) (fun b5 => ?_)
  · refine x_iconst (v := nI 0) d5_is_20 (by decide) ?_
    exact x_ireturn d5_is_21 ⟨by rw [bP_f (fun h => b5 (srt_4.mpr (by omega)))], rfl⟩
  · refine x_aload_n d5_is_8 rfl ?_
    refine x_getI d5_is_9 f5_142 (hS.T rfl) ?_
    refine x_top (congrArg Value.int (show I 122 20 = nI (tK z f p) from (hR.2.1.2.2.2.2.2.1 (srt_4.mp b5)).2)) ?_
    have htk_ := tK_lt z f p
    refine x_iload_n d5_is_12 rfl ?_
    refine x_icmp_neN 20 d5_is_13 (by decide) (by omega) (by omega) (fun b13 => ?_) (fun b13 => ?_)
    · refine x_iconst (v := nI 0) d5_is_20 (by decide) ?_
      exact x_ireturn d5_is_21 ⟨by rw [bP_f b13], rfl⟩
    · refine x_iconst (v := nI 1) d5_is_16 (by decide) ?_
      refine x_goto 21 d5_is_17 (by decide) ?_
      exact x_ireturn d5_is_21 ⟨by rw [bP_t b13], rfl⟩
set_option maxHeartbeats 4000000 in
theorem m_stop {G : GG} (d : Nat) {t : Nat → Option (Nat × Nat)} {J : Nat → Nat → Int64} {P : Nat → Nat → Value} {n sl : Nat} {I : Nat → Nat → Int32} (hS : SH t P) {k : Nat} : CA G d M5_stop [.ref 122, .int (nI k)] (t, I, J, P, n, sl) (fun o h' => o = .inl (some (.ref 131)) ∧ h' = (t, u2 (u2 I 131 6 (nI k)) 131 7 (I 122 19), J, P, n, sl)) := by
  refine CA.w ?_
  show RA _ _ M5_stop 0 [.ref 122, .int (nI k)] [] _ _
  refine x_aload_n d5_stop_0 rfl ?_
  refine x_getP d5_stop_1 f5_41 (hS.T rfl) (hS.P rfl) ?_
  refine x_iload_n d5_stop_4 rfl ?_
  refine x_putIE d5_stop_5 p5_112 (hS.T rfl) (fun I1 hI1 => ?_)
  refine x_aload_n d5_stop_8 rfl ?_
  refine x_getP d5_stop_9 f5_41 (hS.T rfl) (hS.P rfl) ?_
  refine x_aload_n d5_stop_12 rfl ?_
  refine x_getI d5_stop_13 f5_114 (hS.T rfl) ?_
  refine x_putIE d5_stop_16 p5_117 (hS.T rfl) (fun I2 hI2 => ?_)
  refine x_aload_n d5_stop_19 rfl ?_
  refine x_getP d5_stop_20 f5_41 (hS.T rfl) (hS.P rfl) ?_
  exact x_areturn d5_stop_23 ⟨rfl, by rw [hI2, hI1, u2_row _ _ _ (by decide)]⟩
set_option maxHeartbeats 4000000 in
theorem m_needWord {G : GG} (d : Nat) {t : Nat → Option (Nat × Nat)} {J : Nat → Nat → Int64} {P : Nat → Nat → Value} {n sl : Nat} {I : Nat → Nat → Int32} {z p : Nat} {f : Nat → Nat} (hS : SH t P) (hC : CSt t I P) (hR : Rd z f p I J) (hB : n ≤ 601124) (hSl : sl ≤ 7293033) {a : Nat} {L : List Nat} (hm : (a, L) ∈ cstT) : CA G (d + 6) M5_needWord [.ref 122, .ref a] (t, I, J, P, n, sl) (PQ t P n sl (RdZ I) J (psW z f L p) (fun p1 o I' J' => o = .inl none ∧ Rd z f p1 I' J')) := by
  refine CA.w ?_
  show RA _ _ M5_needWord 0 [.ref 122, .ref a] [] _ _
  refine x_aload_n d5_needWord_0 rfl ?_
  refine x_aload_n d5_needWord_1 rfl ?_
  refine x_invV 122 1 d5_needWord_2 (hS.T rfl) v5_162_5 (m_isWord _ hS hC hR hB hSl hm) (Cont.p ?_) (hB := hB) (hS := hSl)
  have hbl := bP_lt (wIs z f p L)
  refine x_if_neN 14 d5_needWord_5 (by decide) (by omega) (fun b5 => ?_) (fun b5 => ?_)
  · refine x_aload_n d5_needWord_14 rfl ?_
    refine x_invV 122 0 d5_needWord_15 (hS.T rfl) v5_169_5 (m_next _ hS hR.1 (tE_le hR.2.2).2 (hR.2.1.2.2.2.2.2.2 (by rw [(bP_1.mp (by omega) : wIs z f p L).1]; decide)) hB hSl) ?_ (hB := hB) (hS := hSl)
    rintro o h' ⟨rfl, I1, J1, rfl, hs1, hj1, ht1⟩
    have hRd1 : Rd z f (tE z f p) I1 J1 := ⟨hs1.tx hR.1, ht1, (tE_le hR.2.2).2⟩
    exact x_return d5_needWord_18 ⟨I1, J1, rfl, ((RdZ.rf _).trans hs1.z), ((JF.rf _).trans hj1), by rw [psW_t (bP_1.mp (by omega) : wIs z f p L)]; exact ⟨rfl, hRd1⟩⟩
  · refine x_aload_n d5_needWord_8 rfl ?_
    refine x_iconst (v := nI 1) d5_needWord_9 (by decide) ?_
    refine x_invV 122 1 d5_needWord_10 (hS.T rfl) v5_166_5 (m_stop _ hS (k := 1)) (Cont.e ?_) (hB := hB) (hS := hSl)
    obtain ⟨I2, hI2⟩ : ∃ z, z = u2 (u2 I 131 6 (nI 1)) 131 7 (I 122 19) := ⟨_, rfl⟩
    rw [← hI2]
    have he2 := stop_err hI2 hR.2.1.1
    have hz2 := RdZ.stop hI2
    exact x_athrow d5_needWord_13 ⟨by decide, Or.inl ⟨rfl, ⟨I2, J, rfl, ((RdZ.rf _).trans hz2), (JF.rf _), by rw [show psW z f L p = .inl (1, tA z f p) from psW_f (bP_0.mp b5)]; exact ⟨rfl, he2⟩⟩⟩⟩
set_option maxHeartbeats 4000000 in
theorem m_nameHere {G : GG} (d : Nat) {t : Nat → Option (Nat × Nat)} {J : Nat → Nat → Int64} {P : Nat → Nat → Value} {n sl : Nat} {I : Nat → Nat → Int32} {z p : Nat} {f : Nat → Nat} (hS : SH t P) (hR : Rd z f p I J) (hB : n ≤ 601124) (hSl : sl ≤ 7293033) : CA G (d + 1) M5_nameHere [.ref 122] (t, I, J, P, n, sl) (PQ t P n sl (RdZ I) J (psN z f p) (fun x o I' J' => o = .inl (some (.int (nI x))) ∧ Rd z f p I' J')) := by
  refine CA.w ?_
  show RA _ _ M5_nameHere 0 [.ref 122] [] _ _
  refine x_aload_n d5_nameHere_0 rfl ?_
  refine x_getI d5_nameHere_1 f5_139 (hS.T rfl) ?_
  refine x_top (congrArg Value.int (show I 122 18 = nI (srt (tK z f p)) from hR.2.1.srt)) ?_
  have hsr_ := srt_lt (tK z f p)
  refine x_iconst (v := nI 2) d5_nameHere_4 (by decide) ?_
  refine x_icmp_eqN 14 d5_nameHere_5 (by decide) (by omega) (by omega) (fun b5 => ?_) (fun b5 => ?_)
  · have hk2 := srt_2.mp b5
    have hbig := enc_big hR.2.2 hk2
    have hnm := enc_name (tW_ok hR.2.2 hk2).1 (tW_ok hR.2.2 hk2).2.2
    refine x_aload_n d5_nameHere_14 rfl ?_
    refine x_getJ d5_nameHere_15 f5_148 (hS.T rfl) ?_
    refine x_top (congrArg Value.long (show J 122 22 = lN (encN (tW z f p) (tL z f p)) from (hR.2.1.2.2.2.1 (srt_2.mp b5)).2)) ?_
    refine x_lconst (v := 1) d5_nameHere_18 (by decide) ?_
    refine x_lcmp d5_nameHere_19 ?_
    refine x_if_lt 34 d5_nameHere_20 (by decide) (fun b20 => absurd b20 (fun q => absurd ((lcmp_lt (a := encN (tW z f p) (tL z f p)) (b := 1) (by omega) (by decide)).mp q) (by omega))) (fun b20 => ?_)
    refine x_aload_n d5_nameHere_23 rfl ?_
    refine x_getJ d5_nameHere_24 f5_148 (hS.T rfl) ?_
    refine x_top (congrArg Value.long (show J 122 22 = lN (encN (tW z f p) (tL z f p)) from (hR.2.1.2.2.2.1 (srt_2.mp b5)).2)) ?_
    refine x_ldc2 (v := 8) d5_nameHere_27 (lw_g (lw_at lw_m5 236 rfl) rfl) ?_
    refine x_lcmp d5_nameHere_30 ?_
    refine x_if_le 40 d5_nameHere_31 (by decide) (fun b31 => ?_) (fun b31 => ?_)
    · refine x_aload_n d5_nameHere_40 rfl ?_
      refine x_getJ d5_nameHere_41 f5_148 (hS.T rfl) ?_
      refine x_top (congrArg Value.long (show J 122 22 = lN (encN (tW z f p) (tL z f p)) from (hR.2.1.2.2.2.1 (srt_2.mp b5)).2)) ?_
      refine x_l2i d5_nameHere_44 ?_
      refine x_iconst (v := nI 1) d5_nameHere_45 (by decide) ?_
      refine x_isub d5_nameHere_46 ?_
      refine x_ireturn d5_nameHere_47 ?_
      have hle := hnm.mp ((lcmp_le (a := encN (tW z f p) (tL z f p)) (b := 8) (by omega) (by decide)).mp b31)
      refine ⟨I, J, rfl, RdZ.rf _, JF.rf _, ?_⟩
      rw [psN_r hk2 hle]
      refine ⟨?_, hR⟩
      rw [lN_i, pk_sub (by omega)]
      have h97 := (tW_ok hR.2.2 hk2).2.2 0 (by omega)
      rw [show encN (tW z f p) (tL z f p) - 1 = tW z f p 0 - 97 by rw [hle.1]; show 32 * 0 + (tW z f p 0 - 96) - 1 = _; omega]
    · refine x_aload_n d5_nameHere_34 rfl ?_
      refine x_iconst (v := nI 2) d5_nameHere_35 (by decide) ?_
      refine x_invV 122 1 d5_nameHere_36 (hS.T rfl) v5_166_5 (m_stop _ hS (k := 2)) (Cont.e ?_) (hB := hB) (hS := hSl)
      obtain ⟨I1, hI1⟩ : ∃ z, z = u2 (u2 I 131 6 (nI 2)) 131 7 (I 122 19) := ⟨_, rfl⟩
      rw [← hI1]
      have he1 := stop_err hI1 hR.2.1.1
      have hz1 := RdZ.stop hI1
      exact x_athrow d5_nameHere_39 ⟨by decide, Or.inl ⟨rfl, ⟨I1, J, rfl, ((RdZ.rf _).trans hz1), (JF.rf _), by rw [show psN z f p = .inl (2, tA z f p) from psN_2 hk2 (fun h => b31 ((lcmp_le (a := encN (tW z f p) (tL z f p)) (b := 8) (by omega) (by decide)).mpr (hnm.mpr h)))]; exact ⟨rfl, he1⟩⟩⟩⟩
  · refine x_aload_n d5_nameHere_8 rfl ?_
    refine x_iconst (v := nI 1) d5_nameHere_9 (by decide) ?_
    refine x_invV 122 1 d5_nameHere_10 (hS.T rfl) v5_166_5 (m_stop _ hS (k := 1)) (Cont.e ?_) (hB := hB) (hS := hSl)
    obtain ⟨I2, hI2⟩ : ∃ z, z = u2 (u2 I 131 6 (nI 1)) 131 7 (I 122 19) := ⟨_, rfl⟩
    rw [← hI2]
    have he2 := stop_err hI2 hR.2.1.1
    have hz2 := RdZ.stop hI2
    exact x_athrow d5_nameHere_13 ⟨by decide, Or.inl ⟨rfl, ⟨I2, J, rfl, ((RdZ.rf _).trans hz2), (JF.rf _), by rw [show psN z f p = .inl (1, tA z f p) from psN_1 (fun h => b5 (srt_2.mpr h))]; exact ⟨rfl, he2⟩⟩⟩⟩
set_option maxHeartbeats 4000000 in
theorem m_needName {G : GG} (d : Nat) {t : Nat → Option (Nat × Nat)} {J : Nat → Nat → Int64} {P : Nat → Nat → Value} {n sl : Nat} {I : Nat → Nat → Int32} {z p : Nat} {f : Nat → Nat} (hS : SH t P) (hR : Rd z f p I J) (hB : n ≤ 601124) (hSl : sl ≤ 7293033) : CA G (d + 2) M5_needName [.ref 122] (t, I, J, P, n, sl) (PQ t P n sl (RdZ I) J (psM z f p) (fun x o I' J' => o = .inl (some (.int (nI x.1))) ∧ Rd z f x.2 I' J')) := by
  refine CA.w ?_
  show RA _ _ M5_needName 0 [.ref 122, U0] [] _ _
  refine x_aload_n d5_needName_0 rfl ?_
  rcases hps1 : psN z f p with ⟨F1, pl1⟩ | x1
  · refine x_invV 122 0 d5_needName_1 (hS.T rfl) v5_174_5 (m_nameHere _ hS hR hB hSl) ?_ (hB := hB) (hS := hSl)
    rintro o h' ⟨I1, J1, rfl, hz1, hj1, hr1⟩
    rw [hps1] at hr1
    obtain ⟨rfl, he1⟩ := hr1
    exact ⟨by decide, Or.inl ⟨rfl, ⟨I1, J1, rfl, ((RdZ.rf _).trans hz1), ((JF.rf _).trans hj1), by rw [show psM z f p = .inl (F1, pl1) from by simp only [psM, hps1]]; exact ⟨rfl, he1⟩⟩⟩⟩
  · refine x_invV 122 0 d5_needName_1 (hS.T rfl) v5_174_5 (m_nameHere _ hS hR hB hSl) ?_ (hB := hB) (hS := hSl)
    rintro o h' ⟨I1, J1, rfl, hz1, hj1, hr1⟩
    rw [hps1] at hr1
    obtain ⟨rfl, hRd1⟩ := hr1
    refine x_istore_n d5_needName_4 ?_
    refine x_aload_n d5_needName_5 rfl ?_
    refine x_invV 122 0 d5_needName_6 (hS.T rfl) v5_169_5 (m_next _ hS hRd1.1 (tE_le hRd1.2.2).2 (hRd1.2.1.2.2.2.2.2.2 (by rw [(psN_k hps1 hR.2.2).1]; decide)) hB hSl) ?_ (hB := hB) (hS := hSl)
    rintro o h' ⟨rfl, I2, J2, rfl, hs2, hj2, ht2⟩
    have hRd2 : Rd z f (tE z f p) I2 J2 := ⟨hs2.tx hRd1.1, ht2, (tE_le hRd1.2.2).2⟩
    refine x_iload_n d5_needName_9 rfl ?_
    exact x_ireturn d5_needName_10 ⟨I2, J2, rfl, (((RdZ.rf _).trans hz1).trans hs2.z), (((JF.rf _).trans hj1).trans hj2), by rw [show psM z f p = .inr (x1, tE z f p) by simp only [psM, hps1]]; exact ⟨rfl, hRd2⟩⟩
set_option maxHeartbeats 4000000 in
theorem m_needWhole {G : GG} (d : Nat) {t : Nat → Option (Nat × Nat)} {J : Nat → Nat → Int64} {P : Nat → Nat → Value} {n sl : Nat} {I : Nat → Nat → Int32} {z p : Nat} {f : Nat → Nat} (hS : SH t P) (hR : Rd z f p I J) (hB : n ≤ 601124) (hSl : sl ≤ 7293033) {m : Nat} (hm : m ≤ 16) : CA G (d + 2) M5_needWhole [.ref 122, .int (nI m)] (t, I, J, P, n, sl) (PQ t P n sl (RdZ I) J (psV z f m p) (fun x o I' J' => o = .inl (some (.int (nI x.1))) ∧ Rd z f x.2 I' J')) := by
  refine CA.w ?_
  show RA _ _ M5_needWhole 0 [.ref 122, .int (nI m), U0] [] _ _
  refine x_aload_n d5_needWhole_0 rfl ?_
  refine x_getI d5_needWhole_1 f5_139 (hS.T rfl) ?_
  refine x_top (congrArg Value.int (show I 122 18 = nI (srt (tK z f p)) from hR.2.1.srt)) ?_
  have hsr_ := srt_lt (tK z f p)
  refine x_iconst (v := nI 3) d5_needWhole_4 (by decide) ?_
  refine x_icmp_eqN 14 d5_needWhole_5 (by decide) (by omega) (by omega) (fun b5 => ?_) (fun b5 => ?_)
  · refine x_aload_n d5_needWhole_14 rfl ?_
    refine x_getI d5_needWhole_15 f5_155 (hS.T rfl) ?_
    refine x_top (congrArg Value.int (show I 122 21 = nI (tV z f p) from (hR.2.1.2.2.2.2.1 (srt_3.mp b5)).2)) ?_
    have htv_ := tV_lt z f p hR.2.2 (srt_3.mp b5)
    refine x_iload_n d5_needWhole_18 rfl ?_
    refine x_icmp_ltN 28 d5_needWhole_19 (by decide) (by omega) (by omega) (fun b19 => ?_) (fun b19 => ?_)
    · refine x_aload_n d5_needWhole_28 rfl ?_
      refine x_getI d5_needWhole_29 f5_155 (hS.T rfl) ?_
      refine x_top (congrArg Value.int (show I 122 21 = nI (tV z f p) from (hR.2.1.2.2.2.2.1 (srt_3.mp b5)).2)) ?_
      have htv_ := tV_lt z f p hR.2.2 (srt_3.mp b5)
      refine x_istore_n d5_needWhole_32 ?_
      refine x_aload_n d5_needWhole_33 rfl ?_
      refine x_invV 122 0 d5_needWhole_34 (hS.T rfl) v5_169_5 (m_next _ hS hR.1 (tE_le hR.2.2).2 (hR.2.1.2.2.2.2.2.2 (by rw [srt_3.mp b5]; decide)) hB hSl) ?_ (hB := hB) (hS := hSl)
      rintro o h' ⟨rfl, I1, J1, rfl, hs1, hj1, ht1⟩
      have hRd1 : Rd z f (tE z f p) I1 J1 := ⟨hs1.tx hR.1, ht1, (tE_le hR.2.2).2⟩
      refine x_iload_n d5_needWhole_37 rfl ?_
      exact x_ireturn d5_needWhole_38 ⟨I1, J1, rfl, ((RdZ.rf _).trans hs1.z), ((JF.rf _).trans hj1), by rw [psV_r (srt_3.mp b5) b19]; exact ⟨rfl, hRd1⟩⟩
    · refine x_aload_n d5_needWhole_22 rfl ?_
      refine x_iconst (v := nI 3) d5_needWhole_23 (by decide) ?_
      refine x_invV 122 1 d5_needWhole_24 (hS.T rfl) v5_166_5 (m_stop _ hS (k := 3)) (Cont.e ?_) (hB := hB) (hS := hSl)
      obtain ⟨I2, hI2⟩ : ∃ z, z = u2 (u2 I 131 6 (nI 3)) 131 7 (I 122 19) := ⟨_, rfl⟩
      rw [← hI2]
      have he2 := stop_err hI2 hR.2.1.1
      have hz2 := RdZ.stop hI2
      exact x_athrow d5_needWhole_27 ⟨by decide, Or.inl ⟨rfl, ⟨I2, J, rfl, ((RdZ.rf _).trans hz2), (JF.rf _), by rw [show psV z f m p = .inl (3, tA z f p) from psV_2 (srt_3.mp b5) (by omega)]; exact ⟨rfl, he2⟩⟩⟩⟩
  · refine x_aload_n d5_needWhole_8 rfl ?_
    refine x_iconst (v := nI 1) d5_needWhole_9 (by decide) ?_
    refine x_invV 122 1 d5_needWhole_10 (hS.T rfl) v5_166_5 (m_stop _ hS (k := 1)) (Cont.e ?_) (hB := hB) (hS := hSl)
    obtain ⟨I3, hI3⟩ : ∃ z, z = u2 (u2 I 131 6 (nI 1)) 131 7 (I 122 19) := ⟨_, rfl⟩
    rw [← hI3]
    have he3 := stop_err hI3 hR.2.1.1
    have hz3 := RdZ.stop hI3
    exact x_athrow d5_needWhole_13 ⟨by decide, Or.inl ⟨rfl, ⟨I3, J, rfl, ((RdZ.rf _).trans hz3), (JF.rf _), by rw [show psV z f m p = .inl (1, tA z f p) from psV_1 (fun h => b5 (srt_3.mpr h))]; exact ⟨rfl, he3⟩⟩⟩⟩
