/-! the reference: isAhead, isWell, cure -/
set_option maxRecDepth 100000
set_option maxHeartbeats 4000000 in
theorem m_isAhead {G : GG} (d : Nat) {h : AH} {a b : Nat} (ha : a < 1024) (hb : b < 1024) : CP G d M5_isAhead [.int (nI a), .int (nI b)] h (.int (nI (bP (Ahd a b)))) := by
  refine CA.w ?_
  show RA _ _ M5_isAhead 0 [.int (nI a), .int (nI b), U0] [] _ _
  refine x_iload_n d5_isAhead_0 rfl ?_
  refine x_iload_n d5_isAhead_1 rfl ?_
  refine x_ixorN d5_isAhead_2 ?_
  refine x_istore_n d5_isAhead_3 ?_
  refine x_iload_n d5_isAhead_4 rfl ?_
  refine x_iload_n d5_isAhead_5 rfl ?_
  refine x_ineg d5_isAhead_6 ?_
  refine x_iand d5_isAhead_7 ?_
  refine x_top (congrArg Value.int (lowb_i (a ^^^ b) (Nat.xor_lt_two_pow (n := 10) ha hb))) ?_
  refine x_iload_n d5_isAhead_8 rfl ?_
  refine x_iandN d5_isAhead_9 ?_
  have hx_ : lowb (a ^^^ b) &&& a ≤ a := Nat.and_le_right
  refine x_if_eqN 17 d5_isAhead_10 (by decide) (by omega) (fun b10 => ?_) (fun b10 => ?_)
  · refine x_iconst (v := nI 0) d5_isAhead_17 (by decide) ?_
    exact x_ireturn d5_isAhead_18 ⟨by rw [bP_f (fun z => (ahd_iff ha hb).mpr z b10)], rfl⟩
  · refine x_iconst (v := nI 1) d5_isAhead_13 (by decide) ?_
    refine x_goto 18 d5_isAhead_14 (by decide) ?_
    exact x_ireturn d5_isAhead_18 ⟨by rw [bP_t ((ahd_iff ha hb).mp b10)], rfl⟩
theorem nar_b {x : Nat} (h : x < 2) : narrow .boolean (.int (nI x)) = .int (nI x) := by
  rcases (by omega : x = 0 ∨ x = 1) with e | e <;> rw [e] <;> rfl
set_option maxHeartbeats 4000000 in
theorem m_isWell {G : GG} (d : Nat) {t : Nat → Option (Nat × Nat)} {J : Nat → Nat → Int64} {P : Nat → Nat → Value} {n sl : Nat} {I : Nat → Nat → Int32} {σ : Sg} {sv : Nat → Nat} (hS : SH t P) (hσ : SgOK σ) (hM : MP I σ) (hsv : ∀ s, s < 16 → I 142 s = nI (sv s) ∧ sv s < 65536) (hB : n ≤ 601124) (hSl : sl ≤ 7293033) : CA G (d + 3) M5_isWell [.ref 122] (t, I, J, P, n, sl) (fun o h' => o = .inl (some (.int (nI (bP (∀ s, s < 16 → lk σ s = sv s))))) ∧ ∃ I', h' = (t, I', J, P, n, sl) ∧ WK σ I I') := by
  refine CA.w ?_
  show RA _ _ M5_isWell 0 [.ref 122, U0, U0] [] _ _
  refine x_aload_n d5_isWell_0 rfl ?_
  refine x_invV 122 0 d5_isWell_1 (hS.T rfl) v5_241_5 (m_works _ hS hσ hM hB hSl) ?_ (hB := hB) (hS := hSl)
  rintro o h' ⟨rfl, I2, rfl, hWK⟩
  have hsv2 : ∀ s, s < 16 → I2 142 s = nI (sv s) := fun s hs => by rw [hWK.1 142 (by decide)]; exact (hsv s hs).1
  refine x_iconst (v := nI 1) d5_isWell_4 (by decide) ?_
  refine x_istore_n d5_isWell_5 ?_
  refine x_iconst (v := nI 0) d5_isWell_6 (by decide) ?_
  refine x_istore_n d5_isWell_7 ?_
  have hL : ∀ k, k ≤ 16 → RA G (d + 3) M5_isWell 8 [.ref 122, .int (nI (bP (∀ s, s < k → lk σ s = sv s))), .int (nI k)] [] (t, I2, J, P, n, sl) (fun o h' => o = .inl (some (.int (nI (bP (∀ s, s < 16 → lk σ s = sv s))))) ∧ ∃ I', h' = (t, I', J, P, n, sl) ∧ WK σ I I') := by
    refine up_ind ?_
    intro k hk_ ih
    have hbl := bP_lt (∀ s, s < k → lk σ s = sv s)
    refine x_iload_n d5_isWell_8 rfl ?_
    refine x_bipush (v := nI 16) d5_isWell_9 (by decide) ?_
    refine x_icmp_geN 45 d5_isWell_11 (by decide) (by omega) (by omega) (fun b11 => ?_) (fun b11 => ?_)
    · refine x_iload_n d5_isWell_45 rfl ?_
      exact x_ireturn d5_isWell_46 ⟨by rw [show k = 16 by omega], I2, rfl, hWK⟩ (hn := nar_b hbl)
    · refine x_iload_n d5_isWell_14 rfl ?_
      refine x_if_eqN 37 d5_isWell_15 (by decide) (by omega) (fun b15 => ?_) (fun b15 => ?_)
      · refine x_iconst (v := nI 0) d5_isWell_37 (by decide) ?_
        refine x_istore_n d5_isWell_38 ?_
        refine x_iincN (c := 1) d5_isWell_39 rfl (by decide) ?_
        refine x_goto 8 d5_isWell_42 (by decide) ?_
        rw [show nI 0 = nI (bP (∀ s, s < (k + 1) → lk σ s = sv s)) by rw [bP_f (fun z => bP_0.mp b15 (fun s hs => z s (by omega)))]]
        exact ih (by omega)
      · refine x_aload_n d5_isWell_18 rfl ?_
        refine x_getP d5_isWell_19 f5_58 (hS.T rfl) (hS.P rfl) ?_
        refine x_iload_n d5_isWell_22 rfl ?_
        refine x_ialdN d5_isWell_23 (hS.T rfl) (by omega) ?_
        refine x_top (congrArg Value.int (show I2 136 k = nI (lk σ k) from (hWK.2.2.2.2.2 _ (by omega)))) ?_
        have hlk_ := lk_lt σ k
        refine x_aload_n d5_isWell_24 rfl ?_
        refine x_getP d5_isWell_25 f5_77 (hS.T rfl) (hS.P rfl) ?_
        refine x_iload_n d5_isWell_28 rfl ?_
        refine x_ialdN d5_isWell_29 (hS.T rfl) (by omega) ?_
        refine x_top (congrArg Value.int (show I2 142 k = nI (sv k) from (hsv2 _ (by omega)))) ?_
        have hsv_ := (hsv k (by omega)).2
        refine x_icmp_neN 37 d5_isWell_30 (by decide) (by omega) (by omega) (fun b30 => ?_) (fun b30 => ?_)
        · refine x_iconst (v := nI 0) d5_isWell_37 (by decide) ?_
          refine x_istore_n d5_isWell_38 ?_
          refine x_iincN (c := 1) d5_isWell_39 rfl (by decide) ?_
          refine x_goto 8 d5_isWell_42 (by decide) ?_
          rw [show nI 0 = nI (bP (∀ s, s < (k + 1) → lk σ s = sv s)) by rw [bP_f (fun z => b30 (z k (by omega)))]]
          exact ih (by omega)
        · refine x_iconst (v := nI 1) d5_isWell_33 (by decide) ?_
          refine x_goto 38 d5_isWell_34 (by decide) ?_
          refine x_istore_n d5_isWell_38 ?_
          refine x_iincN (c := 1) d5_isWell_39 rfl (by decide) ?_
          refine x_goto 8 d5_isWell_42 (by decide) ?_
          rw [show nI 1 = nI (bP (∀ s, s < (k + 1) → lk σ s = sv s)) by rw [bP_t (fun s hs => by by_cases e : s = k; rw [e]; exact b30; exact bP_1.mp (show bP (∀ s, s < k → lk σ s = sv s) = 1 by omega) s (by omega))]]
          exact ih (by omega)
  have hL0 := hL 0 (Nat.zero_le _)
  rw [bP_t (fun s hs => absurd hs (Nat.not_lt_zero _))] at hL0
  exact hL0
/-- the memory in cure: rows that stay, but scratch; the services, the candidates -/
def CuM (σ : Sg) (ρ : Rs) (I I' : Nat → Nat → Int32) : Prop := (∀ b, b ∉ [122, 123, 133, 134, 135, 136, 137, 138, 140, 141, 142] → I' b = I b) ∧ (∀ k, k ∉ [0, 16, 17, 18, 19, 20, 21, 34] → I' 122 k = I 122 k) ∧ I' 122 0 = 0
theorem CuM.of {σ : Sg} {ρ : Rs} {I I' : Nat → Nat → Int32} (h : MSm I I') (h0 : I' 122 0 = 0) : CuM σ ρ I I' :=
  ⟨fun b hb => h.1 b (fun e => hb (by simp only [List.mem_cons, List.not_mem_nil, or_false] at e ⊢; omega)), fun k hk => h.2 k (fun e => hk (by simp only [List.mem_cons, List.not_mem_nil, or_false] at e ⊢; omega)), h0⟩
theorem CuM.u {σ : Sg} {ρ : Rs} {I I' I'' : Nat → Nat → Int32} {a k : Nat} {v : Int32} (h : CuM σ ρ I I') (hI : I'' = u2 I' a k v) (ha : a ∈ [123, 133, 134, 135, 136, 137, 138, 140, 141, 142]) : CuM σ ρ I I'' := by
  have h122 : ∀ j, I'' 122 j = I' 122 j := fun j => by rw [hI, u2_row _ _ _ (by rintro rfl; revert ha; decide)]
  refine ⟨fun b hb => ?_, fun j hj => (h122 j).trans (h.2.1 j hj), (h122 0).trans h.2.2⟩
  rw [hI, u2_row _ _ _ (by rintro rfl; exact hb (by simp only [List.mem_cons, List.not_mem_nil, or_false] at ha ⊢; omega))]
  exact h.1 b hb
theorem CuM.c {σ : Sg} {ρ : Rs} {I I' I'' : Nat → Nat → Int32} {v : Int32} (h : CuM σ ρ I I') (hI : I'' = u2 I' 122 34 v) : CuM σ ρ I I'' := by
  refine ⟨fun b hb => ?_, fun j hj => ?_, by rw [hI, u2_ne _ _ (by decide)]; exact h.2.2⟩
  · rw [hI, u2_row _ _ _ (by rintro rfl; revert hb; decide)]; exact h.1 b hb
  · rw [hI, u2_ne _ _ (by rintro rfl; revert hj; decide)]; exact h.2.1 j hj
theorem CuM.wk {σ σ' : Sg} {ρ : Rs} {I I' I'' : Nat → Nat → Int32} (h : CuM σ ρ I I') (hW : WK σ' I' I'') : CuM σ ρ I I'' :=
  ⟨fun b hb => (hW.1 b (fun e => hb (by simp only [List.mem_cons, List.not_mem_nil, or_false] at e ⊢; omega))).trans (h.1 b hb), fun j hj => by rw [hW.1 122 (by decide)]; exact h.2.1 j hj, by rw [hW.1 122 (by decide)]; exact h.2.2⟩
theorem CuM.mp {σ : Sg} {ρ : Rs} {I I' : Nat → Nat → Int32} (h : CuM σ ρ I I') (hM : MP I σ) {g : Nat → Nat} (hg : ∀ p, p < s_np σ → I' 123 p = nI (g p)) : MP I' (sGr σ g) :=
  hM.gr' (h.2.1 4 (by decide)) hg (fun b hb => h.1 b (fun e => by simp only [List.mem_cons, List.not_mem_nil, or_false] at e hb; omega))
theorem CuM.mds {σ : Sg} {ρ : Rs} {I I' : Nat → Nat → Int32} (h : CuM σ ρ I I') (hD : MdS I σ ρ) (hg : ∀ p, p < s_np σ → I' 123 p = nI (s_gr σ p)) {c : Nat} {f : Nat → Nat} (hc : I' 122 34 = nI c) (hc9 : c ≤ 10) (hf : ∀ j, j < c → I' 141 j = nI (f j)) : MdS I' σ (rCd ρ c f) := by
  obtain ⟨h1, h2, h3, a1, a2, a3, a4, a5, a6, a7, a8, a9, a10⟩ := hD
  refine ⟨h1, ⟨h2.1, h2.2.1, h2.2.2.1, h2.2.2.2.1, h2.2.2.2.2.1, hc9, h2.2.2.2.2.2.2⟩, h.mp h3 hg, ?_, ?_, ?_, ?_, ?_, ?_, ?_, ?_, hc, hf⟩
  · rw [h.1 125 (by decide)]; exact a1
  · rw [h.2.1 15 (by decide)]; exact a2
  · rw [h.1 132 (by decide)]; exact a3
  · rw [h.2.1 1 (by decide)]; exact a4
  · rw [h.2.1 2 (by decide)]; exact a5
  · rw [h.2.1 3 (by decide)]; exact a6
  · rw [h.2.1 30 (by decide)]; exact a7
  · rw [h.1 139 (by decide)]; exact a8
theorem CuM.mf {σ : Sg} {ρ : Rs} {I I' : Nat → Nat → Int32} (h : CuM σ ρ I I') : MF I I' := fun b hb => h.1 b (fun e => by simp only [List.mem_cons, List.not_mem_nil, or_false] at e; omega)
/-- the services, the candidates up to m of them, the grants with e turned -/
def CuR (σ : Sg) (ρ : Rs) (I I' : Nat → Nat → Int32) (e : Nat → Bool) : Prop := CuM σ ρ I I' ∧ (∀ s, s < 16 → I' 142 s = nI (lk σ s &&& r_mt ρ s)) ∧ (∀ j, j < cdN σ → I' 140 j = nI (cod (cdI σ j))) ∧ (∀ p, p < s_np σ → I' 123 p = nI (gT (s_gr σ) e p)) ∧ I' 122 34 = I 122 34 ∧ I' 141 = I 141
theorem CuR.turn {σ : Sg} {ρ : Rs} {I I' I'' : Nat → Nat → Int32} {e e' : Nat → Bool} {c : Nat} (h : CuR σ ρ I I' e) (hI : I'' = u2 I' 123 (c / 16) (nI (gT (s_gr σ) e (c / 16) ^^^ 2 ^ (c % 16)))) (he : ∀ j, e' j = (e j ^^ decide (c = j))) : CuR σ ρ I I'' e' := by
  obtain ⟨h1, h2, h3, h4, h5, h6⟩ := h
  have er : ∀ b, b ≠ 123 → I'' b = I' b := fun b hb => by rw [hI, u2_row _ _ _ hb]
  refine ⟨h1.u hI (by decide), ?_, ?_, ?_, by rw [er 122 (by decide)]; exact h5, (er 141 (by decide)).trans h6⟩
  · rw [er 142 (by decide)]; exact h2
  · rw [er 140 (by decide)]; exact h3
  · have e1 : gT (s_gr σ) e' = upN (gT (s_gr σ) e) (c / 16) (gT (s_gr σ) e (c / 16) ^^^ 2 ^ (c % 16)) := by rw [gT_congr he, gT_step]
    rw [e1]
    exact row_set h4 hI rfl
theorem CuR.wk {σ σ' : Sg} {ρ : Rs} {I I' I'' : Nat → Nat → Int32} {e : Nat → Bool} (h : CuR σ ρ I I' e) (hW : WK σ' I' I'') : CuR σ ρ I I'' e := by
  obtain ⟨h1, h2, h3, h4, h5, h6⟩ := h
  exact ⟨h1.wk hW, by rw [hW.1 142 (by decide)]; exact h2, by rw [hW.1 140 (by decide)]; exact h3, by rw [hW.1 123 (by decide)]; exact h4, by rw [hW.1 122 (by decide)]; exact h5, (hW.1 141 (by decide)).trans h6⟩
theorem CuR.cg {σ : Sg} {ρ : Rs} {I I' : Nat → Nat → Int32} {e e' : Nat → Bool} (h : CuR σ ρ I I' e) (he : ∀ j, e j = e' j) : CuR σ ρ I I' e' := by rw [← (funext he : e = e')]; exact h
/-- the best so far, as a local -/
def bsV (o : Option Nat) : Int32 := match o with
  | none => -1
  | some b => nI b
theorem nI_m1 {b : Nat} (h : b < 2 ^ 31) : ¬ nI b = -1 := fun e => by
  have h1 := congrArg Int32.toInt e
  rw [nI_toInt h] at h1
  have h2 : (-1 : Int32).toInt = -1 := by decide
  omega
theorem eB_none (c : Nat → Nat) (S j : Nat) : eB c S 0 j = false := rfl
theorem eB_t {c : Nat → Nat} {S k : Nat} (h : S.testBit k = true) (j : Nat) : eB c S (k + 1) j = (eB c S k j ^^ decide (c k = j)) := by rw [eB, h]; rfl
theorem eB_f {c : Nat → Nat} {S k : Nat} (h : S.testBit k = false) (j : Nat) : eB c S (k + 1) j = eB c S k j := by rw [eB, h]; simp
theorem cod_d {x : Nat} : cod x = 100 * (x / 16) + x % 16 := rfl
theorem pop_lt2 {n : Nat} (hn : n ≤ 10) : 2 ^ n ≤ 1024 := Nat.pow_le_pow_right (n := 2) (by decide) hn
theorem cdI_rng {σ : Sg} (hσ : SgOK σ) {j : Nat} (h : j < cdN σ) : cdI σ j / 16 < s_np σ ∧ cdI σ j % 16 < 16 := by
  have := (cdI_ok h).1
  omega
set_option maxHeartbeats 16000000 in
theorem m_cure (G : GG) (d : Nat) (σ : Sg) (ρ : Rs) : MCon G (d + 4) M5_cure [.ref 122] σ ρ (qCure σ ρ).1 σ (qCure σ ρ).2 := by
  intro t I J P n sl hS hD hB hSl
  have hσ := hD.1
  have hρ := hD.2.1
  have hM := hD.2.2.1
  have hR := hD.2.2.2
  have hnp := hσ.1
  refine CA.w ?_
  show RA _ _ M5_cure 0 [.ref 122, U0, U0, U0, U0] [] _ _
  refine x_aload_n d5_cure_0 rfl ?_
  refine x_iconst (v := nI 0) d5_cure_1 (by decide) ?_
  refine x_putIE d5_cure_2 p5_80 (hS.T rfl) (fun I1 hI1 => ?_)
  have hsmI1 : MSm I I1 := MSm.thr hI1
  have hthI1 : I1 122 0 = 0 := by rw [hI1, u2_self]; rfl
  refine x_aload_n d5_cure_5 rfl ?_
  refine x_invV 122 0 d5_cure_6 (hS.T rfl) v5_241_5 (m_works _ hS hσ (hsmI1.mp hM) hB hSl) ?_ (hB := hB) (hS := hSl)
  rintro o h' ⟨rfl, I2, rfl, hWK⟩
  have hsmI2 : MSm I I2 := hsmI1.trans (MSm.wk hWK)
  have hthI2 : I2 122 0 = 0 := by rw [hWK.1 122 (by decide)]; exact hthI1
  refine x_iconst (v := nI 0) d5_cure_9 (by decide) ?_
  refine x_istore_n d5_cure_10 ?_
  have hsets : ¬ nMis σ ρ = 0 → ¬ 10 < cdN σ → ∀ I9, CuR σ ρ I I9 (fun _ => false) → ∀ v2 v3 v4, RA G (d + 4) M5_cure 148 [.ref 122, .int (nI (cdN σ)), v2, v3, v4] [] (t, I9, J, P, n, sl) (fun o h' => o = .inl (some (.int (qCure σ ρ).1)) ∧ ∃ I' J', h' = (t, I', J', P, n, sl) ∧ MdS I' σ (qCure σ ρ).2 ∧ MF I I' ∧ JF J J' ∧ I' 122 0 = 0) := by
    intro hm0 h10
    have h1024 := pop_lt2 (n := cdN σ) (by omega)
    have hone := Nat.one_le_two_pow (n := cdN σ)
    have hset : ∀ c m, c + m = 2 ^ cdN σ → 1 ≤ m → ∀ o, ∀ I9, CuR σ ρ I I9 (fun _ => false) → BstU σ ρ m o → ∀ v4, RA G (d + 4) M5_cure 152 [.ref 122, .int (nI (cdN σ)), .int (bsV o), .int (nI m), v4] [] (t, I9, J, P, n, sl) (fun o h' => o = .inl (some (.int (qCure σ ρ).1)) ∧ ∃ I' J', h' = (t, I', J', P, n, sl) ∧ MdS I' σ (qCure σ ρ).2 ∧ MF I I' ∧ JF J J' ∧ I' 122 0 = 0) := by
      intro c
      induction c with
      | zero =>
        intro m hm hm1 o I9 hC hU v4
        have hme : m = 2 ^ cdN σ := by omega
        cases o with
        | none =>
          show RA _ _ _ _ [_, _, Value.int (-1), _, _] _ _ _
          refine x_iload_n d5_cure_152 rfl ?_
          refine x_iconst (v := nI 1) d5_cure_153 (by decide) ?_
          refine x_iload_n d5_cure_154 rfl ?_
          refine x_1shlN d5_cure_155 (by omega) ?_
          refine x_icmp_geN 284 d5_cure_156 (by decide) (by omega) (by omega) (fun b156 => ?_) (fun b156 => absurd b156 (by omega))
          refine x_iload_n d5_cure_284 rfl ?_
          refine x_iconst (v := -1) d5_cure_285 (by decide) ?_
          refine x_icmp_ne 295 d5_cure_286 (by decide) (fun b286 => absurd b286 (fun z => z rfl)) (fun b286 => ?_)
          refine x_aload_n d5_cure_289 rfl ?_
          refine x_iconst (v := nI 5) d5_cure_290 (by decide) ?_
          refine x_invV 122 1 d5_cure_291 (hS.T rfl) v5_94_5 (m_refused _ hS (k := 5)) (Cont.e ?_) (hB := hB) (hS := hSl)
          have hme : m = 2 ^ cdN σ := by omega
          subst hme
          rw [show qCure σ ρ = (-1, rT ρ 5) by unfold qCure; rw [if_neg hm0, if_neg h10]; exact @if_neg _ (Classical.propDecidable _) (fun ⟨b, hb⟩ => hU b hb.1 hb.2.1 hb.2.2.1) _ _ _]
          refine x_ireturn d5_cure_294 ⟨rfl, u2 (u2 I9 122 1 (nI 5)) 122 2 (-1), J, rfl, (hC.1.mds hD (fun p hp => by rw [hC.2.2.2.1 p hp, gT_id (hσ.gr hp) (fun _ => rfl)]) (hC.2.2.2.2.1.trans hR.2.2.2.2.2.2.2.2.1) hρ.2.2.2.2.2.1 (f := r_cd ρ) (fun j hj => by rw [hC.2.2.2.2.2]; exact hR.2.2.2.2.2.2.2.2.2 j hj)).tr rfl (by decide), (hC.1.mf).trans (MF.tell rfl), JF.rf J, ?_⟩
          rw [u2_ne _ _ (by decide), u2_ne _ _ (by decide)]
          exact hC.1.2.2
        | some b =>
          have hBst : Bst σ ρ b := by unfold Bst; rw [← hme]; exact hU
          have hb2 := hBst.2.1
          have hcu : ∀ k, k ≤ cdN σ → ∀ I9, CuM σ ρ I I9 → (∀ p, p < s_np σ → I9 123 p = nI (s_gr σ p)) → (∀ j, j < cdN σ → I9 140 j = nI (cod (cdI σ j))) → I9 122 34 = nI (cnB b k) → (∀ j, j < cnB b k → I9 141 j = nI (cdS σ b j)) → RA G (d + 4) M5_cure 302 [.ref 122, .int (nI (cdN σ)), .int (nI b), .int (nI k), v4] [] (t, I9, J, P, n, sl) (fun o h' => o = .inl (some (.int (qCure σ ρ).1)) ∧ ∃ I' J', h' = (t, I', J', P, n, sl) ∧ MdS I' σ (qCure σ ρ).2 ∧ MF I I' ∧ JF J J' ∧ I' 122 0 = 0) := by
            clear hC I9
            refine up_ind ?_
            intro k hk_ ih I9 hC9 hg9 hcd9 hn9 hr9
            have hcb : cnB b k ≤ k := cnW_le _ k
            refine x_iload_n d5_cure_302 rfl ?_
            refine x_iload_n d5_cure_303 rfl ?_
            refine x_icmp_geN 349 d5_cure_304 (by decide) (by omega) (by omega) (fun b304 => ?_) (fun b304 => ?_)
            · refine x_aload_n d5_cure_349 rfl ?_
              refine x_aload_n d5_cure_350 rfl ?_
              refine x_getI d5_cure_351 f5_272 (hS.T rfl) ?_
              refine x_top (congrArg Value.int (show I9 122 34 = nI (cnB b k) from hn9)) ?_
              refine x_invV 122 1 d5_cure_354 (hS.T rfl) v5_98_5 (m_done _ hS (v := nI (cnB b k))) (Cont.e ?_) (hB := hB) (hS := hSl)
              have hke : k = cdN σ := by omega
              subst hke
              have hpop : cnB b (cdN σ) = pop b := cnB_pop hb2 (by omega)
              rw [hpop] at hn9 hr9 hcb
              rw [hpop, show qCure σ ρ = (nI (pop b), rT (rCd ρ (pop b) (cdS σ b)) 0) by unfold qCure; rw [if_neg hm0, if_neg h10, bsF_eq hBst]; exact @if_pos _ (Classical.propDecidable _) ⟨b, hBst⟩ _ _ _]
              refine x_ireturn d5_cure_357 ⟨rfl, u2 (u2 I9 122 1 (nI 0)) 122 2 (-1), J, rfl, (hC9.mds hD hg9 hn9 (by omega) hr9).tr rfl (by decide), (hC9.mf).trans (MF.tell rfl), JF.rf J, ?_⟩
              rw [u2_ne _ _ (by decide), u2_ne _ _ (by decide)]
              exact hC9.2.2
            · refine x_iload_n d5_cure_307 rfl ?_
              refine x_iload_n d5_cure_308 rfl ?_
              refine x_ishrN d5_cure_309 (by omega) (by omega) ?_
              refine x_iconst (v := nI 1) d5_cure_310 (by decide) ?_
              refine x_tbN d5_cure_311 ?_
              have htb_ := tb_lt b k
              refine x_if_neN 318 d5_cure_312 (by decide) (by omega) (fun b312 => ?_) (fun b312 => ?_)
              · refine x_aload_n d5_cure_318 rfl ?_
                refine x_getP d5_cure_319 f5_74 (hS.T rfl) (hS.P rfl) ?_
                refine x_aload_n d5_cure_322 rfl ?_
                refine x_getI d5_cure_323 f5_272 (hS.T rfl) ?_
                refine x_top (congrArg Value.int (show I9 122 34 = nI (cnB b k) from hn9)) ?_
                refine x_aload_n d5_cure_326 rfl ?_
                refine x_getP d5_cure_327 f5_71 (hS.T rfl) (hS.P rfl) ?_
                refine x_iload_n d5_cure_330 rfl ?_
                refine x_ialdN d5_cure_331 (hS.T rfl) (by omega) ?_
                refine x_top (congrArg Value.int (show I9 140 k = nI (cod (cdI σ k)) from (hcd9 k b304))) ?_
                refine x_iastN d5_cure_332 (hS.T rfl) (by omega) (fun I61 hI61 => ?_)
                refine x_aload_n d5_cure_333 rfl ?_
                refine x_dup d5_cure_334 rfl ?_
                refine x_getI d5_cure_335 f5_272 (hS.T rfl) ?_
                refine x_top (congrArg Value.int (show I61 122 34 = nI (cnB b k) from (by rw [hI61, u2_row _ _ _ (by decide)]; exact hn9))) ?_
                refine x_iconst (v := nI 1) d5_cure_338 (by decide) ?_
                refine x_iaddN d5_cure_339 ?_
                refine x_putIE d5_cure_340 p5_272 (hS.T rfl) (fun I62 hI62 => ?_)
                refine x_iincN (c := 1) d5_cure_343 rfl (by decide) ?_
                refine x_goto 302 d5_cure_346 (by decide) ?_
                have hbt : b.testBit k = true := tb_ne0.mp b312
                have ec : cnB b (k + 1) = cnB b k + 1 := cnW_t (W := fun t => b.testBit t) hbt
                exact ih (by omega) I62 ((hC9.u hI61 (by decide)).c hI62) (by rw [hI62, u2_row _ _ _ (by decide), hI61, u2_row _ _ _ (by decide)]; exact hg9) (by rw [hI62, u2_row _ _ _ (by decide), hI61, u2_row _ _ _ (by decide)]; exact hcd9) (by rw [hI62, u2_self, ec]) (by
                  intro j hj
                  rw [hI62, u2_row _ _ _ (by decide), hI61, u2_at]
                  by_cases ej : j = cnB b k
                  · rw [if_pos ej, ej, cdS_eq hbt]
                  · rw [if_neg ej]; exact hr9 j (by omega))
              · refine x_goto 343 d5_cure_315 (by decide) ?_
                refine x_iincN (c := 1) d5_cure_343 rfl (by decide) ?_
                refine x_goto 302 d5_cure_346 (by decide) ?_
                have hbf : b.testBit k = false := tb0.mp b312
                exact ih (by omega) I9 hC9 hg9 hcd9 (by rw [show cnB b (k + 1) = cnB b k from cnW_f (W := fun t => b.testBit t) hbf]; exact hn9) (by rw [show cnB b (k + 1) = cnB b k from cnW_f (W := fun t => b.testBit t) hbf]; exact hr9)
          show RA _ _ _ _ [_, _, Value.int (nI b), _, _] _ _ _
          refine x_iload_n d5_cure_152 rfl ?_
          refine x_iconst (v := nI 1) d5_cure_153 (by decide) ?_
          refine x_iload_n d5_cure_154 rfl ?_
          refine x_1shlN d5_cure_155 (by omega) ?_
          refine x_icmp_geN 284 d5_cure_156 (by decide) (by omega) (by omega) (fun b156 => ?_) (fun b156 => absurd b156 (by omega))
          refine x_iload_n d5_cure_284 rfl ?_
          refine x_iconst (v := -1) d5_cure_285 (by decide) ?_
          refine x_icmp_ne 295 d5_cure_286 (by decide) (fun b286 => ?_) (fun b286 => absurd b286 (nI_m1 (by omega)))
          refine x_aload_n d5_cure_295 rfl ?_
          refine x_iconst (v := nI 0) d5_cure_296 (by decide) ?_
          refine x_putIE d5_cure_297 p5_272 (hS.T rfl) (fun I41 hI41 => ?_)
          refine x_iconst (v := nI 0) d5_cure_300 (by decide) ?_
          refine x_istore_n d5_cure_301 ?_
          exact hcu 0 (Nat.zero_le _) I41 (hC.1.c hI41) (fun p hp => by rw [hI41, u2_row _ _ _ (by decide), hC.2.2.2.1 p hp, gT_id (hσ.gr hp) (fun _ => rfl)]) (fun j hj => by rw [hI41, u2_row _ _ _ (by decide)]; exact hC.2.2.1 j hj) (by rw [hI41, u2_self]; rfl) (fun j hj => absurd hj (Nat.not_lt_zero _))
      | succ c ihc =>
        intro m hm hm1 o I9 hC hU v4
        have hnext : ∀ m', c + m' = 2 ^ cdN σ → 1 ≤ m' → ∀ o, ∀ I9, CuR σ ρ I I9 (fun _ => false) → BstU σ ρ m' o → ∀ v4, RA G (d + 4) M5_cure 152 [.ref 122, .int (nI (cdN σ)), .int (bsV o), .int (nI m'), v4] [] (t, I9, J, P, n, sl) (fun o h' => o = .inl (some (.int (qCure σ ρ).1)) ∧ ∃ I' J', h' = (t, I', J', P, n, sl) ∧ MdS I' σ (qCure σ ρ).2 ∧ MF I I' ∧ JF J J' ∧ I' 122 0 = 0) := ihc
        have hskip : ∀ b I9, CuR σ ρ I I9 (fun _ => false) → BstU σ ρ m (some b) → Bet b m → ∀ v4, RA G (d + 4) M5_cure 278 [.ref 122, .int (nI (cdN σ)), .int (nI b), .int (nI m), v4] [] (t, I9, J, P, n, sl) (fun o h' => o = .inl (some (.int (qCure σ ρ).1)) ∧ ∃ I' J', h' = (t, I', J', P, n, sl) ∧ MdS I' σ (qCure σ ρ).2 ∧ MF I I' ∧ JF J J' ∧ I' 122 0 = 0) := by
          clear hC hU I9
          intro b I9 hC hU hb v4
          refine x_iincN (c := 1) d5_cure_278 rfl (by decide) ?_
          refine x_goto 152 d5_cure_281 (by decide) ?_
          exact hnext (m + 1) (by omega) (by omega) (some b) I9 hC (hU.skip hb) _
        have hback : ∀ o', BstU σ ρ (m + 1) o' → ∀ k, k ≤ cdN σ → ∀ I9, CuR σ ρ I I9 (fun j => eB (cdI σ) m (cdN σ) j ^^ eB (cdI σ) m k j) → RA G (d + 4) M5_cure 245 [.ref 122, .int (nI (cdN σ)), .int (bsV o'), .int (nI m), .int (nI k)] [] (t, I9, J, P, n, sl) (fun o h' => o = .inl (some (.int (qCure σ ρ).1)) ∧ ∃ I' J', h' = (t, I', J', P, n, sl) ∧ MdS I' σ (qCure σ ρ).2 ∧ MF I I' ∧ JF J J' ∧ I' 122 0 = 0) := by
          clear hC hU I9
          intro o' hU'
          refine up_ind ?_
          intro k hk_ ih I9 hC
          refine x_iload d5_cure_245 rfl ?_
          refine x_iload_n d5_cure_247 rfl ?_
          refine x_icmp_geN 278 d5_cure_248 (by decide) (by omega) (by omega) (fun b248 => ?_) (fun b248 => ?_)
          · refine x_iincN (c := 1) d5_cure_278 rfl (by decide) ?_
            refine x_goto 152 d5_cure_281 (by decide) ?_
            have hke : k = cdN σ := by omega
            subst hke
            exact hnext (m + 1) (by omega) (by omega) o' I9 (hC.cg (fun j => by rw [Bool.xor_self])) hU' _
          · refine x_iload_n d5_cure_251 rfl ?_
            refine x_iload d5_cure_252 rfl ?_
            refine x_ishrN d5_cure_254 (by omega) (by omega) ?_
            refine x_iconst (v := nI 1) d5_cure_255 (by decide) ?_
            refine x_tbN d5_cure_256 ?_
            have htb_ := tb_lt m k
            refine x_iconst (v := nI 1) d5_cure_257 (by decide) ?_
            refine x_icmp_neN 272 d5_cure_258 (by decide) (by omega) (by omega) (fun b258 => ?_) (fun b258 => ?_)
            · refine x_iincN (c := 1) d5_cure_272 rfl (by decide) ?_
              refine x_goto 245 d5_cure_275 (by decide) ?_
              exact ih (by omega) I9 (hC.cg (fun j => by rw [eB_f (tb_ne1.mp b258) j]))
            · refine x_aload_n d5_cure_261 rfl ?_
              refine x_aload_n d5_cure_262 rfl ?_
              refine x_getP d5_cure_263 f5_71 (hS.T rfl) (hS.P rfl) ?_
              refine x_iload d5_cure_266 rfl ?_
              refine x_ialdN d5_cure_268 (hS.T rfl) (by omega) ?_
              refine x_top (congrArg Value.int (show I9 140 k = nI (100 * (cdI σ k / 16) + cdI σ k % 16) from ((hC.2.2.1 k b248).trans (by rw [cod_d])))) ?_
              have hrg := cdI_rng hσ b248
              refine x_invV 122 1 d5_cure_269 (hS.T rfl) v5_278_5 (m_turns _ hS (p := cdI σ k / 16) (r := cdI σ k % 16) (g := gT (s_gr σ) (fun j => eB (cdI σ) m (cdN σ) j ^^ eB (cdI σ) m k j) (cdI σ k / 16)) (by omega) hrg.2 (hC.2.2.2.1 _ hrg.1)) (Cont.ev ?_) (hB := hB) (hS := hSl)
              obtain ⟨I21, hI21⟩ : ∃ z, z = u2 I9 123 (cdI σ k / 16) (nI (gT (s_gr σ) (fun j => eB (cdI σ) m (cdN σ) j ^^ eB (cdI σ) m k j) (cdI σ k / 16) ^^^ 2 ^ (cdI σ k % 16))) := ⟨_, rfl⟩
              rw [← hI21]
              refine x_iincN (c := 1) d5_cure_272 rfl (by decide) ?_
              refine x_goto 245 d5_cure_275 (by decide) ?_
              exact ih (by omega) I21 (hC.turn hI21 (fun j => by rw [eB_t (tb1.mp b258) j, Bool.xor_assoc]))
        have hon : ∀ o I9, CuR σ ρ I I9 (fun _ => false) → BstU σ ρ m o → (∀ b, o = some b → Bet m b) → RA G (d + 4) M5_cure 200 [.ref 122, .int (nI (cdN σ)), .int (bsV o), .int (nI m), .int (nI 0)] [] (t, I9, J, P, n, sl) (fun o h' => o = .inl (some (.int (qCure σ ρ).1)) ∧ ∃ I' J', h' = (t, I', J', P, n, sl) ∧ MdS I' σ (qCure σ ρ).2 ∧ MF I I' ∧ JF J J' ∧ I' 122 0 = 0) := by
          clear hC hU I9
          intro o I9 hC0 hU hbt
          have hmid : ∀ I9, CuR σ ρ I I9 (eB (cdI σ) m (cdN σ)) → RA G (d + 4) M5_cure 233 [.ref 122, .int (nI (cdN σ)), .int (bsV o), .int (nI m), .int (nI (cdN σ))] [] (t, I9, J, P, n, sl) (fun o h' => o = .inl (some (.int (qCure σ ρ).1)) ∧ ∃ I' J', h' = (t, I', J', P, n, sl) ∧ MdS I' σ (qCure σ ρ).2 ∧ MF I I' ∧ JF J J' ∧ I' 122 0 = 0) := by
            intro I9 hC
            refine x_aload_n d5_cure_233 rfl ?_
            refine x_invV 122 0 d5_cure_234 (hS.T rfl) v5_281_5 (m_isWell _ hS (σ := sGr σ (gS σ m)) (sv := fun s => lk σ s &&& r_mt ρ s) (hσ.gr' (fun p _ => gT_lt _ _ p)) (hC.1.mp hM hC.2.2.2.1) (fun s hs => ⟨hC.2.1 s hs, and_lt (lk_lt σ s)⟩) hB hSl) ?_ (hB := hB) (hS := hSl)
            rintro o9 h' ⟨rfl, I30, rfl, hWK⟩
            have hC30 := hC.wk hWK
            have hbl := bP_lt (∀ s, s < 16 → lk (sGr σ (gS σ m)) s = lk σ s &&& r_mt ρ s)
            show RA _ _ _ _ _ [Value.int (nI (bP (∀ s, s < 16 → lk (sGr σ (gS σ m)) s = lk σ s &&& r_mt ρ s)))] _ _
            refine x_if_eqN 242 d5_cure_237 (by decide) (by omega) (fun b237 => ?_) (fun b237 => ?_)
            · refine x_iconst (v := nI 0) d5_cure_242 (by decide) ?_
              refine x_istore d5_cure_243 ?_
              exact hback o (hU.not (bP_0.mp b237)) 0 (Nat.zero_le _) I30 (hC30.cg (fun j => by rw [eB_none, Bool.xor_false]))
            · refine x_iload_n d5_cure_240 rfl ?_
              refine x_istore_n d5_cure_241 ?_
              refine x_iconst (v := nI 0) d5_cure_242 (by decide) ?_
              refine x_istore d5_cure_243 ?_
              exact hback (some m) (hU.yes hm1 (bP_1.mp (show bP (∀ s, s < 16 → lk (sGr σ (gS σ m)) s = lk σ s &&& r_mt ρ s) = 1 by omega)) hbt) 0 (Nat.zero_le _) I30 (hC30.cg (fun j => by rw [eB_none, Bool.xor_false]))
          have hgo : ∀ k, k ≤ cdN σ → ∀ I9, CuR σ ρ I I9 (eB (cdI σ) m k) → RA G (d + 4) M5_cure 200 [.ref 122, .int (nI (cdN σ)), .int (bsV o), .int (nI m), .int (nI k)] [] (t, I9, J, P, n, sl) (fun o h' => o = .inl (some (.int (qCure σ ρ).1)) ∧ ∃ I' J', h' = (t, I', J', P, n, sl) ∧ MdS I' σ (qCure σ ρ).2 ∧ MF I I' ∧ JF J J' ∧ I' 122 0 = 0) := by
            clear hC0 I9
            refine up_ind ?_
            intro k hk_ ih I9 hC
            refine x_iload d5_cure_200 rfl ?_
            refine x_iload_n d5_cure_202 rfl ?_
            refine x_icmp_geN 233 d5_cure_203 (by decide) (by omega) (by omega) (fun b203 => ?_) (fun b203 => ?_)
            · have hke : k = cdN σ := by omega
              subst hke
              exact hmid I9 hC
            · refine x_iload_n d5_cure_206 rfl ?_
              refine x_iload d5_cure_207 rfl ?_
              refine x_ishrN d5_cure_209 (by omega) (by omega) ?_
              refine x_iconst (v := nI 1) d5_cure_210 (by decide) ?_
              refine x_tbN d5_cure_211 ?_
              have htb_ := tb_lt m k
              refine x_iconst (v := nI 1) d5_cure_212 (by decide) ?_
              refine x_icmp_neN 227 d5_cure_213 (by decide) (by omega) (by omega) (fun b213 => ?_) (fun b213 => ?_)
              · refine x_iincN (c := 1) d5_cure_227 rfl (by decide) ?_
                refine x_goto 200 d5_cure_230 (by decide) ?_
                exact ih (by omega) I9 (hC.cg (fun j => (eB_f (tb_ne1.mp b213) j).symm))
              · refine x_aload_n d5_cure_216 rfl ?_
                refine x_aload_n d5_cure_217 rfl ?_
                refine x_getP d5_cure_218 f5_71 (hS.T rfl) (hS.P rfl) ?_
                refine x_iload d5_cure_221 rfl ?_
                refine x_ialdN d5_cure_223 (hS.T rfl) (by omega) ?_
                refine x_top (congrArg Value.int (show I9 140 k = nI (100 * (cdI σ k / 16) + cdI σ k % 16) from ((hC.2.2.1 k b203).trans (by rw [cod_d])))) ?_
                have hrg := cdI_rng hσ b203
                refine x_invV 122 1 d5_cure_224 (hS.T rfl) v5_278_5 (m_turns _ hS (p := cdI σ k / 16) (r := cdI σ k % 16) (g := gT (s_gr σ) (eB (cdI σ) m k) (cdI σ k / 16)) (by omega) hrg.2 (hC.2.2.2.1 _ hrg.1)) (Cont.ev ?_) (hB := hB) (hS := hSl)
                obtain ⟨I21, hI21⟩ : ∃ z, z = u2 I9 123 (cdI σ k / 16) (nI (gT (s_gr σ) (eB (cdI σ) m k) (cdI σ k / 16) ^^^ 2 ^ (cdI σ k % 16))) := ⟨_, rfl⟩
                rw [← hI21]
                refine x_iincN (c := 1) d5_cure_227 rfl (by decide) ?_
                refine x_goto 200 d5_cure_230 (by decide) ?_
                exact ih (by omega) I21 (hC.turn hI21 (fun j => eB_t (tb1.mp b213) j))
          exact hgo 0 (Nat.zero_le _) I9 (hC0.cg (fun _ => rfl))
        cases o with
        | none =>
          show RA _ _ _ _ [_, _, Value.int (-1), _, _] _ _ _
          refine x_iload_n d5_cure_152 rfl ?_
          refine x_iconst (v := nI 1) d5_cure_153 (by decide) ?_
          refine x_iload_n d5_cure_154 rfl ?_
          refine x_1shlN d5_cure_155 (by omega) ?_
          refine x_icmp_geN 284 d5_cure_156 (by decide) (by omega) (by omega) (fun b156 => absurd b156 (by omega)) (fun b156 => ?_)
          refine x_iload_n d5_cure_159 rfl ?_
          refine x_iconst (v := -1) d5_cure_160 (by decide) ?_
          refine x_icmp_eq 197 d5_cure_161 (by decide) (fun b161 => ?_) (fun b161 => absurd b161 (fun z => z rfl))
          refine x_iconst (v := nI 0) d5_cure_197 (by decide) ?_
          refine x_istore d5_cure_198 ?_
          exact hon none I9 hC hU (fun b h => by cases h)
        | some b =>
          have hbm := hU.2.1
          show RA _ _ _ _ [_, _, Value.int (nI b), _, _] _ _ _
          refine x_iload_n d5_cure_152 rfl ?_
          refine x_iconst (v := nI 1) d5_cure_153 (by decide) ?_
          refine x_iload_n d5_cure_154 rfl ?_
          refine x_1shlN d5_cure_155 (by omega) ?_
          refine x_icmp_geN 284 d5_cure_156 (by decide) (by omega) (by omega) (fun b156 => absurd b156 (by omega)) (fun b156 => ?_)
          refine x_iload_n d5_cure_159 rfl ?_
          refine x_iconst (v := -1) d5_cure_160 (by decide) ?_
          refine x_icmp_eq 197 d5_cure_161 (by decide) (fun b161 => absurd b161 (nI_m1 (by omega))) (fun b161 => ?_)
          have hpm := pop_le m
          have hpb := pop_le b
          refine x_iload_n d5_cure_164 rfl ?_
          refine x_invS 1 d5_cure_165 s5_244 (m_bits G _ _ m (by omega)) (Cont.p ?_) (hB := hB) (hS := hSl)
          refine x_iload_n d5_cure_168 rfl ?_
          refine x_invS 1 d5_cure_169 s5_244 (m_bits G _ _ b (by omega)) (Cont.p ?_) (hB := hB) (hS := hSl)
          refine x_icmp_gtN 278 d5_cure_172 (by decide) (by omega) (by omega) (fun b172 => ?_) (fun b172 => ?_)
          · exact hskip b I9 hC hU (Or.inl b172) _
          · refine x_iload_n d5_cure_175 rfl ?_
            refine x_invS 1 d5_cure_176 s5_244 (m_bits G _ _ m (by omega)) (Cont.p ?_) (hB := hB) (hS := hSl)
            refine x_iload_n d5_cure_179 rfl ?_
            refine x_invS 1 d5_cure_180 s5_244 (m_bits G _ _ b (by omega)) (Cont.p ?_) (hB := hB) (hS := hSl)
            refine x_icmp_neN 197 d5_cure_183 (by decide) (by omega) (by omega) (fun b183 => ?_) (fun b183 => ?_)
            · refine x_iconst (v := nI 0) d5_cure_197 (by decide) ?_
              refine x_istore d5_cure_198 ?_
              exact hon (some b) I9 hC hU (fun b' h => by cases h; exact Or.inl (by omega))
            · refine x_iload_n d5_cure_186 rfl ?_
              refine x_iload_n d5_cure_187 rfl ?_
              refine x_invS 2 d5_cure_188 s5_275 (m_isAhead _ (a := m) (b := b) (by omega) (by omega)) (Cont.p ?_) (hB := hB) (hS := hSl)
              have hbl := bP_lt (Ahd m b)
              refine x_if_neN 197 d5_cure_191 (by decide) (by omega) (fun b191 => ?_) (fun b191 => ?_)
              · refine x_iconst (v := nI 0) d5_cure_197 (by decide) ?_
                refine x_istore d5_cure_198 ?_
                exact hon (some b) I9 hC hU (fun b' h => by cases h; exact Or.inr ⟨b183, bP_1.mp (by omega)⟩)
              · refine x_goto 278 d5_cure_194 (by decide) ?_
                exact hskip b I9 hC hU (Or.inr ⟨by omega, (Ahd.tri (by omega : m ≠ b)).resolve_left (bP_0.mp b191)⟩) _
    intro I9 hC v2 v3 v4
    refine x_iconst (v := -1) d5_cure_148 (by decide) ?_
    refine x_istore_n d5_cure_149 ?_
    refine x_iconst (v := nI 1) d5_cure_150 (by decide) ?_
    refine x_istore_n d5_cure_151 ?_
    exact hset (2 ^ cdN σ - 1) 1 (by have := Nat.one_le_two_pow (n := cdN σ); omega) (Nat.le_refl _) none I9 hC (BstU.init σ ρ) _
  have hcan : ¬ nMis σ ρ = 0 → ∀ p, p ≤ s_np σ → ∀ I9, CuM σ ρ I I9 ∧ (∀ s, s < 16 → I9 136 s = nI (lk σ s)) ∧ (∀ s, s < 16 → I9 142 s = nI (lk σ s &&& r_mt ρ s)) ∧ (∀ p, p < 10 → I9 137 p = nI (bP (Asked σ p))) ∧ (∀ p, p < s_np σ → I9 123 p = nI (s_gr σ p)) ∧ I9 122 34 = I 122 34 ∧ I9 141 = I 141 → (∀ x, x < 16 * p → cdW σ x = true → I9 140 (cnW (cdW σ) x) = nI (cod x)) → cnW (cdW σ) (16 * p + 0) ≤ 10 → ∀ v3 v4, RA G (d + 4) M5_cure 64 [.ref 122, .int (nI (cnW (cdW σ) (16 * p + 0))), .int (nI p), v3, v4] [] (t, I9, J, P, n, sl) (fun o h' => o = .inl (some (.int (qCure σ ρ).1)) ∧ ∃ I' J', h' = (t, I', J', P, n, sl) ∧ MdS I' σ (qCure σ ρ).2 ∧ MF I I' ∧ JF J J' ∧ I' 122 0 = 0) := by
    intro hm0
    have hcr : ∀ p, p < s_np σ → (p < s_np σ → ∀ I9, CuM σ ρ I I9 ∧ (∀ s, s < 16 → I9 136 s = nI (lk σ s)) ∧ (∀ s, s < 16 → I9 142 s = nI (lk σ s &&& r_mt ρ s)) ∧ (∀ p, p < 10 → I9 137 p = nI (bP (Asked σ p))) ∧ (∀ p, p < s_np σ → I9 123 p = nI (s_gr σ p)) ∧ I9 122 34 = I 122 34 ∧ I9 141 = I 141 → (∀ x, x < 16 * (p + 1) → cdW σ x = true → I9 140 (cnW (cdW σ) x) = nI (cod x)) → cnW (cdW σ) (16 * (p + 1) + 0) ≤ 10 → ∀ v3 v4, RA G (d + 4) M5_cure 64 [.ref 122, .int (nI (cnW (cdW σ) (16 * (p + 1) + 0))), .int (nI ((p + 1))), v3, v4] [] (t, I9, J, P, n, sl) (fun o h' => o = .inl (some (.int (qCure σ ρ).1)) ∧ ∃ I' J', h' = (t, I', J', P, n, sl) ∧ MdS I' σ (qCure σ ρ).2 ∧ MF I I' ∧ JF J J' ∧ I' 122 0 = 0)) → ∀ r, r ≤ 16 → ∀ I9, CuM σ ρ I I9 ∧ (∀ s, s < 16 → I9 136 s = nI (lk σ s)) ∧ (∀ s, s < 16 → I9 142 s = nI (lk σ s &&& r_mt ρ s)) ∧ (∀ p, p < 10 → I9 137 p = nI (bP (Asked σ p))) ∧ (∀ p, p < s_np σ → I9 123 p = nI (s_gr σ p)) ∧ I9 122 34 = I 122 34 ∧ I9 141 = I 141 → (∀ x, x < 16 * p + r → cdW σ x = true → I9 140 (cnW (cdW σ) x) = nI (cod x)) → cnW (cdW σ) (16 * p + r) ≤ 10 → RA G (d + 4) M5_cure 88 [.ref 122, .int (nI (cnW (cdW σ) (16 * p + r))), .int (nI p), .int (nI (s_gr σ p &&& ndF σ p)), .int (nI r)] [] (t, I9, J, P, n, sl) (fun o h' => o = .inl (some (.int (qCure σ ρ).1)) ∧ ∃ I' J', h' = (t, I', J', P, n, sl) ∧ MdS I' σ (qCure σ ρ).2 ∧ MF I I' ∧ JF J J' ∧ I' 122 0 = 0) := by
      intro p hp ihp
      refine up_ind ?_
      intro r hr_ ih I9 hI hX hcl
      refine x_iload d5_cure_88 rfl ?_
      refine x_bipush (v := nI 16) d5_cure_90 (by decide) ?_
      refine x_icmp_geN 142 d5_cure_92 (by decide) (by omega) (by omega) (fun b92 => ?_) (fun b92 => ?_)
      · refine x_iincN (c := 1) d5_cure_142 rfl (by decide) ?_
        refine x_goto 64 d5_cure_145 (by decide) ?_
        have hr16 : r = 16 := by omega
        subst hr16
        rw [show 16 * p + 16 = 16 * (p + 1) + 0 by omega]
        exact ihp hp I9 hI (fun x hx hw => hX x (by omega) hw) (by rw [show 16 * (p + 1) + 0 = 16 * p + 16 by omega]; exact hcl) _ _
      · have e1 : (16 * p + r) / 16 = p := by omega
        have e2 : (16 * p + r) % 16 = r := by omega
        have eW : cdW σ (16 * p + r) = (s_gr σ p &&& ndF σ p).testBit r := by unfold cdW; rw [e1, e2]
        have hgn : s_gr σ p &&& ndF σ p < 65536 := and_lt (hσ.gr hp)
        refine x_iload_n d5_cure_95 rfl ?_
        refine x_iload d5_cure_96 rfl ?_
        refine x_ishrN d5_cure_98 (by omega) (by omega) ?_
        refine x_iconst (v := nI 1) d5_cure_99 (by decide) ?_
        refine x_tbN d5_cure_100 ?_
        have htb_ := tb_lt (s_gr σ p &&& ndF σ p) r
        refine x_if_neN 107 d5_cure_101 (by decide) (by omega) (fun b101 => ?_) (fun b101 => ?_)
        · refine x_iload_n d5_cure_107 rfl ?_
          refine x_bipush (v := nI 10) d5_cure_108 (by decide) ?_
          refine x_icmp_neN 120 d5_cure_110 (by decide) (by omega) (by omega) (fun b110 => ?_) (fun b110 => ?_)
          · refine x_aload_n d5_cure_120 rfl ?_
            refine x_getP d5_cure_121 f5_71 (hS.T rfl) (hS.P rfl) ?_
            refine x_iload_n d5_cure_124 rfl ?_
            refine x_bipush (v := nI 100) d5_cure_125 (by decide) ?_
            refine x_iload_n d5_cure_127 rfl ?_
            refine x_imulN d5_cure_128 ?_
            refine x_iload d5_cure_129 rfl ?_
            refine x_iaddN d5_cure_131 ?_
            refine x_iastN d5_cure_132 (hS.T rfl) (by omega) (fun I21 hI21 => ?_)
            refine x_iincN (c := 1) d5_cure_133 rfl (by decide) ?_
            refine x_iincN (c := 1) d5_cure_136 rfl (by decide) ?_
            refine x_goto 88 d5_cure_139 (by decide) ?_
            have hWt : cdW σ (16 * p + r) = true := by rw [eW]; exact tb_ne0.mp b101
            rw [← cnW_t hWt]
            have hE : ∀ b, b ≠ 140 → I21 b = I9 b := fun b hb => by rw [hI21, u2_row _ _ _ hb]
            exact ih (by omega) I21 ⟨hI.1.u hI21 (by decide), by rw [hE 136 (by decide)]; exact hI.2.1, by rw [hE 142 (by decide)]; exact hI.2.2.1, by rw [hE 137 (by decide)]; exact hI.2.2.2.1, by rw [hE 123 (by decide)]; exact hI.2.2.2.2.1, by rw [hE 122 (by decide)]; exact hI.2.2.2.2.2.1, (hE 141 (by decide)).trans hI.2.2.2.2.2.2⟩ (fun x hx hw => by
              rw [hI21, u2_at]
              by_cases ex : x = 16 * p + r
              · rw [if_pos (by rw [ex]), ex]; unfold cod; rw [e1, e2]
              · have := cnW_lt (W := cdW σ) (x := x) (y := 16 * p + r) (by omega) hw
                rw [if_neg (by omega)]; exact hX x (by omega) hw) (by rw [← Nat.add_assoc, cnW_t hWt]; omega)
          · refine x_aload_n d5_cure_113 rfl ?_
            refine x_bipush (v := nI 6) d5_cure_114 (by decide) ?_
            refine x_invV 122 1 d5_cure_116 (hS.T rfl) v5_94_5 (m_refused _ hS (k := 6)) (Cont.e ?_) (hB := hB) (hS := hSl)
            have hgt : 10 < cdN σ := by
              have h1 := cnW_t (W := cdW σ) (x := 16 * p + r) (by rw [eW]; exact tb_ne0.mp b101)
              have h2 := cnW_mono (W := cdW σ) (x := 16 * p + r + 1) (y := 16 * s_np σ) (by omega)
              unfold cdN; omega
            rw [show qCure σ ρ = (-1, rT ρ 6) by unfold qCure; rw [if_neg hm0, if_pos hgt]]
            refine x_ireturn d5_cure_119 ⟨rfl, u2 (u2 I9 122 1 (nI 6)) 122 2 (-1), J, rfl, (hI.1.mds hD hI.2.2.2.2.1 (hI.2.2.2.2.2.1.trans hR.2.2.2.2.2.2.2.2.1) hρ.2.2.2.2.2.1 (f := r_cd ρ) (fun j hj => by rw [hI.2.2.2.2.2.2]; exact hR.2.2.2.2.2.2.2.2.2 j hj)).tr rfl (by decide), (hI.1.mf).trans (MF.tell rfl), JF.rf J, ?_⟩
            rw [u2_ne _ _ (by decide), u2_ne _ _ (by decide)]
            exact hI.1.2.2
        · refine x_goto 136 d5_cure_104 (by decide) ?_
          refine x_iincN (c := 1) d5_cure_136 rfl (by decide) ?_
          refine x_goto 88 d5_cure_139 (by decide) ?_
          have hWf : cdW σ (16 * p + r) = false := by rw [eW]; exact tb0.mp b101
          rw [← cnW_f hWf]
          exact ih (by omega) I9 hI (fun x hx hw => by by_cases ex : x = 16 * p + r; rw [ex, hWf] at hw; cases hw; exact hX x (by omega) hw) (by rw [← Nat.add_assoc, cnW_f hWf]; omega)
    refine up_ind ?_
    intro p hp_ ih I9 hI hX hcl v3 v4
    refine x_iload_n d5_cure_64 rfl ?_
    refine x_aload_n d5_cure_65 rfl ?_
    refine x_getI d5_cure_66 f5_86 (hS.T rfl) ?_
    refine x_top (congrArg Value.int (show I9 122 4 = nI (s_np σ) from ((hI.1.2.1 4 (by decide)).trans hM.np))) ?_
    refine x_icmp_geN 148 d5_cure_69 (by decide) (by omega) (by omega) (fun b69 => ?_) (fun b69 => ?_)
    · have hpe : p = s_np σ := by omega
      subst hpe
      rw [show cnW (cdW σ) (16 * s_np σ + 0) = cdN σ from rfl]
      by_cases h10 : 10 < cdN σ
      · exact absurd h10 (Nat.not_lt.mpr hcl)
      · exact hsets hm0 h10 I9 ⟨hI.1, hI.2.2.1, fun j hj => by
          have h1 := cdI_ok hj
          have h2 := hX (cdI σ j) (by omega) h1.2.1
          rw [h1.2.2] at h2; exact h2, fun p hp => by rw [hI.2.2.2.2.1 p hp, gT_id (hσ.gr hp) (fun _ => rfl)], hI.2.2.2.2.2.1, hI.2.2.2.2.2.2⟩ _ _ _
    · refine x_aload_n d5_cure_72 rfl ?_
      refine x_getP d5_cure_73 f5_13 (hS.T rfl) (hS.P rfl) ?_
      refine x_iload_n d5_cure_76 rfl ?_
      refine x_ialdN d5_cure_77 (hS.T rfl) (by omega) ?_
      refine x_top (congrArg Value.int (show I9 123 p = nI (s_gr σ p) from (hI.2.2.2.2.1 p b69))) ?_
      have hgr_ := hσ.gr b69
      refine x_aload_n d5_cure_78 rfl ?_
      refine x_iload_n d5_cure_79 rfl ?_
      refine x_invV 122 1 d5_cure_80 (hS.T rfl) v5_269_5 (m_neededOf _ hS hσ ((hI.1.mp hM hI.2.2.2.2.1) : MP I9 σ) b69 (hI.2.2.2.1 _ (by omega))) (Cont.p ?_) (hB := hB) (hS := hSl)
      refine x_iandN d5_cure_83 ?_
      refine x_istore_n d5_cure_84 ?_
      refine x_iconst (v := nI 0) d5_cure_85 (by decide) ?_
      refine x_istore d5_cure_86 ?_
      exact hcr p b69 ih 0 (Nat.zero_le _) I9 hI hX hcl
  have hmis : ∀ I9, CuM σ ρ I I9 → (∀ s, s < 16 → I9 136 s = nI (lk σ s)) → (∀ s, s < 16 → I9 142 s = nI (lk σ s &&& r_mt ρ s)) → (∀ p, p < 10 → I9 137 p = nI (bP (Asked σ p))) → (∀ p, p < s_np σ → I9 123 p = nI (s_gr σ p)) → I9 122 34 = I 122 34 → I9 141 = I 141 → ∀ v1, RA G (d + 4) M5_cure 42 [.ref 122, v1, U0, U0, U0] [] (t, I9, J, P, n, sl) (fun o h' => o = .inl (some (.int (qCure σ ρ).1)) ∧ ∃ I' J', h' = (t, I', J', P, n, sl) ∧ MdS I' σ (qCure σ ρ).2 ∧ MF I I' ∧ JF J J' ∧ I' 122 0 = 0) := by
    intro I9 hC hlk9 hsv hak9 hg9 hc9 hd9 v1
    refine x_aload_n d5_cure_42 rfl ?_
    refine x_invV 122 0 d5_cure_43 (hS.T rfl) v5_247_5 (m_misuses _ hS (l := lk σ) (m := r_mt ρ) (fun s hs => ⟨hlk9 s hs, lk_lt σ s⟩) (fun s hs => ⟨by rw [hC.1 125 (by decide)]; exact hR.1 s hs, hρ.1 s hs⟩) hB hSl) (Cont.p ?_) (hB := hB) (hS := hSl)
    refine x_top (show _ = Value.int (nI (nMis σ ρ)) from rfl) ?_
    have hnm0 := nMis_le σ ρ
    refine x_if_neN 60 d5_cure_46 (by decide) (by omega) (fun b46 => ?_) (fun b46 => ?_)
    · refine x_iconst (v := nI 0) d5_cure_60 (by decide) ?_
      refine x_istore_n d5_cure_61 ?_
      refine x_iconst (v := nI 0) d5_cure_62 (by decide) ?_
      refine x_istore_n d5_cure_63 ?_
      exact hcan b46 0 (Nat.zero_le _) I9 ⟨hC, hlk9, hsv, hak9, hg9, hc9, hd9⟩ (fun x hx => absurd hx (Nat.not_lt_zero _)) (show cnW (cdW σ) (16 * 0 + 0) ≤ 10 from Nat.zero_le 10) _ _
    · refine x_aload_n d5_cure_49 rfl ?_
      refine x_iconst (v := nI 0) d5_cure_50 (by decide) ?_
      refine x_putIE d5_cure_51 p5_272 (hS.T rfl) (fun I21 hI21 => ?_)
      refine x_aload_n d5_cure_54 rfl ?_
      refine x_iconst (v := nI 0) d5_cure_55 (by decide) ?_
      refine x_invV 122 1 d5_cure_56 (hS.T rfl) v5_98_5 (m_done _ hS (v := nI 0)) (Cont.e ?_) (hB := hB) (hS := hSl)
      rw [show qCure σ ρ = (nI 0, rT (rCd ρ 0 (r_cd ρ)) 0) from if_pos b46]
      refine x_ireturn d5_cure_59 ⟨rfl, u2 (u2 I21 122 1 (nI 0)) 122 2 (-1), J, rfl, ((hC.c hI21).mds hD (by rw [hI21, u2_row _ _ _ (by decide)]; exact hg9) (c := 0) (by rw [hI21, u2_self]) (by decide) (f := r_cd ρ) (fun j hj => absurd hj (Nat.not_lt_zero _))).tr rfl (by decide), ((hC.c hI21).mf).trans (MF.tell rfl), JF.rf J, ?_⟩
      rw [u2_ne _ _ (by decide), u2_ne _ _ (by decide)]
      exact (hC.c hI21).2.2
  have hsl : ∀ k, k ≤ 16 → ∀ I9, CuM σ ρ I I9 → (∀ s, s < 16 → I9 136 s = nI (lk σ s)) → (∀ s, s < k → I9 142 s = nI (lk σ s &&& r_mt ρ s)) → (∀ p, p < 10 → I9 137 p = nI (bP (Asked σ p))) → (∀ p, p < s_np σ → I9 123 p = nI (s_gr σ p)) → I9 122 34 = I 122 34 → I9 141 = I 141 → RA G (d + 4) M5_cure 11 [.ref 122, .int (nI k), U0, U0, U0] [] (t, I9, J, P, n, sl) (fun o h' => o = .inl (some (.int (qCure σ ρ).1)) ∧ ∃ I' J', h' = (t, I', J', P, n, sl) ∧ MdS I' σ (qCure σ ρ).2 ∧ MF I I' ∧ JF J J' ∧ I' 122 0 = 0) := by
    refine up_ind ?_
    intro k hk_ ih I9 hC hlk9 hsv9 hak9 hg9 hc9 hd9
    refine x_iload_n d5_cure_11 rfl ?_
    refine x_bipush (v := nI 16) d5_cure_12 (by decide) ?_
    refine x_icmp_geN 42 d5_cure_14 (by decide) (by omega) (by omega) (fun b14 => ?_) (fun b14 => ?_)
    · exact hmis I9 hC hlk9 (fun s hs => hsv9 s (by omega)) hak9 hg9 hc9 hd9 _
    · refine x_aload_n d5_cure_17 rfl ?_
      refine x_getP d5_cure_18 f5_77 (hS.T rfl) (hS.P rfl) ?_
      refine x_iload_n d5_cure_21 rfl ?_
      refine x_aload_n d5_cure_22 rfl ?_
      refine x_getP d5_cure_23 f5_58 (hS.T rfl) (hS.P rfl) ?_
      refine x_iload_n d5_cure_26 rfl ?_
      refine x_ialdN d5_cure_27 (hS.T rfl) (by omega) ?_
      refine x_top (congrArg Value.int (show I9 136 k = nI (lk σ k) from (hlk9 _ (by omega)))) ?_
      refine x_aload_n d5_cure_28 rfl ?_
      refine x_getP d5_cure_29 f5_20 (hS.T rfl) (hS.P rfl) ?_
      refine x_iload_n d5_cure_32 rfl ?_
      refine x_ialdN d5_cure_33 (hS.T rfl) (by omega) ?_
      refine x_top (congrArg Value.int (show I9 125 k = nI (r_mt ρ k) from ((congrFun (hC.1 125 (by decide)) _).trans (hR.1 _ (by omega))))) ?_
      refine x_iandN d5_cure_34 ?_
      refine x_iastN d5_cure_35 (hS.T rfl) (by omega) (fun I21 hI21 => ?_)
      refine x_iincN (c := 1) d5_cure_36 rfl (by decide) ?_
      refine x_goto 11 d5_cure_39 (by decide) ?_
      exact ih (by omega) I21 (hC.u hI21 (by decide)) (fun s hs => by rw [hI21, u2_row _ _ _ (by decide)]; exact hlk9 s hs) (fun s hs => by rw [hI21, u2_at]; by_cases es : s = k; rw [if_pos es, es]; rw [if_neg es]; exact hsv9 s (by omega)) (by rw [hI21, u2_row _ _ _ (by decide)]; exact hak9) (by rw [hI21, u2_row _ _ _ (by decide)]; exact hg9) (by rw [hI21, u2_row _ _ _ (by decide)]; exact hc9) (by rw [hI21, u2_row _ _ _ (by decide)]; exact hd9)
  exact hsl 0 (Nat.zero_le _) I2 (CuM.of hsmI2 hthI2) hWK.2.2.2.2.2 (fun s hs => absurd hs (Nat.not_lt_zero _)) hWK.2.1 (fun p hp => (hsmI2.mp hM).gr hp) (hsmI2.2 34 (by decide)) (hsmI2.1 141 (by decide))
