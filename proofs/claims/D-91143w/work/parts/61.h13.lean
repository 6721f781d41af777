/-! the house: part, trim -/
set_option maxRecDepth 100000
theorem HdS.part {t t' : Nat → Option (Nat × Nat)} {I I' I'' : Nat → Nat → Int32} {J J' : Nat → Nat → Int64} {P P' P'' : Nat → Nat → Value} {n n' : Nat} {σ : Sg} {ρ : Rs} {g : Nat} (h : HdS t I P σ ρ) (hT : TyB t n) (hn : 144 ≤ n) (h106 : t 106 = some (105, 10)) (hnp : s_np σ < 10) (hg : g < 65536) (gw : Gw t I J P n t' I' J' P' n') (ht0 : t' n = some (7, 0)) (ht1 : t' (n + 1) = some (106, 12)) (ht2 : t' (n + 2) = some (100, 8)) (hi0 : I' n 0 = nI g) (hi1 : I' n 1 = nI 0) (hi2 : ∀ k, I' (n + 2) k = nI 0) (hp2 : P' n 2 = .ref (n + 1)) (hp3 : P' n 3 = .ref (n + 2)) (eP : P'' = u2 P' 106 (s_np σ) (.ref n)) (eI : I'' = u2 (u2 I' 100 5 (nI (s_np σ + 1))) 100 8 (nI 0)) : HdS t' I'' P'' (sPart σ g) ρ ∧ HF4 I I'' := by
  obtain ⟨h1, h2, ⟨y, hP⟩, h4, h5⟩ := h
  have hr : ∀ b, b ≠ 100 → I'' b = I' b := fun b h1 => by rw [eI, u2_row _ _ _ h1, u2_row _ _ _ h1]
  have hf : ∀ k, k ≠ 5 → k ≠ 8 → I'' 100 k = I' 100 k := fun k a b => by rw [eI, u2_ne _ _ b, u2_ne _ _ a]
  have hPr : ∀ b, b ≠ 106 → P'' b = P' b := fun b h1 => by rw [eP, u2_row _ _ _ h1]
  have hf2 : ∀ k, k ≠ 5 → k ≠ 8 → I'' 100 k = I 100 k := fun k a b => by rw [hf k a b, gw.i 100 (by omega)]
  have hr2 : ∀ b, b ≠ 100 → b < 144 → I'' b = I b := fun b a c => by rw [hr b a, gw.i b (by omega)]
  refine ⟨⟨h1.part hnp hg, h2, ⟨(upN y.1 (s_np σ) n, upN y.2.1 (s_np σ) (n + 1), y.2.2), ?_⟩, ?_, ⟨0, by decide, by rw [eI, u2_self], fun e => absurd e (by decide)⟩⟩, fun b hb => hr2 b (by omega) (by omega)⟩
  · refine ⟨by rw [eI, u2_ne _ _ (by decide), u2_self]; rfl, fun p a b => ?_, fun p hp => ?_, fun p q hp hq hne => ?_⟩
    · have b : s_np σ + 1 ≤ p := b
      rw [eP, u2_ne _ _ (by omega), gw.p 106 (by omega)]; exact hP.2.1 p a (by omega)
    · have hp : p < s_np σ + 1 := hp
      by_cases e : p = s_np σ
      · subst e
        have e1 : upN y.1 (s_np σ) n (s_np σ) = n := upN_self _ _ _
        have e2 : upN y.2.1 (s_np σ) (n + 1) (s_np σ) = n + 1 := upN_self _ _ _
        show PtR t' I'' P'' (sPart σ g) (s_np σ) (upN y.1 (s_np σ) n (s_np σ)) (upN y.2.1 (s_np σ) (n + 1) (s_np σ)) y.2.2
        rw [e1, e2]
        refine ⟨hn, by rw [eP, u2_self], ht0, ht1, ?_, ?_, by rw [hPr _ (by omega)]; exact hp2, ht1, by rw [hPr _ (by omega)]; exact hp3, ht2, fun k hk => ?_, fun k hk => ?_⟩
        · rw [hr _ (by omega), hi0]; show nI g = nI (upN (s_gr σ) (s_np σ) g (s_np σ)); rw [upN_self]
        · rw [hr _ (by omega), hi1]; show nI 0 = nI (upN (s_ln σ) (s_np σ) 0 (s_np σ)); rw [upN_self]
        · rw [hr _ (by omega), hi2]
          have hz : ∀ s, ¬ Wsh (sPart σ g) (s_np σ) k s := by
            intro s z
            obtain ⟨k', z1, z2⟩ := z
            have z1 : k' < upN (s_ln σ) (s_np σ) 0 (s_np σ) := z1
            rw [upN_self] at z1; exact absurd z1 (Nat.not_lt_zero _)
          rw [← mk16_eq (a := 0) (by decide) (fun s _ => ⟨fun z => (by rw [Nat.zero_testBit] at z; cases z), fun z => absurd z (hz s)⟩)]
        · have hk : k < upN (s_ln σ) (s_np σ) 0 (s_np σ) := hk
          rw [upN_self] at hk; exact absurd hk (Nat.not_lt_zero _)
      · have hp' : p < s_np σ := by omega
        obtain ⟨a1, a2, a3, a4, a5, a6, a7, a8, a9, a10, a11, a12⟩ := hP.2.2.1 p hp'
        have e1 : upN y.1 (s_np σ) n p = y.1 p := upN_ne _ _ e
        have e2 : upN y.2.1 (s_np σ) (n + 1) p = y.2.1 p := upN_ne _ _ e
        have el : s_ln (sPart σ g) p = s_ln σ p := upN_ne _ _ e
        have ri : ∀ a tg, t a = some tg → 144 ≤ a → I'' a = I a := fun a tg ha h144 => by rw [hr a (by omega), gw.i a (hT a tg ha)]
        have rp : ∀ a tg, t a = some tg → a ≠ 106 → P'' a = P a := fun a tg ha h106 => by rw [hPr a h106, gw.p a (hT a tg ha)]
        show PtR t' I'' P'' (sPart σ g) p (upN y.1 (s_np σ) n p) (upN y.2.1 (s_np σ) (n + 1) p) y.2.2
        rw [e1, e2]
        refine ⟨a1, ?_, gw.ty _ _ a3, gw.ty _ _ a4, ?_, ?_, by rw [rp _ _ a3 (by omega)]; exact a7, gw.ty _ _ a8, by rw [rp _ _ a3 (by omega)]; exact a9, gw.ty _ _ a10, fun k hk => ?_, fun k hk => ?_⟩
        · rw [eP, u2_ne _ _ e, gw.p 106 (by omega)]; exact a2
        · show I'' (y.1 p) 0 = nI (upN (s_gr σ) (s_np σ) g p); rw [upN_ne _ _ e, ri _ _ a3 a1]; exact a5
        · show I'' (y.1 p) 1 = nI (upN (s_ln σ) (s_np σ) 0 p); rw [upN_ne _ _ e, ri _ _ a3 a1]; exact a6
        · rw [ri _ _ a10 (by omega), show Wsh (sPart σ g) p k = Wsh σ p k from by unfold Wsh; rw [el]; rfl]
          exact a11 k hk
        · rw [el] at hk
          refine ⟨?_, ?_⟩
          · have hne : y.2.1 p ≠ 106 := fun z => by rw [z, h106] at a8; cases a8
            rw [rp _ _ a8 hne]; exact (a12 k hk).1
          · obtain ⟨b1, b2, b3, b4, b5, b6, b7⟩ := (a12 k hk).2
            exact ⟨b1, gw.ty _ _ b2, by rw [ri _ _ b2 b1]; exact b3, by rw [ri _ _ b2 b1]; exact b4, by rw [ri _ _ b2 b1]; exact b5, fun e => by rw [ri _ _ b2 b1]; exact b6 e, fun e => ⟨by rw [rp _ _ b2 (by omega)]; exact (b7 e).1, gw.ty _ _ (b7 e).2.1, by rw [ri _ _ (b7 e).2.1 (by omega)]; exact (b7 e).2.2⟩⟩
    · have hp : p < s_np σ + 1 := hp
      have hq : q < s_np σ + 1 := hq
      have lt : ∀ r, r < s_np σ → y.1 r < n := fun r hr => hT _ _ (hP.ty hr)
      show upN y.1 (s_np σ) n p ≠ upN y.1 (s_np σ) n q
      by_cases e1 : p = s_np σ <;> by_cases e2 : q = s_np σ
      · omega
      · rw [e1, upN_self, upN_ne _ _ e2]; have := lt q (by omega); omega
      · rw [e2, upN_self, upN_ne _ _ e1]; have := lt p (by omega); omega
      · rw [upN_ne _ _ e1, upN_ne _ _ e2]; exact hP.2.2.2 p q (by omega) (by omega) hne
  · unfold HdR
    rw [hf2 1 (by decide) (by decide), hf2 10 (by decide) (by decide), hf2 12 (by decide) (by decide), hf2 11 (by decide) (by decide), hf2 15 (by decide) (by decide), hf2 20 (by decide) (by decide), hr2 101 (by decide) (by decide), hr2 107 (by decide) (by decide), hr2 118 (by decide) (by decide), hr2 120 (by decide) (by decide)]
    exact h4
set_option maxHeartbeats 4000000 in
theorem h_partInit {G : GG} (d : Nat) {t : Nat → Option (Nat × Nat)} {I : Nat → Nat → Int32} {J : Nat → Nat → Int64} {P : Nat → Nat → Value} {n sl a : Nat} (hta : t a = some (7, 0)) (ha : 144 ≤ a) (han : a < n) (hB : n + 2 ≤ 601124) (hSl : sl + 20 ≤ 7293033) : CA G (d + 1) M7_init [.ref a] (t, I, J, P, n, sl) (fun o h' => o = .inl none ∧ h' = (p1 (p1 t n (some (106, 12))) (n + 1) (some (100, 8)), r1 (r1 I n 0) (n + 1) 0, r1 (r1 J n 0) (n + 1) 0, u2 (r1 (u2 (r1 P n .null) a 2 (.ref n)) (n + 1) .null) a 3 (.ref (n + 1)), n + 1 + 1, sl + 12 + 8)) := by
  refine CA.w ?_
  show RA _ _ M7_init 0 [.ref a] [] _ _
  refine x_aload_n d7_init_0 rfl ?_
  refine x_objInit d7_init_1 o7_3 (lw_g (lw_at lw_m1 31 rfl) rfl) (lw_g (lw_at lw_m1 32 rfl) rfl) (by omega) (by decide) ?_
  refine x_aload_n d7_init_4 rfl ?_
  refine x_bipush (v := nI 12) d7_init_5 (by decide) ?_
  refine x_anewarrE (k := 6) d7_init_7 (by decide) rfl (lw_g (lw_at lw_m2 35 rfl) rfl) (lw_at lw_m2 36 rfl) (by decide) (by omega) (by omega) (fun t1 I1 J1 P1 ht1 hI1 hJ1 hP1 => ?_)
  have hta1 : t1 a = some (7, 0) := by rw [ht1, p1_ne _ _ (by omega)]; exact hta
  refine x_putPE d7_init_10 p7_11 hta1 (fun P2 hP2 => ?_) (ha := (by omega))
  refine x_aload_n d7_init_13 rfl ?_
  refine x_bipush (v := nI 8) d7_init_14 (by decide) ?_
  refine x_newarrE (k := 0) d7_init_16 (lw_g (lw_at lw_m1 150 rfl) rfl) rfl (by decide) (by omega) (by omega) (fun t3 I3 J3 P3 ht3 hI3 hJ3 hP3 => ?_)
  have hta3 : t3 a = some (7, 0) := by rw [ht3, p1_ne _ _ (by omega)]; exact hta1
  refine x_putPE d7_init_18 p7_17 hta3 (fun P4 hP4 => ?_) (ha := (by omega))
  exact x_return d7_init_21 ⟨rfl, by rw [hP4, hP3, hP2, hP1, hI3, hI1, hJ3, hJ1, ht3, ht1]⟩
set_option maxHeartbeats 4000000 in
theorem h_part (G : GG) (d : Nat) (v : Int32) (σ : Sg) (ρ : Rs) : HCon G (d + 2) M1_part [.ref 100, .int v] σ ρ ((qPart σ ρ v).1) ((qPart σ ρ v).2.1) ((qPart σ ρ v).2.2) 3 24 := by
  intro t I J P n sl hS hD hT hn hB0 hSl0
  have hB : n ≤ 601124 := by omega
  have hSl : sl ≤ 7293033 := by omega
  have hσ := hD.1
  have hρ := hD.2.1
  obtain ⟨y, hP⟩ := hD.2.2.1
  have hR := hD.2.2.2.1
  have hF := hD.2.2.2.2
  have hnp := hσ.1
  rcases ix_cases v (n := 65536) (by decide) with ⟨hv, e⟩ | ⟨g, hg, rfl, hv, e⟩
  · rw [show qPart σ ρ v = (-1, σ, rT ρ 2) by simp only [qPart, e]]
    refine CA.w ?_
    show RA _ _ M1_part 0 [.ref 100, .int v] [] _ _
    refine x_aload_n d1_part_0 rfl ?_
    refine x_invV 100 0 d1_part_1 (hS.T rfl) v1_91_1 (h_begins _ hS) (Cont.ev ?_) (hB := hB) (hS := hSl)
    obtain ⟨I1, hI1⟩ : ∃ z, z = u2 (u2 I 100 10 (nI 0)) 100 12 (-1) := ⟨_, rfl⟩
    rw [← hI1]
    obtain ⟨hD0, hq0⟩ := hD.bg hI1
    have hρ := hD0.2.1
    obtain ⟨y, hP⟩ := hD0.2.2.1
    have hR := hD0.2.2.2.1
    have hF := hD0.2.2.2.2
    refine x_iload_n d1_part_4 rfl ?_
    refine x_iconst (v := nI 0) d1_part_5 (by decide) ?_
    refine x_ldc (v := nI 65535) d1_part_6 (lw_g (lw_at lw_m2 22 rfl) rfl) ?_
    refine x_invS 3 d1_part_8 s1_76 (h_in G _ _ (v) (nI 0) (nI 65535)) (Cont.p ?_) (hB := hB) (hS := hSl)
    refine x_top (congrArg Value.int (b2i_f (fun z => hv ((ix_le _ (m := 65535) (by decide)).mp z)))) ?_
    refine x_if_ne 20 d1_part_11 (by decide) (fun b11 => absurd b11 (by decide)) (fun b11 => ?_)
    refine x_aload_n d1_part_14 rfl ?_
    refine x_iconst (v := nI 2) d1_part_15 (by decide) ?_
    refine x_invV 100 1 d1_part_16 (hS.T rfl) v1_95_1 (h_no _ hS (k := 2)) (Cont.e ?_) (hB := hB) (hS := hSl)
    have hno_ := HdS.no (k := 2) hD0 rfl (by decide) (by decide)
    exact x_ireturn d1_part_19 ⟨rfl, t, (u2 I1 100 10 (nI 2)), J, P, n, sl, rfl, hS, hno_.1, hT, Nat.le_refl _, by omega, Nat.le_refl _, by omega, (hq0.trans hno_.2).f4, fun _ _ => rfl, fun _ _ h => h⟩
  by_cases hfu : s_np σ = 10
  · rw [show qPart σ ρ (nI g) = (-1, σ, rT ρ 3) by simp only [qPart, e, if_pos hfu]]
    refine CA.w ?_
    show RA _ _ M1_part 0 [.ref 100, .int (nI g)] [] _ _
    refine x_aload_n d1_part_0 rfl ?_
    refine x_invV 100 0 d1_part_1 (hS.T rfl) v1_91_1 (h_begins _ hS) (Cont.ev ?_) (hB := hB) (hS := hSl)
    obtain ⟨I1, hI1⟩ : ∃ z, z = u2 (u2 I 100 10 (nI 0)) 100 12 (-1) := ⟨_, rfl⟩
    rw [← hI1]
    obtain ⟨hD0, hq0⟩ := hD.bg hI1
    have hρ := hD0.2.1
    obtain ⟨y, hP⟩ := hD0.2.2.1
    have hR := hD0.2.2.2.1
    have hF := hD0.2.2.2.2
    refine x_iload_n d1_part_4 rfl ?_
    refine x_iconst (v := nI 0) d1_part_5 (by decide) ?_
    refine x_ldc (v := nI 65535) d1_part_6 (lw_g (lw_at lw_m2 22 rfl) rfl) ?_
    refine x_invS 3 d1_part_8 s1_76 (h_in G _ _ (nI g) (nI 0) (nI 65535)) (Cont.p ?_) (hB := hB) (hS := hSl)
    refine x_top (congrArg Value.int (b2i_t ((ix_le _ (m := 65535) (by decide)).mpr hv))) ?_
    refine x_if_ne 20 d1_part_11 (by decide) (fun b11 => ?_) (fun b11 => absurd b11 (by decide))
    refine x_aload_n d1_part_20 rfl ?_
    refine x_getI d1_part_21 f1_73 (hS.T rfl) ?_
    refine x_top (congrArg Value.int (show I1 100 5 = nI (s_np σ) from hP.1)) ?_
    refine x_bipush (v := nI 10) d1_part_24 (by decide) ?_
    refine x_icmp_neN 35 d1_part_26 (by decide) (by omega) (by omega) (fun b26 => absurd b26 (fun z => z hfu)) (fun b26 => ?_)
    refine x_aload_n d1_part_29 rfl ?_
    refine x_iconst (v := nI 3) d1_part_30 (by decide) ?_
    refine x_invV 100 1 d1_part_31 (hS.T rfl) v1_95_1 (h_no _ hS (k := 3)) (Cont.e ?_) (hB := hB) (hS := hSl)
    have hno_ := HdS.no (k := 3) hD0 rfl (by decide) (by decide)
    exact x_ireturn d1_part_34 ⟨rfl, t, (u2 I1 100 10 (nI 3)), J, P, n, sl, rfl, hS, hno_.1, hT, Nat.le_refl _, by omega, Nat.le_refl _, by omega, (hq0.trans hno_.2).f4, fun _ _ => rfl, fun _ _ h => h⟩
  · rw [show qPart σ ρ (nI g) = (nI (s_np σ), sPart σ g, rT ρ 0) by simp only [qPart, e, if_neg hfu]]
    refine CA.w ?_
    show RA _ _ M1_part 0 [.ref 100, .int (nI g)] [] _ _
    refine x_aload_n d1_part_0 rfl ?_
    refine x_invV 100 0 d1_part_1 (hS.T rfl) v1_91_1 (h_begins _ hS) (Cont.ev ?_) (hB := hB) (hS := hSl)
    obtain ⟨I1, hI1⟩ : ∃ z, z = u2 (u2 I 100 10 (nI 0)) 100 12 (-1) := ⟨_, rfl⟩
    rw [← hI1]
    obtain ⟨hD0, hq0⟩ := hD.bg hI1
    have hρ := hD0.2.1
    obtain ⟨y, hP⟩ := hD0.2.2.1
    have hR := hD0.2.2.2.1
    have hF := hD0.2.2.2.2
    refine x_iload_n d1_part_4 rfl ?_
    refine x_iconst (v := nI 0) d1_part_5 (by decide) ?_
    refine x_ldc (v := nI 65535) d1_part_6 (lw_g (lw_at lw_m2 22 rfl) rfl) ?_
    refine x_invS 3 d1_part_8 s1_76 (h_in G _ _ (nI g) (nI 0) (nI 65535)) (Cont.p ?_) (hB := hB) (hS := hSl)
    refine x_top (congrArg Value.int (b2i_t ((ix_le _ (m := 65535) (by decide)).mpr hv))) ?_
    refine x_if_ne 20 d1_part_11 (by decide) (fun b11 => ?_) (fun b11 => absurd b11 (by decide))
    refine x_aload_n d1_part_20 rfl ?_
    refine x_getI d1_part_21 f1_73 (hS.T rfl) ?_
    refine x_top (congrArg Value.int (show I1 100 5 = nI (s_np σ) from hP.1)) ?_
    refine x_bipush (v := nI 10) d1_part_24 (by decide) ?_
    refine x_icmp_neN 35 d1_part_26 (by decide) (by omega) (by omega) (fun b26 => ?_) (fun b26 => absurd b26 hfu)
    refine x_aload_n d1_part_35 rfl ?_
    refine x_getP d1_part_36 f1_24 (hS.T rfl) (hS.P rfl) ?_
    refine x_aload_n d1_part_39 rfl ?_
    refine x_getI d1_part_40 f1_73 (hS.T rfl) ?_
    refine x_top (congrArg Value.int (show I1 100 5 = nI (s_np σ) from hP.1)) ?_
    refine x_newE d1_part_43 n1_22 (by omega) (by omega) (fun t2 I2 J2 P2 ht2 hI2 hJ2 hP2 => ?_)
    have gw1 := (Gw.rf (I := I1) (J := J) (P := P) hT).new ht2 hI2 hJ2 hP2
    refine x_dup d1_part_46 rfl ?_
    refine x_invI n 0 d1_part_47 (by omega) i1_99 (h_partInit _ (show t2 n = some (7, 0) by rw [ht2, p1_self]) hn (Nat.lt_succ_self n) (by omega) (by omega)) (Cont.ev ?_) (hB := by show n + 1 ≤ 601124; omega) (hS := by show sl + 4 ≤ 7293033; omega)
    obtain ⟨t9, ht9⟩ : ∃ z, z = p1 (p1 t2 (n + 1) (some (106, 12))) (n + 1 + 1) (some (100, 8)) := ⟨_, rfl⟩
    obtain ⟨I9, hI9⟩ : ∃ z, z = r1 (r1 I2 (n + 1) 0) (n + 1 + 1) 0 := ⟨_, rfl⟩
    obtain ⟨J9, hJ9⟩ : ∃ z, z = r1 (r1 J2 (n + 1) 0) (n + 1 + 1) 0 := ⟨_, rfl⟩
    obtain ⟨P9, hP9⟩ : ∃ z, z = u2 (r1 (u2 (r1 P2 (n + 1) .null) n 2 (.ref (n + 1))) (n + 1 + 1) .null) n 3 (.ref (n + 1 + 1)) := ⟨_, rfl⟩
    rw [← ht9, ← hI9, ← hJ9, ← hP9]
    have gw9 : Gw t I1 J P n t9 I9 J9 P9 (n + 1 + 1 + 1) := (((gw1.new rfl rfl rfl rfl).up rfl (Nat.le_refl n)).new ht9 hI9 hJ9 rfl).up hP9 (Nat.le_refl n)
    have hS9 := gw9.sh hn hS
    have hta : t9 n = some (7, 0) := by rw [ht9, p1_ne _ _ (by omega), p1_ne _ _ (by omega), ht2, p1_self]
    have hnp9 : I9 100 5 = nI (s_np σ) := by rw [gw9.i 100 (by omega)]; exact hP.1
    refine x_aastE d1_part_50 (hS9.T rfl) (by omega) hta (⟨by decide, by decide, _, _, rfl, by decide, rfl, Or.inl rfl⟩ : AL 5 7) (fun P3 hP3 => ?_)
    have hS8 := hS9.up hP3 (Or.inr rfl)
    refine x_aload_n d1_part_51 rfl ?_
    refine x_getP d1_part_52 f1_24 (hS8.T rfl) (hS8.P rfl) ?_
    refine x_aload_n d1_part_55 rfl ?_
    refine x_getI d1_part_56 f1_73 (hS8.T rfl) ?_
    refine x_top (congrArg Value.int (show I9 100 5 = nI (s_np σ) from hnp9)) ?_
    refine x_aald5N d1_part_59 (hS8.T rfl) (by omega) (show P3 106 (s_np σ) = .ref n by rw [hP3, u2_self]) ?_
    refine x_iload_n d1_part_60 rfl ?_
    refine x_putIE d1_part_61 p1_100 hta (fun I4 hI4 => ?_) (ha := (by omega))
    refine x_aload_n d1_part_64 rfl ?_
    refine x_dup d1_part_65 rfl ?_
    refine x_getI d1_part_66 f1_73 (hS8.T rfl) ?_
    refine x_top (congrArg Value.int (show I4 100 5 = nI (s_np σ) from (by rw [hI4, u2_row _ _ _ (by omega)]; exact hnp9))) ?_
    refine x_iconst (v := nI 1) d1_part_69 (by decide) ?_
    refine x_iaddN d1_part_70 ?_
    refine x_putIE d1_part_71 p1_73 (hS8.T rfl) (fun I5 hI5 => ?_)
    refine x_aload_n d1_part_74 rfl ?_
    refine x_iconst (v := nI 0) d1_part_75 (by decide) ?_
    refine x_putIE d1_part_76 p1_80 (hS8.T rfl) (fun I6 hI6 => ?_)
    refine x_aload_n d1_part_79 rfl ?_
    refine x_getI d1_part_80 f1_73 (hS8.T rfl) ?_
    refine x_top (congrArg Value.int (show I6 100 5 = nI (s_np σ + 1) from (by rw [hI6, u2_ne _ _ (by decide), hI5, u2_self]))) ?_
    refine x_iconst (v := nI 1) d1_part_83 (by decide) ?_
    refine x_isubN d1_part_84 (by omega) ?_
    refine x_ireturn d1_part_85 ?_
    have hfin := HdS.part (g := g) hD0 hT hn (hS.T rfl) (by omega) hg (gw9.ui hI4 (Nat.le_refl n)) hta (by rw [ht9, p1_ne _ _ (by omega), p1_self]) (by rw [ht9, p1_self]) (by rw [hI4, u2_self]) (by rw [hI4, u2_ne _ _ (by decide), hI9, r1_row _ _ (by omega), r1_row _ _ (by omega), hI2, r1_self]; rfl) (fun k => by rw [hI4, u2_row _ _ _ (by omega), hI9, r1_self]; rfl) (by rw [hP9, u2_ne _ _ (by decide), r1_row _ _ (by omega), u2_self]) (by rw [hP9, u2_self]) hP3 (show I6 = _ by rw [hI6, hI5])
    exact ⟨by rw [Nat.add_sub_cancel], t9, I6, J9, P3, n + 1 + 1 + 1, sl + 4 + 12 + 8, rfl, hS8, hfin.1, gw9.b, by omega, by omega, by omega, by omega, hq0.f4.trans hfin.2, fun b hb => gw9.j b (by omega), gw9.ty⟩
