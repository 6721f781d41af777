/-! the reference: door, leaks, misuse, wrong, step, cured, count, part, grant, feed, line, meant -/
set_option maxRecDepth 100000
set_option maxHeartbeats 4000000 in
theorem m_door (G : GG) (d : Nat) (v : Int32) (σ : Sg) (ρ : Rs) : MCon G (d + 3) M5_door [.ref 122, .int v] σ ρ (qDoor σ v) σ ρ := by
  intro t I J P n sl hS hD hB hSl
  have hσ := hD.1
  have hρ := hD.2.1
  have hM := hD.2.2.1
  have hR := hD.2.2.2
  have hnp := hσ.1
  rcases ix_cases v (n := 16) (by decide) with ⟨hv, e⟩ | ⟨p, hp, rfl, hv, e⟩
  · refine CA.w ?_
    show RA _ _ M5_door 0 [.ref 122, .int v, U0, U0] [] _ _
    refine x_aload_n d5_door_0 rfl ?_
    refine x_iconst (v := nI 0) d5_door_1 (by decide) ?_
    refine x_putIE d5_door_2 p5_80 (hS.T rfl) (fun I1 hI1 => ?_)
    have hsmI1 : MSm I I1 := MSm.thr hI1
    have hthI1 : I1 122 0 = 0 := by rw [hI1, u2_self]; rfl
    refine x_iload_n d5_door_5 rfl ?_
    refine x_invS 1 d5_door_6 s5_228 (m_isRight G _ _ (v)) (Cont.p ?_) (hB := hB) (hS := hSl)
    refine x_top (congrArg Value.int (b2i_f hv)) ?_
    refine x_if_ne 14 d5_door_9 (by decide) (fun b9 => absurd b9 (by decide)) (fun b9 => ?_)
    refine x_iconst (v := -1) d5_door_12 (by decide) ?_
    exact x_ireturn d5_door_13 ⟨by unfold qDoor; rw [e], I1, J, rfl, hsmI1.mds hD, hsmI1.mf, JF.rf J, hthI1⟩
  · refine CA.w ?_
    show RA _ _ M5_door 0 [.ref 122, .int (nI p), U0, U0] [] _ _
    refine x_aload_n d5_door_0 rfl ?_
    refine x_iconst (v := nI 0) d5_door_1 (by decide) ?_
    refine x_putIE d5_door_2 p5_80 (hS.T rfl) (fun I1 hI1 => ?_)
    have hsmI1 : MSm I I1 := MSm.thr hI1
    have hthI1 : I1 122 0 = 0 := by rw [hI1, u2_self]; rfl
    refine x_iload_n d5_door_5 rfl ?_
    refine x_invS 1 d5_door_6 s5_228 (m_isRight G _ _ (nI p)) (Cont.p ?_) (hB := hB) (hS := hSl)
    refine x_top (congrArg Value.int (b2i_t hv)) ?_
    refine x_if_ne 14 d5_door_9 (by decide) (fun b9 => ?_) (fun b9 => absurd b9 (by decide))
    refine x_aload_n d5_door_14 rfl ?_
    refine x_invV 122 0 d5_door_15 (hS.T rfl) v5_241_5 (m_works _ hS hσ (hsmI1.mp hM) hB hSl) ?_ (hB := hB) (hS := hSl)
    rintro o h' ⟨rfl, I2, rfl, hWK⟩
    have hsmI2 : MSm I I2 := hsmI1.trans (MSm.wk hWK)
    have hthI2 : I2 122 0 = 0 := by rw [hWK.1 122 (by decide)]; exact hthI1
    refine x_iconst (v := nI 0) d5_door_18 (by decide) ?_
    refine x_istore_n d5_door_19 ?_
    refine x_iconst (v := nI 0) d5_door_20 (by decide) ?_
    refine x_istore_n d5_door_21 ?_
    have hL : ∀ k, k ≤ 16 → RA G (d + 3) M5_door 22 [.ref 122, .int (nI p), .int (nI (orF (fun s => tb (lk σ s) p * 2 ^ s) k)), .int (nI k)] [] (t, I2, J, P, n, sl) (fun o h' => o = .inl (some (.int (qDoor σ (nI p)))) ∧ ∃ I' J', h' = (t, I', J', P, n, sl) ∧ MdS I' σ ρ ∧ MF I I' ∧ JF J J' ∧ I' 122 0 = 0) := by
      refine up_ind ?_
      intro k hk_ ih
      refine x_iload_n d5_door_22 rfl ?_
      refine x_bipush (v := nI 16) d5_door_23 (by decide) ?_
      refine x_icmp_geN 49 d5_door_25 (by decide) (by omega) (by omega) (fun b25 => ?_) (fun b25 => ?_)
      · refine x_iload_n d5_door_49 rfl ?_
        exact x_ireturn d5_door_50 ⟨by unfold qDoor; rw [e]; show _ = Sum.inl (some (Value.int (nI (dr σ p)))); rw [show k = 16 by omega, dr_orF σ hp], I2, J, rfl, hsmI2.mds hD, hsmI2.mf, JF.rf J, hthI2⟩
      · refine x_iload_n d5_door_28 rfl ?_
        refine x_aload_n d5_door_29 rfl ?_
        refine x_getP d5_door_30 f5_58 (hS.T rfl) (hS.P rfl) ?_
        refine x_iload_n d5_door_33 rfl ?_
        refine x_ialdN d5_door_34 (hS.T rfl) (by omega) ?_
        refine x_top (congrArg Value.int (show I2 136 k = nI (lk σ k) from (show I2 136 k = nI (lk σ k) from hWK.2.2.2.2.2 _ (by omega)))) ?_
        have hlk_ := lk_lt σ k
        refine x_iload_n d5_door_35 rfl ?_
        refine x_ishrN d5_door_36 (by omega) (by omega) ?_
        refine x_iconst (v := nI 1) d5_door_37 (by decide) ?_
        refine x_tbN d5_door_38 ?_
        have htb_ := tb_lt (lk σ k) p
        refine x_iload_n d5_door_39 rfl ?_
        refine x_shlbN d5_door_40 (tb_lt _ _) (by omega) ?_
        refine x_iorN d5_door_41 ?_
        refine x_istore_n d5_door_42 ?_
        refine x_iincN (c := 1) d5_door_43 rfl (by decide) ?_
        refine x_goto 22 d5_door_46 (by decide) ?_
        exact ih (by omega)
    exact hL 0 (Nat.zero_le _)
set_option maxHeartbeats 4000000 in
theorem m_leaks (G : GG) (d : Nat)  (σ : Sg) (ρ : Rs) : MCon G (d + 3) M5_leaks [.ref 122] σ ρ (nI (nLeaks σ)) σ ρ := by
  intro t I J P n sl hS hD hB hSl
  have hσ := hD.1
  have hρ := hD.2.1
  have hM := hD.2.2.1
  have hR := hD.2.2.2
  have hnp := hσ.1
  refine CA.w ?_
  show RA _ _ M5_leaks 0 [.ref 122, U0, U0] [] _ _
  refine x_aload_n d5_leaks_0 rfl ?_
  refine x_iconst (v := nI 0) d5_leaks_1 (by decide) ?_
  refine x_putIE d5_leaks_2 p5_80 (hS.T rfl) (fun I1 hI1 => ?_)
  have hsmI1 : MSm I I1 := MSm.thr hI1
  have hthI1 : I1 122 0 = 0 := by rw [hI1, u2_self]; rfl
  refine x_aload_n d5_leaks_5 rfl ?_
  refine x_invV 122 0 d5_leaks_6 (hS.T rfl) v5_241_5 (m_works _ hS hσ (hsmI1.mp hM) hB hSl) ?_ (hB := hB) (hS := hSl)
  rintro o h' ⟨rfl, I2, rfl, hWK⟩
  have hsmI2 : MSm I I2 := hsmI1.trans (MSm.wk hWK)
  have hthI2 : I2 122 0 = 0 := by rw [hWK.1 122 (by decide)]; exact hthI1
  refine x_iconst (v := nI 0) d5_leaks_9 (by decide) ?_
  refine x_istore_n d5_leaks_10 ?_
  refine x_iconst (v := nI 0) d5_leaks_11 (by decide) ?_
  refine x_istore_n d5_leaks_12 ?_
  have hL : ∀ k, k ≤ 16 → RA G (d + 3) M5_leaks 13 [.ref 122, .int (nI (sumN k (fun s => pop (lk σ s)))), .int (nI k)] [] (t, I2, J, P, n, sl) (fun o h' => o = .inl (some (.int (nI (nLeaks σ)))) ∧ ∃ I' J', h' = (t, I', J', P, n, sl) ∧ MdS I' σ ρ ∧ MF I I' ∧ JF J J' ∧ I' 122 0 = 0) := by
    refine up_ind ?_
    intro k hk_ ih
    have hsum_ := sumN_le (n := k) (f := fun s => pop (lk σ s)) (c := 16) (fun i _ => pop_le _)
    refine x_iload_n d5_leaks_13 rfl ?_
    refine x_bipush (v := nI 16) d5_leaks_14 (by decide) ?_
    refine x_icmp_geN 37 d5_leaks_16 (by decide) (by omega) (by omega) (fun b16 => ?_) (fun b16 => ?_)
    · refine x_iload_n d5_leaks_37 rfl ?_
      exact x_ireturn d5_leaks_38 ⟨by rw [show k = 16 by omega]; rfl, I2, J, rfl, hsmI2.mds hD, hsmI2.mf, JF.rf J, hthI2⟩
    · refine x_iload_n d5_leaks_19 rfl ?_
      refine x_aload_n d5_leaks_20 rfl ?_
      refine x_getP d5_leaks_21 f5_58 (hS.T rfl) (hS.P rfl) ?_
      refine x_iload_n d5_leaks_24 rfl ?_
      refine x_ialdN d5_leaks_25 (hS.T rfl) (by omega) ?_
      refine x_top (congrArg Value.int (show I2 136 k = nI (lk σ k) from (show I2 136 k = nI (lk σ k) from hWK.2.2.2.2.2 _ (by omega)))) ?_
      have hlk_ := lk_lt σ k
      refine x_invS 1 d5_leaks_26 s5_244 (m_bits G _ _ (lk σ k) (lk_lt σ _)) (Cont.p ?_) (hB := hB) (hS := hSl)
      have hpop_ := pop_le (lk σ k)
      refine x_iaddN d5_leaks_29 ?_
      refine x_istore_n d5_leaks_30 ?_
      refine x_iincN (c := 1) d5_leaks_31 rfl (by decide) ?_
      refine x_goto 13 d5_leaks_34 (by decide) ?_
      exact ih (by omega)
  exact hL 0 (Nat.zero_le _)
set_option maxHeartbeats 4000000 in
theorem m_misuses {G : GG} (d : Nat) {t : Nat → Option (Nat × Nat)} {J : Nat → Nat → Int64} {P : Nat → Nat → Value} {n sl : Nat} {I : Nat → Nat → Int32} {l m : Nat → Nat} (hS : SH t P) (hl : ∀ s, s < 16 → I 136 s = nI (l s) ∧ l s < 65536) (hm : ∀ s, s < 16 → I 125 s = nI (m s) ∧ m s < 65536) (hB : n ≤ 601124) (hSl : sl ≤ 7293033) : CP G (d + 1) M5_misuses [.ref 122] (t, I, J, P, n, sl) (.int (nI (sumN 16 (fun s => pop (adf (l s) (m s)))))) := by
  refine CA.w ?_
  show RA _ _ M5_misuses 0 [.ref 122, U0, U0] [] _ _
  refine x_iconst (v := nI 0) d5_misuses_0 (by decide) ?_
  refine x_istore_n d5_misuses_1 ?_
  refine x_iconst (v := nI 0) d5_misuses_2 (by decide) ?_
  refine x_istore_n d5_misuses_3 ?_
  have hL : ∀ k, k ≤ 16 → RA G (d + 1) M5_misuses 4 [.ref 122, .int (nI (sumN k (fun s => pop (adf (l s) (m s))))), .int (nI k)] [] (t, I, J, P, n, sl) (fun o h' => o = .inl (some (.int (nI (sumN 16 (fun s => pop (adf (l s) (m s))))))) ∧ h' = (t, I, J, P, n, sl)) := by
    refine up_ind ?_
    intro k hk_ ih
    have hsum_ := sumN_le (n := k) (f := fun s => pop (adf (l s) (m s))) (c := 16) (fun i _ => pop_le _)
    refine x_iload_n d5_misuses_4 rfl ?_
    refine x_bipush (v := nI 16) d5_misuses_5 (by decide) ?_
    refine x_icmp_geN 37 d5_misuses_7 (by decide) (by omega) (by omega) (fun b7 => ?_) (fun b7 => ?_)
    · refine x_iload_n d5_misuses_37 rfl ?_
      exact x_ireturn d5_misuses_38 ⟨by rw [show k = 16 by omega], rfl⟩
    · refine x_iload_n d5_misuses_10 rfl ?_
      refine x_aload_n d5_misuses_11 rfl ?_
      refine x_getP d5_misuses_12 f5_58 (hS.T rfl) (hS.P rfl) ?_
      refine x_iload_n d5_misuses_15 rfl ?_
      refine x_ialdN d5_misuses_16 (hS.T rfl) (by omega) ?_
      refine x_top (congrArg Value.int (show I 136 k = nI (l k) from (hl _ (by omega)).1)) ?_
      refine x_aload_n d5_misuses_17 rfl ?_
      refine x_getP d5_misuses_18 f5_20 (hS.T rfl) (hS.P rfl) ?_
      refine x_iload_n d5_misuses_21 rfl ?_
      refine x_ialdN d5_misuses_22 (hS.T rfl) (by omega) ?_
      refine x_top (congrArg Value.int (show I 125 k = nI (m k) from (hm _ (by omega)).1)) ?_
      refine x_iconst (v := -1) d5_misuses_23 (by decide) ?_
      refine x_ixor d5_misuses_24 ?_
      refine x_andnN d5_misuses_25 (hl _ (by omega)).2 ?_
      refine x_invS 1 d5_misuses_26 s5_244 (m_bits G _ _ (adf (l k) (m k)) (adf_lt (hl _ (by omega)).2)) (Cont.p ?_) (hB := hB) (hS := hSl)
      have hpop_ := pop_le (adf (l k) (m k))
      refine x_iaddN d5_misuses_29 ?_
      refine x_istore_n d5_misuses_30 ?_
      refine x_iincN (c := 1) d5_misuses_31 rfl (by decide) ?_
      refine x_goto 4 d5_misuses_34 (by decide) ?_
      exact ih (by omega)
  exact hL 0 (Nat.zero_le _)
set_option maxHeartbeats 4000000 in
theorem m_misuseT (G : GG) (d : Nat)  (σ : Sg) (ρ : Rs) : MCon G (d + 3) M5_misuse [.ref 122, .int (nI 1)] σ ρ (nI (nServ σ ρ)) σ ρ := by
  intro t I J P n sl hS hD hB hSl
  have hσ := hD.1
  have hρ := hD.2.1
  have hM := hD.2.2.1
  have hR := hD.2.2.2
  have hnp := hσ.1
  refine CA.w ?_
  show RA _ _ M5_misuse 0 [.ref 122, .int (nI 1), U0, U0] [] _ _
  refine x_aload_n d5_misuse_0 rfl ?_
  refine x_iconst (v := nI 0) d5_misuse_1 (by decide) ?_
  refine x_putIE d5_misuse_2 p5_80 (hS.T rfl) (fun I1 hI1 => ?_)
  have hsmI1 : MSm I I1 := MSm.thr hI1
  have hthI1 : I1 122 0 = 0 := by rw [hI1, u2_self]; rfl
  refine x_aload_n d5_misuse_5 rfl ?_
  refine x_invV 122 0 d5_misuse_6 (hS.T rfl) v5_241_5 (m_works _ hS hσ (hsmI1.mp hM) hB hSl) ?_ (hB := hB) (hS := hSl)
  rintro o h' ⟨rfl, I2, rfl, hWK⟩
  have hsmI2 : MSm I I2 := hsmI1.trans (MSm.wk hWK)
  have hthI2 : I2 122 0 = 0 := by rw [hWK.1 122 (by decide)]; exact hthI1
  refine x_iconst (v := nI 0) d5_misuse_9 (by decide) ?_
  refine x_istore_n d5_misuse_10 ?_
  refine x_iconst (v := nI 0) d5_misuse_11 (by decide) ?_
  refine x_istore_n d5_misuse_12 ?_
  have hL : ∀ k, k ≤ 16 → RA G (d + 3) M5_misuse 13 [.ref 122, .int (nI 1), .int (nI (sumN k (fun s => pop (lk σ s &&& r_mt ρ s)))), .int (nI k)] [] (t, I2, J, P, n, sl) (fun o h' => o = .inl (some (.int (nI (nServ σ ρ)))) ∧ ∃ I' J', h' = (t, I', J', P, n, sl) ∧ MdS I' σ ρ ∧ MF I I' ∧ JF J J' ∧ I' 122 0 = 0) := by
    refine up_ind ?_
    intro k hk_ ih
    have hsum_ := sumN_le (n := k) (f := fun s => pop (lk σ s &&& r_mt ρ s)) (c := 16) (fun i _ => pop_le _)
    refine x_iload_n d5_misuse_13 rfl ?_
    refine x_bipush (v := nI 16) d5_misuse_14 (by decide) ?_
    refine x_icmp_geN 44 d5_misuse_16 (by decide) (by omega) (by omega) (fun b16 => ?_) (fun b16 => ?_)
    · refine x_iload_n d5_misuse_44 rfl ?_
      refine x_if_eqN 52 d5_misuse_45 (by decide) (by omega) (fun b45 => absurd b45 (by decide)) (fun b45 => ?_)
      refine x_iload_n d5_misuse_48 rfl ?_
      refine x_goto 56 d5_misuse_49 (by decide) ?_
      exact x_ireturn d5_misuse_56 ⟨by rw [show k = 16 by omega]; rfl, I2, J, rfl, hsmI2.mds hD, hsmI2.mf, JF.rf J, hthI2⟩
    · refine x_iload_n d5_misuse_19 rfl ?_
      refine x_aload_n d5_misuse_20 rfl ?_
      refine x_getP d5_misuse_21 f5_58 (hS.T rfl) (hS.P rfl) ?_
      refine x_iload_n d5_misuse_24 rfl ?_
      refine x_ialdN d5_misuse_25 (hS.T rfl) (by omega) ?_
      refine x_top (congrArg Value.int (show I2 136 k = nI (lk σ k) from (show I2 136 k = nI (lk σ k) from hWK.2.2.2.2.2 _ (by omega)))) ?_
      have hlk_ := lk_lt σ k
      refine x_aload_n d5_misuse_26 rfl ?_
      refine x_getP d5_misuse_27 f5_20 (hS.T rfl) (hS.P rfl) ?_
      refine x_iload_n d5_misuse_30 rfl ?_
      refine x_ialdN d5_misuse_31 (hS.T rfl) (by omega) ?_
      refine x_top (congrArg Value.int (show I2 125 k = nI (r_mt ρ k) from ((hsmI2.mr hR).1 _ (by omega)))) ?_
      have hmt_ := hρ.1 k (by omega)
      refine x_iandN d5_misuse_32 ?_
      refine x_invS 1 d5_misuse_33 s5_244 (m_bits G _ _ ((lk σ k) &&& (r_mt ρ k)) (and_lt (lk_lt σ _))) (Cont.p ?_) (hB := hB) (hS := hSl)
      have hpop_ := pop_le ((lk σ k) &&& (r_mt ρ k))
      refine x_iaddN d5_misuse_36 ?_
      refine x_istore_n d5_misuse_37 ?_
      refine x_iincN (c := 1) d5_misuse_38 rfl (by decide) ?_
      refine x_goto 13 d5_misuse_41 (by decide) ?_
      exact ih (by omega)
  exact hL 0 (Nat.zero_le _)
set_option maxHeartbeats 4000000 in
theorem m_misuseF (G : GG) (d : Nat)  (σ : Sg) (ρ : Rs) : MCon G (d + 3) M5_misuse [.ref 122, .int (nI 0)] σ ρ (nI (nMis σ ρ)) σ ρ := by
  intro t I J P n sl hS hD hB hSl
  have hσ := hD.1
  have hρ := hD.2.1
  have hM := hD.2.2.1
  have hR := hD.2.2.2
  have hnp := hσ.1
  refine CA.w ?_
  show RA _ _ M5_misuse 0 [.ref 122, .int (nI 0), U0, U0] [] _ _
  refine x_aload_n d5_misuse_0 rfl ?_
  refine x_iconst (v := nI 0) d5_misuse_1 (by decide) ?_
  refine x_putIE d5_misuse_2 p5_80 (hS.T rfl) (fun I1 hI1 => ?_)
  have hsmI1 : MSm I I1 := MSm.thr hI1
  have hthI1 : I1 122 0 = 0 := by rw [hI1, u2_self]; rfl
  refine x_aload_n d5_misuse_5 rfl ?_
  refine x_invV 122 0 d5_misuse_6 (hS.T rfl) v5_241_5 (m_works _ hS hσ (hsmI1.mp hM) hB hSl) ?_ (hB := hB) (hS := hSl)
  rintro o h' ⟨rfl, I2, rfl, hWK⟩
  have hsmI2 : MSm I I2 := hsmI1.trans (MSm.wk hWK)
  have hthI2 : I2 122 0 = 0 := by rw [hWK.1 122 (by decide)]; exact hthI1
  refine x_iconst (v := nI 0) d5_misuse_9 (by decide) ?_
  refine x_istore_n d5_misuse_10 ?_
  refine x_iconst (v := nI 0) d5_misuse_11 (by decide) ?_
  refine x_istore_n d5_misuse_12 ?_
  have hL : ∀ k, k ≤ 16 → RA G (d + 3) M5_misuse 13 [.ref 122, .int (nI 0), .int (nI (sumN k (fun s => pop (lk σ s &&& r_mt ρ s)))), .int (nI k)] [] (t, I2, J, P, n, sl) (fun o h' => o = .inl (some (.int (nI (nMis σ ρ)))) ∧ ∃ I' J', h' = (t, I', J', P, n, sl) ∧ MdS I' σ ρ ∧ MF I I' ∧ JF J J' ∧ I' 122 0 = 0) := by
    refine up_ind ?_
    intro k hk_ ih
    have hsum_ := sumN_le (n := k) (f := fun s => pop (lk σ s &&& r_mt ρ s)) (c := 16) (fun i _ => pop_le _)
    refine x_iload_n d5_misuse_13 rfl ?_
    refine x_bipush (v := nI 16) d5_misuse_14 (by decide) ?_
    refine x_icmp_geN 44 d5_misuse_16 (by decide) (by omega) (by omega) (fun b16 => ?_) (fun b16 => ?_)
    · refine x_iload_n d5_misuse_44 rfl ?_
      refine x_if_eqN 52 d5_misuse_45 (by decide) (by omega) (fun b45 => ?_) (fun b45 => absurd b45 (fun z => z rfl))
      refine x_aload_n d5_misuse_52 rfl ?_
      refine x_invV 122 0 d5_misuse_53 (hS.T rfl) v5_247_5 (m_misuses _ hS (l := lk σ) (m := r_mt ρ) (fun s hs => ⟨hWK.2.2.2.2.2 s hs, lk_lt σ s⟩) (fun s hs => ⟨(hsmI2.mr hR).1 s hs, hρ.1 s hs⟩) hB hSl) (Cont.p ?_) (hB := hB) (hS := hSl)
      exact x_ireturn d5_misuse_56 ⟨rfl, I2, J, rfl, hsmI2.mds hD, hsmI2.mf, JF.rf J, hthI2⟩
    · refine x_iload_n d5_misuse_19 rfl ?_
      refine x_aload_n d5_misuse_20 rfl ?_
      refine x_getP d5_misuse_21 f5_58 (hS.T rfl) (hS.P rfl) ?_
      refine x_iload_n d5_misuse_24 rfl ?_
      refine x_ialdN d5_misuse_25 (hS.T rfl) (by omega) ?_
      refine x_top (congrArg Value.int (show I2 136 k = nI (lk σ k) from (show I2 136 k = nI (lk σ k) from hWK.2.2.2.2.2 _ (by omega)))) ?_
      have hlk_ := lk_lt σ k
      refine x_aload_n d5_misuse_26 rfl ?_
      refine x_getP d5_misuse_27 f5_20 (hS.T rfl) (hS.P rfl) ?_
      refine x_iload_n d5_misuse_30 rfl ?_
      refine x_ialdN d5_misuse_31 (hS.T rfl) (by omega) ?_
      refine x_top (congrArg Value.int (show I2 125 k = nI (r_mt ρ k) from ((hsmI2.mr hR).1 _ (by omega)))) ?_
      have hmt_ := hρ.1 k (by omega)
      refine x_iandN d5_misuse_32 ?_
      refine x_invS 1 d5_misuse_33 s5_244 (m_bits G _ _ ((lk σ k) &&& (r_mt ρ k)) (and_lt (lk_lt σ _))) (Cont.p ?_) (hB := hB) (hS := hSl)
      have hpop_ := pop_le ((lk σ k) &&& (r_mt ρ k))
      refine x_iaddN d5_misuse_36 ?_
      refine x_istore_n d5_misuse_37 ?_
      refine x_iincN (c := 1) d5_misuse_38 rfl (by decide) ?_
      refine x_goto 13 d5_misuse_41 (by decide) ?_
      exact ih (by omega)
  exact hL 0 (Nat.zero_le _)
set_option maxHeartbeats 4000000 in
theorem m_wrong (G : GG) (d : Nat) (v : Int32) (σ : Sg) (ρ : Rs) : MCon G (d + 3) M5_wrong [.ref 122, .int v] σ ρ (qWrong σ ρ v) σ ρ := by
  intro t I J P n sl hS hD hB hSl
  have hσ := hD.1
  have hρ := hD.2.1
  have hM := hD.2.2.1
  have hR := hD.2.2.2
  have hnp := hσ.1
  unfold qWrong
  generalize hRe : wrJ (wrW σ ρ) v 256 0 0 = R
  refine CA.w ?_
  show RA _ _ M5_wrong 0 [.ref 122, .int v, U0, U0, U0] [] _ _
  refine x_aload_n d5_wrong_0 rfl ?_
  refine x_iconst (v := nI 0) d5_wrong_1 (by decide) ?_
  refine x_putIE d5_wrong_2 p5_80 (hS.T rfl) (fun I1 hI1 => ?_)
  have hsmI1 : MSm I I1 := MSm.thr hI1
  have hthI1 : I1 122 0 = 0 := by rw [hI1, u2_self]; rfl
  refine x_aload_n d5_wrong_5 rfl ?_
  refine x_invV 122 0 d5_wrong_6 (hS.T rfl) v5_241_5 (m_works _ hS hσ (hsmI1.mp hM) hB hSl) ?_ (hB := hB) (hS := hSl)
  rintro o h' ⟨rfl, I2, rfl, hWK⟩
  have hsmI2 : MSm I I2 := hsmI1.trans (MSm.wk hWK)
  have hthI2 : I2 122 0 = 0 := by rw [hWK.1 122 (by decide)]; exact hthI1
  refine x_iconst (v := nI 0) d5_wrong_9 (by decide) ?_
  refine x_istore_n d5_wrong_10 ?_
  refine x_iconst (v := nI 0) d5_wrong_11 (by decide) ?_
  refine x_istore_n d5_wrong_12 ?_
  have hin : ∀ s, s < 16 → (s < 16 → ∀ f c, 16 * (s + 1) + 0 + f = 256 → c ≤ 16 * (s + 1) + 0 → wrJ (wrW σ ρ) v f (16 * (s + 1) + 0) c = R → ∀ v4, RA G (d + 3) M5_wrong 13 [.ref 122, .int v, .int (nI c), .int (nI (s + 1)), v4] [] (t, I2, J, P, n, sl) (fun o h' => o = .inl (some (.int (wrV R))) ∧ ∃ I' J', h' = (t, I', J', P, n, sl) ∧ MdS I' σ ρ ∧ MF I I' ∧ JF J J' ∧ I' 122 0 = 0)) → ∀ q, q ≤ 16 → ∀ f c, 16 * s + q + f = 256 → c ≤ 16 * s + q → wrJ (wrW σ ρ) v f (16 * s + q) c = R → RA G (d + 3) M5_wrong 22 [.ref 122, .int v, .int (nI c), .int (nI s), .int (nI q)] [] (t, I2, J, P, n, sl) (fun o h' => o = .inl (some (.int (wrV R))) ∧ ∃ I' J', h' = (t, I', J', P, n, sl) ∧ MdS I' σ ρ ∧ MF I I' ∧ JF J J' ∧ I' 122 0 = 0) := by
    intro s hs ihs
    refine up_ind ?_
    intro q hq ih f c hf hc hRe
    refine x_iload d5_wrong_22 rfl ?_
    refine x_bipush (v := nI 16) d5_wrong_24 (by decide) ?_
    refine x_icmp_geN 77 d5_wrong_26 (by decide) (by omega) (by omega) (fun b26 => ?_) (fun b26 => ?_)
    · refine x_iincN (c := 1) d5_wrong_77 rfl (by decide) ?_
      refine x_goto 13 d5_wrong_80 (by decide) ?_
      have hq16 : q = 16 := by omega
      subst hq16
      exact ihs (by omega) f c (by omega) (by omega) (by rw [show 16 * (s + 1) + 0 = 16 * s + 16 by omega]; exact hRe) _
    · obtain ⟨f, rfl⟩ : ∃ g, f = g + 1 := ⟨f - 1, by omega⟩
      rw [wrJ] at hRe
      refine x_aload_n d5_wrong_29 rfl ?_
      refine x_getP d5_wrong_30 f5_58 (hS.T rfl) (hS.P rfl) ?_
      refine x_iload_n d5_wrong_33 rfl ?_
      refine x_ialdN d5_wrong_34 (hS.T rfl) (by omega) ?_
      refine x_top (congrArg Value.int (show I2 136 s = nI (lk σ s) from (show I2 136 s = nI (lk σ s) from hWK.2.2.2.2.2 _ (by omega)))) ?_
      have hlk_ := lk_lt σ s
      refine x_aload_n d5_wrong_35 rfl ?_
      refine x_getP d5_wrong_36 f5_20 (hS.T rfl) (hS.P rfl) ?_
      refine x_iload_n d5_wrong_39 rfl ?_
      refine x_ialdN d5_wrong_40 (hS.T rfl) (by omega) ?_
      refine x_top (congrArg Value.int (show I2 125 s = nI (r_mt ρ s) from ((hsmI2.mr hR).1 _ (by omega)))) ?_
      have hmt_ := hρ.1 s (by omega)
      refine x_iconst (v := -1) d5_wrong_41 (by decide) ?_
      refine x_ixor d5_wrong_42 ?_
      refine x_andnN d5_wrong_43 (lk_lt σ _) ?_
      refine x_iconst (v := nI 1) d5_wrong_44 (by decide) ?_
      refine x_iload d5_wrong_45 rfl ?_
      refine x_1shlN d5_wrong_47 (by omega) ?_
      refine x_iandN d5_wrong_48 ?_
      have hx_ := and_lt (b := 2 ^ q) (adf_lt (b := r_mt ρ s) (lk_lt σ s))
      refine x_if_neN 55 d5_wrong_49 (by decide) (by omega) (fun b49 => ?_) (fun b49 => ?_)
      · refine x_iload_n d5_wrong_55 rfl ?_
        refine x_iload_n d5_wrong_56 rfl ?_
        refine x_icmp_ne 68 d5_wrong_57 (by decide) (fun b57 => ?_) (fun b57 => ?_)
        · refine x_iincN (c := 1) d5_wrong_68 rfl (by decide) ?_
          refine x_iincN (c := 1) d5_wrong_71 rfl (by decide) ?_
          refine x_goto 22 d5_wrong_74 (by decide) ?_
          have e1 : (16 * s + q) / 16 = s := by omega
          have e2 : (16 * s + q) % 16 = q := by omega
          rw [if_pos (by show (adf (lk σ ((16 * s + q) / 16)) (r_mt ρ ((16 * s + q) / 16))).testBit ((16 * s + q) % 16) = true; rw [e1, e2]; exact and2_ne.mp b49), if_neg b57] at hRe
          exact ih (by omega) f (c + 1) (by omega) (by omega) hRe
        · refine x_bipush (v := nI 100) d5_wrong_60 (by decide) ?_
          refine x_iload_n d5_wrong_62 rfl ?_
          refine x_imulN d5_wrong_63 ?_
          refine x_iload d5_wrong_64 rfl ?_
          refine x_iaddN d5_wrong_66 ?_
          refine x_ireturn d5_wrong_67 ?_
          have e1 : (16 * s + q) / 16 = s := by omega
          have e2 : (16 * s + q) % 16 = q := by omega
          rw [if_pos (by show (adf (lk σ ((16 * s + q) / 16)) (r_mt ρ ((16 * s + q) / 16))).testBit ((16 * s + q) % 16) = true; rw [e1, e2]; exact and2_ne.mp b49), if_pos b57] at hRe
          exact ⟨by rw [← hRe]; show _ = Sum.inl (some (Value.int (nI (100 * ((16 * s + q) / 16) + (16 * s + q) % 16)))); rw [e1, e2], I2, J, rfl, hsmI2.mds hD, hsmI2.mf, JF.rf J, hthI2⟩
      · refine x_goto 71 d5_wrong_52 (by decide) ?_
        refine x_iincN (c := 1) d5_wrong_71 rfl (by decide) ?_
        refine x_goto 22 d5_wrong_74 (by decide) ?_
        have e1 : (16 * s + q) / 16 = s := by omega
        have e2 : (16 * s + q) % 16 = q := by omega
        rw [if_neg (by show ¬ (adf (lk σ ((16 * s + q) / 16)) (r_mt ρ ((16 * s + q) / 16))).testBit ((16 * s + q) % 16) = true; rw [e1, e2, and2_0.mp b49]; decide)] at hRe
        exact ih (by omega) f c (by omega) (by omega) hRe
  have hout : ∀ s, s ≤ 16 → ∀ f c, 16 * s + 0 + f = 256 → c ≤ 16 * s + 0 → wrJ (wrW σ ρ) v f (16 * s + 0) c = R → ∀ v4, RA G (d + 3) M5_wrong 13 [.ref 122, .int v, .int (nI c), .int (nI s), v4] [] (t, I2, J, P, n, sl) (fun o h' => o = .inl (some (.int (wrV R))) ∧ ∃ I' J', h' = (t, I', J', P, n, sl) ∧ MdS I' σ ρ ∧ MF I I' ∧ JF J J' ∧ I' 122 0 = 0) := by
    refine up_ind ?_
    intro s hs ih f c hf hc hRe v4
    refine x_iload_n d5_wrong_13 rfl ?_
    refine x_bipush (v := nI 16) d5_wrong_14 (by decide) ?_
    refine x_icmp_geN 83 d5_wrong_16 (by decide) (by omega) (by omega) (fun b16 => ?_) (fun b16 => ?_)
    · refine x_iconst (v := -1) d5_wrong_83 (by decide) ?_
      refine x_ireturn d5_wrong_84 ?_
      rw [show f = 0 by omega, wrJ] at hRe
      exact ⟨by rw [← hRe]; rfl, I2, J, rfl, hsmI2.mds hD, hsmI2.mf, JF.rf J, hthI2⟩
    · refine x_iconst (v := nI 0) d5_wrong_19 (by decide) ?_
      refine x_istore d5_wrong_20 ?_
      exact hin s (by omega) ih 0 (Nat.zero_le _) f c (by omega) (by omega) hRe
  exact hout 0 (Nat.zero_le _) 256 0 rfl (Nat.zero_le _) hRe _
set_option maxHeartbeats 4000000 in
theorem m_cured (G : GG) (d : Nat) (v : Int32) (σ : Sg) (ρ : Rs) : MCon G (d + 0) M5_cured [.ref 122, .int v] σ ρ (qCured ρ v) σ ρ := by
  intro t I J P n sl hS hD hB hSl
  have hσ := hD.1
  have hρ := hD.2.1
  have hM := hD.2.2.1
  have hR := hD.2.2.2
  have hnp := hσ.1
  have hcn := hρ.2.2.2.2.2.1
  rcases ix_cases v (n := r_cn ρ) (by omega) with ⟨hv, e⟩ | ⟨p, hp, rfl, hv, e⟩
  · refine CA.w ?_
    show RA _ _ M5_cured 0 [.ref 122, .int v] [] _ _
    refine x_aload_n d5_cured_0 rfl ?_
    refine x_iconst (v := nI 0) d5_cured_1 (by decide) ?_
    refine x_putIE d5_cured_2 p5_80 (hS.T rfl) (fun I1 hI1 => ?_)
    have hsmI1 : MSm I I1 := MSm.thr hI1
    have hthI1 : I1 122 0 = 0 := by rw [hI1, u2_self]; rfl
    refine x_iload_n d5_cured_5 rfl ?_
    refine x_if_lt 26 d5_cured_6 (by decide) (fun b6 => ?_) (fun b6 => ?_)
    · refine x_iconst (v := -1) d5_cured_26 (by decide) ?_
      exact x_ireturn d5_cured_27 ⟨by unfold qCured; rw [e], I1, J, rfl, hsmI1.mds hD, hsmI1.mf, JF.rf J, hthI1⟩
    · refine x_iload_n d5_cured_9 rfl ?_
      refine x_aload_n d5_cured_10 rfl ?_
      refine x_getI d5_cured_11 f5_272 (hS.T rfl) ?_
      refine x_top (congrArg Value.int (show I1 122 34 = nI (r_cn ρ) from (hsmI1.mr hR).2.2.2.2.2.2.2.2.1)) ?_
      have hcn_ := hρ.2.2.2.2.2.1
      refine x_icmp_ge 26 d5_cured_14 (by decide) (fun b14 => ?_) (fun b14 => absurd b14 (fun z => hv ⟨i_nlt b6, i_nle z⟩))
      refine x_iconst (v := -1) d5_cured_26 (by decide) ?_
      exact x_ireturn d5_cured_27 ⟨by unfold qCured; rw [e], I1, J, rfl, hsmI1.mds hD, hsmI1.mf, JF.rf J, hthI1⟩
  · refine CA.w ?_
    show RA _ _ M5_cured 0 [.ref 122, .int (nI p)] [] _ _
    refine x_aload_n d5_cured_0 rfl ?_
    refine x_iconst (v := nI 0) d5_cured_1 (by decide) ?_
    refine x_putIE d5_cured_2 p5_80 (hS.T rfl) (fun I1 hI1 => ?_)
    have hsmI1 : MSm I I1 := MSm.thr hI1
    have hthI1 : I1 122 0 = 0 := by rw [hI1, u2_self]; rfl
    refine x_iload_n d5_cured_5 rfl ?_
    refine x_if_ltN (tgt := 26) d5_cured_6 (by omega) ?_ (by decide)
    refine x_iload_n d5_cured_9 rfl ?_
    refine x_aload_n d5_cured_10 rfl ?_
    refine x_getI d5_cured_11 f5_272 (hS.T rfl) ?_
    refine x_top (congrArg Value.int (show I1 122 34 = nI (r_cn ρ) from (hsmI1.mr hR).2.2.2.2.2.2.2.2.1)) ?_
    have hcn_ := hρ.2.2.2.2.2.1
    refine x_icmp_geN 26 d5_cured_14 (by decide) (by omega) (by omega) (fun b14 => absurd b14 (by omega)) (fun b14 => ?_)
    refine x_aload_n d5_cured_17 rfl ?_
    refine x_getP d5_cured_18 f5_74 (hS.T rfl) (hS.P rfl) ?_
    refine x_iload_n d5_cured_21 rfl ?_
    refine x_ialdN d5_cured_22 (hS.T rfl) (by omega) ?_
    refine x_top (congrArg Value.int (show I1 141 p = nI (r_cd ρ p) from ((hsmI1.mr hR).2.2.2.2.2.2.2.2.2 _ (by omega)))) ?_
    refine x_goto 27 d5_cured_23 (by decide) ?_
    exact x_ireturn d5_cured_27 ⟨by unfold qCured; rw [e], I1, J, rfl, hsmI1.mds hD, hsmI1.mf, JF.rf J, hthI1⟩
def MStep (G : GG) (d : Nat) (v : Int32) (σ : Sg) (ρ : Rs) : Prop :=
  ∀ (t : Nat → Option (Nat × Nat)) (I : Nat → Nat → Int32) (J : Nat → Nat → Int64) (P : Nat → Nat → Value) (n sl : Nat), SH t P → MdS I σ ρ → n ≤ 601124 → sl ≤ 7293033 →
    CA G d M5_step [.ref 122, .int v] (t, I, J, P, n, sl) (fun o h' => o = .inl (some (.int (qStep ρ v))) ∧ ∃ I' J', h' = (t, I', J', P, n, sl) ∧ MdS I' σ ρ ∧ MF I I' ∧ JF J J' ∧ I' 122 0 = qThr ρ v)
set_option maxHeartbeats 4000000 in
theorem m_step (G : GG) (d : Nat) (v : Int32) (σ : Sg) (ρ : Rs) : MStep G d v σ ρ := by
  intro t I J P n sl hS hD hB hSl
  have hσ := hD.1
  have hρ := hD.2.1
  have hM := hD.2.2.1
  have hR := hD.2.2.2
  have hnp := hσ.1
  have hsn := hρ.2.2.2.2.1
  rcases ix_cases v (n := r_sn ρ) (by omega) with ⟨hv, e⟩ | ⟨p, hp, rfl, hv, e⟩
  · refine CA.w ?_
    show RA _ _ M5_step 0 [.ref 122, .int v] [] _ _
    refine x_aload_n d5_step_0 rfl ?_
    refine x_iload_n d5_step_1 rfl ?_
    refine x_if_lt 13 d5_step_2 (by decide) (fun b2 => ?_) (fun b2 => ?_)
    · refine x_iconst (v := nI 1) d5_step_13 (by decide) ?_
      refine x_goto 18 d5_step_14 (by decide) ?_
      refine x_putIE d5_step_18 p5_80 (hS.T rfl) (fun I1 hI1 => ?_)
      have hsmI1 : MSm I I1 := MSm.thr hI1
      have hthI1 : I1 122 0 = nI 1 := by rw [hI1, u2_self]
      refine x_aload_n d5_step_21 rfl ?_
      refine x_getI d5_step_22 f5_80 (hS.T rfl) ?_
      refine x_top (congrArg Value.int (show I1 122 0 = nI 1 from hthI1)) ?_
      refine x_if_leN 32 d5_step_25 (by decide) (by omega) (fun b25 => absurd b25 (by decide)) (fun b25 => ?_)
      refine x_iconst (v := nI 0) d5_step_28 (by decide) ?_
      refine x_goto 38 d5_step_29 (by decide) ?_
      exact x_ireturn d5_step_38 ⟨by unfold qStep; rw [e]; try rfl, I1, J, rfl, hsmI1.mds hD, hsmI1.mf, JF.rf J, by unfold qThr; rw [e, hthI1]; try rfl⟩
    · refine x_iload_n d5_step_5 rfl ?_
      refine x_aload_n d5_step_6 rfl ?_
      refine x_getI d5_step_7 f5_262 (hS.T rfl) ?_
      refine x_top (congrArg Value.int (show I 122 30 = nI (r_sn ρ) from hR.2.2.2.2.2.2.1)) ?_
      have hsn_ := hρ.2.2.2.2.1
      refine x_icmp_lt 17 d5_step_10 (by decide) (fun b10 => absurd b10 (fun z => hv ⟨i_nlt b2, z⟩)) (fun b10 => ?_)
      refine x_iconst (v := nI 1) d5_step_13 (by decide) ?_
      refine x_goto 18 d5_step_14 (by decide) ?_
      refine x_putIE d5_step_18 p5_80 (hS.T rfl) (fun I2 hI2 => ?_)
      have hsmI2 : MSm I I2 := MSm.thr hI2
      have hthI2 : I2 122 0 = nI 1 := by rw [hI2, u2_self]
      refine x_aload_n d5_step_21 rfl ?_
      refine x_getI d5_step_22 f5_80 (hS.T rfl) ?_
      refine x_top (congrArg Value.int (show I2 122 0 = nI 1 from hthI2)) ?_
      refine x_if_leN 32 d5_step_25 (by decide) (by omega) (fun b25 => absurd b25 (by decide)) (fun b25 => ?_)
      refine x_iconst (v := nI 0) d5_step_28 (by decide) ?_
      refine x_goto 38 d5_step_29 (by decide) ?_
      exact x_ireturn d5_step_38 ⟨by unfold qStep; rw [e]; try rfl, I2, J, rfl, hsmI2.mds hD, hsmI2.mf, JF.rf J, by unfold qThr; rw [e, hthI2]; try rfl⟩
  · refine CA.w ?_
    show RA _ _ M5_step 0 [.ref 122, .int (nI p)] [] _ _
    refine x_aload_n d5_step_0 rfl ?_
    refine x_iload_n d5_step_1 rfl ?_
    refine x_if_ltN (tgt := 13) d5_step_2 (by omega) ?_ (by decide)
    refine x_iload_n d5_step_5 rfl ?_
    refine x_aload_n d5_step_6 rfl ?_
    refine x_getI d5_step_7 f5_262 (hS.T rfl) ?_
    refine x_top (congrArg Value.int (show I 122 30 = nI (r_sn ρ) from hR.2.2.2.2.2.2.1)) ?_
    have hsn_ := hρ.2.2.2.2.1
    refine x_icmp_ltN 17 d5_step_10 (by decide) (by omega) (by omega) (fun b10 => ?_) (fun b10 => absurd b10 (by omega))
    refine x_iconst (v := nI 0) d5_step_17 (by decide) ?_
    refine x_putIE d5_step_18 p5_80 (hS.T rfl) (fun I1 hI1 => ?_)
    have hsmI1 : MSm I I1 := MSm.thr hI1
    have hthI1 : I1 122 0 = nI 0 := by rw [hI1, u2_self]
    refine x_aload_n d5_step_21 rfl ?_
    refine x_getI d5_step_22 f5_80 (hS.T rfl) ?_
    refine x_top (congrArg Value.int (show I1 122 0 = nI 0 from hthI1)) ?_
    refine x_if_leN 32 d5_step_25 (by decide) (by omega) (fun b25 => ?_) (fun b25 => absurd b25 (by decide))
    refine x_aload_n d5_step_32 rfl ?_
    refine x_getP d5_step_33 f5_68 (hS.T rfl) (hS.P rfl) ?_
    refine x_iload_n d5_step_36 rfl ?_
    refine x_ialdN d5_step_37 (hS.T rfl) (by omega) ?_
    refine x_top (congrArg Value.int (show I1 139 p = nI (r_sp ρ p) from ((hsmI1.mr hR).2.2.2.2.2.2.2.1 _ (by omega)))) ?_
    exact x_ireturn d5_step_38 ⟨by unfold qStep; rw [e]; try rfl, I1, J, rfl, hsmI1.mds hD, hsmI1.mf, JF.rf J, by unfold qThr; rw [e, hthI1]; try rfl⟩
set_option maxHeartbeats 4000000 in
theorem m_count (G : GG) (d : Nat) (v : Int32) (σ : Sg) (ρ : Rs) : MCon G (d + 1) M5_count [.ref 122, .int v] σ ρ (qCount σ ρ v) σ ρ := by
  intro t I J P n sl hS hD hB hSl
  have hσ := hD.1
  have hρ := hD.2.1
  have hM := hD.2.2.1
  have hR := hD.2.2.2
  have hnp := hσ.1
  rcases ix_cases v (n := 5) (by decide) with ⟨hv, e⟩ | ⟨p, hp, rfl, hv, e⟩
  · refine CA.w ?_
    show RA _ _ M5_count 0 [.ref 122, .int v, U0, U0] [] _ _
    refine x_aload_n d5_count_0 rfl ?_
    refine x_iconst (v := nI 0) d5_count_1 (by decide) ?_
    refine x_putIE d5_count_2 p5_80 (hS.T rfl) (fun I1 hI1 => ?_)
    have hsmI1 : MSm I I1 := MSm.thr hI1
    have hthI1 : I1 122 0 = 0 := by rw [hI1, u2_self]; rfl
    refine x_iconst (v := nI 0) d5_count_5 (by decide) ?_
    refine x_istore_n d5_count_6 ?_
    refine x_iload_n d5_count_7 rfl ?_
    refine x_tableOut 139 d5_count_8 (by have := tout hv (by decide); omega) (by decide) ?_
    refine x_iconst (v := -1) d5_count_139 (by decide) ?_
    exact x_ireturn d5_count_140 ⟨by unfold qCount; rw [e]; try rfl, I1, J, rfl, hsmI1.mds hD, hsmI1.mf, JF.rf J, hthI1⟩
  rcases (by omega : p = 0 ∨ p = 1 ∨ p = 2 ∨ p = 3 ∨ p = 4) with rfl | rfl | rfl | rfl | rfl
  · refine CA.w ?_
    show RA _ _ M5_count 0 [.ref 122, .int (nI 0), U0, U0] [] _ _
    refine x_aload_n d5_count_0 rfl ?_
    refine x_iconst (v := nI 0) d5_count_1 (by decide) ?_
    refine x_putIE d5_count_2 p5_80 (hS.T rfl) (fun I1 hI1 => ?_)
    have hsmI1 : MSm I I1 := MSm.thr hI1
    have hthI1 : I1 122 0 = 0 := by rw [hI1, u2_self]; rfl
    refine x_iconst (v := nI 0) d5_count_5 (by decide) ?_
    refine x_istore_n d5_count_6 ?_
    refine x_iload_n d5_count_7 rfl ?_
    refine x_tableIn (off := 36) 44 d5_count_8 (by decide) (by decide) (by decide) (by decide) ?_
    refine x_aload_n d5_count_44 rfl ?_
    refine x_getI d5_count_45 f5_86 (hS.T rfl) ?_
    refine x_top (congrArg Value.int (show I1 122 4 = nI (s_np σ) from (hsmI1.mp hM).np)) ?_
    exact x_ireturn d5_count_48 ⟨by unfold qCount; rw [e]; try rfl, I1, J, rfl, hsmI1.mds hD, hsmI1.mf, JF.rf J, hthI1⟩
  · refine CA.w ?_
    show RA _ _ M5_count 0 [.ref 122, .int (nI 1), U0, U0] [] _ _
    refine x_aload_n d5_count_0 rfl ?_
    refine x_iconst (v := nI 0) d5_count_1 (by decide) ?_
    refine x_putIE d5_count_2 p5_80 (hS.T rfl) (fun I1 hI1 => ?_)
    have hsmI1 : MSm I I1 := MSm.thr hI1
    have hthI1 : I1 122 0 = 0 := by rw [hI1, u2_self]; rfl
    refine x_iconst (v := nI 0) d5_count_5 (by decide) ?_
    refine x_istore_n d5_count_6 ?_
    refine x_iload_n d5_count_7 rfl ?_
    refine x_tableIn (off := 41) 49 d5_count_8 (by decide) (by decide) (by decide) (by decide) ?_
    refine x_iconst (v := nI 0) d5_count_49 (by decide) ?_
    refine x_istore_n d5_count_50 ?_
    have hL : ∀ k, k ≤ s_np σ → RA G (d + 1) M5_count 51 [.ref 122, .int (nI 1), .int (nI (sumN k (s_ln σ))), .int (nI k)] [] (t, I1, J, P, n, sl) (fun o h' => o = .inl (some (.int (qCount σ ρ (nI 1)))) ∧ ∃ I' J', h' = (t, I', J', P, n, sl) ∧ MdS I' σ ρ ∧ MF I I' ∧ JF J J' ∧ I' 122 0 = 0) := by
      refine up_ind ?_
      intro k hk_ ih
      have hsum_ := sumN_le (n := k) (f := s_ln σ) (c := 16) (fun i hi => (Nat.le_trans (hσ.ln (by omega)) (by decide)))
      refine x_iload_n d5_count_51 rfl ?_
      refine x_aload_n d5_count_52 rfl ?_
      refine x_getI d5_count_53 f5_86 (hS.T rfl) ?_
      refine x_top (congrArg Value.int (show I1 122 4 = nI (s_np σ) from (hsmI1.mp hM).np)) ?_
      refine x_icmp_geN 74 d5_count_56 (by decide) (by omega) (by omega) (fun b56 => ?_) (fun b56 => ?_)
      · refine x_iload_n d5_count_74 rfl ?_
        exact x_ireturn d5_count_75 ⟨by unfold qCount; rw [e, show k = s_np σ by omega]; try rfl, I1, J, rfl, hsmI1.mds hD, hsmI1.mf, JF.rf J, hthI1⟩
      · refine x_iload_n d5_count_59 rfl ?_
        refine x_aload_n d5_count_60 rfl ?_
        refine x_getP d5_count_61 f5_17 (hS.T rfl) (hS.P rfl) ?_
        refine x_iload_n d5_count_64 rfl ?_
        refine x_ialdN d5_count_65 (hS.T rfl) (by omega) ?_
        refine x_top (congrArg Value.int (show I1 124 k = nI (s_ln σ k) from ((hsmI1.mp hM).ln (by omega)))) ?_
        have hln_ := hσ.ln (by omega)
        refine x_iaddN d5_count_66 ?_
        refine x_istore_n d5_count_67 ?_
        refine x_iincN (c := 1) d5_count_68 rfl (by decide) ?_
        refine x_goto 51 d5_count_71 (by decide) ?_
        exact ih (by omega)
    exact hL 0 (Nat.zero_le _)
  · refine CA.w ?_
    show RA _ _ M5_count 0 [.ref 122, .int (nI 2), U0, U0] [] _ _
    refine x_aload_n d5_count_0 rfl ?_
    refine x_iconst (v := nI 0) d5_count_1 (by decide) ?_
    refine x_putIE d5_count_2 p5_80 (hS.T rfl) (fun I1 hI1 => ?_)
    have hsmI1 : MSm I I1 := MSm.thr hI1
    have hthI1 : I1 122 0 = 0 := by rw [hI1, u2_self]; rfl
    refine x_iconst (v := nI 0) d5_count_5 (by decide) ?_
    refine x_istore_n d5_count_6 ?_
    refine x_iload_n d5_count_7 rfl ?_
    refine x_tableIn (off := 68) 76 d5_count_8 (by decide) (by decide) (by decide) (by decide) ?_
    refine x_iconst (v := nI 0) d5_count_76 (by decide) ?_
    refine x_istore_n d5_count_77 ?_
    have hL : ∀ k, k ≤ s_np σ → RA G (d + 1) M5_count 78 [.ref 122, .int (nI 2), .int (nI (sumN k ((fun p => pop (s_gr σ p))))), .int (nI k)] [] (t, I1, J, P, n, sl) (fun o h' => o = .inl (some (.int (qCount σ ρ (nI 2)))) ∧ ∃ I' J', h' = (t, I', J', P, n, sl) ∧ MdS I' σ ρ ∧ MF I I' ∧ JF J J' ∧ I' 122 0 = 0) := by
      refine up_ind ?_
      intro k hk_ ih
      have hsum_ := sumN_le (n := k) (f := (fun p => pop (s_gr σ p))) (c := 16) (fun i _ => pop_le _)
      refine x_iload_n d5_count_78 rfl ?_
      refine x_aload_n d5_count_79 rfl ?_
      refine x_getI d5_count_80 f5_86 (hS.T rfl) ?_
      refine x_top (congrArg Value.int (show I1 122 4 = nI (s_np σ) from (hsmI1.mp hM).np)) ?_
      refine x_icmp_geN 104 d5_count_83 (by decide) (by omega) (by omega) (fun b83 => ?_) (fun b83 => ?_)
      · refine x_iload_n d5_count_104 rfl ?_
        exact x_ireturn d5_count_105 ⟨by unfold qCount; rw [e, show k = s_np σ by omega]; try rfl, I1, J, rfl, hsmI1.mds hD, hsmI1.mf, JF.rf J, hthI1⟩
      · refine x_iload_n d5_count_86 rfl ?_
        refine x_aload_n d5_count_87 rfl ?_
        refine x_getP d5_count_88 f5_13 (hS.T rfl) (hS.P rfl) ?_
        refine x_iload_n d5_count_91 rfl ?_
        refine x_ialdN d5_count_92 (hS.T rfl) (by omega) ?_
        refine x_top (congrArg Value.int (show I1 123 k = nI (s_gr σ k) from ((hsmI1.mp hM).gr (by omega)))) ?_
        have hgr_ := hσ.gr (by omega)
        refine x_invS 1 d5_count_93 s5_244 (m_bits G _ _ (s_gr σ k) (hσ.gr (by omega))) (Cont.p ?_) (hB := hB) (hS := hSl)
        have hpop_ := pop_le (s_gr σ k)
        refine x_iaddN d5_count_96 ?_
        refine x_istore_n d5_count_97 ?_
        refine x_iincN (c := 1) d5_count_98 rfl (by decide) ?_
        refine x_goto 78 d5_count_101 (by decide) ?_
        exact ih (by omega)
    exact hL 0 (Nat.zero_le _)
  · refine CA.w ?_
    show RA _ _ M5_count 0 [.ref 122, .int (nI 3), U0, U0] [] _ _
    refine x_aload_n d5_count_0 rfl ?_
    refine x_iconst (v := nI 0) d5_count_1 (by decide) ?_
    refine x_putIE d5_count_2 p5_80 (hS.T rfl) (fun I1 hI1 => ?_)
    have hsmI1 : MSm I I1 := MSm.thr hI1
    have hthI1 : I1 122 0 = 0 := by rw [hI1, u2_self]; rfl
    refine x_iconst (v := nI 0) d5_count_5 (by decide) ?_
    refine x_istore_n d5_count_6 ?_
    refine x_iload_n d5_count_7 rfl ?_
    refine x_tableIn (off := 98) 106 d5_count_8 (by decide) (by decide) (by decide) (by decide) ?_
    refine x_iconst (v := nI 0) d5_count_106 (by decide) ?_
    refine x_istore_n d5_count_107 ?_
    have hL : ∀ k, k ≤ 16 → RA G (d + 1) M5_count 108 [.ref 122, .int (nI 3), .int (nI (sumN k ((fun s => pop (r_mt ρ s))))), .int (nI k)] [] (t, I1, J, P, n, sl) (fun o h' => o = .inl (some (.int (qCount σ ρ (nI 3)))) ∧ ∃ I' J', h' = (t, I', J', P, n, sl) ∧ MdS I' σ ρ ∧ MF I I' ∧ JF J J' ∧ I' 122 0 = 0) := by
      refine up_ind ?_
      intro k hk_ ih
      have hsum_ := sumN_le (n := k) (f := (fun s => pop (r_mt ρ s))) (c := 16) (fun i _ => pop_le _)
      refine x_iload_n d5_count_108 rfl ?_
      refine x_bipush (v := nI 16) d5_count_109 (by decide) ?_
      refine x_icmp_geN 132 d5_count_111 (by decide) (by omega) (by omega) (fun b111 => ?_) (fun b111 => ?_)
      · refine x_iload_n d5_count_132 rfl ?_
        exact x_ireturn d5_count_133 ⟨by unfold qCount; rw [e, show k = 16 by omega]; try rfl, I1, J, rfl, hsmI1.mds hD, hsmI1.mf, JF.rf J, hthI1⟩
      · refine x_iload_n d5_count_114 rfl ?_
        refine x_aload_n d5_count_115 rfl ?_
        refine x_getP d5_count_116 f5_20 (hS.T rfl) (hS.P rfl) ?_
        refine x_iload_n d5_count_119 rfl ?_
        refine x_ialdN d5_count_120 (hS.T rfl) (by omega) ?_
        refine x_top (congrArg Value.int (show I1 125 k = nI (r_mt ρ k) from ((hsmI1.mr hR).1 _ (by omega)))) ?_
        have hmt_ := hρ.1 k (by omega)
        refine x_invS 1 d5_count_121 s5_244 (m_bits G _ _ (r_mt ρ k) (hρ.1 _ (by omega))) (Cont.p ?_) (hB := hB) (hS := hSl)
        have hpop_ := pop_le (r_mt ρ k)
        refine x_iaddN d5_count_124 ?_
        refine x_istore_n d5_count_125 ?_
        refine x_iincN (c := 1) d5_count_126 rfl (by decide) ?_
        refine x_goto 108 d5_count_129 (by decide) ?_
        exact ih (by omega)
    exact hL 0 (Nat.zero_le _)
  · refine CA.w ?_
    show RA _ _ M5_count 0 [.ref 122, .int (nI 4), U0, U0] [] _ _
    refine x_aload_n d5_count_0 rfl ?_
    refine x_iconst (v := nI 0) d5_count_1 (by decide) ?_
    refine x_putIE d5_count_2 p5_80 (hS.T rfl) (fun I1 hI1 => ?_)
    have hsmI1 : MSm I I1 := MSm.thr hI1
    have hthI1 : I1 122 0 = 0 := by rw [hI1, u2_self]; rfl
    refine x_iconst (v := nI 0) d5_count_5 (by decide) ?_
    refine x_istore_n d5_count_6 ?_
    refine x_iload_n d5_count_7 rfl ?_
    refine x_tableIn (off := 126) 134 d5_count_8 (by decide) (by decide) (by decide) (by decide) ?_
    refine x_aload_n d5_count_134 rfl ?_
    refine x_getI d5_count_135 f5_219 (hS.T rfl) ?_
    refine x_top (congrArg Value.int (show I1 122 15 = nI (r_td ρ) from (hsmI1.mr hR).2.1)) ?_
    have htd_ := hρ.2.1
    exact x_ireturn d5_count_138 ⟨by unfold qCount; rw [e]; try rfl, I1, J, rfl, hsmI1.mds hD, hsmI1.mf, JF.rf J, hthI1⟩
set_option maxHeartbeats 4000000 in
theorem m_line (G : GG) (d : Nat) (v u w : Int32) (σ : Sg) (ρ : Rs) : MCon G (d + 1) M5_line [.ref 122, .int v, .int u, .int w] σ ρ (qLine σ v u w) σ ρ := by
  intro t I J P n sl hS hD hB hSl
  have hσ := hD.1
  have hρ := hD.2.1
  have hM := hD.2.2.1
  have hR := hD.2.2.2
  have hnp := hσ.1
  rcases ix_cases v (n := s_np σ) (by omega) with ⟨hv, e⟩ | ⟨p, hp, rfl, hv, e⟩
  · refine CA.w ?_
    show RA _ _ M5_line 0 [.ref 122, .int v, .int u, .int w, U0] [] _ _
    refine x_aload_n d5_line_0 rfl ?_
    refine x_iconst (v := nI 0) d5_line_1 (by decide) ?_
    refine x_putIE d5_line_2 p5_80 (hS.T rfl) (fun I1 hI1 => ?_)
    have hsmI1 : MSm I I1 := MSm.thr hI1
    have hthI1 : I1 122 0 = 0 := by rw [hI1, u2_self]; rfl
    refine x_aload_n d5_line_5 rfl ?_
    refine x_iload_n d5_line_6 rfl ?_
    refine x_invV 122 1 d5_line_7 (hS.T rfl) v5_101_5 (m_isPart _ hS (hsmI1.mp hM) (v)) (Cont.p ?_) (hB := hB) (hS := hSl)
    refine x_top (congrArg Value.int (b2i_f hv)) ?_
    refine x_if_eq 27 d5_line_10 (by decide) (fun b10 => ?_) (fun b10 => absurd b10 (by decide))
    refine x_iconst (v := -1) d5_line_27 (by decide) ?_
    exact x_ireturn d5_line_28 ⟨by simp only [qLine, e], I1, J, rfl, hsmI1.mds hD, hsmI1.mf, JF.rf J, hthI1⟩
  have hln0 := hσ.ln hp
  rcases ix_cases u (n := s_ln σ p) (by omega) with ⟨hu, e2⟩ | ⟨k, hk, rfl, hu, e2⟩
  · refine CA.w ?_
    show RA _ _ M5_line 0 [.ref 122, .int (nI p), .int u, .int w, U0] [] _ _
    refine x_aload_n d5_line_0 rfl ?_
    refine x_iconst (v := nI 0) d5_line_1 (by decide) ?_
    refine x_putIE d5_line_2 p5_80 (hS.T rfl) (fun I1 hI1 => ?_)
    have hsmI1 : MSm I I1 := MSm.thr hI1
    have hthI1 : I1 122 0 = 0 := by rw [hI1, u2_self]; rfl
    refine x_aload_n d5_line_5 rfl ?_
    refine x_iload_n d5_line_6 rfl ?_
    refine x_invV 122 1 d5_line_7 (hS.T rfl) v5_101_5 (m_isPart _ hS (hsmI1.mp hM) (nI p)) (Cont.p ?_) (hB := hB) (hS := hSl)
    refine x_top (congrArg Value.int (b2i_t hv)) ?_
    refine x_if_eq 27 d5_line_10 (by decide) (fun b10 => absurd b10 (by decide)) (fun b10 => ?_)
    have hln := hσ.ln hp
    refine x_iload_n d5_line_13 rfl ?_
    refine x_if_lt 27 d5_line_14 (by decide) (fun b14 => ?_) (fun b14 => ?_)
    · refine x_iconst (v := -1) d5_line_27 (by decide) ?_
      exact x_ireturn d5_line_28 ⟨by simp only [qLine, e, e2], I1, J, rfl, hsmI1.mds hD, hsmI1.mf, JF.rf J, hthI1⟩
    · refine x_iload_n d5_line_17 rfl ?_
      refine x_aload_n d5_line_18 rfl ?_
      refine x_getP d5_line_19 f5_17 (hS.T rfl) (hS.P rfl) ?_
      refine x_iload_n d5_line_22 rfl ?_
      refine x_ialdN d5_line_23 (hS.T rfl) (by omega) ?_
      refine x_top (congrArg Value.int (show I1 124 p = nI (s_ln σ p) from ((hsmI1.mp hM).ln hp))) ?_
      have hln_ := hσ.ln hp
      refine x_icmp_lt 29 d5_line_24 (by decide) (fun b24 => absurd b24 (fun z => hu ⟨i_nlt b14, z⟩)) (fun b24 => ?_)
      refine x_iconst (v := -1) d5_line_27 (by decide) ?_
      exact x_ireturn d5_line_28 ⟨by simp only [qLine, e, e2], I1, J, rfl, hsmI1.mds hD, hsmI1.mf, JF.rf J, hthI1⟩
  rcases ix_cases w (n := 4) (by decide) with ⟨hw, e3⟩ | ⟨j, hj, rfl, hw, e3⟩
  · refine CA.w ?_
    show RA _ _ M5_line 0 [.ref 122, .int (nI p), .int (nI k), .int w, U0] [] _ _
    refine x_aload_n d5_line_0 rfl ?_
    refine x_iconst (v := nI 0) d5_line_1 (by decide) ?_
    refine x_putIE d5_line_2 p5_80 (hS.T rfl) (fun I1 hI1 => ?_)
    have hsmI1 : MSm I I1 := MSm.thr hI1
    have hthI1 : I1 122 0 = 0 := by rw [hI1, u2_self]; rfl
    refine x_aload_n d5_line_5 rfl ?_
    refine x_iload_n d5_line_6 rfl ?_
    refine x_invV 122 1 d5_line_7 (hS.T rfl) v5_101_5 (m_isPart _ hS (hsmI1.mp hM) (nI p)) (Cont.p ?_) (hB := hB) (hS := hSl)
    refine x_top (congrArg Value.int (b2i_t hv)) ?_
    refine x_if_eq 27 d5_line_10 (by decide) (fun b10 => absurd b10 (by decide)) (fun b10 => ?_)
    have hln := hσ.ln hp
    refine x_iload_n d5_line_13 rfl ?_
    refine x_if_ltN (tgt := 27) d5_line_14 (by omega) ?_ (by decide)
    refine x_iload_n d5_line_17 rfl ?_
    refine x_aload_n d5_line_18 rfl ?_
    refine x_getP d5_line_19 f5_17 (hS.T rfl) (hS.P rfl) ?_
    refine x_iload_n d5_line_22 rfl ?_
    refine x_ialdN d5_line_23 (hS.T rfl) (by omega) ?_
    refine x_top (congrArg Value.int (show I1 124 p = nI (s_ln σ p) from ((hsmI1.mp hM).ln hp))) ?_
    have hln_ := hσ.ln hp
    refine x_icmp_ltN 29 d5_line_24 (by decide) (by omega) (by omega) (fun b24 => ?_) (fun b24 => absurd b24 (by omega))
    refine x_bipush (v := nI 12) d5_line_29 (by decide) ?_
    refine x_iload_n d5_line_31 rfl ?_
    refine x_imulN d5_line_32 ?_
    refine x_iload_n d5_line_33 rfl ?_
    refine x_iaddN d5_line_34 ?_
    refine x_istore d5_line_35 ?_
    refine x_iload_n d5_line_37 rfl ?_
    refine x_tableOut 100 d5_line_38 (by have := tout hw (by decide); omega) (by decide) ?_
    refine x_iconst (v := -1) d5_line_100 (by decide) ?_
    exact x_ireturn d5_line_101 ⟨by simp only [qLine, e, e2, e3], I1, J, rfl, hsmI1.mds hD, hsmI1.mf, JF.rf J, hthI1⟩
  rcases (by omega : j = 0 ∨ j = 1 ∨ j = 2 ∨ j = 3) with rfl | rfl | rfl | rfl
  · refine CA.w ?_
    show RA _ _ M5_line 0 [.ref 122, .int (nI p), .int (nI k), .int (nI 0), U0] [] _ _
    refine x_aload_n d5_line_0 rfl ?_
    refine x_iconst (v := nI 0) d5_line_1 (by decide) ?_
    refine x_putIE d5_line_2 p5_80 (hS.T rfl) (fun I1 hI1 => ?_)
    have hsmI1 : MSm I I1 := MSm.thr hI1
    have hthI1 : I1 122 0 = 0 := by rw [hI1, u2_self]; rfl
    refine x_aload_n d5_line_5 rfl ?_
    refine x_iload_n d5_line_6 rfl ?_
    refine x_invV 122 1 d5_line_7 (hS.T rfl) v5_101_5 (m_isPart _ hS (hsmI1.mp hM) (nI p)) (Cont.p ?_) (hB := hB) (hS := hSl)
    refine x_top (congrArg Value.int (b2i_t hv)) ?_
    refine x_if_eq 27 d5_line_10 (by decide) (fun b10 => absurd b10 (by decide)) (fun b10 => ?_)
    have hln := hσ.ln hp
    refine x_iload_n d5_line_13 rfl ?_
    refine x_if_ltN (tgt := 27) d5_line_14 (by omega) ?_ (by decide)
    refine x_iload_n d5_line_17 rfl ?_
    refine x_aload_n d5_line_18 rfl ?_
    refine x_getP d5_line_19 f5_17 (hS.T rfl) (hS.P rfl) ?_
    refine x_iload_n d5_line_22 rfl ?_
    refine x_ialdN d5_line_23 (hS.T rfl) (by omega) ?_
    refine x_top (congrArg Value.int (show I1 124 p = nI (s_ln σ p) from ((hsmI1.mp hM).ln hp))) ?_
    have hln_ := hσ.ln hp
    refine x_icmp_ltN 29 d5_line_24 (by decide) (by omega) (by omega) (fun b24 => ?_) (fun b24 => absurd b24 (by omega))
    refine x_bipush (v := nI 12) d5_line_29 (by decide) ?_
    refine x_iload_n d5_line_31 rfl ?_
    refine x_imulN d5_line_32 ?_
    refine x_iload_n d5_line_33 rfl ?_
    refine x_iaddN d5_line_34 ?_
    refine x_istore d5_line_35 ?_
    refine x_iload_n d5_line_37 rfl ?_
    refine x_tableIn (off := 30) 68 d5_line_38 (by decide) (by decide) (by decide) (by decide) ?_
    refine x_aload_n d5_line_68 rfl ?_
    refine x_getP d5_line_69 f5_23 (hS.T rfl) (hS.P rfl) ?_
    refine x_iload d5_line_72 rfl ?_
    refine x_ialdN d5_line_74 (hS.T rfl) (by omega) ?_
    refine x_top (congrArg Value.int (show I1 126 ((12 * p) + k) = nI (s_kk σ (12 * p + k)) from ((hsmI1.mp hM).kk hp hk))) ?_
    have hkk_ := (hσ.row hp hk).1
    exact x_ireturn d5_line_75 ⟨by simp only [qLine, e, e2, e3], I1, J, rfl, hsmI1.mds hD, hsmI1.mf, JF.rf J, hthI1⟩
  · refine CA.w ?_
    show RA _ _ M5_line 0 [.ref 122, .int (nI p), .int (nI k), .int (nI 1), U0] [] _ _
    refine x_aload_n d5_line_0 rfl ?_
    refine x_iconst (v := nI 0) d5_line_1 (by decide) ?_
    refine x_putIE d5_line_2 p5_80 (hS.T rfl) (fun I1 hI1 => ?_)
    have hsmI1 : MSm I I1 := MSm.thr hI1
    have hthI1 : I1 122 0 = 0 := by rw [hI1, u2_self]; rfl
    refine x_aload_n d5_line_5 rfl ?_
    refine x_iload_n d5_line_6 rfl ?_
    refine x_invV 122 1 d5_line_7 (hS.T rfl) v5_101_5 (m_isPart _ hS (hsmI1.mp hM) (nI p)) (Cont.p ?_) (hB := hB) (hS := hSl)
    refine x_top (congrArg Value.int (b2i_t hv)) ?_
    refine x_if_eq 27 d5_line_10 (by decide) (fun b10 => absurd b10 (by decide)) (fun b10 => ?_)
    have hln := hσ.ln hp
    refine x_iload_n d5_line_13 rfl ?_
    refine x_if_ltN (tgt := 27) d5_line_14 (by omega) ?_ (by decide)
    refine x_iload_n d5_line_17 rfl ?_
    refine x_aload_n d5_line_18 rfl ?_
    refine x_getP d5_line_19 f5_17 (hS.T rfl) (hS.P rfl) ?_
    refine x_iload_n d5_line_22 rfl ?_
    refine x_ialdN d5_line_23 (hS.T rfl) (by omega) ?_
    refine x_top (congrArg Value.int (show I1 124 p = nI (s_ln σ p) from ((hsmI1.mp hM).ln hp))) ?_
    have hln_ := hσ.ln hp
    refine x_icmp_ltN 29 d5_line_24 (by decide) (by omega) (by omega) (fun b24 => ?_) (fun b24 => absurd b24 (by omega))
    refine x_bipush (v := nI 12) d5_line_29 (by decide) ?_
    refine x_iload_n d5_line_31 rfl ?_
    refine x_imulN d5_line_32 ?_
    refine x_iload_n d5_line_33 rfl ?_
    refine x_iaddN d5_line_34 ?_
    refine x_istore d5_line_35 ?_
    refine x_iload_n d5_line_37 rfl ?_
    refine x_tableIn (off := 38) 76 d5_line_38 (by decide) (by decide) (by decide) (by decide) ?_
    refine x_aload_n d5_line_76 rfl ?_
    refine x_getP d5_line_77 f5_26 (hS.T rfl) (hS.P rfl) ?_
    refine x_iload d5_line_80 rfl ?_
    refine x_ialdN d5_line_82 (hS.T rfl) (by omega) ?_
    refine x_top (congrArg Value.int (show I1 127 ((12 * p) + k) = nI (s_nu σ (12 * p + k)) from ((hsmI1.mp hM).nu hp hk))) ?_
    have hnu_ := (hσ.row hp hk).2.1
    exact x_ireturn d5_line_83 ⟨by simp only [qLine, e, e2, e3], I1, J, rfl, hsmI1.mds hD, hsmI1.mf, JF.rf J, hthI1⟩
  · refine CA.w ?_
    show RA _ _ M5_line 0 [.ref 122, .int (nI p), .int (nI k), .int (nI 2), U0] [] _ _
    refine x_aload_n d5_line_0 rfl ?_
    refine x_iconst (v := nI 0) d5_line_1 (by decide) ?_
    refine x_putIE d5_line_2 p5_80 (hS.T rfl) (fun I1 hI1 => ?_)
    have hsmI1 : MSm I I1 := MSm.thr hI1
    have hthI1 : I1 122 0 = 0 := by rw [hI1, u2_self]; rfl
    refine x_aload_n d5_line_5 rfl ?_
    refine x_iload_n d5_line_6 rfl ?_
    refine x_invV 122 1 d5_line_7 (hS.T rfl) v5_101_5 (m_isPart _ hS (hsmI1.mp hM) (nI p)) (Cont.p ?_) (hB := hB) (hS := hSl)
    refine x_top (congrArg Value.int (b2i_t hv)) ?_
    refine x_if_eq 27 d5_line_10 (by decide) (fun b10 => absurd b10 (by decide)) (fun b10 => ?_)
    have hln := hσ.ln hp
    refine x_iload_n d5_line_13 rfl ?_
    refine x_if_ltN (tgt := 27) d5_line_14 (by omega) ?_ (by decide)
    refine x_iload_n d5_line_17 rfl ?_
    refine x_aload_n d5_line_18 rfl ?_
    refine x_getP d5_line_19 f5_17 (hS.T rfl) (hS.P rfl) ?_
    refine x_iload_n d5_line_22 rfl ?_
    refine x_ialdN d5_line_23 (hS.T rfl) (by omega) ?_
    refine x_top (congrArg Value.int (show I1 124 p = nI (s_ln σ p) from ((hsmI1.mp hM).ln hp))) ?_
    have hln_ := hσ.ln hp
    refine x_icmp_ltN 29 d5_line_24 (by decide) (by omega) (by omega) (fun b24 => ?_) (fun b24 => absurd b24 (by omega))
    refine x_bipush (v := nI 12) d5_line_29 (by decide) ?_
    refine x_iload_n d5_line_31 rfl ?_
    refine x_imulN d5_line_32 ?_
    refine x_iload_n d5_line_33 rfl ?_
    refine x_iaddN d5_line_34 ?_
    refine x_istore d5_line_35 ?_
    refine x_iload_n d5_line_37 rfl ?_
    refine x_tableIn (off := 46) 84 d5_line_38 (by decide) (by decide) (by decide) (by decide) ?_
    refine x_aload_n d5_line_84 rfl ?_
    refine x_getP d5_line_85 f5_29 (hS.T rfl) (hS.P rfl) ?_
    refine x_iload d5_line_88 rfl ?_
    refine x_ialdN d5_line_90 (hS.T rfl) (by omega) ?_
    refine x_top (congrArg Value.int (show I1 128 ((12 * p) + k) = nI (s_fs σ (12 * p + k)) from ((hsmI1.mp hM).fs hp hk))) ?_
    have hfs_ := (hσ.row hp hk).2.2.1
    exact x_ireturn d5_line_91 ⟨by simp only [qLine, e, e2, e3], I1, J, rfl, hsmI1.mds hD, hsmI1.mf, JF.rf J, hthI1⟩
  · refine CA.w ?_
    show RA _ _ M5_line 0 [.ref 122, .int (nI p), .int (nI k), .int (nI 3), U0] [] _ _
    refine x_aload_n d5_line_0 rfl ?_
    refine x_iconst (v := nI 0) d5_line_1 (by decide) ?_
    refine x_putIE d5_line_2 p5_80 (hS.T rfl) (fun I1 hI1 => ?_)
    have hsmI1 : MSm I I1 := MSm.thr hI1
    have hthI1 : I1 122 0 = 0 := by rw [hI1, u2_self]; rfl
    refine x_aload_n d5_line_5 rfl ?_
    refine x_iload_n d5_line_6 rfl ?_
    refine x_invV 122 1 d5_line_7 (hS.T rfl) v5_101_5 (m_isPart _ hS (hsmI1.mp hM) (nI p)) (Cont.p ?_) (hB := hB) (hS := hSl)
    refine x_top (congrArg Value.int (b2i_t hv)) ?_
    refine x_if_eq 27 d5_line_10 (by decide) (fun b10 => absurd b10 (by decide)) (fun b10 => ?_)
    have hln := hσ.ln hp
    refine x_iload_n d5_line_13 rfl ?_
    refine x_if_ltN (tgt := 27) d5_line_14 (by omega) ?_ (by decide)
    refine x_iload_n d5_line_17 rfl ?_
    refine x_aload_n d5_line_18 rfl ?_
    refine x_getP d5_line_19 f5_17 (hS.T rfl) (hS.P rfl) ?_
    refine x_iload_n d5_line_22 rfl ?_
    refine x_ialdN d5_line_23 (hS.T rfl) (by omega) ?_
    refine x_top (congrArg Value.int (show I1 124 p = nI (s_ln σ p) from ((hsmI1.mp hM).ln hp))) ?_
    have hln_ := hσ.ln hp
    refine x_icmp_ltN 29 d5_line_24 (by decide) (by omega) (by omega) (fun b24 => ?_) (fun b24 => absurd b24 (by omega))
    refine x_bipush (v := nI 12) d5_line_29 (by decide) ?_
    refine x_iload_n d5_line_31 rfl ?_
    refine x_imulN d5_line_32 ?_
    refine x_iload_n d5_line_33 rfl ?_
    refine x_iaddN d5_line_34 ?_
    refine x_istore d5_line_35 ?_
    refine x_iload_n d5_line_37 rfl ?_
    refine x_tableIn (off := 54) 92 d5_line_38 (by decide) (by decide) (by decide) (by decide) ?_
    refine x_aload_n d5_line_92 rfl ?_
    refine x_getP d5_line_93 f5_32 (hS.T rfl) (hS.P rfl) ?_
    refine x_iload d5_line_96 rfl ?_
    refine x_ialdN d5_line_98 (hS.T rfl) (by omega) ?_
    refine x_top (congrArg Value.int (show I1 129 ((12 * p) + k) = secv σ (12 * p + k) from ((hsmI1.mp hM).se hp hk))) ?_
    exact x_ireturn d5_line_99 ⟨by simp only [qLine, e, e2, e3], I1, J, rfl, hsmI1.mds hD, hsmI1.mf, JF.rf J, hthI1⟩
set_option maxHeartbeats 4000000 in
theorem m_part (G : GG) (d : Nat) (v : Int32) (σ : Sg) (ρ : Rs) : MCon G (d + 1) M5_part [.ref 122, .int v] σ ρ (qPart σ ρ v).1 (qPart σ ρ v).2.1 (qPart σ ρ v).2.2 := by
  intro t I J P n sl hS hD hB hSl
  have hσ := hD.1
  have hρ := hD.2.1
  have hM := hD.2.2.1
  have hR := hD.2.2.2
  have hnp := hσ.1
  rcases ix_cases v (n := 65536) (by decide) with ⟨hv, e⟩ | ⟨g, hg, rfl, hv, e⟩
  · rw [show qPart σ ρ v = (-1, σ, rT ρ 2) by unfold qPart; rw [e]]
    refine CA.w ?_
    show RA _ _ M5_part 0 [.ref 122, .int v] [] _ _
    refine x_aload_n d5_part_0 rfl ?_
    refine x_iconst (v := nI 0) d5_part_1 (by decide) ?_
    refine x_putIE d5_part_2 p5_80 (hS.T rfl) (fun I1 hI1 => ?_)
    have hsmI1 : MSm I I1 := MSm.thr hI1
    have hthI1 : I1 122 0 = 0 := by rw [hI1, u2_self]; rfl
    refine x_iload_n d5_part_5 rfl ?_
    refine x_iconst (v := nI 0) d5_part_6 (by decide) ?_
    refine x_ldc (v := nI 65535) d5_part_7 (lw_g (lw_at lw_m5 141 rfl) rfl) ?_
    refine x_invS 3 d5_part_9 s5_90 (m_in G _ _ (v) (nI 0) (nI 65535)) (Cont.p ?_) (hB := hB) (hS := hSl)
    refine x_top (congrArg Value.int (b2i_f (fun z => hv ((ix_le _ (m := 65535) (by decide)).mp z)))) ?_
    refine x_if_ne 21 d5_part_12 (by decide) (fun b12 => absurd b12 (by decide)) (fun b12 => ?_)
    refine x_aload_n d5_part_15 rfl ?_
    refine x_iconst (v := nI 2) d5_part_16 (by decide) ?_
    refine x_invV 122 1 d5_part_17 (hS.T rfl) v5_94_5 (m_refused _ hS (k := 2)) (Cont.e ?_) (hB := hB) (hS := hSl)
    obtain ⟨I2, hI2⟩ : ∃ z, z = u2 (u2 I1 122 1 (nI 2)) 122 2 (-1) := ⟨_, rfl⟩
    rw [← hI2]
    have hthI2 : I2 122 0 = 0 := by rw [hI2, u2_ne _ _ (by decide), u2_ne _ _ (by decide)]; exact hthI1
    exact x_ireturn d5_part_20 ⟨rfl, I2, J, rfl, (hsmI1.mds hD).tr hI2 (by decide), (hsmI1.mf).trans (MF.tell hI2), JF.rf J, hthI2⟩
  by_cases h10 : s_np σ = 10
  · rw [show qPart σ ρ (nI g) = (-1, σ, rT ρ 3) by unfold qPart; rw [e]; exact if_pos h10]
    refine CA.w ?_
    show RA _ _ M5_part 0 [.ref 122, .int (nI g)] [] _ _
    refine x_aload_n d5_part_0 rfl ?_
    refine x_iconst (v := nI 0) d5_part_1 (by decide) ?_
    refine x_putIE d5_part_2 p5_80 (hS.T rfl) (fun I1 hI1 => ?_)
    have hsmI1 : MSm I I1 := MSm.thr hI1
    have hthI1 : I1 122 0 = 0 := by rw [hI1, u2_self]; rfl
    refine x_iload_n d5_part_5 rfl ?_
    refine x_iconst (v := nI 0) d5_part_6 (by decide) ?_
    refine x_ldc (v := nI 65535) d5_part_7 (lw_g (lw_at lw_m5 141 rfl) rfl) ?_
    refine x_invS 3 d5_part_9 s5_90 (m_in G _ _ (nI g) (nI 0) (nI 65535)) (Cont.p ?_) (hB := hB) (hS := hSl)
    refine x_top (congrArg Value.int (b2i_t ((ix_le _ (m := 65535) (by decide)).mpr hv))) ?_
    refine x_if_ne 21 d5_part_12 (by decide) (fun b12 => ?_) (fun b12 => absurd b12 (by decide))
    refine x_aload_n d5_part_21 rfl ?_
    refine x_getI d5_part_22 f5_86 (hS.T rfl) ?_
    refine x_top (congrArg Value.int (show I1 122 4 = nI (s_np σ) from (hsmI1.mp hM).np)) ?_
    refine x_bipush (v := nI 10) d5_part_25 (by decide) ?_
    refine x_icmp_neN 36 d5_part_27 (by decide) (by omega) (by omega) (fun b27 => absurd b27 (fun z => z h10)) (fun b27 => ?_)
    refine x_aload_n d5_part_30 rfl ?_
    refine x_iconst (v := nI 3) d5_part_31 (by decide) ?_
    refine x_invV 122 1 d5_part_32 (hS.T rfl) v5_94_5 (m_refused _ hS (k := 3)) (Cont.e ?_) (hB := hB) (hS := hSl)
    obtain ⟨I2, hI2⟩ : ∃ z, z = u2 (u2 I1 122 1 (nI 3)) 122 2 (-1) := ⟨_, rfl⟩
    rw [← hI2]
    have hthI2 : I2 122 0 = 0 := by rw [hI2, u2_ne _ _ (by decide), u2_ne _ _ (by decide)]; exact hthI1
    exact x_ireturn d5_part_35 ⟨rfl, I2, J, rfl, (hsmI1.mds hD).tr hI2 (by decide), (hsmI1.mf).trans (MF.tell hI2), JF.rf J, hthI2⟩
  · rw [show qPart σ ρ (nI g) = (nI (s_np σ), sPart σ g, rT ρ 0) by unfold qPart; rw [e]; exact if_neg h10]
    refine CA.w ?_
    show RA _ _ M5_part 0 [.ref 122, .int (nI g)] [] _ _
    refine x_aload_n d5_part_0 rfl ?_
    refine x_iconst (v := nI 0) d5_part_1 (by decide) ?_
    refine x_putIE d5_part_2 p5_80 (hS.T rfl) (fun I1 hI1 => ?_)
    have hsmI1 : MSm I I1 := MSm.thr hI1
    have hthI1 : I1 122 0 = 0 := by rw [hI1, u2_self]; rfl
    refine x_iload_n d5_part_5 rfl ?_
    refine x_iconst (v := nI 0) d5_part_6 (by decide) ?_
    refine x_ldc (v := nI 65535) d5_part_7 (lw_g (lw_at lw_m5 141 rfl) rfl) ?_
    refine x_invS 3 d5_part_9 s5_90 (m_in G _ _ (nI g) (nI 0) (nI 65535)) (Cont.p ?_) (hB := hB) (hS := hSl)
    refine x_top (congrArg Value.int (b2i_t ((ix_le _ (m := 65535) (by decide)).mpr hv))) ?_
    refine x_if_ne 21 d5_part_12 (by decide) (fun b12 => ?_) (fun b12 => absurd b12 (by decide))
    refine x_aload_n d5_part_21 rfl ?_
    refine x_getI d5_part_22 f5_86 (hS.T rfl) ?_
    refine x_top (congrArg Value.int (show I1 122 4 = nI (s_np σ) from (hsmI1.mp hM).np)) ?_
    refine x_bipush (v := nI 10) d5_part_25 (by decide) ?_
    refine x_icmp_neN 36 d5_part_27 (by decide) (by omega) (by omega) (fun b27 => ?_) (fun b27 => absurd b27 h10)
    refine x_aload_n d5_part_36 rfl ?_
    refine x_getP d5_part_37 f5_13 (hS.T rfl) (hS.P rfl) ?_
    refine x_aload_n d5_part_40 rfl ?_
    refine x_getI d5_part_41 f5_86 (hS.T rfl) ?_
    refine x_top (congrArg Value.int (show I1 122 4 = nI (s_np σ) from (hsmI1.mp hM).np)) ?_
    refine x_iload_n d5_part_44 rfl ?_
    refine x_iastN d5_part_45 (hS.T rfl) (by omega) (fun I2 hI2 => ?_)
    refine x_aload_n d5_part_46 rfl ?_
    refine x_getP d5_part_47 f5_17 (hS.T rfl) (hS.P rfl) ?_
    refine x_aload_n d5_part_50 rfl ?_
    refine x_getI d5_part_51 f5_86 (hS.T rfl) ?_
    refine x_top (congrArg Value.int (show I2 122 4 = nI (s_np σ) from (by rw [hI2, u2_row _ _ _ (by decide)]; exact (hsmI1.mp hM).np))) ?_
    refine x_iconst (v := nI 0) d5_part_54 (by decide) ?_
    refine x_iastN d5_part_55 (hS.T rfl) (by omega) (fun I3 hI3 => ?_)
    refine x_aload_n d5_part_56 rfl ?_
    refine x_dup d5_part_57 rfl ?_
    refine x_getI d5_part_58 f5_86 (hS.T rfl) ?_
    refine x_top (congrArg Value.int (show I3 122 4 = nI (s_np σ) from (by rw [hI3, u2_row _ _ _ (by decide), hI2, u2_row _ _ _ (by decide)]; exact (hsmI1.mp hM).np))) ?_
    refine x_iconst (v := nI 1) d5_part_61 (by decide) ?_
    refine x_iaddN d5_part_62 ?_
    refine x_putIE d5_part_63 p5_86 (hS.T rfl) (fun I4 hI4 => ?_)
    have hIx : I4 = u2 (u2 (u2 I1 123 (s_np σ) (nI g)) 124 (s_np σ) (nI 0)) 122 4 (nI (s_np σ + 1)) := by rw [hI4, hI3, hI2]
    have hDx : MdS I4 (sPart σ g) ρ := (hsmI1.mds hD).part hIx (by omega) hg
    have hFx : MF I I4 := hsmI1.mf.trans ((MF.u hI2 (by decide)).trans ((MF.u hI3 (by decide)).trans (MF.u hI4 (by decide))))
    have hTx : I4 122 0 = 0 := by rw [hIx, u2_ne _ _ (by decide), u2_row _ _ _ (by decide), u2_row _ _ _ (by decide)]; exact hthI1
    refine x_aload_n d5_part_66 rfl ?_
    refine x_aload_n d5_part_67 rfl ?_
    refine x_getI d5_part_68 f5_86 (hS.T rfl) ?_
    refine x_top (congrArg Value.int (show I4 122 4 = nI (s_np σ + 1) from (by rw [hI4, u2_self]))) ?_
    refine x_iconst (v := nI 1) d5_part_71 (by decide) ?_
    refine x_isub d5_part_72 ?_
    refine x_invV 122 1 d5_part_73 (hS.T rfl) v5_98_5 (m_done _ hS (v := (nI (s_np σ + 1)) - (nI 1))) (Cont.e ?_) (hB := hB) (hS := hSl)
    refine x_ireturn d5_part_76 ⟨?_, u2 (u2 I4 122 1 (nI 0)) 122 2 (-1), J, rfl, hDx.tr rfl (by decide), hFx.trans (MF.tell rfl), JF.rf J, ?_⟩
    · rw [pk_sub (by omega), Nat.add_sub_cancel]
    · rw [u2_ne _ _ (by decide), u2_ne _ _ (by decide)]; exact hTx
set_option maxHeartbeats 4000000 in
theorem m_grant (G : GG) (d : Nat) (v u : Int32) (σ : Sg) (ρ : Rs) : MCon G (d + 1) M5_grant [.ref 122, .int v, .int u] σ ρ (qGrant σ ρ v u).1 (qGrant σ ρ v u).2.1 (qGrant σ ρ v u).2.2 := by
  intro t I J P n sl hS hD hB hSl
  have hσ := hD.1
  have hρ := hD.2.1
  have hM := hD.2.2.1
  have hR := hD.2.2.2
  have hnp := hσ.1
  rcases ix_cases v (n := s_np σ) (by omega) with ⟨hv, e⟩ | ⟨p, hp, rfl, hv, e⟩
  · rw [show qGrant σ ρ v u = (nI 0, σ, rT ρ 1) by simp only [qGrant, e]]
    refine CA.w ?_
    show RA _ _ M5_grant 0 [.ref 122, .int v, .int u] [] _ _
    refine x_aload_n d5_grant_0 rfl ?_
    refine x_iconst (v := nI 0) d5_grant_1 (by decide) ?_
    refine x_putIE d5_grant_2 p5_80 (hS.T rfl) (fun I1 hI1 => ?_)
    have hsmI1 : MSm I I1 := MSm.thr hI1
    have hthI1 : I1 122 0 = 0 := by rw [hI1, u2_self]; rfl
    refine x_aload_n d5_grant_5 rfl ?_
    refine x_iload_n d5_grant_6 rfl ?_
    refine x_invV 122 1 d5_grant_7 (hS.T rfl) v5_101_5 (m_isPart _ hS (hsmI1.mp hM) (v)) (Cont.p ?_) (hB := hB) (hS := hSl)
    refine x_top (congrArg Value.int (b2i_f hv)) ?_
    refine x_if_ne 19 d5_grant_10 (by decide) (fun b10 => absurd b10 (by decide)) (fun b10 => ?_)
    refine x_aload_n d5_grant_13 rfl ?_
    refine x_iconst (v := nI 1) d5_grant_14 (by decide) ?_
    refine x_invV 122 1 d5_grant_15 (hS.T rfl) v5_105_5 (m_denied _ hS (k := 1)) (Cont.e ?_) (hB := hB) (hS := hSl)
    obtain ⟨I2, hI2⟩ : ∃ z, z = u2 (u2 I1 122 1 (nI 1)) 122 2 (-1) := ⟨_, rfl⟩
    rw [← hI2]
    have hthI2 : I2 122 0 = 0 := by rw [hI2, u2_ne _ _ (by decide), u2_ne _ _ (by decide)]; exact hthI1
    exact x_ireturn d5_grant_18 ⟨rfl, I2, J, rfl, (hsmI1.mds hD).tr hI2 (by decide), (hsmI1.mf).trans (MF.tell hI2), JF.rf J, hthI2⟩
  rcases ix_cases u (n := 65536) (by decide) with ⟨hu, e2⟩ | ⟨g, hg, rfl, hu, e2⟩
  · rw [show qGrant σ ρ (nI p) u = (nI 0, σ, rT ρ 2) by simp only [qGrant, e, e2]]
    refine CA.w ?_
    show RA _ _ M5_grant 0 [.ref 122, .int (nI p), .int u] [] _ _
    refine x_aload_n d5_grant_0 rfl ?_
    refine x_iconst (v := nI 0) d5_grant_1 (by decide) ?_
    refine x_putIE d5_grant_2 p5_80 (hS.T rfl) (fun I1 hI1 => ?_)
    have hsmI1 : MSm I I1 := MSm.thr hI1
    have hthI1 : I1 122 0 = 0 := by rw [hI1, u2_self]; rfl
    refine x_aload_n d5_grant_5 rfl ?_
    refine x_iload_n d5_grant_6 rfl ?_
    refine x_invV 122 1 d5_grant_7 (hS.T rfl) v5_101_5 (m_isPart _ hS (hsmI1.mp hM) (nI p)) (Cont.p ?_) (hB := hB) (hS := hSl)
    refine x_top (congrArg Value.int (b2i_t hv)) ?_
    refine x_if_ne 19 d5_grant_10 (by decide) (fun b10 => ?_) (fun b10 => absurd b10 (by decide))
    refine x_iload_n d5_grant_19 rfl ?_
    refine x_iconst (v := nI 0) d5_grant_20 (by decide) ?_
    refine x_ldc (v := nI 65535) d5_grant_21 (lw_g (lw_at lw_m5 141 rfl) rfl) ?_
    refine x_invS 3 d5_grant_23 s5_90 (m_in G _ _ (u) (nI 0) (nI 65535)) (Cont.p ?_) (hB := hB) (hS := hSl)
    refine x_top (congrArg Value.int (b2i_f (fun z => hu ((ix_le _ (m := 65535) (by decide)).mp z)))) ?_
    refine x_if_ne 35 d5_grant_26 (by decide) (fun b26 => absurd b26 (by decide)) (fun b26 => ?_)
    refine x_aload_n d5_grant_29 rfl ?_
    refine x_iconst (v := nI 2) d5_grant_30 (by decide) ?_
    refine x_invV 122 1 d5_grant_31 (hS.T rfl) v5_105_5 (m_denied _ hS (k := 2)) (Cont.e ?_) (hB := hB) (hS := hSl)
    obtain ⟨I2, hI2⟩ : ∃ z, z = u2 (u2 I1 122 1 (nI 2)) 122 2 (-1) := ⟨_, rfl⟩
    rw [← hI2]
    have hthI2 : I2 122 0 = 0 := by rw [hI2, u2_ne _ _ (by decide), u2_ne _ _ (by decide)]; exact hthI1
    exact x_ireturn d5_grant_34 ⟨rfl, I2, J, rfl, (hsmI1.mds hD).tr hI2 (by decide), (hsmI1.mf).trans (MF.tell hI2), JF.rf J, hthI2⟩
  · rw [show qGrant σ ρ (nI p) (nI g) = (nI 1, sGr σ (upN (s_gr σ) p g), rT ρ 0) by simp only [qGrant, e, e2]]
    refine CA.w ?_
    show RA _ _ M5_grant 0 [.ref 122, .int (nI p), .int (nI g)] [] _ _
    refine x_aload_n d5_grant_0 rfl ?_
    refine x_iconst (v := nI 0) d5_grant_1 (by decide) ?_
    refine x_putIE d5_grant_2 p5_80 (hS.T rfl) (fun I1 hI1 => ?_)
    have hsmI1 : MSm I I1 := MSm.thr hI1
    have hthI1 : I1 122 0 = 0 := by rw [hI1, u2_self]; rfl
    refine x_aload_n d5_grant_5 rfl ?_
    refine x_iload_n d5_grant_6 rfl ?_
    refine x_invV 122 1 d5_grant_7 (hS.T rfl) v5_101_5 (m_isPart _ hS (hsmI1.mp hM) (nI p)) (Cont.p ?_) (hB := hB) (hS := hSl)
    refine x_top (congrArg Value.int (b2i_t hv)) ?_
    refine x_if_ne 19 d5_grant_10 (by decide) (fun b10 => ?_) (fun b10 => absurd b10 (by decide))
    refine x_iload_n d5_grant_19 rfl ?_
    refine x_iconst (v := nI 0) d5_grant_20 (by decide) ?_
    refine x_ldc (v := nI 65535) d5_grant_21 (lw_g (lw_at lw_m5 141 rfl) rfl) ?_
    refine x_invS 3 d5_grant_23 s5_90 (m_in G _ _ (nI g) (nI 0) (nI 65535)) (Cont.p ?_) (hB := hB) (hS := hSl)
    refine x_top (congrArg Value.int (b2i_t ((ix_le _ (m := 65535) (by decide)).mpr hu))) ?_
    refine x_if_ne 35 d5_grant_26 (by decide) (fun b26 => ?_) (fun b26 => absurd b26 (by decide))
    refine x_aload_n d5_grant_35 rfl ?_
    refine x_getP d5_grant_36 f5_13 (hS.T rfl) (hS.P rfl) ?_
    refine x_iload_n d5_grant_39 rfl ?_
    refine x_iload_n d5_grant_40 rfl ?_
    refine x_iastN d5_grant_41 (hS.T rfl) (by omega) (fun I2 hI2 => ?_)
    refine x_aload_n d5_grant_42 rfl ?_
    refine x_invV 122 0 d5_grant_43 (hS.T rfl) v5_108_5 (m_granted _ hS) (Cont.e ?_) (hB := hB) (hS := hSl)
    refine x_ireturn d5_grant_46 ⟨rfl, u2 (u2 I2 122 1 (nI 0)) 122 2 (-1), J, rfl, ((hsmI1.mds hD).grant hI2 hg).tr rfl (by decide), (hsmI1.mf.trans (MF.u hI2 (by decide))).trans (MF.tell rfl), JF.rf J, ?_⟩
    rw [u2_ne _ _ (by decide), u2_ne _ _ (by decide), hI2, u2_row _ _ _ (by decide)]
    exact hthI1
set_option maxHeartbeats 4000000 in
theorem m_meantT (G : GG) (d : Nat) (v u : Int32) (σ : Sg) (ρ : Rs) : MCon G (d + 1) M5_meant [.ref 122, .int v, .int u, .int (nI 1)] σ ρ (qMeant ρ v u true).1 σ (qMeant ρ v u true).2 := by
  intro t I J P n sl hS hD hB hSl
  have hσ := hD.1
  have hρ := hD.2.1
  have hM := hD.2.2.1
  have hR := hD.2.2.2
  have hnp := hσ.1
  rcases ix_cases v (n := 16) (by decide) with ⟨hv, e⟩ | ⟨p, hp, rfl, hv, e⟩
  · rw [show qMeant ρ v u true = (nI 0, rT ρ 2) by simp only [qMeant, e]]
    refine CA.w ?_
    show RA _ _ M5_meant 0 [.ref 122, .int v, .int u, .int (nI 1)] [] _ _
    refine x_aload_n d5_meant_0 rfl ?_
    refine x_iconst (v := nI 0) d5_meant_1 (by decide) ?_
    refine x_putIE d5_meant_2 p5_80 (hS.T rfl) (fun I1 hI1 => ?_)
    have hsmI1 : MSm I I1 := MSm.thr hI1
    have hthI1 : I1 122 0 = 0 := by rw [hI1, u2_self]; rfl
    refine x_iload_n d5_meant_5 rfl ?_
    refine x_invS 1 d5_meant_6 s5_228 (m_isRight G _ _ (v)) (Cont.p ?_) (hB := hB) (hS := hSl)
    refine x_top (congrArg Value.int (b2i_f hv)) ?_
    refine x_if_eq 19 d5_meant_9 (by decide) (fun b9 => ?_) (fun b9 => absurd b9 (by decide))
    refine x_aload_n d5_meant_19 rfl ?_
    refine x_iconst (v := nI 2) d5_meant_20 (by decide) ?_
    refine x_invV 122 1 d5_meant_21 (hS.T rfl) v5_105_5 (m_denied _ hS (k := 2)) (Cont.e ?_) (hB := hB) (hS := hSl)
    obtain ⟨I2, hI2⟩ : ∃ z, z = u2 (u2 I1 122 1 (nI 2)) 122 2 (-1) := ⟨_, rfl⟩
    rw [← hI2]
    have hthI2 : I2 122 0 = 0 := by rw [hI2, u2_ne _ _ (by decide), u2_ne _ _ (by decide)]; exact hthI1
    exact x_ireturn d5_meant_24 ⟨rfl, I2, J, rfl, (hsmI1.mds hD).tr hI2 (by decide), (hsmI1.mf).trans (MF.tell hI2), JF.rf J, hthI2⟩
  rcases ix_cases u (n := 16) (by decide) with ⟨hu, e2⟩ | ⟨q, hq, rfl, hu, e2⟩
  · rw [show qMeant ρ (nI p) u true = (nI 0, rT ρ 2) by simp only [qMeant, e, e2]]
    refine CA.w ?_
    show RA _ _ M5_meant 0 [.ref 122, .int (nI p), .int u, .int (nI 1)] [] _ _
    refine x_aload_n d5_meant_0 rfl ?_
    refine x_iconst (v := nI 0) d5_meant_1 (by decide) ?_
    refine x_putIE d5_meant_2 p5_80 (hS.T rfl) (fun I1 hI1 => ?_)
    have hsmI1 : MSm I I1 := MSm.thr hI1
    have hthI1 : I1 122 0 = 0 := by rw [hI1, u2_self]; rfl
    refine x_iload_n d5_meant_5 rfl ?_
    refine x_invS 1 d5_meant_6 s5_228 (m_isRight G _ _ (nI p)) (Cont.p ?_) (hB := hB) (hS := hSl)
    refine x_top (congrArg Value.int (b2i_t hv)) ?_
    refine x_if_eq 19 d5_meant_9 (by decide) (fun b9 => absurd b9 (by decide)) (fun b9 => ?_)
    refine x_iload_n d5_meant_12 rfl ?_
    refine x_invS 1 d5_meant_13 s5_228 (m_isRight G _ _ (u)) (Cont.p ?_) (hB := hB) (hS := hSl)
    refine x_top (congrArg Value.int (b2i_f hu)) ?_
    refine x_if_ne 25 d5_meant_16 (by decide) (fun b16 => absurd b16 (by decide)) (fun b16 => ?_)
    refine x_aload_n d5_meant_19 rfl ?_
    refine x_iconst (v := nI 2) d5_meant_20 (by decide) ?_
    refine x_invV 122 1 d5_meant_21 (hS.T rfl) v5_105_5 (m_denied _ hS (k := 2)) (Cont.e ?_) (hB := hB) (hS := hSl)
    obtain ⟨I2, hI2⟩ : ∃ z, z = u2 (u2 I1 122 1 (nI 2)) 122 2 (-1) := ⟨_, rfl⟩
    rw [← hI2]
    have hthI2 : I2 122 0 = 0 := by rw [hI2, u2_ne _ _ (by decide), u2_ne _ _ (by decide)]; exact hthI1
    exact x_ireturn d5_meant_24 ⟨rfl, I2, J, rfl, (hsmI1.mds hD).tr hI2 (by decide), (hsmI1.mf).trans (MF.tell hI2), JF.rf J, hthI2⟩
  · rw [show qMeant ρ (nI p) (nI q) true = (nI 1, rT (rMt ρ (upN (r_mt ρ) p (r_mt ρ p ||| 2 ^ q))) 0) by simp only [qMeant, e, e2]; rfl]
    refine CA.w ?_
    show RA _ _ M5_meant 0 [.ref 122, .int (nI p), .int (nI q), .int (nI 1)] [] _ _
    refine x_aload_n d5_meant_0 rfl ?_
    refine x_iconst (v := nI 0) d5_meant_1 (by decide) ?_
    refine x_putIE d5_meant_2 p5_80 (hS.T rfl) (fun I1 hI1 => ?_)
    have hsmI1 : MSm I I1 := MSm.thr hI1
    have hthI1 : I1 122 0 = 0 := by rw [hI1, u2_self]; rfl
    refine x_iload_n d5_meant_5 rfl ?_
    refine x_invS 1 d5_meant_6 s5_228 (m_isRight G _ _ (nI p)) (Cont.p ?_) (hB := hB) (hS := hSl)
    refine x_top (congrArg Value.int (b2i_t hv)) ?_
    refine x_if_eq 19 d5_meant_9 (by decide) (fun b9 => absurd b9 (by decide)) (fun b9 => ?_)
    refine x_iload_n d5_meant_12 rfl ?_
    refine x_invS 1 d5_meant_13 s5_228 (m_isRight G _ _ (nI q)) (Cont.p ?_) (hB := hB) (hS := hSl)
    refine x_top (congrArg Value.int (b2i_t hu)) ?_
    refine x_if_ne 25 d5_meant_16 (by decide) (fun b16 => ?_) (fun b16 => absurd b16 (by decide))
    refine x_aload_n d5_meant_25 rfl ?_
    refine x_getP d5_meant_26 f5_20 (hS.T rfl) (hS.P rfl) ?_
    refine x_iload_n d5_meant_29 rfl ?_
    refine x_iload_n d5_meant_30 rfl ?_
    refine x_if_eqN 47 d5_meant_31 (by decide) (by omega) (fun b31 => absurd b31 (by decide)) (fun b31 => ?_)
    refine x_aload_n d5_meant_34 rfl ?_
    refine x_getP d5_meant_35 f5_20 (hS.T rfl) (hS.P rfl) ?_
    refine x_iload_n d5_meant_38 rfl ?_
    refine x_ialdN d5_meant_39 (hS.T rfl) (by omega) ?_
    refine x_top (congrArg Value.int (show I1 125 p = nI (r_mt ρ p) from ((hsmI1.mr hR).1 _ (by omega)))) ?_
    have hmt_ := hρ.1 p (by omega)
    refine x_iconst (v := nI 1) d5_meant_40 (by decide) ?_
    refine x_iload_n d5_meant_41 rfl ?_
    refine x_1shlN d5_meant_42 (by omega) ?_
    refine x_iorN d5_meant_43 ?_
    refine x_goto 59 d5_meant_44 (by decide) ?_
    refine x_iastN d5_meant_59 (hS.T rfl) (by omega) (fun I2 hI2 => ?_)
    refine x_aload_n d5_meant_60 rfl ?_
    refine x_invV 122 0 d5_meant_61 (hS.T rfl) v5_108_5 (m_granted _ hS) (Cont.e ?_) (hB := hB) (hS := hSl)
    refine x_ireturn d5_meant_64 ⟨rfl, u2 (u2 I2 122 1 (nI 0)) 122 2 (-1), J, rfl, ((hsmI1.mds hD).meant hI2 (or_lt (hρ.1 _ hp) (p2_lt hq))).tr rfl (by decide), (hsmI1.mf.trans (MF.u hI2 (by decide))).trans (MF.tell rfl), JF.rf J, ?_⟩
    rw [u2_ne _ _ (by decide), u2_ne _ _ (by decide), hI2, u2_row _ _ _ (by decide)]
    exact hthI1
set_option maxHeartbeats 4000000 in
theorem m_meantF (G : GG) (d : Nat) (v u : Int32) (σ : Sg) (ρ : Rs) : MCon G (d + 1) M5_meant [.ref 122, .int v, .int u, .int (nI 0)] σ ρ (qMeant ρ v u false).1 σ (qMeant ρ v u false).2 := by
  intro t I J P n sl hS hD hB hSl
  have hσ := hD.1
  have hρ := hD.2.1
  have hM := hD.2.2.1
  have hR := hD.2.2.2
  have hnp := hσ.1
  rcases ix_cases v (n := 16) (by decide) with ⟨hv, e⟩ | ⟨p, hp, rfl, hv, e⟩
  · rw [show qMeant ρ v u false = (nI 0, rT ρ 2) by simp only [qMeant, e]]
    refine CA.w ?_
    show RA _ _ M5_meant 0 [.ref 122, .int v, .int u, .int (nI 0)] [] _ _
    refine x_aload_n d5_meant_0 rfl ?_
    refine x_iconst (v := nI 0) d5_meant_1 (by decide) ?_
    refine x_putIE d5_meant_2 p5_80 (hS.T rfl) (fun I1 hI1 => ?_)
    have hsmI1 : MSm I I1 := MSm.thr hI1
    have hthI1 : I1 122 0 = 0 := by rw [hI1, u2_self]; rfl
    refine x_iload_n d5_meant_5 rfl ?_
    refine x_invS 1 d5_meant_6 s5_228 (m_isRight G _ _ (v)) (Cont.p ?_) (hB := hB) (hS := hSl)
    refine x_top (congrArg Value.int (b2i_f hv)) ?_
    refine x_if_eq 19 d5_meant_9 (by decide) (fun b9 => ?_) (fun b9 => absurd b9 (by decide))
    refine x_aload_n d5_meant_19 rfl ?_
    refine x_iconst (v := nI 2) d5_meant_20 (by decide) ?_
    refine x_invV 122 1 d5_meant_21 (hS.T rfl) v5_105_5 (m_denied _ hS (k := 2)) (Cont.e ?_) (hB := hB) (hS := hSl)
    obtain ⟨I2, hI2⟩ : ∃ z, z = u2 (u2 I1 122 1 (nI 2)) 122 2 (-1) := ⟨_, rfl⟩
    rw [← hI2]
    have hthI2 : I2 122 0 = 0 := by rw [hI2, u2_ne _ _ (by decide), u2_ne _ _ (by decide)]; exact hthI1
    exact x_ireturn d5_meant_24 ⟨rfl, I2, J, rfl, (hsmI1.mds hD).tr hI2 (by decide), (hsmI1.mf).trans (MF.tell hI2), JF.rf J, hthI2⟩
  rcases ix_cases u (n := 16) (by decide) with ⟨hu, e2⟩ | ⟨q, hq, rfl, hu, e2⟩
  · rw [show qMeant ρ (nI p) u false = (nI 0, rT ρ 2) by simp only [qMeant, e, e2]]
    refine CA.w ?_
    show RA _ _ M5_meant 0 [.ref 122, .int (nI p), .int u, .int (nI 0)] [] _ _
    refine x_aload_n d5_meant_0 rfl ?_
    refine x_iconst (v := nI 0) d5_meant_1 (by decide) ?_
    refine x_putIE d5_meant_2 p5_80 (hS.T rfl) (fun I1 hI1 => ?_)
    have hsmI1 : MSm I I1 := MSm.thr hI1
    have hthI1 : I1 122 0 = 0 := by rw [hI1, u2_self]; rfl
    refine x_iload_n d5_meant_5 rfl ?_
    refine x_invS 1 d5_meant_6 s5_228 (m_isRight G _ _ (nI p)) (Cont.p ?_) (hB := hB) (hS := hSl)
    refine x_top (congrArg Value.int (b2i_t hv)) ?_
    refine x_if_eq 19 d5_meant_9 (by decide) (fun b9 => absurd b9 (by decide)) (fun b9 => ?_)
    refine x_iload_n d5_meant_12 rfl ?_
    refine x_invS 1 d5_meant_13 s5_228 (m_isRight G _ _ (u)) (Cont.p ?_) (hB := hB) (hS := hSl)
    refine x_top (congrArg Value.int (b2i_f hu)) ?_
    refine x_if_ne 25 d5_meant_16 (by decide) (fun b16 => absurd b16 (by decide)) (fun b16 => ?_)
    refine x_aload_n d5_meant_19 rfl ?_
    refine x_iconst (v := nI 2) d5_meant_20 (by decide) ?_
    refine x_invV 122 1 d5_meant_21 (hS.T rfl) v5_105_5 (m_denied _ hS (k := 2)) (Cont.e ?_) (hB := hB) (hS := hSl)
    obtain ⟨I2, hI2⟩ : ∃ z, z = u2 (u2 I1 122 1 (nI 2)) 122 2 (-1) := ⟨_, rfl⟩
    rw [← hI2]
    have hthI2 : I2 122 0 = 0 := by rw [hI2, u2_ne _ _ (by decide), u2_ne _ _ (by decide)]; exact hthI1
    exact x_ireturn d5_meant_24 ⟨rfl, I2, J, rfl, (hsmI1.mds hD).tr hI2 (by decide), (hsmI1.mf).trans (MF.tell hI2), JF.rf J, hthI2⟩
  · rw [show qMeant ρ (nI p) (nI q) false = (nI 1, rT (rMt ρ (upN (r_mt ρ) p (adf (r_mt ρ p) (2 ^ q)))) 0) by simp only [qMeant, e, e2]; rfl]
    refine CA.w ?_
    show RA _ _ M5_meant 0 [.ref 122, .int (nI p), .int (nI q), .int (nI 0)] [] _ _
    refine x_aload_n d5_meant_0 rfl ?_
    refine x_iconst (v := nI 0) d5_meant_1 (by decide) ?_
    refine x_putIE d5_meant_2 p5_80 (hS.T rfl) (fun I1 hI1 => ?_)
    have hsmI1 : MSm I I1 := MSm.thr hI1
    have hthI1 : I1 122 0 = 0 := by rw [hI1, u2_self]; rfl
    refine x_iload_n d5_meant_5 rfl ?_
    refine x_invS 1 d5_meant_6 s5_228 (m_isRight G _ _ (nI p)) (Cont.p ?_) (hB := hB) (hS := hSl)
    refine x_top (congrArg Value.int (b2i_t hv)) ?_
    refine x_if_eq 19 d5_meant_9 (by decide) (fun b9 => absurd b9 (by decide)) (fun b9 => ?_)
    refine x_iload_n d5_meant_12 rfl ?_
    refine x_invS 1 d5_meant_13 s5_228 (m_isRight G _ _ (nI q)) (Cont.p ?_) (hB := hB) (hS := hSl)
    refine x_top (congrArg Value.int (b2i_t hu)) ?_
    refine x_if_ne 25 d5_meant_16 (by decide) (fun b16 => ?_) (fun b16 => absurd b16 (by decide))
    refine x_aload_n d5_meant_25 rfl ?_
    refine x_getP d5_meant_26 f5_20 (hS.T rfl) (hS.P rfl) ?_
    refine x_iload_n d5_meant_29 rfl ?_
    refine x_iload_n d5_meant_30 rfl ?_
    refine x_if_eqN 47 d5_meant_31 (by decide) (by omega) (fun b31 => ?_) (fun b31 => absurd b31 (fun z => z rfl))
    refine x_aload_n d5_meant_47 rfl ?_
    refine x_getP d5_meant_48 f5_20 (hS.T rfl) (hS.P rfl) ?_
    refine x_iload_n d5_meant_51 rfl ?_
    refine x_ialdN d5_meant_52 (hS.T rfl) (by omega) ?_
    refine x_top (congrArg Value.int (show I1 125 p = nI (r_mt ρ p) from ((hsmI1.mr hR).1 _ (by omega)))) ?_
    have hmt_ := hρ.1 p (by omega)
    refine x_iconst (v := nI 1) d5_meant_53 (by decide) ?_
    refine x_iload_n d5_meant_54 rfl ?_
    refine x_1shlN d5_meant_55 (by omega) ?_
    refine x_iconst (v := -1) d5_meant_56 (by decide) ?_
    refine x_ixor d5_meant_57 ?_
    refine x_andnN d5_meant_58 (hρ.1 _ (by omega)) ?_
    refine x_iastN d5_meant_59 (hS.T rfl) (by omega) (fun I2 hI2 => ?_)
    refine x_aload_n d5_meant_60 rfl ?_
    refine x_invV 122 0 d5_meant_61 (hS.T rfl) v5_108_5 (m_granted _ hS) (Cont.e ?_) (hB := hB) (hS := hSl)
    refine x_ireturn d5_meant_64 ⟨rfl, u2 (u2 I2 122 1 (nI 0)) 122 2 (-1), J, rfl, ((hsmI1.mds hD).meant hI2 (adf_lt (hρ.1 _ hp))).tr rfl (by decide), (hsmI1.mf.trans (MF.u hI2 (by decide))).trans (MF.tell rfl), JF.rf J, ?_⟩
    rw [u2_ne _ _ (by decide), u2_ne _ _ (by decide), hI2, u2_row _ _ _ (by decide)]
    exact hthI1
theorem MdS.feed0 {I : Nat → Nat → Int32} {σ : Sg} {ρ : Rs} {f : Nat → Int32} (h : MdS I σ ρ) : MdS I σ (fdT ρ f 0) := by
  obtain ⟨h1, h2, h3, a1, a2, a3, a4⟩ := h
  refine ⟨h1, h2, h3, a1, a2, fun j hj => ?_, a4⟩
  have hj : j < r_td ρ := hj
  show I 132 j = if j < r_td ρ then r_tp ρ j else _
  rw [if_pos hj]; exact a3 j hj
set_option maxHeartbeats 4000000 in
theorem m_feed (G : GG) (d : Nat) (a b c d0 e : Int32) (σ : Sg) (ρ : Rs) : MCon G d M5_feed [.ref 122, .int a, .int b, .int c, .int d0, .int e] σ ρ (qFeed ρ a b c d0 e).1 σ (qFeed ρ a b c d0 e).2 := by
  intro t I J P n sl hS hD hB hSl
  have hσ := hD.1
  have hρ := hD.2.1
  have hM := hD.2.2.1
  have hR := hD.2.2.2
  have hnp := hσ.1
  have htd := hρ.2.1
  by_cases hfull : r_td ρ + 20 ≤ 300
  · rw [show qFeed ρ a b c d0 e = (nI (r_td ρ + 20), rTp ρ (r_td ρ + 20) (fun j => if j < r_td ρ then r_tp ρ j else fdB a b c d0 e (j - r_td ρ))) from if_pos hfull]
    refine CA.w ?_
    show RA _ _ M5_feed 0 [.ref 122, .int a, .int b, .int c, .int d0, .int e, U0, U0] [] _ _
    refine x_aload_n d5_feed_0 rfl ?_
    refine x_iconst (v := nI 0) d5_feed_1 (by decide) ?_
    refine x_putIE d5_feed_2 p5_80 (hS.T rfl) (fun I1 hI1 => ?_)
    have hsmI1 : MSm I I1 := MSm.thr hI1
    have hthI1 : I1 122 0 = 0 := by rw [hI1, u2_self]; rfl
    refine x_aload_n d5_feed_5 rfl ?_
    refine x_getI d5_feed_6 f5_219 (hS.T rfl) ?_
    refine x_top (congrArg Value.int (show I1 122 15 = nI (r_td ρ) from (hsmI1.mr hR).2.1)) ?_
    have htd_ := hρ.2.1
    refine x_bipush (v := nI 20) d5_feed_9 (by decide) ?_
    refine x_iaddN d5_feed_11 ?_
    refine x_sipush (v := nI 300) d5_feed_12 (by decide) ?_
    refine x_icmp_leN 20 d5_feed_15 (by decide) (by omega) (by omega) (fun b15 => ?_) (fun b15 => absurd b15 (by omega))
    refine x_iconst (v := nI 0) d5_feed_20 (by decide) ?_
    refine x_istore d5_feed_21 ?_
    have hL : ∀ k, k ≤ 20 → ∀ I9, MdS I9 σ (fdT ρ (fdB a b c d0 e) k) → MF I I9 → I9 122 0 = 0 → ∀ v7, RA G d M5_feed 23 [.ref 122, .int a, .int b, .int c, .int d0, .int e, .int (nI k), v7] [] (t, I9, J, P, n, sl) (fun o h' => o = .inl (some (.int (nI (r_td ρ + 20)))) ∧ ∃ I' J', h' = (t, I', J', P, n, sl) ∧ MdS I' σ (rTp ρ (r_td ρ + 20) (fun j => if j < r_td ρ then r_tp ρ j else fdB a b c d0 e (j - r_td ρ))) ∧ MF I I' ∧ JF J J' ∧ I' 122 0 = 0) := by
      refine up_ind ?_
      intro k hk_ ih I9 hDk hF9 hT9 v7
      have htd_ := hρ.2.1
      refine x_iload d5_feed_23 rfl ?_
      refine x_bipush (v := nI 20) d5_feed_25 (by decide) ?_
      refine x_icmp_geN 117 d5_feed_27 (by decide) (by omega) (by omega) (fun b27 => ?_) (fun b27 => ?_)
      · refine x_aload_n d5_feed_117 rfl ?_
        refine x_getI d5_feed_118 f5_219 (hS.T rfl) ?_
        refine x_top (congrArg Value.int (show I9 122 15 = nI (r_td ρ + k) from hDk.2.2.2.2.1)) ?_
        exact x_ireturn d5_feed_121 ⟨by rw [show k = 20 by omega], I9, J, rfl, by rw [show k = 20 by omega] at hDk; exact hDk, hF9, JF.rf J, hT9⟩
      · refine x_iload d5_feed_30 rfl ?_
        refine x_iconst (v := nI 4) d5_feed_32 (by decide) ?_
        refine x_icmp_geN 40 d5_feed_33 (by decide) (by omega) (by omega) (fun b33 => ?_) (fun b33 => ?_)
        · refine x_iload d5_feed_40 rfl ?_
          refine x_bipush (v := nI 8) d5_feed_42 (by decide) ?_
          refine x_icmp_geN 51 d5_feed_44 (by decide) (by omega) (by omega) (fun b44 => ?_) (fun b44 => ?_)
          · refine x_iload d5_feed_51 rfl ?_
            refine x_bipush (v := nI 12) d5_feed_53 (by decide) ?_
            refine x_icmp_geN 62 d5_feed_55 (by decide) (by omega) (by omega) (fun b55 => ?_) (fun b55 => ?_)
            · refine x_iload d5_feed_62 rfl ?_
              refine x_bipush (v := nI 16) d5_feed_64 (by decide) ?_
              refine x_icmp_geN 74 d5_feed_66 (by decide) (by omega) (by omega) (fun b66 => ?_) (fun b66 => ?_)
              · refine x_iload d5_feed_74 rfl ?_
                refine x_istore d5_feed_76 ?_
                refine x_aload_n d5_feed_78 rfl ?_
                refine x_getP d5_feed_79 f5_45 (hS.T rfl) (hS.P rfl) ?_
                refine x_aload_n d5_feed_82 rfl ?_
                refine x_getI d5_feed_83 f5_219 (hS.T rfl) ?_
                refine x_top (congrArg Value.int (show I9 122 15 = nI (r_td ρ + k) from hDk.2.2.2.2.1)) ?_
                refine x_iload d5_feed_86 rfl ?_
                refine x_bipush (v := nI 24) d5_feed_88 (by decide) ?_
                refine x_bipush (v := nI 8) d5_feed_90 (by decide) ?_
                refine x_iload d5_feed_92 rfl ?_
                refine x_iconst (v := nI 4) d5_feed_94 (by decide) ?_
                refine x_iremN d5_feed_95 (by omega) (by omega) ?_
                refine x_imulN d5_feed_96 ?_
                refine x_isubN d5_feed_97 (by omega) ?_
                refine x_ishr d5_feed_98 ?_
                refine x_i2b d5_feed_99 ?_
                refine x_bastN d5_feed_100 (hS.T rfl) (by omega) (fun I21 hI21 => ?_)
                refine x_aload_n d5_feed_101 rfl ?_
                refine x_dup d5_feed_102 rfl ?_
                refine x_getI d5_feed_103 f5_219 (hS.T rfl) ?_
                refine x_top (congrArg Value.int (show I21 122 15 = nI (r_td ρ + k) from ((congrFun (show I21 122 = I9 122 by rw [hI21, u2_row _ _ _ (by decide)]) _).trans hDk.2.2.2.2.1))) ?_
                refine x_iconst (v := nI 1) d5_feed_106 (by decide) ?_
                refine x_iaddN d5_feed_107 ?_
                refine x_putIE d5_feed_108 p5_219 (hS.T rfl) (fun I22 hI22 => ?_)
                refine x_iincN (c := 1) d5_feed_111 rfl (by decide) ?_
                refine x_goto 23 d5_feed_114 (by decide) ?_
                have hIx : I22 = u2 (u2 I9 132 (r_td ρ + k) (fdB a b c d0 e k)) 122 15 (nI (r_td ρ + k + 1)) := by
                  rw [hI22, hI21]
                  unfold fdB
                  rw [if_neg (by omega : ¬ k < 4), if_neg (by omega : ¬ k < 8), if_neg (by omega : ¬ k < 12), if_neg (by omega : ¬ k < 16), i8i]
                exact ih (by omega) I22 (hDk.feed hIx (by omega)) (hF9.trans ((MF.u hI21 (by decide)).trans (MF.u hI22 (by decide)))) (by rw [hIx, u2_ne _ _ (by decide), u2_row _ _ _ (by decide)]; exact hT9) _
              · refine x_iload d5_feed_69 rfl ?_
                refine x_goto 76 d5_feed_71 (by decide) ?_
                refine x_istore d5_feed_76 ?_
                refine x_aload_n d5_feed_78 rfl ?_
                refine x_getP d5_feed_79 f5_45 (hS.T rfl) (hS.P rfl) ?_
                refine x_aload_n d5_feed_82 rfl ?_
                refine x_getI d5_feed_83 f5_219 (hS.T rfl) ?_
                refine x_top (congrArg Value.int (show I9 122 15 = nI (r_td ρ + k) from hDk.2.2.2.2.1)) ?_
                refine x_iload d5_feed_86 rfl ?_
                refine x_bipush (v := nI 24) d5_feed_88 (by decide) ?_
                refine x_bipush (v := nI 8) d5_feed_90 (by decide) ?_
                refine x_iload d5_feed_92 rfl ?_
                refine x_iconst (v := nI 4) d5_feed_94 (by decide) ?_
                refine x_iremN d5_feed_95 (by omega) (by omega) ?_
                refine x_imulN d5_feed_96 ?_
                refine x_isubN d5_feed_97 (by omega) ?_
                refine x_ishr d5_feed_98 ?_
                refine x_i2b d5_feed_99 ?_
                refine x_bastN d5_feed_100 (hS.T rfl) (by omega) (fun I23 hI23 => ?_)
                refine x_aload_n d5_feed_101 rfl ?_
                refine x_dup d5_feed_102 rfl ?_
                refine x_getI d5_feed_103 f5_219 (hS.T rfl) ?_
                refine x_top (congrArg Value.int (show I23 122 15 = nI (r_td ρ + k) from ((congrFun (show I23 122 = I9 122 by rw [hI23, u2_row _ _ _ (by decide)]) _).trans hDk.2.2.2.2.1))) ?_
                refine x_iconst (v := nI 1) d5_feed_106 (by decide) ?_
                refine x_iaddN d5_feed_107 ?_
                refine x_putIE d5_feed_108 p5_219 (hS.T rfl) (fun I24 hI24 => ?_)
                refine x_iincN (c := 1) d5_feed_111 rfl (by decide) ?_
                refine x_goto 23 d5_feed_114 (by decide) ?_
                have hIx : I24 = u2 (u2 I9 132 (r_td ρ + k) (fdB a b c d0 e k)) 122 15 (nI (r_td ρ + k + 1)) := by
                  rw [hI24, hI23]
                  unfold fdB
                  rw [if_neg (by omega : ¬ k < 4), if_neg (by omega : ¬ k < 8), if_neg (by omega : ¬ k < 12), if_pos (by omega : k < 16), i8i]
                exact ih (by omega) I24 (hDk.feed hIx (by omega)) (hF9.trans ((MF.u hI23 (by decide)).trans (MF.u hI24 (by decide)))) (by rw [hIx, u2_ne _ _ (by decide), u2_row _ _ _ (by decide)]; exact hT9) _
            · refine x_iload_n d5_feed_58 rfl ?_
              refine x_goto 76 d5_feed_59 (by decide) ?_
              refine x_istore d5_feed_76 ?_
              refine x_aload_n d5_feed_78 rfl ?_
              refine x_getP d5_feed_79 f5_45 (hS.T rfl) (hS.P rfl) ?_
              refine x_aload_n d5_feed_82 rfl ?_
              refine x_getI d5_feed_83 f5_219 (hS.T rfl) ?_
              refine x_top (congrArg Value.int (show I9 122 15 = nI (r_td ρ + k) from hDk.2.2.2.2.1)) ?_
              refine x_iload d5_feed_86 rfl ?_
              refine x_bipush (v := nI 24) d5_feed_88 (by decide) ?_
              refine x_bipush (v := nI 8) d5_feed_90 (by decide) ?_
              refine x_iload d5_feed_92 rfl ?_
              refine x_iconst (v := nI 4) d5_feed_94 (by decide) ?_
              refine x_iremN d5_feed_95 (by omega) (by omega) ?_
              refine x_imulN d5_feed_96 ?_
              refine x_isubN d5_feed_97 (by omega) ?_
              refine x_ishr d5_feed_98 ?_
              refine x_i2b d5_feed_99 ?_
              refine x_bastN d5_feed_100 (hS.T rfl) (by omega) (fun I25 hI25 => ?_)
              refine x_aload_n d5_feed_101 rfl ?_
              refine x_dup d5_feed_102 rfl ?_
              refine x_getI d5_feed_103 f5_219 (hS.T rfl) ?_
              refine x_top (congrArg Value.int (show I25 122 15 = nI (r_td ρ + k) from ((congrFun (show I25 122 = I9 122 by rw [hI25, u2_row _ _ _ (by decide)]) _).trans hDk.2.2.2.2.1))) ?_
              refine x_iconst (v := nI 1) d5_feed_106 (by decide) ?_
              refine x_iaddN d5_feed_107 ?_
              refine x_putIE d5_feed_108 p5_219 (hS.T rfl) (fun I26 hI26 => ?_)
              refine x_iincN (c := 1) d5_feed_111 rfl (by decide) ?_
              refine x_goto 23 d5_feed_114 (by decide) ?_
              have hIx : I26 = u2 (u2 I9 132 (r_td ρ + k) (fdB a b c d0 e k)) 122 15 (nI (r_td ρ + k + 1)) := by
                rw [hI26, hI25]
                unfold fdB
                rw [if_neg (by omega : ¬ k < 4), if_neg (by omega : ¬ k < 8), if_pos (by omega : k < 12), i8i]
              exact ih (by omega) I26 (hDk.feed hIx (by omega)) (hF9.trans ((MF.u hI25 (by decide)).trans (MF.u hI26 (by decide)))) (by rw [hIx, u2_ne _ _ (by decide), u2_row _ _ _ (by decide)]; exact hT9) _
          · refine x_iload_n d5_feed_47 rfl ?_
            refine x_goto 76 d5_feed_48 (by decide) ?_
            refine x_istore d5_feed_76 ?_
            refine x_aload_n d5_feed_78 rfl ?_
            refine x_getP d5_feed_79 f5_45 (hS.T rfl) (hS.P rfl) ?_
            refine x_aload_n d5_feed_82 rfl ?_
            refine x_getI d5_feed_83 f5_219 (hS.T rfl) ?_
            refine x_top (congrArg Value.int (show I9 122 15 = nI (r_td ρ + k) from hDk.2.2.2.2.1)) ?_
            refine x_iload d5_feed_86 rfl ?_
            refine x_bipush (v := nI 24) d5_feed_88 (by decide) ?_
            refine x_bipush (v := nI 8) d5_feed_90 (by decide) ?_
            refine x_iload d5_feed_92 rfl ?_
            refine x_iconst (v := nI 4) d5_feed_94 (by decide) ?_
            refine x_iremN d5_feed_95 (by omega) (by omega) ?_
            refine x_imulN d5_feed_96 ?_
            refine x_isubN d5_feed_97 (by omega) ?_
            refine x_ishr d5_feed_98 ?_
            refine x_i2b d5_feed_99 ?_
            refine x_bastN d5_feed_100 (hS.T rfl) (by omega) (fun I27 hI27 => ?_)
            refine x_aload_n d5_feed_101 rfl ?_
            refine x_dup d5_feed_102 rfl ?_
            refine x_getI d5_feed_103 f5_219 (hS.T rfl) ?_
            refine x_top (congrArg Value.int (show I27 122 15 = nI (r_td ρ + k) from ((congrFun (show I27 122 = I9 122 by rw [hI27, u2_row _ _ _ (by decide)]) _).trans hDk.2.2.2.2.1))) ?_
            refine x_iconst (v := nI 1) d5_feed_106 (by decide) ?_
            refine x_iaddN d5_feed_107 ?_
            refine x_putIE d5_feed_108 p5_219 (hS.T rfl) (fun I28 hI28 => ?_)
            refine x_iincN (c := 1) d5_feed_111 rfl (by decide) ?_
            refine x_goto 23 d5_feed_114 (by decide) ?_
            have hIx : I28 = u2 (u2 I9 132 (r_td ρ + k) (fdB a b c d0 e k)) 122 15 (nI (r_td ρ + k + 1)) := by
              rw [hI28, hI27]
              unfold fdB
              rw [if_neg (by omega : ¬ k < 4), if_pos (by omega : k < 8), i8i]
            exact ih (by omega) I28 (hDk.feed hIx (by omega)) (hF9.trans ((MF.u hI27 (by decide)).trans (MF.u hI28 (by decide)))) (by rw [hIx, u2_ne _ _ (by decide), u2_row _ _ _ (by decide)]; exact hT9) _
        · refine x_iload_n d5_feed_36 rfl ?_
          refine x_goto 76 d5_feed_37 (by decide) ?_
          refine x_istore d5_feed_76 ?_
          refine x_aload_n d5_feed_78 rfl ?_
          refine x_getP d5_feed_79 f5_45 (hS.T rfl) (hS.P rfl) ?_
          refine x_aload_n d5_feed_82 rfl ?_
          refine x_getI d5_feed_83 f5_219 (hS.T rfl) ?_
          refine x_top (congrArg Value.int (show I9 122 15 = nI (r_td ρ + k) from hDk.2.2.2.2.1)) ?_
          refine x_iload d5_feed_86 rfl ?_
          refine x_bipush (v := nI 24) d5_feed_88 (by decide) ?_
          refine x_bipush (v := nI 8) d5_feed_90 (by decide) ?_
          refine x_iload d5_feed_92 rfl ?_
          refine x_iconst (v := nI 4) d5_feed_94 (by decide) ?_
          refine x_iremN d5_feed_95 (by omega) (by omega) ?_
          refine x_imulN d5_feed_96 ?_
          refine x_isubN d5_feed_97 (by omega) ?_
          refine x_ishr d5_feed_98 ?_
          refine x_i2b d5_feed_99 ?_
          refine x_bastN d5_feed_100 (hS.T rfl) (by omega) (fun I29 hI29 => ?_)
          refine x_aload_n d5_feed_101 rfl ?_
          refine x_dup d5_feed_102 rfl ?_
          refine x_getI d5_feed_103 f5_219 (hS.T rfl) ?_
          refine x_top (congrArg Value.int (show I29 122 15 = nI (r_td ρ + k) from ((congrFun (show I29 122 = I9 122 by rw [hI29, u2_row _ _ _ (by decide)]) _).trans hDk.2.2.2.2.1))) ?_
          refine x_iconst (v := nI 1) d5_feed_106 (by decide) ?_
          refine x_iaddN d5_feed_107 ?_
          refine x_putIE d5_feed_108 p5_219 (hS.T rfl) (fun I30 hI30 => ?_)
          refine x_iincN (c := 1) d5_feed_111 rfl (by decide) ?_
          refine x_goto 23 d5_feed_114 (by decide) ?_
          have hIx : I30 = u2 (u2 I9 132 (r_td ρ + k) (fdB a b c d0 e k)) 122 15 (nI (r_td ρ + k + 1)) := by
            rw [hI30, hI29]
            unfold fdB
            rw [if_pos (by omega : k < 4), i8i]
          exact ih (by omega) I30 (hDk.feed hIx (by omega)) (hF9.trans ((MF.u hI29 (by decide)).trans (MF.u hI30 (by decide)))) (by rw [hIx, u2_ne _ _ (by decide), u2_row _ _ _ (by decide)]; exact hT9) _
    exact hL 0 (Nat.zero_le _) I1 ((hsmI1.mds hD).feed0) hsmI1.mf hthI1 _
  · rw [show qFeed ρ a b c d0 e = (-1, ρ) from if_neg hfull]
    refine CA.w ?_
    show RA _ _ M5_feed 0 [.ref 122, .int a, .int b, .int c, .int d0, .int e, U0, U0] [] _ _
    refine x_aload_n d5_feed_0 rfl ?_
    refine x_iconst (v := nI 0) d5_feed_1 (by decide) ?_
    refine x_putIE d5_feed_2 p5_80 (hS.T rfl) (fun I1 hI1 => ?_)
    have hsmI1 : MSm I I1 := MSm.thr hI1
    have hthI1 : I1 122 0 = 0 := by rw [hI1, u2_self]; rfl
    refine x_aload_n d5_feed_5 rfl ?_
    refine x_getI d5_feed_6 f5_219 (hS.T rfl) ?_
    refine x_top (congrArg Value.int (show I1 122 15 = nI (r_td ρ) from (hsmI1.mr hR).2.1)) ?_
    have htd_ := hρ.2.1
    refine x_bipush (v := nI 20) d5_feed_9 (by decide) ?_
    refine x_iaddN d5_feed_11 ?_
    refine x_sipush (v := nI 300) d5_feed_12 (by decide) ?_
    refine x_icmp_leN 20 d5_feed_15 (by decide) (by omega) (by omega) (fun b15 => absurd b15 (by omega)) (fun b15 => ?_)
    refine x_iconst (v := -1) d5_feed_18 (by decide) ?_
    exact x_ireturn d5_feed_19 ⟨rfl, I1, J, rfl, hsmI1.mds hD, hsmI1.mf, JF.rf J, hthI1⟩
