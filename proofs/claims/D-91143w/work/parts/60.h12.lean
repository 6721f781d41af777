/-! the house: grant, part, trim -/
set_option maxRecDepth 100000
set_option maxHeartbeats 4000000 in
theorem h_grant (G : GG) (d : Nat) (v u : Int32) (σ : Sg) (ρ : Rs) : HCon G (d + 2) M1_grant [.ref 100, .int v, .int u] σ ρ ((qGrant σ ρ v u).1) ((qGrant σ ρ v u).2.1) ((qGrant σ ρ v u).2.2) 0 0 := by
  intro t I J P n sl hS hD hT hn hB0 hSl0
  have hB : n ≤ 601124 := by omega
  have hSl : sl ≤ 7293033 := by omega
  have hσ := hD.1
  have hρ := hD.2.1
  obtain ⟨y, hP⟩ := hD.2.2.1
  have hR := hD.2.2.2.1
  have hF := hD.2.2.2.2
  have hnp := hσ.1
  rcases ix_cases v (n := s_np σ) (by omega) with ⟨hv, e⟩ | ⟨p, hp, rfl, hv, e⟩
  · rw [show qGrant σ ρ v u = (nI 0, σ, rT ρ 1) by simp only [qGrant, e]]
    refine CA.w ?_
    show RA _ _ M1_grant 0 [.ref 100, .int v, .int u] [] _ _
    refine x_aload_n d1_grant_0 rfl ?_
    refine x_invV 100 0 d1_grant_1 (hS.T rfl) v1_91_1 (h_begins _ hS) (Cont.ev ?_) (hB := hB) (hS := hSl)
    obtain ⟨I1, hI1⟩ : ∃ z, z = u2 (u2 I 100 10 (nI 0)) 100 12 (-1) := ⟨_, rfl⟩
    rw [← hI1]
    obtain ⟨hD0, hq0⟩ := hD.bg hI1
    have hρ := hD0.2.1
    obtain ⟨y, hP⟩ := hD0.2.2.1
    have hR := hD0.2.2.2.1
    have hF := hD0.2.2.2.2
    refine x_aload_n d1_grant_4 rfl ?_
    refine x_aload_n d1_grant_5 rfl ?_
    refine x_iload_n d1_grant_6 rfl ?_
    refine x_invV 100 1 d1_grant_7 (hS.T rfl) v1_103_1 (h_isPart _ hS hP hσ (v) hB hSl) (Cont.p ?_) (hB := hB) (hS := hSl)
    refine x_top (congrArg Value.int (b2i_f hv)) ?_
    refine x_if_ne 17 d1_grant_10 (by decide) (fun b10 => absurd b10 (by decide)) (fun b10 => ?_)
    refine x_iconst (v := nI 1) d1_grant_13 (by decide) ?_
    refine x_goto 32 d1_grant_14 (by decide) ?_
    refine x_putIE d1_grant_32 p1_70 (hS.T rfl) (fun I2 hI2 => ?_)
    have hno_ := HdS.no (k := 1) hD0 hI2 (by decide) (by decide)
    refine x_aload_n d1_grant_35 rfl ?_
    refine x_getI d1_grant_36 f1_70 (hS.T rfl) ?_
    refine x_top (congrArg Value.int (show I2 100 10 = nI 1 from (by rw [hI2, u2_self]))) ?_
    refine x_if_eqN 44 d1_grant_39 (by decide) (by omega) (fun b39 => absurd b39 (by decide)) (fun b39 => ?_)
    refine x_iconst (v := nI 0) d1_grant_42 (by decide) ?_
    exact x_ireturn d1_grant_43 ⟨rfl, t, I2, J, P, n, sl, rfl, hS, hno_.1, hT, Nat.le_refl _, by omega, Nat.le_refl _, by omega, (hq0.trans hno_.2).f4, fun _ _ => rfl, fun _ _ h => h⟩
  rcases ix_cases u (n := 65536) (by decide) with ⟨hu, e2⟩ | ⟨g, hg, rfl, hu, e2⟩
  · rw [show qGrant σ ρ (nI p) u = (nI 0, σ, rT ρ 2) by simp only [qGrant, e, e2]]
    refine CA.w ?_
    show RA _ _ M1_grant 0 [.ref 100, .int (nI p), .int u] [] _ _
    refine x_aload_n d1_grant_0 rfl ?_
    refine x_invV 100 0 d1_grant_1 (hS.T rfl) v1_91_1 (h_begins _ hS) (Cont.ev ?_) (hB := hB) (hS := hSl)
    obtain ⟨I1, hI1⟩ : ∃ z, z = u2 (u2 I 100 10 (nI 0)) 100 12 (-1) := ⟨_, rfl⟩
    rw [← hI1]
    obtain ⟨hD0, hq0⟩ := hD.bg hI1
    have hρ := hD0.2.1
    obtain ⟨y, hP⟩ := hD0.2.2.1
    have hR := hD0.2.2.2.1
    have hF := hD0.2.2.2.2
    refine x_aload_n d1_grant_4 rfl ?_
    refine x_aload_n d1_grant_5 rfl ?_
    refine x_iload_n d1_grant_6 rfl ?_
    refine x_invV 100 1 d1_grant_7 (hS.T rfl) v1_103_1 (h_isPart _ hS hP hσ (nI p) hB hSl) (Cont.p ?_) (hB := hB) (hS := hSl)
    refine x_top (congrArg Value.int (b2i_t hv)) ?_
    refine x_if_ne 17 d1_grant_10 (by decide) (fun b10 => ?_) (fun b10 => absurd b10 (by decide))
    refine x_iload_n d1_grant_17 rfl ?_
    refine x_iconst (v := nI 0) d1_grant_18 (by decide) ?_
    refine x_ldc (v := nI 65535) d1_grant_19 (lw_g (lw_at lw_m2 22 rfl) rfl) ?_
    refine x_invS 3 d1_grant_21 s1_76 (h_in G _ _ (u) (nI 0) (nI 65535)) (Cont.p ?_) (hB := hB) (hS := hSl)
    refine x_top (congrArg Value.int (b2i_f (fun z => hu ((ix_le _ (m := 65535) (by decide)).mp z)))) ?_
    refine x_if_eq 31 d1_grant_24 (by decide) (fun b24 => ?_) (fun b24 => absurd b24 (fun q => q rfl))
    refine x_iconst (v := nI 2) d1_grant_31 (by decide) ?_
    refine x_putIE d1_grant_32 p1_70 (hS.T rfl) (fun I2 hI2 => ?_)
    have hno_ := HdS.no (k := 2) hD0 hI2 (by decide) (by decide)
    refine x_aload_n d1_grant_35 rfl ?_
    refine x_getI d1_grant_36 f1_70 (hS.T rfl) ?_
    refine x_top (congrArg Value.int (show I2 100 10 = nI 2 from (by rw [hI2, u2_self]))) ?_
    refine x_if_eqN 44 d1_grant_39 (by decide) (by omega) (fun b39 => absurd b39 (by decide)) (fun b39 => ?_)
    refine x_iconst (v := nI 0) d1_grant_42 (by decide) ?_
    exact x_ireturn d1_grant_43 ⟨rfl, t, I2, J, P, n, sl, rfl, hS, hno_.1, hT, Nat.le_refl _, by omega, Nat.le_refl _, by omega, (hq0.trans hno_.2).f4, fun _ _ => rfl, fun _ _ h => h⟩
  · rw [show qGrant σ ρ (nI p) (nI g) = (nI 1, sGr σ (upN (s_gr σ) p g), rT ρ 0) by simp only [qGrant, e, e2]]
    refine CA.w ?_
    show RA _ _ M1_grant 0 [.ref 100, .int (nI p), .int (nI g)] [] _ _
    refine x_aload_n d1_grant_0 rfl ?_
    refine x_invV 100 0 d1_grant_1 (hS.T rfl) v1_91_1 (h_begins _ hS) (Cont.ev ?_) (hB := hB) (hS := hSl)
    obtain ⟨I1, hI1⟩ : ∃ z, z = u2 (u2 I 100 10 (nI 0)) 100 12 (-1) := ⟨_, rfl⟩
    rw [← hI1]
    obtain ⟨hD0, hq0⟩ := hD.bg hI1
    have hρ := hD0.2.1
    obtain ⟨y, hP⟩ := hD0.2.2.1
    have hR := hD0.2.2.2.1
    have hF := hD0.2.2.2.2
    refine x_aload_n d1_grant_4 rfl ?_
    refine x_aload_n d1_grant_5 rfl ?_
    refine x_iload_n d1_grant_6 rfl ?_
    refine x_invV 100 1 d1_grant_7 (hS.T rfl) v1_103_1 (h_isPart _ hS hP hσ (nI p) hB hSl) (Cont.p ?_) (hB := hB) (hS := hSl)
    refine x_top (congrArg Value.int (b2i_t hv)) ?_
    refine x_if_ne 17 d1_grant_10 (by decide) (fun b10 => ?_) (fun b10 => absurd b10 (by decide))
    refine x_iload_n d1_grant_17 rfl ?_
    refine x_iconst (v := nI 0) d1_grant_18 (by decide) ?_
    refine x_ldc (v := nI 65535) d1_grant_19 (lw_g (lw_at lw_m2 22 rfl) rfl) ?_
    refine x_invS 3 d1_grant_21 s1_76 (h_in G _ _ (nI g) (nI 0) (nI 65535)) (Cont.p ?_) (hB := hB) (hS := hSl)
    refine x_top (congrArg Value.int (b2i_t ((ix_le _ (m := 65535) (by decide)).mpr hu))) ?_
    refine x_if_eq 31 d1_grant_24 (by decide) (fun b24 => absurd b24 (by decide)) (fun b24 => ?_)
    refine x_iconst (v := nI 0) d1_grant_27 (by decide) ?_
    refine x_goto 32 d1_grant_28 (by decide) ?_
    refine x_putIE d1_grant_32 p1_70 (hS.T rfl) (fun I2 hI2 => ?_)
    have hno_ := HdS.no (k := 0) hD0 hI2 (by decide) (by decide)
    obtain ⟨y, hP⟩ := hno_.1.2.2.1
    have hR := hno_.1.2.2.2.1
    refine x_aload_n d1_grant_35 rfl ?_
    refine x_getI d1_grant_36 f1_70 (hS.T rfl) ?_
    refine x_top (congrArg Value.int (show I2 100 10 = nI 0 from (by rw [hI2, u2_self]))) ?_
    refine x_if_eqN 44 d1_grant_39 (by decide) (by omega) (fun b39 => ?_) (fun b39 => absurd b39 (fun q => q rfl))
    refine x_aload_n d1_grant_44 rfl ?_
    refine x_getP d1_grant_45 f1_24 (hS.T rfl) (hS.P rfl) ?_
    refine x_iload_n d1_grant_48 rfl ?_
    refine x_aald5N d1_grant_49 (hS.T rfl) (by omega) (hP.at_ hp) ?_
    refine x_iload_n d1_grant_50 rfl ?_
    refine x_putIE d1_grant_51 p1_100 (hP.ty hp) (fun I3 hI3 => ?_) (ha := (by have := hP.ge hp; omega))
    refine x_aload_n d1_grant_54 rfl ?_
    refine x_iconst (v := nI 0) d1_grant_55 (by decide) ?_
    refine x_putIE d1_grant_56 p1_80 (hS.T rfl) (fun I4 hI4 => ?_)
    have hpt_ := HdS.put0 hσ hρ hP hR hp hg hI3 hI4
    refine x_iconst (v := nI 1) d1_grant_59 (by decide) ?_
    exact x_ireturn d1_grant_60 ⟨rfl, t, I4, J, P, n, sl, rfl, hS, hpt_.1, hT, Nat.le_refl _, by omega, Nat.le_refl _, by omega, (hq0.trans hno_.2).f4.trans hpt_.2, fun _ _ => rfl, fun _ _ h => h⟩
