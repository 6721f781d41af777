/-! the reference: lines -/
set_option maxRecDepth 100000
/-- what stays while lines are read -/
def RdV (I I' : Nat → Nat → Int32) : Prop := (∀ b, b ∉ [122, 124, 126, 127, 128, 129, 130, 131] → I' b = I b) ∧ (∀ k, k ∈ [4, 30, 34] → I' 122 k = I 122 k) ∧ (∀ j, j ≠ 10 → I' 124 j = I 124 j) ∧ (∀ b, b ∈ [126, 127, 128, 129] → ∀ j, j < 120 → I' b j = I b j) ∧ ∀ j, j < 480 → I' 130 j = I 130 j
theorem RdV.rf (I : Nat → Nat → Int32) : RdV I I := ⟨fun _ _ => rfl, fun _ _ => rfl, fun _ _ => rfl, fun _ _ _ _ => rfl, fun _ _ => rfl⟩
theorem RdV.trans {I1 I2 I3 : Nat → Nat → Int32} (h : RdV I1 I2) (h' : RdV I2 I3) : RdV I1 I3 := ⟨fun b hb => (h'.1 b hb).trans (h.1 b hb), fun k hk => (h'.2.1 k hk).trans (h.2.1 k hk), fun j hj => (h'.2.2.1 j hj).trans (h.2.2.1 j hj), fun b hb j hj => (h'.2.2.2.1 b hb j hj).trans (h.2.2.2.1 b hb j hj), fun j hj => (h'.2.2.2.2 j hj).trans (h.2.2.2.2 j hj)⟩
theorem RdV.u {I I' : Nat → Nat → Int32} {k : Nat} {v : Int32} (hI : I' = u2 I 122 k v) (hk : k ∉ [4, 30, 34]) : RdV I I' :=
  ⟨fun b hb => by rw [hI, u2_row _ _ _ (fun e => hb (by rw [e]; decide))], fun j hj => by rw [hI, u2_ne _ _ (fun e => hk (by rw [← e]; exact hj))], fun j _ => by rw [hI, u2_row _ _ _ (by decide)], fun b hb j _ => by rw [hI, u2_row _ _ _ (fun e => by rw [e] at hb; revert hb; decide)], fun j _ => by rw [hI, u2_row _ _ _ (by decide)]⟩
theorem RdX.v {I I' : Nat → Nat → Int32} (h : RdX I I') : RdV I I' := ⟨h.1, fun k hk => h.2.1 k (fun e => by simp only [List.mem_cons, List.not_mem_nil, or_false] at e hk; omega), h.2.2⟩
theorem RdV.mp {I I' : Nat → Nat → Int32} (h : RdV I I') {σ : Sg} (hσ : SgOK σ) (hM : MP I σ) : MP I' σ := by
  have hnp := hσ.1
  refine ⟨(h.2.1 4 (by decide)).trans hM.1, fun p hp => ?_⟩
  obtain ⟨a, b, c⟩ := hM.2 p hp
  have hln := hσ.ln hp
  refine ⟨by rw [h.1 123 (by decide)]; exact a, by rw [h.2.2.1 p (by omega)]; exact b, fun k hk => ?_⟩
  obtain ⟨c1, c2, c3, c4, c5⟩ := c k hk
  refine ⟨by rw [h.2.2.2.1 126 (by decide) _ (by omega)]; exact c1, by rw [h.2.2.2.1 127 (by decide) _ (by omega)]; exact c2, by rw [h.2.2.2.1 128 (by decide) _ (by omega)]; exact c3, by rw [h.2.2.2.1 129 (by decide) _ (by omega)]; exact c4, fun e i hi => ?_⟩
  have := (hσ.row hp hk).2.2.2.1 e
  rw [h.2.2.2.2 _ (by omega)]; exact c5 e i hi
/-- the rest, when it has been read -/
theorem MR.rd {I I' : Nat → Nat → Int32} {ρ : Rs} (h : MR I ρ) (hr : ∀ b, b ∈ [125, 139, 141] → I' b = I b) (hk : ∀ k, k ∈ [30, 34] → I' 122 k = I 122 k) {F tr : Nat} {wh : Int32} (h15 : I' 122 15 = nI 0) (h1 : I' 122 1 = nI tr) (h2 : I' 122 2 = wh) (h3 : I' 122 3 = nI F) : MR I' (rFl ρ F tr wh) := by
  obtain ⟨a1, a2, a3, a4, a5, a6, a7, a8, a9, a10⟩ := h
  refine ⟨by rw [hr 125 (by decide)]; exact a1, h15, fun j hj => absurd hj (Nat.not_lt_zero _), h1, h2, h3, by rw [hk 30 (by decide)]; exact a7, by rw [hr 139 (by decide)]; exact a8, by rw [hk 34 (by decide)]; exact a9, by rw [hr 141 (by decide)]; exact a10⟩
theorem RsOK.rd {ρ : Rs} (h : RsOK ρ) {F tr : Nat} {wh : Int32} (hF : F < 100) (ht : tr < 100) (hw : tr ≠ 4 → wh = -1) : RsOK (rFl ρ F tr wh) := ⟨h.1, Nat.zero_le _, ht, hF, h.2.2.2.2.1, h.2.2.2.2.2.1, hw⟩
/-- copied: K lines, X names -/
def CpI (pt K X : Nat) (I1 I9 : Nat → Nat → Int32) : Prop := (∀ b, b ∉ [126, 127, 128, 129, 130] → I9 b = I1 b) ∧ (∀ b, b ∈ [126, 127, 128, 129] → ∀ j, I9 b j = if 12 * pt ≤ j ∧ j < 12 * pt + K then I1 b (j - 12 * pt + 120) else I1 b j) ∧ ∀ x, I9 130 x = if 48 * pt ≤ x ∧ x < 48 * pt + X then I1 130 (x - 48 * pt + 480) else I1 130 x
theorem CpI.init (pt : Nat) (I : Nat → Nat → Int32) : CpI pt 0 0 I I := ⟨fun _ _ => rfl, fun b _ j => by rw [if_neg (by omega)], fun x => by rw [if_neg (by omega)]⟩
theorem CpI.rows {pt k X : Nat} {I1 I9 Ia Ib Ic Id : Nat → Nat → Int32} (h : CpI pt k X I1 I9) (e1 : Ia = u2 I9 126 (12 * pt + k) (I1 126 (120 + k))) (e2 : Ib = u2 Ia 127 (12 * pt + k) (I1 127 (120 + k))) (e3 : Ic = u2 Ib 128 (12 * pt + k) (I1 128 (120 + k))) (e4 : Id = u2 Ic 129 (12 * pt + k) (I1 129 (120 + k))) : CpI pt (k + 1) X I1 Id := by
  have er : ∀ b, b ∉ [126, 127, 128, 129] → Id b = I9 b := fun b hb => by
    rw [e4, u2_row _ _ _ (fun e => hb (by rw [e]; decide)), e3, u2_row _ _ _ (fun e => hb (by rw [e]; decide)), e2, u2_row _ _ _ (fun e => hb (by rw [e]; decide)), e1, u2_row _ _ _ (fun e => hb (by rw [e]; decide))]
  have eb : ∀ b, b ∈ [126, 127, 128, 129] → ∀ j, Id b j = if j = 12 * pt + k then I1 b (120 + k) else I9 b j := by
    intro b hb j
    simp only [List.mem_cons, List.not_mem_nil, or_false] at hb
    rcases hb with rfl | rfl | rfl | rfl
    · rw [e4, u2_row _ _ _ (by decide), e3, u2_row _ _ _ (by decide), e2, u2_row _ _ _ (by decide), e1, u2_at]
    · rw [e4, u2_row _ _ _ (by decide), e3, u2_row _ _ _ (by decide), e2, u2_at, e1, u2_row _ _ _ (by decide)]
    · rw [e4, u2_row _ _ _ (by decide), e3, u2_at, e2, u2_row _ _ _ (by decide), e1, u2_row _ _ _ (by decide)]
    · rw [e4, u2_at, e3, u2_row _ _ _ (by decide), e2, u2_row _ _ _ (by decide), e1, u2_row _ _ _ (by decide)]
  refine ⟨fun b hb => ?_, fun b hb j => ?_, fun x => ?_⟩
  · rw [er b (fun e => hb (by simp only [List.mem_cons, List.not_mem_nil, or_false] at e ⊢; omega))]; exact h.1 b hb
  · rw [eb b hb j, h.2.1 b hb j]
    by_cases ej : j = 12 * pt + k
    · rw [if_pos ej, if_pos (by omega), show j - 12 * pt + 120 = 120 + k by omega]
    · rw [if_neg ej]
      by_cases c : 12 * pt ≤ j ∧ j < 12 * pt + k
      · rw [if_pos c, if_pos (by omega)]
      · rw [if_neg c, if_neg (by omega)]
  · rw [er 130 (by decide)]; exact h.2.2 x
theorem CpI.name {pt K X : Nat} {I1 I9 Ia : Nat → Nat → Int32} (h : CpI pt K X I1 I9) (e : Ia = u2 I9 130 (48 * pt + X) (I1 130 (480 + X))) : CpI pt K (X + 1) I1 Ia := by
  refine ⟨fun b hb => ?_, fun b hb j => ?_, fun x => ?_⟩
  · rw [e, u2_row _ _ _ (fun q => hb (by rw [q]; decide))]; exact h.1 b hb
  · rw [e, u2_row _ _ _ (fun q => by rw [q] at hb; revert hb; decide)]; exact h.2.1 b hb j
  · rw [e, u2_at, h.2.2 x]
    by_cases ex : x = 48 * pt + X
    · rw [if_pos ex, if_pos (by omega), show x - 48 * pt + 480 = 480 + X by omega]
    · rw [if_neg ex]
      by_cases c : 48 * pt ≤ x ∧ x < 48 * pt + X
      · rw [if_pos c, if_pos (by omega)]
      · rw [if_neg c, if_neg (by omega)]
/-- the picture behind it -/
theorem CpI.mp {σ : Sg} {pt m : Nat} {rs : Nat → Lne} {I6 I7 I9 : Nat → Nat → Int32} (h : CpI pt 12 48 I7 I9) (hσ : SgOK σ) (hM : MP I6 σ) (hpt : pt < s_np σ) (h7 : I7 = u2 I6 124 pt (nI m)) (hm : m ≤ 12) (hrow : ∀ k, k < m → RowM (120 + k) (rs k) I6) (hok : ∀ k, k < m → LneOK (s_np σ) (rs k)) : MP I9 (sLines σ pt m rs) := by
  have hnp := hσ.1
  have e7 : ∀ b, b ≠ 124 → I7 b = I6 b := fun b hb => by rw [h7, u2_row _ _ _ hb]
  refine ⟨by rw [h.1 122 (by decide), e7 122 (by decide)]; exact hM.1, fun p hp => ?_⟩
  have hp : p < s_np σ := hp
  refine ⟨by rw [h.1 123 (by decide), e7 123 (by decide)]; exact hM.gr hp, ?_, fun k hk => ?_⟩
  · rw [h.1 124 (by decide), h7, u2_at]
    show _ = nI (upN (s_ln σ) pt m p)
    by_cases e : p = pt
    · rw [if_pos e, e, upN_self]
    · rw [if_neg e, upN_ne _ _ e]; exact hM.ln hp
  · have hk : k < upN (s_ln σ) pt m p := hk
    by_cases e : p = pt
    · rw [e, upN_self] at hk
      have e1 : (12 * p + k) / 12 = pt := by omega
      have e2 : (12 * p + k) % 12 = k := by omega
      obtain ⟨r1, r2, r3, r4, r5⟩ := hrow k hk
      have hkk : s_kk (sLines σ pt m rs) (12 * p + k) = (rs k).1 := by show (if (12 * p + k) / 12 = pt then (rs ((12 * p + k) % 12)).1 else _) = _; rw [if_pos e1, e2]
      have hnu : s_nu (sLines σ pt m rs) (12 * p + k) = (rs k).2.1 := by show (if (12 * p + k) / 12 = pt then (rs ((12 * p + k) % 12)).2.1 else _) = _; rw [if_pos e1, e2]
      have hfs : s_fs (sLines σ pt m rs) (12 * p + k) = (rs k).2.2.1 := by show (if (12 * p + k) / 12 = pt then (rs ((12 * p + k) % 12)).2.2.1 else _) = _; rw [if_pos e1, e2]
      have hsc : s_sc (sLines σ pt m rs) (12 * p + k) = (rs k).2.2.2.1 := by show (if (12 * p + k) / 12 = pt then (rs ((12 * p + k) % 12)).2.2.2.1 else _) = _; rw [if_pos e1, e2]
      have hfr : ∀ i, i < 4 → s_fr (sLines σ pt m rs) (4 * (12 * p + k) + i) = (rs k).2.2.2.2 i := fun i hi => by
        show (if (4 * (12 * p + k) + i) / 48 = pt then (rs ((4 * (12 * p + k) + i) / 4 % 12)).2.2.2.2 ((4 * (12 * p + k) + i) % 4) else _) = _
        rw [if_pos (by omega), show (4 * (12 * p + k) + i) / 4 % 12 = k by omega, show (4 * (12 * p + k) + i) % 4 = i by omega]
      have hj : ∀ b, b ∈ [126, 127, 128, 129] → I9 b (12 * p + k) = I6 b (120 + k) := fun b hb => by
        rw [h.2.1 b hb, if_pos (by omega), e7 b (fun q => by rw [q] at hb; revert hb; decide), show 12 * p + k - 12 * pt + 120 = 120 + k by omega]
      rw [hkk, hnu, hfs, hj 126 (by decide), hj 127 (by decide), hj 128 (by decide), hj 129 (by decide)]
      refine ⟨r1, r2, r3, ?_, fun h1 i hi => ?_⟩
      · rw [r4]
        unfold secv
        have h0 := hfr 0 (by decide)
        rw [Nat.add_zero] at h0
        rw [hkk, hsc, h0]
      · have h4 := (hok k hk).2.2.2.1 h1
        rw [h.2.2, if_pos (by omega), e7 130 (by decide), show 4 * (12 * p + k) + i - 48 * pt + 480 = 4 * (120 + k) + i by omega, hfr i (by omega)]
        exact r5 h1 i hi
    · rw [upN_ne _ _ e] at hk
      have hln := hσ.ln hp
      have e1 : ¬ (12 * p + k) / 12 = pt := by omega
      have hkk : s_kk (sLines σ pt m rs) (12 * p + k) = s_kk σ (12 * p + k) := if_neg e1
      have hnu : s_nu (sLines σ pt m rs) (12 * p + k) = s_nu σ (12 * p + k) := if_neg e1
      have hfs : s_fs (sLines σ pt m rs) (12 * p + k) = s_fs σ (12 * p + k) := if_neg e1
      have hsc : s_sc (sLines σ pt m rs) (12 * p + k) = s_sc σ (12 * p + k) := if_neg e1
      have hfr : ∀ i, i < 4 → s_fr (sLines σ pt m rs) (4 * (12 * p + k) + i) = s_fr σ (4 * (12 * p + k) + i) := fun i hi => if_neg (by omega)
      have hj : ∀ b, b ∈ [126, 127, 128, 129] → I9 b (12 * p + k) = I6 b (12 * p + k) := fun b hb => by
        rw [h.2.1 b hb, if_neg (by omega), e7 b (fun q => by rw [q] at hb; revert hb; decide)]
      rw [hkk, hnu, hfs, hj 126 (by decide), hj 127 (by decide), hj 128 (by decide), hj 129 (by decide)]
      refine ⟨hM.kk hp hk, hM.nu hp hk, hM.fs hp hk, ?_, fun h1 i hi => ?_⟩
      · rw [hM.se hp hk]
        unfold secv
        have h0 := hfr 0 (by decide)
        rw [Nat.add_zero] at h0
        rw [hkk, hsc, h0]
      · have h4 := (hσ.row hp hk).2.2.2.1 h1
        rw [h.2.2, if_neg (by omega), e7 130 (by decide), hfr i (by omega)]
        exact hM.fr hp hk h1 hi
/-- the contract of lines: as the others, with the constants -/
def MLin (G : GG) (d : Nat) (v u : Int32) (σ : Sg) (ρ : Rs) : Prop :=
  ∀ (t : Nat → Option (Nat × Nat)) (I : Nat → Nat → Int32) (J : Nat → Nat → Int64) (P : Nat → Nat → Value) (n sl : Nat), SH t P → CSt t I P → MdS I σ ρ → n ≤ 601124 → sl ≤ 7293033 →
    CA G d M5_lines [.ref 122, .int v, .int u] (t, I, J, P, n, sl) (fun o h' => o = .inl (some (.int (qLines σ ρ v u).1)) ∧ ∃ I' J', h' = (t, I', J', P, n, sl) ∧ MdS I' (qLines σ ρ v u).2.1 (qLines σ ρ v u).2.2 ∧ MF I I' ∧ JF J J' ∧ I' 122 0 = 0)
set_option maxHeartbeats 8000000 in
theorem m_lines (G : GG) (d : Nat) (v u : Int32) (σ : Sg) (ρ : Rs) : MLin G (d + 9) v u σ ρ := by
  intro t I J P n sl hS hC hD hB hSl
  have hσ := hD.1
  have hρ := hD.2.1
  have hM := hD.2.2.1
  have hR := hD.2.2.2
  have hnp := hσ.1
  rcases ix_cases v (n := s_np σ) (by omega) with ⟨hv, e⟩ | ⟨pt, hpt, rfl, hv, e⟩
  · rw [show qLines σ ρ v u = (-1, σ, rT ρ 1) by simp only [qLines, e]]
    refine CA.w ?_
    show RA _ _ M5_lines 0 [.ref 122, .int v, .int u, U0, U0] [] _ _
    refine x_aload_n d5_lines_0 rfl ?_
    refine x_iconst (v := nI 0) d5_lines_1 (by decide) ?_
    refine x_putIE d5_lines_2 p5_80 (hS.T rfl) (fun I1 hI1 => ?_)
    have hsmI1 : MSm I I1 := MSm.thr hI1
    have hthI1 : I1 122 0 = 0 := by rw [hI1, u2_self]; rfl
    refine x_aload_n d5_lines_5 rfl ?_
    refine x_iload_n d5_lines_6 rfl ?_
    refine x_invV 122 1 d5_lines_7 (hS.T rfl) v5_101_5 (m_isPart _ hS (hsmI1.mp hM) (v)) (Cont.p ?_) (hB := hB) (hS := hSl)
    refine x_top (congrArg Value.int (b2i_f hv)) ?_
    refine x_if_ne 19 d5_lines_10 (by decide) (fun b10 => absurd b10 (by decide)) (fun b10 => ?_)
    refine x_aload_n d5_lines_13 rfl ?_
    refine x_iconst (v := nI 1) d5_lines_14 (by decide) ?_
    refine x_invV 122 1 d5_lines_15 (hS.T rfl) v5_94_5 (m_refused _ hS (k := 1)) (Cont.e ?_) (hB := hB) (hS := hSl)
    obtain ⟨I2, hI2⟩ : ∃ z, z = u2 (u2 I1 122 1 (nI 1)) 122 2 (-1) := ⟨_, rfl⟩
    rw [← hI2]
    have hthI2 : I2 122 0 = 0 := by rw [hI2, u2_ne _ _ (by decide), u2_ne _ _ (by decide)]; exact hthI1
    exact x_ireturn d5_lines_18 ⟨rfl, I2, J, rfl, (hsmI1.mds hD).tr hI2 (by decide), (hsmI1.mf).trans (MF.tell hI2), JF.rf J, hthI2⟩
  have htd := hρ.2.1
  rcases ix_cases u (n := r_td ρ + 1) (by omega) with ⟨hu, e2⟩ | ⟨z, hz, rfl, hu, e2⟩
  · rw [show qLines σ ρ (nI pt) u = (-1, σ, rT ρ 2) by simp only [qLines, e, e2]]
    refine CA.w ?_
    show RA _ _ M5_lines 0 [.ref 122, .int (nI pt), .int u, U0, U0] [] _ _
    refine x_aload_n d5_lines_0 rfl ?_
    refine x_iconst (v := nI 0) d5_lines_1 (by decide) ?_
    refine x_putIE d5_lines_2 p5_80 (hS.T rfl) (fun I1 hI1 => ?_)
    have hsmI1 : MSm I I1 := MSm.thr hI1
    have hthI1 : I1 122 0 = 0 := by rw [hI1, u2_self]; rfl
    refine x_aload_n d5_lines_5 rfl ?_
    refine x_iload_n d5_lines_6 rfl ?_
    refine x_invV 122 1 d5_lines_7 (hS.T rfl) v5_101_5 (m_isPart _ hS (hsmI1.mp hM) (nI pt)) (Cont.p ?_) (hB := hB) (hS := hSl)
    refine x_top (congrArg Value.int (b2i_t hv)) ?_
    refine x_if_ne 19 d5_lines_10 (by decide) (fun b10 => ?_) (fun b10 => absurd b10 (by decide))
    refine x_iload_n d5_lines_19 rfl ?_
    refine x_if_lt 31 d5_lines_20 (by decide) (fun b20 => ?_) (fun b20 => ?_)
    · refine x_aload_n d5_lines_31 rfl ?_
      refine x_iconst (v := nI 2) d5_lines_32 (by decide) ?_
      refine x_invV 122 1 d5_lines_33 (hS.T rfl) v5_94_5 (m_refused _ hS (k := 2)) (Cont.e ?_) (hB := hB) (hS := hSl)
      obtain ⟨I2, hI2⟩ : ∃ z, z = u2 (u2 I1 122 1 (nI 2)) 122 2 (-1) := ⟨_, rfl⟩
      rw [← hI2]
      have hthI2 : I2 122 0 = 0 := by rw [hI2, u2_ne _ _ (by decide), u2_ne _ _ (by decide)]; exact hthI1
      exact x_ireturn d5_lines_36 ⟨rfl, I2, J, rfl, (hsmI1.mds hD).tr hI2 (by decide), (hsmI1.mf).trans (MF.tell hI2), JF.rf J, hthI2⟩
    · refine x_iload_n d5_lines_23 rfl ?_
      refine x_aload_n d5_lines_24 rfl ?_
      refine x_getI d5_lines_25 f5_219 (hS.T rfl) ?_
      refine x_top (congrArg Value.int (show I1 122 15 = nI (r_td ρ) from (hsmI1.mr hR).2.1)) ?_
      have htd_ := hρ.2.1
      refine x_icmp_le 37 d5_lines_28 (by decide) (fun b28 => absurd b28 (fun q => hu ((ix_le u (m := r_td ρ) (by omega)).mp ⟨i_nlt b20, q⟩))) (fun b28 => ?_)
      refine x_aload_n d5_lines_31 rfl ?_
      refine x_iconst (v := nI 2) d5_lines_32 (by decide) ?_
      refine x_invV 122 1 d5_lines_33 (hS.T rfl) v5_94_5 (m_refused _ hS (k := 2)) (Cont.e ?_) (hB := hB) (hS := hSl)
      obtain ⟨I3, hI3⟩ : ∃ z, z = u2 (u2 I1 122 1 (nI 2)) 122 2 (-1) := ⟨_, rfl⟩
      rw [← hI3]
      have hthI3 : I3 122 0 = 0 := by rw [hI3, u2_ne _ _ (by decide), u2_ne _ _ (by decide)]; exact hthI1
      exact x_ireturn d5_lines_36 ⟨rfl, I3, J, rfl, (hsmI1.mds hD).tr hI3 (by decide), (hsmI1.mf).trans (MF.tell hI3), JF.rf J, hthI3⟩
  rcases hps : psA z (fun j => btN (r_tp ρ j)) (s_np σ) 12 0 (fun _ => (0, 0, 0, 0, fun _ => 0)) 0 with ⟨F5, pl5⟩ | ⟨m5, rs5⟩
  · rw [show qLines σ ρ (nI pt) (nI z) = (-1, σ, rFl ρ F5 4 (nI pl5)) by simp only [qLines, e, e2, hps]]
    refine CA.w ?_
    show RA _ _ M5_lines 0 [.ref 122, .int (nI pt), .int (nI z), U0, U0] [] _ _
    refine x_aload_n d5_lines_0 rfl ?_
    refine x_iconst (v := nI 0) d5_lines_1 (by decide) ?_
    refine x_putIE d5_lines_2 p5_80 (hS.T rfl) (fun I1 hI1 => ?_)
    have hsmI1 : MSm I I1 := MSm.thr hI1
    have hthI1 : I1 122 0 = 0 := by rw [hI1, u2_self]; rfl
    refine x_aload_n d5_lines_5 rfl ?_
    refine x_iload_n d5_lines_6 rfl ?_
    refine x_invV 122 1 d5_lines_7 (hS.T rfl) v5_101_5 (m_isPart _ hS (hsmI1.mp hM) (nI pt)) (Cont.p ?_) (hB := hB) (hS := hSl)
    refine x_top (congrArg Value.int (b2i_t hv)) ?_
    refine x_if_ne 19 d5_lines_10 (by decide) (fun b10 => ?_) (fun b10 => absurd b10 (by decide))
    refine x_iload_n d5_lines_19 rfl ?_
    refine x_if_ltN (tgt := 31) d5_lines_20 (by omega) ?_ (by decide)
    refine x_iload_n d5_lines_23 rfl ?_
    refine x_aload_n d5_lines_24 rfl ?_
    refine x_getI d5_lines_25 f5_219 (hS.T rfl) ?_
    refine x_top (congrArg Value.int (show I1 122 15 = nI (r_td ρ) from (hsmI1.mr hR).2.1)) ?_
    have htd_ := hρ.2.1
    refine x_icmp_leN 37 d5_lines_28 (by decide) (by omega) (by omega) (fun b28 => ?_) (fun b28 => absurd b28 (by omega))
    refine x_aload_n d5_lines_37 rfl ?_
    refine x_iload_n d5_lines_38 rfl ?_
    refine x_putIE d5_lines_39 p5_118 (hS.T rfl) (fun I2 hI2 => ?_)
    refine x_aload_n d5_lines_42 rfl ?_
    refine x_iconst (v := nI 0) d5_lines_43 (by decide) ?_
    refine x_putIE d5_lines_44 p5_219 (hS.T rfl) (fun I3 hI3 => ?_)
    refine x_aload_n d5_lines_47 rfl ?_
    refine x_iconst (v := nI 0) d5_lines_48 (by decide) ?_
    refine x_putIE d5_lines_49 p5_133 (hS.T rfl) (fun I4 hI4 => ?_)
    refine x_aload_n d5_lines_52 rfl ?_
    refine x_iconst (v := nI 0) d5_lines_53 (by decide) ?_
    refine x_putIE d5_lines_54 p5_222 (hS.T rfl) (fun I5 hI5 => ?_)
    have hV5 : RdV I I5 := ((RdV.u hI1 (by decide)).trans ((RdV.u hI2 (by decide)).trans ((RdV.u hI3 (by decide)).trans ((RdV.u hI4 (by decide)).trans (RdV.u hI5 (by decide))))))
    have ef5 : ∀ j, j ≠ 0 → j ≠ 16 → j ≠ 15 → j ≠ 17 → j ≠ 3 → I5 122 j = I 122 j := fun j a b c d e => by rw [hI5, u2_ne _ _ e, hI4, u2_ne _ _ d, hI3, u2_ne _ _ c, hI2, u2_ne _ _ b, hI1, u2_ne _ _ a]
    have hC5 : CSt t I5 P := hC.fr (fun b hb => hV5.1 b (fun e => by simp only [List.mem_cons, List.not_mem_nil, or_false] at e; omega))
    have hT5 : TxM z (fun j => btN (r_tp ρ j)) I5 := by
      refine ⟨by rw [hI5, u2_ne _ _ (by decide), hI4, u2_ne _ _ (by decide), hI3, u2_ne _ _ (by decide), hI2, u2_self], by omega, fun j hj => ?_⟩
      rw [hV5.1 132 (by decide), hR.2.2.1 j (by omega)]
      exact ⟨(btN_lt _).2, (btN_lt _).1⟩
    have hat5 : I5 122 17 = nI 0 := by rw [hI5, u2_ne _ _ (by decide), hI4, u2_self]
    have h15 : I5 122 15 = nI 0 := by rw [hI5, u2_ne _ _ (by decide), hI4, u2_ne _ _ (by decide), hI3, u2_self]
    have h53 : I5 122 3 = nI 0 := by rw [hI5, u2_self]
    have h50 : I5 122 0 = 0 := by rw [hI5, u2_ne _ _ (by decide), hI4, u2_ne _ _ (by decide), hI3, u2_ne _ _ (by decide), hI2, u2_ne _ _ (by decide)]; exact hthI1
    have hnp5 : I5 122 4 = nI (s_np σ) := (ef5 4 (by decide) (by decide) (by decide) (by decide) (by decide)).trans hM.np
    refine x_aload_n d5_lines_57 rfl ?_
    · refine x_invV 122 0 d5_lines_58 (hS.T rfl) v5_225_5 (m_reads _ hS hC5 hT5 hat5 hB hSl (np := s_np σ) hnp5 hnp) ?_ (hB := hB) (hS := hSl)
      rintro o h' ⟨I6, J6, rfl, hx6, hj6, hr6⟩
      rw [hps] at hr6
      obtain ⟨rfl, he5⟩ := hr6
      refine ⟨by decide, Or.inr ⟨_, _, _, _, rfl, by decide, by decide, by decide, ⟨_, _, hS.T rfl, rfl, by decide, (lw_g (lw_at lw_m5 5 rfl) rfl)⟩, ?_⟩⟩
      refine x_astore_n d5_lines_64 ?_
      refine x_aload_n d5_lines_65 rfl ?_
      refine x_aload_n d5_lines_66 rfl ?_
      refine x_getI d5_lines_67 f5_112 (hS.T rfl) ?_
      refine x_top (congrArg Value.int (show I6 131 6 = nI F5 from he5.1)) ?_
      refine x_putIE d5_lines_70 p5_222 (hS.T rfl) (fun I7 hI7 => ?_)
      refine x_aload_n d5_lines_73 rfl ?_
      refine x_iconst (v := nI 4) d5_lines_74 (by decide) ?_
      refine x_putIE d5_lines_75 p5_83 (hS.T rfl) (fun I8 hI8 => ?_)
      refine x_aload_n d5_lines_78 rfl ?_
      refine x_aload_n d5_lines_79 rfl ?_
      refine x_getI d5_lines_80 f5_117 (hS.T rfl) ?_
      refine x_top (congrArg Value.int (show I8 131 7 = nI pl5 from (show I8 131 7 = nI pl5 by rw [hI8, u2_row _ _ _ (by decide), hI7, u2_row _ _ _ (by decide)]; exact he5.2))) ?_
      refine x_putIE d5_lines_83 p5_9 (hS.T rfl) (fun I9 hI9 => ?_)
      refine x_iconst (v := -1) d5_lines_86 (by decide) ?_
      refine x_ireturn d5_lines_87 ?_
      have hV : RdV I I9 := hV5.trans (hx6.v.trans ((RdV.u hI7 (by decide)).trans ((RdV.u hI8 (by decide)).trans (RdV.u hI9 (by decide)))))
      have ef : ∀ j, j ≠ 3 → j ≠ 1 → j ≠ 2 → I9 122 j = I6 122 j := fun j a b c => by rw [hI9, u2_ne _ _ c, hI8, u2_ne _ _ b, hI7, u2_ne _ _ a]
      refine ⟨rfl, I9, J6, rfl, ⟨hσ, hρ.rd (by have := psA_F _ _ _ _ _ _ hps; omega) (by decide) (fun q => absurd rfl q), hV.mp hσ hM, hR.rd (fun b hb => hV.1 b (fun e => by simp only [List.mem_cons, List.not_mem_nil, or_false] at e hb; omega)) (fun k hk => hV.2.1 k (by simp only [List.mem_cons, List.not_mem_nil, or_false] at hk ⊢; omega)) ?_ ?_ ?_ ?_⟩, fun b hb => hV.1 b (fun e => by simp only [List.mem_cons, List.not_mem_nil, or_false] at e; omega), hj6, ?_⟩
      · rw [ef 15 (by decide) (by decide) (by decide), hx6.2.1 15 (by decide)]; exact h15
      · rw [hI9, u2_ne _ _ (by decide), hI8, u2_self]
      · rw [hI9, u2_self]
      · rw [hI9, u2_ne _ _ (by decide), hI8, u2_ne _ _ (by decide), hI7, u2_self]
      · rw [ef 0 (by decide) (by decide) (by decide), hx6.2.1 0 (by decide)]; exact h50
  · rw [show qLines σ ρ (nI pt) (nI z) = (nI m5, sLines σ pt m5 rs5, rFl ρ 0 0 (-1)) by simp only [qLines, e, e2, hps]]
    refine CA.w ?_
    show RA _ _ M5_lines 0 [.ref 122, .int (nI pt), .int (nI z), U0, U0] [] _ _
    refine x_aload_n d5_lines_0 rfl ?_
    refine x_iconst (v := nI 0) d5_lines_1 (by decide) ?_
    refine x_putIE d5_lines_2 p5_80 (hS.T rfl) (fun I1 hI1 => ?_)
    have hsmI1 : MSm I I1 := MSm.thr hI1
    have hthI1 : I1 122 0 = 0 := by rw [hI1, u2_self]; rfl
    refine x_aload_n d5_lines_5 rfl ?_
    refine x_iload_n d5_lines_6 rfl ?_
    refine x_invV 122 1 d5_lines_7 (hS.T rfl) v5_101_5 (m_isPart _ hS (hsmI1.mp hM) (nI pt)) (Cont.p ?_) (hB := hB) (hS := hSl)
    refine x_top (congrArg Value.int (b2i_t hv)) ?_
    refine x_if_ne 19 d5_lines_10 (by decide) (fun b10 => ?_) (fun b10 => absurd b10 (by decide))
    refine x_iload_n d5_lines_19 rfl ?_
    refine x_if_ltN (tgt := 31) d5_lines_20 (by omega) ?_ (by decide)
    refine x_iload_n d5_lines_23 rfl ?_
    refine x_aload_n d5_lines_24 rfl ?_
    refine x_getI d5_lines_25 f5_219 (hS.T rfl) ?_
    refine x_top (congrArg Value.int (show I1 122 15 = nI (r_td ρ) from (hsmI1.mr hR).2.1)) ?_
    have htd_ := hρ.2.1
    refine x_icmp_leN 37 d5_lines_28 (by decide) (by omega) (by omega) (fun b28 => ?_) (fun b28 => absurd b28 (by omega))
    refine x_aload_n d5_lines_37 rfl ?_
    refine x_iload_n d5_lines_38 rfl ?_
    refine x_putIE d5_lines_39 p5_118 (hS.T rfl) (fun I2 hI2 => ?_)
    refine x_aload_n d5_lines_42 rfl ?_
    refine x_iconst (v := nI 0) d5_lines_43 (by decide) ?_
    refine x_putIE d5_lines_44 p5_219 (hS.T rfl) (fun I3 hI3 => ?_)
    refine x_aload_n d5_lines_47 rfl ?_
    refine x_iconst (v := nI 0) d5_lines_48 (by decide) ?_
    refine x_putIE d5_lines_49 p5_133 (hS.T rfl) (fun I4 hI4 => ?_)
    refine x_aload_n d5_lines_52 rfl ?_
    refine x_iconst (v := nI 0) d5_lines_53 (by decide) ?_
    refine x_putIE d5_lines_54 p5_222 (hS.T rfl) (fun I5 hI5 => ?_)
    have hV5 : RdV I I5 := ((RdV.u hI1 (by decide)).trans ((RdV.u hI2 (by decide)).trans ((RdV.u hI3 (by decide)).trans ((RdV.u hI4 (by decide)).trans (RdV.u hI5 (by decide))))))
    have ef5 : ∀ j, j ≠ 0 → j ≠ 16 → j ≠ 15 → j ≠ 17 → j ≠ 3 → I5 122 j = I 122 j := fun j a b c d e => by rw [hI5, u2_ne _ _ e, hI4, u2_ne _ _ d, hI3, u2_ne _ _ c, hI2, u2_ne _ _ b, hI1, u2_ne _ _ a]
    have hC5 : CSt t I5 P := hC.fr (fun b hb => hV5.1 b (fun e => by simp only [List.mem_cons, List.not_mem_nil, or_false] at e; omega))
    have hT5 : TxM z (fun j => btN (r_tp ρ j)) I5 := by
      refine ⟨by rw [hI5, u2_ne _ _ (by decide), hI4, u2_ne _ _ (by decide), hI3, u2_ne _ _ (by decide), hI2, u2_self], by omega, fun j hj => ?_⟩
      rw [hV5.1 132 (by decide), hR.2.2.1 j (by omega)]
      exact ⟨(btN_lt _).2, (btN_lt _).1⟩
    have hat5 : I5 122 17 = nI 0 := by rw [hI5, u2_ne _ _ (by decide), hI4, u2_self]
    have h15 : I5 122 15 = nI 0 := by rw [hI5, u2_ne _ _ (by decide), hI4, u2_ne _ _ (by decide), hI3, u2_self]
    have h53 : I5 122 3 = nI 0 := by rw [hI5, u2_self]
    have h50 : I5 122 0 = 0 := by rw [hI5, u2_ne _ _ (by decide), hI4, u2_ne _ _ (by decide), hI3, u2_ne _ _ (by decide), hI2, u2_ne _ _ (by decide)]; exact hthI1
    have hnp5 : I5 122 4 = nI (s_np σ) := (ef5 4 (by decide) (by decide) (by decide) (by decide) (by decide)).trans hM.np
    refine x_aload_n d5_lines_57 rfl ?_
    · refine x_invV 122 0 d5_lines_58 (hS.T rfl) v5_225_5 (m_reads _ hS hC5 hT5 hat5 hB hSl (np := s_np σ) hnp5 hnp) ?_ (hB := hB) (hS := hSl)
      rintro o h' ⟨I6, J6, rfl, hx6, hj6, hr6⟩
      rw [hps] at hr6
      obtain ⟨rfl, h10, hrow⟩ := hr6
      replace h10 : I6 124 10 = nI m5 := h10
      obtain ⟨hm12, hok⟩ := psA_ok hnp 12 0 _ 0 (Nat.zero_le _) (fun k hk => absurd hk (Nat.not_lt_zero _)) m5 rs5 hps
      refine x_goto 88 d5_lines_61 (by decide) ?_
      refine x_aload_n d5_lines_88 rfl ?_
      refine x_getP d5_lines_89 f5_17 (hS.T rfl) (hS.P rfl) ?_
      refine x_iload_n d5_lines_92 rfl ?_
      refine x_aload_n d5_lines_93 rfl ?_
      refine x_getP d5_lines_94 f5_17 (hS.T rfl) (hS.P rfl) ?_
      refine x_bipush (v := nI 10) d5_lines_97 (by decide) ?_
      refine x_ialdN d5_lines_99 (hS.T rfl) (by omega) ?_
      refine x_top (congrArg Value.int (show I6 124 10 = nI m5 from h10)) ?_
      refine x_iastN d5_lines_100 (hS.T rfl) (by omega) (fun I7 hI7 => ?_)
      refine x_iconst (v := nI 0) d5_lines_101 (by decide) ?_
      refine x_istore_n d5_lines_102 ?_
      have hin : ∀ k, k < 12 → (k < 12 → ∀ I9, CpI pt (k + 1) (4 * (k + 1)) I7 I9 → ∀ v4, RA G (d + 9) M5_lines 103 [.ref 122, .int (nI pt), .int (nI z), .int (nI (k + 1)), v4] [] (t, I9, J6, P, n, sl) (fun o h' => o = .inl (some (.int (nI m5))) ∧ ∃ I' J', h' = (t, I', J', P, n, sl) ∧ MdS I' (sLines σ pt m5 rs5) (rFl ρ 0 0 (-1)) ∧ MF I I' ∧ JF J J' ∧ I' 122 0 = 0)) → ∀ i, i ≤ 4 → ∀ I9, CpI pt (k + 1) (4 * k + i) I7 I9 → RA G (d + 9) M5_lines 192 [.ref 122, .int (nI pt), .int (nI z), .int (nI k), .int (nI i)] [] (t, I9, J6, P, n, sl) (fun o h' => o = .inl (some (.int (nI m5))) ∧ ∃ I' J', h' = (t, I', J', P, n, sl) ∧ MdS I' (sLines σ pt m5 rs5) (rFl ρ 0 0 (-1)) ∧ MF I I' ∧ JF J J' ∧ I' 122 0 = 0) := by
        intro k hk ihk
        refine up_ind ?_
        intro i hi_ ih I9 hCp
        refine x_iload d5_lines_192 rfl ?_
        refine x_iconst (v := nI 4) d5_lines_194 (by decide) ?_
        refine x_icmp_geN 234 d5_lines_195 (by decide) (by omega) (by omega) (fun b195 => ?_) (fun b195 => ?_)
        · refine x_iincN (c := 1) d5_lines_234 rfl (by decide) ?_
          refine x_goto 103 d5_lines_237 (by decide) ?_
          have hi4 : i = 4 := by omega
          subst hi4
          exact ihk hk I9 hCp _
        · refine x_aload_n d5_lines_198 rfl ?_
          refine x_getP d5_lines_199 f5_35 (hS.T rfl) (hS.P rfl) ?_
          refine x_iconst (v := nI 4) d5_lines_202 (by decide) ?_
          refine x_bipush (v := nI 12) d5_lines_203 (by decide) ?_
          refine x_iload_n d5_lines_205 rfl ?_
          refine x_imulN d5_lines_206 ?_
          refine x_iload_n d5_lines_207 rfl ?_
          refine x_iaddN d5_lines_208 ?_
          refine x_imulN d5_lines_209 ?_
          refine x_iload d5_lines_210 rfl ?_
          refine x_iaddN d5_lines_212 ?_
          refine x_aload_n d5_lines_213 rfl ?_
          refine x_getP d5_lines_214 f5_35 (hS.T rfl) (hS.P rfl) ?_
          refine x_iconst (v := nI 4) d5_lines_217 (by decide) ?_
          refine x_bipush (v := nI 120) d5_lines_218 (by decide) ?_
          refine x_iload_n d5_lines_220 rfl ?_
          refine x_iaddN d5_lines_221 ?_
          refine x_imulN d5_lines_222 ?_
          refine x_iload d5_lines_223 rfl ?_
          refine x_iaddN d5_lines_225 ?_
          refine x_ialdN d5_lines_226 (hS.T rfl) (by omega) ?_
          refine x_top (congrArg Value.int (show I9 130 ((4 * (120 + k)) + i) = I7 130 (480 + (4 * k + i)) from (by rw [hCp.2.2, if_neg (by omega), show 4 * (120 + k) + i = 480 + (4 * k + i) by omega]))) ?_
          refine x_iastN d5_lines_227 (hS.T rfl) (by omega) (fun I41 hI41 => ?_)
          refine x_iincN (c := 1) d5_lines_228 rfl (by decide) ?_
          refine x_goto 192 d5_lines_231 (by decide) ?_
          exact ih (by omega) I41 (by have hn := hCp.name (pt := pt) (X := 4 * k + i) (Ia := I41) (by rw [hI41, show 4 * (12 * pt + k) + i = 48 * pt + (4 * k + i) by omega]); exact hn)
      have hout : ∀ k, k ≤ 12 → ∀ I9, CpI pt (k) (4 * (k)) I7 I9 → ∀ v4, RA G (d + 9) M5_lines 103 [.ref 122, .int (nI pt), .int (nI z), .int (nI k), v4] [] (t, I9, J6, P, n, sl) (fun o h' => o = .inl (some (.int (nI m5))) ∧ ∃ I' J', h' = (t, I', J', P, n, sl) ∧ MdS I' (sLines σ pt m5 rs5) (rFl ρ 0 0 (-1)) ∧ MF I I' ∧ JF J J' ∧ I' 122 0 = 0) := by
        refine up_ind ?_
        intro k hk_ ih I9 hCp v4
        refine x_iload_n d5_lines_103 rfl ?_
        refine x_bipush (v := nI 12) d5_lines_104 (by decide) ?_
        refine x_icmp_geN 240 d5_lines_106 (by decide) (by omega) (by omega) (fun b106 => ?_) (fun b106 => ?_)
        · refine x_aload_n d5_lines_240 rfl ?_
          refine x_aload_n d5_lines_241 rfl ?_
          refine x_getP d5_lines_242 f5_17 (hS.T rfl) (hS.P rfl) ?_
          refine x_iload_n d5_lines_245 rfl ?_
          refine x_ialdN d5_lines_246 (hS.T rfl) (by omega) ?_
          refine x_top (congrArg Value.int (show I9 124 pt = nI m5 from (by rw [hCp.1 124 (by decide), hI7, u2_self]))) ?_
          have hk12 : k = 12 := by omega
          subst hk12
          refine x_invV 122 1 d5_lines_247 (hS.T rfl) v5_98_5 (m_done _ hS (v := nI m5)) (Cont.e ?_) (hB := hB) (hS := hSl)
          have hV6 : RdV I I6 := hV5.trans hx6.v
          have hMP := hCp.mp hσ (hV6.mp hσ hM) hpt hI7 (by omega) hrow hok
          have er : ∀ b, b ∉ [122, 124, 126, 127, 128, 129, 130, 131] → I9 b = I b := fun b hb => by rw [hCp.1 b (fun e => hb (by simp only [List.mem_cons, List.not_mem_nil, or_false] at e ⊢; omega)), hI7, u2_row _ _ _ (fun e => hb (by rw [e]; decide))]; exact hV6.1 b hb
          have ef : ∀ j, I9 122 j = I6 122 j := fun j => by rw [hCp.1 122 (by decide), hI7, u2_row _ _ _ (by decide)]
          refine x_ireturn d5_lines_250 ⟨rfl, u2 (u2 I9 122 1 (nI 0)) 122 2 (-1), J6, rfl, ⟨hσ.lines (by omega) hok, hρ.rd (by decide) (by decide) (fun _ => rfl), hMP.same (by rw [u2_ne _ _ (by decide), u2_ne _ _ (by decide)]) (fun b hb => by rw [u2_row _ _ _ (fun e => by rw [e] at hb; revert hb; decide), u2_row _ _ _ (fun e => by rw [e] at hb; revert hb; decide)]), ?_⟩, ?_, hj6, ?_⟩
          · refine hR.rd (fun b hb => ?_) (fun k hk => ?_) ?_ ?_ ?_ ?_
            · rw [u2_row _ _ _ (fun e => by rw [e] at hb; revert hb; decide), u2_row _ _ _ (fun e => by rw [e] at hb; revert hb; decide)]; exact er b (fun e => by simp only [List.mem_cons, List.not_mem_nil, or_false] at e hb; omega)
            · rw [u2_ne _ _ (fun e => by rw [e] at hk; revert hk; decide), u2_ne _ _ (fun e => by rw [e] at hk; revert hk; decide), ef]; exact hV6.2.1 k (by simp only [List.mem_cons, List.not_mem_nil, or_false] at hk ⊢; omega)
            · rw [u2_ne _ _ (by decide), u2_ne _ _ (by decide), ef, hx6.2.1 15 (by decide)]; exact h15
            · rw [u2_ne _ _ (by decide), u2_self]
            · rw [u2_self]
            · rw [u2_ne _ _ (by decide), u2_ne _ _ (by decide), ef, hx6.2.1 3 (by decide)]; exact h53
          · exact MF.trans (fun b hb => er b (fun e => by simp only [List.mem_cons, List.not_mem_nil, or_false] at e; omega)) (MF.tell rfl)
          · rw [u2_ne _ _ (by decide), u2_ne _ _ (by decide), ef, hx6.2.1 0 (by decide)]; exact h50
        · refine x_aload_n d5_lines_109 rfl ?_
          refine x_getP d5_lines_110 f5_23 (hS.T rfl) (hS.P rfl) ?_
          refine x_bipush (v := nI 12) d5_lines_113 (by decide) ?_
          refine x_iload_n d5_lines_115 rfl ?_
          refine x_imulN d5_lines_116 ?_
          refine x_iload_n d5_lines_117 rfl ?_
          refine x_iaddN d5_lines_118 ?_
          refine x_aload_n d5_lines_119 rfl ?_
          refine x_getP d5_lines_120 f5_23 (hS.T rfl) (hS.P rfl) ?_
          refine x_bipush (v := nI 120) d5_lines_123 (by decide) ?_
          refine x_iload_n d5_lines_125 rfl ?_
          refine x_iaddN d5_lines_126 ?_
          refine x_ialdN d5_lines_127 (hS.T rfl) (by omega) ?_
          refine x_top (congrArg Value.int (show I9 126 (120 + k) = I7 126 (120 + k) from (by rw [hCp.2.1 126 (by decide), if_neg (by omega)]))) ?_
          refine x_iastN d5_lines_128 (hS.T rfl) (by omega) (fun I21 hI21 => ?_)
          refine x_aload_n d5_lines_129 rfl ?_
          refine x_getP d5_lines_130 f5_26 (hS.T rfl) (hS.P rfl) ?_
          refine x_bipush (v := nI 12) d5_lines_133 (by decide) ?_
          refine x_iload_n d5_lines_135 rfl ?_
          refine x_imulN d5_lines_136 ?_
          refine x_iload_n d5_lines_137 rfl ?_
          refine x_iaddN d5_lines_138 ?_
          refine x_aload_n d5_lines_139 rfl ?_
          refine x_getP d5_lines_140 f5_26 (hS.T rfl) (hS.P rfl) ?_
          refine x_bipush (v := nI 120) d5_lines_143 (by decide) ?_
          refine x_iload_n d5_lines_145 rfl ?_
          refine x_iaddN d5_lines_146 ?_
          refine x_ialdN d5_lines_147 (hS.T rfl) (by omega) ?_
          refine x_top (congrArg Value.int (show I21 127 (120 + k) = I7 127 (120 + k) from (by rw [hI21, u2_row _ _ _ (by decide)]; rw [hCp.2.1 127 (by decide), if_neg (by omega)]))) ?_
          refine x_iastN d5_lines_148 (hS.T rfl) (by omega) (fun I22 hI22 => ?_)
          refine x_aload_n d5_lines_149 rfl ?_
          refine x_getP d5_lines_150 f5_29 (hS.T rfl) (hS.P rfl) ?_
          refine x_bipush (v := nI 12) d5_lines_153 (by decide) ?_
          refine x_iload_n d5_lines_155 rfl ?_
          refine x_imulN d5_lines_156 ?_
          refine x_iload_n d5_lines_157 rfl ?_
          refine x_iaddN d5_lines_158 ?_
          refine x_aload_n d5_lines_159 rfl ?_
          refine x_getP d5_lines_160 f5_29 (hS.T rfl) (hS.P rfl) ?_
          refine x_bipush (v := nI 120) d5_lines_163 (by decide) ?_
          refine x_iload_n d5_lines_165 rfl ?_
          refine x_iaddN d5_lines_166 ?_
          refine x_ialdN d5_lines_167 (hS.T rfl) (by omega) ?_
          refine x_top (congrArg Value.int (show I22 128 (120 + k) = I7 128 (120 + k) from (by rw [hI22, u2_row _ _ _ (by decide), hI21, u2_row _ _ _ (by decide)]; rw [hCp.2.1 128 (by decide), if_neg (by omega)]))) ?_
          refine x_iastN d5_lines_168 (hS.T rfl) (by omega) (fun I23 hI23 => ?_)
          refine x_aload_n d5_lines_169 rfl ?_
          refine x_getP d5_lines_170 f5_32 (hS.T rfl) (hS.P rfl) ?_
          refine x_bipush (v := nI 12) d5_lines_173 (by decide) ?_
          refine x_iload_n d5_lines_175 rfl ?_
          refine x_imulN d5_lines_176 ?_
          refine x_iload_n d5_lines_177 rfl ?_
          refine x_iaddN d5_lines_178 ?_
          refine x_aload_n d5_lines_179 rfl ?_
          refine x_getP d5_lines_180 f5_32 (hS.T rfl) (hS.P rfl) ?_
          refine x_bipush (v := nI 120) d5_lines_183 (by decide) ?_
          refine x_iload_n d5_lines_185 rfl ?_
          refine x_iaddN d5_lines_186 ?_
          refine x_ialdN d5_lines_187 (hS.T rfl) (by omega) ?_
          refine x_top (congrArg Value.int (show I23 129 (120 + k) = I7 129 (120 + k) from (by rw [hI23, u2_row _ _ _ (by decide), hI22, u2_row _ _ _ (by decide), hI21, u2_row _ _ _ (by decide)]; rw [hCp.2.1 129 (by decide), if_neg (by omega)]))) ?_
          refine x_iastN d5_lines_188 (hS.T rfl) (by omega) (fun I24 hI24 => ?_)
          refine x_iconst (v := nI 0) d5_lines_189 (by decide) ?_
          refine x_istore d5_lines_190 ?_
          have hCr := hCp.rows hI21 hI22 hI23 hI24
          exact hin k b106 ih 0 (Nat.zero_le _) I24 hCr
      exact hout 0 (Nat.zero_le _) I7 (CpI.init pt I7) _
