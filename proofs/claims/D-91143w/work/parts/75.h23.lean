/-! the house: a part becomes its lines -/
set_option maxRecDepth 100000
/-- what lines wash at a name -/
noncomputable def wsR (rs : Nat → Lne) (m nm : Nat) : Nat := mk16 (fun s => ∃ k, k < m ∧ (rs k).1 = 4 ∧ (rs k).2.2.1 = nm ∧ (rs k).2.1 = s)
theorem wsR_lt (rs : Nat → Lne) (m nm : Nat) : wsR rs m nm < 65536 := mk16_lt _
theorem wsR_0 (rs : Nat → Lne) (nm : Nat) : wsR rs 0 nm = 0 := (mk16_eq (a := 0) (by decide) (fun s _ => ⟨fun z => (by rw [Nat.zero_testBit] at z; cases z), fun ⟨k, h, _⟩ => absurd h (Nat.not_lt_zero _)⟩)).symm
theorem wsR_f {rs : Nat → Lne} {m nm : Nat} (h : ¬ ((rs m).1 = 4 ∧ (rs m).2.2.1 = nm)) : wsR rs (m + 1) nm = wsR rs m nm := mk16_congr (fun s _ => ⟨fun ⟨k, a, b, c, e⟩ => ⟨k, (by by_cases ek : k = m; exact absurd ⟨by rw [← ek]; exact b, by rw [← ek]; exact c⟩ h; omega), b, c, e⟩, fun ⟨k, a, b⟩ => ⟨k, by omega, b⟩⟩)
theorem wsR_t {rs : Nat → Lne} {m nm : Nat} (h4 : (rs m).1 = 4) (hn : (rs m).2.2.1 = nm) (h16 : (rs m).2.1 < 16) : wsR rs (m + 1) nm = wsR rs m nm ||| 2 ^ (rs m).2.1 := by
  refine (mk16_eq (or_lt (wsR_lt rs m nm) (p2_lt h16)) (fun s hs => ?_)).symm
  rw [Nat.testBit_or, Bool.or_eq_true, p2_bit, decide_eq_true_iff]
  unfold wsR
  rw [mk16_bit]
  constructor
  · rintro (⟨-, k, a, b⟩ | e)
    · exact ⟨k, by omega, b⟩
    · exact ⟨m, by omega, h4, hn, e⟩
  · rintro ⟨k, a, b, c, e⟩
    by_cases ek : k = m
    · right; rw [← e, ek]
    · left; exact ⟨hs, k, by omega, b, c, e⟩
set_option maxHeartbeats 8000000 in
theorem h_becomes {G : GG} (d : Nat) {t : Nat → Option (Nat × Nat)} {J : Nat → Nat → Int64} {P : Nat → Nat → Value} {n sl : Nat} {I : Nat → Nat → Int32} (hS : SH t P) {a L np m : Nat} {rs : Nat → Lne} {la : Nat → Nat} (hta : t a = some (7, 0)) (htw : t (a + 2) = some (100, 8)) (hpw : P a 3 = .ref (a + 2)) (ha : 144 ≤ a) (tL : t L = some (106, 12)) (hL : RdL t I P L np m rs la) (hm : m ≤ 12) : CA G d M7_becomes [.ref a, .ref L, .int (nI m)] (t, I, J, P, n, sl) (fun o h' => o = .inl none ∧ ∃ I', h' = (t, I', J, u2 P a 2 (.ref L), n, sl) ∧ (∀ b, b ≠ a → b ≠ a + 2 → I' b = I b) ∧ (∀ k, k ≠ 1 → I' a k = I a k) ∧ I' a 1 = nI m ∧ ∀ nm, nm < 8 → I' (a + 2) nm = nI (wsR rs m nm)) := by
  refine CA.w ?_
  show RA _ _ M7_becomes 0 [.ref a, .ref L, .int (nI m), U0] [] _ _
  have haL : L ≠ a := fun q => by rw [q, hta] at tL; cases tL
  have h33 : ∀ PX : Nat → Nat → Value, PX a 3 = .ref (a + 2) → (∀ k, k < m → PX L k = .ref (la k)) → ∀ k, k ≤ m → ∀ I9, (∀ b, b ≠ a → b ≠ a + 2 → I9 b = I b) → (∀ k, k ≠ 1 → I9 a k = I a k) → I9 a 1 = nI m → (∀ nm, nm < 8 → I9 (a + 2) nm = nI (wsR rs k nm)) → RA G d M7_becomes 33 [.ref a, .ref L, .int (nI m), .int (nI k)] [] (t, I9, J, PX, n, sl) (fun o h' => o = .inl none ∧ ∃ I', h' = (t, I', J, PX, n, sl) ∧ (∀ b, b ≠ a → b ≠ a + 2 → I' b = I b) ∧ (∀ k, k ≠ 1 → I' a k = I a k) ∧ I' a 1 = nI m ∧ ∀ nm, nm < 8 → I' (a + 2) nm = nI (wsR rs m nm)) := by
    intro PX hpw1 hpl2
    refine up_ind ?_
    intro k hk_ ih I9 hF h1_ h2_ hw9
    refine x_iload_n d7_becomes_33 rfl ?_
    refine x_iload_n d7_becomes_34 rfl ?_
    refine x_icmp_geN 76 d7_becomes_35 (by decide) (by omega) (by omega) (fun b35 => ?_) (fun b35 => ?_)
    · exact x_return d7_becomes_76 ⟨rfl, I9, rfl, hF, h1_, h2_, fun nm hnm => by rw [hw9 nm hnm, show k = m by omega]⟩
    · have hkm : k < m := b35
      have hlt := (hL k hkm).2.1.2.1
      have hl5 := (hL k hkm).2.2.1
      have hlk1 : la k ≠ a := fun q => by rw [q, hta] at hlt; injection hlt with hlt; injection hlt with hlt; omega
      have hlk2 : la k ≠ a + 2 := fun q => by rw [q, htw] at hlt; injection hlt with hlt; injection hlt with hlt; omega
      have hpl1 := hpl2 k hkm
      refine x_aload_n d7_becomes_38 rfl ?_
      refine x_iload_n d7_becomes_39 rfl ?_
      refine x_aald6N d7_becomes_40 tL (by omega) hpl1 ?_
      refine x_getI d7_becomes_41 f7_25 (hL k hkm).2.1.2.1 ?_ (hc := lncs (hL k hkm).2.2.1)
      refine x_top (congrArg Value.int (show I9 (la k) 0 = nI ((rs k).1) from (by rw [hF _ hlk1 hlk2]; exact (hL k hkm).2.1.2.2.1))) ?_
      have hk5_ := (hL k hkm).2.2.1
      refine x_iconst (v := nI 4) d7_becomes_44 (by decide) ?_
      refine x_icmp_neN 70 d7_becomes_45 (by decide) (by omega) (by omega) (fun b45 => ?_) (fun b45 => ?_)
      · refine x_iincN (c := 1) d7_becomes_70 rfl (by decide) ?_
        refine x_goto 33 d7_becomes_73 (by decide) ?_
        exact ih b35 I9 hF h1_ h2_ (fun nm hnm => by rw [wsR_f (fun q => b45 q.1)]; exact hw9 nm hnm)
      · refine x_aload_n d7_becomes_48 rfl ?_
        refine x_getP d7_becomes_49 f7_17 hta hpw1 ?_
        refine x_aload_n d7_becomes_52 rfl ?_
        refine x_iload_n d7_becomes_53 rfl ?_
        refine x_aald6N d7_becomes_54 tL (by omega) hpl1 ?_
        refine x_getI d7_becomes_55 f7_28 (hL k hkm).2.1.2.1 ?_ (hc := lncs (hL k hkm).2.2.1)
        refine x_top (congrArg Value.int (show I9 (la k) 2 = nI ((rs k).2.2.1) from (by rw [hF _ hlk1 hlk2]; exact (hL k hkm).2.1.2.2.2.2.1))) ?_
        have hk8_ := (hL k hkm).2.2.2.2.1
        refine x_dup2 d7_becomes_58 rfl rfl ?_
        refine x_ialdN d7_becomes_59 htw (by omega) ?_
        refine x_top (congrArg Value.int (show I9 (a + 2) ((rs k).2.2.1) = nI (wsR rs k (rs k).2.2.1) from (hw9 _ (by omega)))) ?_
        have hws_ := wsR_lt rs k (rs k).2.2.1
        refine x_iconst (v := nI 1) d7_becomes_60 (by decide) ?_
        refine x_aload_n d7_becomes_61 rfl ?_
        refine x_iload_n d7_becomes_62 rfl ?_
        refine x_aald6N d7_becomes_63 tL (by omega) hpl1 ?_
        refine x_getI d7_becomes_64 f7_31 (hL k hkm).2.1.2.1 ?_ (hc := lncs (hL k hkm).2.2.1)
        refine x_top (congrArg Value.int (show I9 (la k) 1 = nI ((rs k).2.1) from (by rw [hF _ hlk1 hlk2]; exact (hL k hkm).2.1.2.2.2.1))) ?_
        have hk16_ := (hL k hkm).2.2.2.1
        refine x_1shlN d7_becomes_67 (by omega) ?_
        refine x_iorN d7_becomes_68 ?_
        refine x_iastN d7_becomes_69 htw (by omega) (fun I31 hI31 => ?_) (ha := (by omega))
        refine x_iincN (c := 1) d7_becomes_70 rfl (by decide) ?_
        refine x_goto 33 d7_becomes_73 (by decide) ?_
        exact ih b35 I31 (fun b h1 h2 => by rw [hI31, u2_row _ _ _ h2]; exact hF b h1 h2) (fun k hk => by rw [hI31, u2_row _ _ _ (by omega)]; exact h1_ k hk) (by rw [hI31, u2_row _ _ _ (by omega)]; exact h2_) (fun nm hnm => by
          rw [hI31, u2_at]
          by_cases en : nm = (rs k).2.2.1
          · rw [if_pos en, en, wsR_t b45 rfl (by omega)]
          · rw [if_neg en, wsR_f (fun q => en q.2.symm)]; exact hw9 nm hnm)
  have h12 : ∀ PX : Nat → Nat → Value, PX a 3 = .ref (a + 2) → (∀ k, k < m → PX L k = .ref (la k)) → ∀ k, k ≤ 8 → ∀ I9, (∀ b, b ≠ a → b ≠ a + 2 → I9 b = I b) → (∀ k, k ≠ 1 → I9 a k = I a k) → I9 a 1 = nI m → (∀ j, j < k → I9 (a + 2) j = nI 0) → RA G d M7_becomes 12 [.ref a, .ref L, .int (nI m), .int (nI k)] [] (t, I9, J, PX, n, sl) (fun o h' => o = .inl none ∧ ∃ I', h' = (t, I', J, PX, n, sl) ∧ (∀ b, b ≠ a → b ≠ a + 2 → I' b = I b) ∧ (∀ k, k ≠ 1 → I' a k = I a k) ∧ I' a 1 = nI m ∧ ∀ nm, nm < 8 → I' (a + 2) nm = nI (wsR rs m nm)) := by
    intro PX hpw1 hpl2
    refine up_ind ?_
    intro k hk_ ih I9 hF h1_ h2_ hz
    refine x_iload_n d7_becomes_12 rfl ?_
    refine x_bipush (v := nI 8) d7_becomes_13 (by decide) ?_
    refine x_icmp_geN 31 d7_becomes_15 (by decide) (by omega) (by omega) (fun b15 => ?_) (fun b15 => ?_)
    · refine x_iconst (v := nI 0) d7_becomes_31 (by decide) ?_
      refine x_istore_n d7_becomes_32 ?_
      exact h33 PX hpw1 hpl2 0 (Nat.zero_le _) I9 hF h1_ h2_ (fun nm hnm => by rw [wsR_0]; exact hz nm (by omega))
    · refine x_aload_n d7_becomes_18 rfl ?_
      refine x_getP d7_becomes_19 f7_17 hta hpw1 ?_
      refine x_iload_n d7_becomes_22 rfl ?_
      refine x_iconst (v := nI 0) d7_becomes_23 (by decide) ?_
      refine x_iastN d7_becomes_24 htw (by omega) (fun I11 hI11 => ?_) (ha := (by omega))
      refine x_iincN (c := 1) d7_becomes_25 rfl (by decide) ?_
      refine x_goto 12 d7_becomes_28 (by decide) ?_
      exact ih (by omega) I11 (fun b h1 h2 => by rw [hI11, u2_row _ _ _ h2]; exact hF b h1 h2) (fun k hk => by rw [hI11, u2_row _ _ _ (by omega)]; exact h1_ k hk) (by rw [hI11, u2_row _ _ _ (by omega)]; exact h2_) (fun j hj => by rw [hI11, u2_at]; split; rfl; exact hz j (by omega))
  refine x_aload_n d7_becomes_0 rfl ?_
  refine x_aload_n d7_becomes_1 rfl ?_
  refine x_putPE d7_becomes_2 p7_11 hta (fun P1 hP1 => ?_) (ha := (by omega))
  refine x_aload_n d7_becomes_5 rfl ?_
  refine x_iload_n d7_becomes_6 rfl ?_
  refine x_putIE d7_becomes_7 p7_21 hta (fun I2 hI2 => ?_) (ha := (by omega))
  refine x_iconst (v := nI 0) d7_becomes_10 (by decide) ?_
  refine x_istore_n d7_becomes_11 ?_
  have hpw1 : P1 a 3 = .ref (a + 2) := by rw [hP1, u2_ne _ _ (by decide)]; exact hpw
  have hpl2 : ∀ k, k < m → P1 L k = .ref (la k) := fun k hk => by rw [hP1, u2_row _ _ _ haL]; exact (hL k hk).1
  rw [← hP1]
  exact h12 P1 hpw1 hpl2 0 (Nat.zero_le _) I2 (fun b h1 _ => by rw [hI2, u2_row _ _ _ h1]) (fun k hk => by rw [hI2, u2_ne _ _ hk]) (by rw [hI2, u2_self]) (fun j hj => absurd hj (Nat.not_lt_zero _))
