/-! the house: trim -/
set_option maxRecDepth 100000
theorem trG_s (σ : Sg) (k : Nat) : upN (trG σ k) k (adf (s_gr σ k) (idl σ k)) = trG σ (k + 1) := by
  funext p
  unfold upN trG
  by_cases e : p = k
  · rw [if_pos e, if_pos (by omega), e]
  · rw [if_neg e]
    by_cases h : p < k
    · rw [if_pos h, if_pos (by omega)]
    · rw [if_neg h, if_neg (by omega)]
theorem trG_0 (σ : Sg) : trG σ 0 = s_gr σ := by funext p; unfold trG; rw [if_neg (Nat.not_lt_zero _)]
/-- while trim looks: what has changed -/
def TrM (I I9 : Nat → Nat → Int32) (n : Nat) (σ : Sg) (ρ : Rs) (p : Nat) : Prop := (∀ b, 144 ≤ b → b < n → I9 b = I b) ∧ I9 100 5 = I 100 5 ∧ HdR I9 ρ ∧ HdF I9 σ ∧ HF4 I I9 ∧ ∀ j, j < p → I9 n j = nI (idl σ j)
theorem TrM.hp {t t' : Nat → Option (Nat × Nat)} {I I' I9 : Nat → Nat → Int32} {J J' : Nat → Nat → Int64} {P P' : Nat → Nat → Value} {n n' : Nat} {σ : Sg} {ρ : Rs} {y : Lay} {p : Nat} (h : TrM I I9 n σ ρ p) (g : Gw t I J P n t' I' J' P' n') (hn : 144 ≤ n) (hT : TyB t n) (hP : HP t I P σ y) : HP t' I9 P' σ y :=
  hP.ext h.2.1 (g.p 106 (by omega)) g.ty (fun a tg ha h144 => h.1 a h144 (hT a tg ha)) (fun a tg ha _ => g.p a (hT a tg ha))
theorem TrM.step {I I9 I8 I7 : Nat → Nat → Int32} {n : Nat} {σ : Sg} {ρ : Rs} {p : Nat} (h : TrM I I9 n σ ρ p) (hn : 144 ≤ n) (hs : HSm I9 I8) (hf : Fwn I8 σ) (e : I7 = u2 I8 n p (nI (idl σ p))) : TrM I I7 n σ ρ (p + 1) := by
  obtain ⟨h1, h2, h3, h4, h5, h6⟩ := h
  have hb : ∀ b, 144 ≤ b → I8 b = I9 b := fun b hb => hs.1 b (fun e => by simp only [List.mem_cons, List.not_mem_nil, or_false] at e; omega)
  have hr : ∀ b, b < 144 → I7 b = I8 b := fun b hb => by rw [e, u2_row _ _ _ (by omega)]
  refine ⟨fun b a c => ?_, ?_, ?_, hf.f.keep (by rw [hr 100 (by decide)]) (fun b hb => hr b (by simp only [List.mem_cons, List.not_mem_nil, or_false] at hb; omega)), fun b hb => ?_, fun j hj => ?_⟩
  · rw [e, u2_row _ _ _ (by omega), hb b a]; exact h1 b a c
  · rw [hr 100 (by decide), hs.2 5 (by decide)]; exact h2
  · have := hs.hr h3
    unfold HdR at this ⊢
    rw [hr 100 (by decide), hr 101 (by decide), hr 107 (by decide), hr 118 (by decide), hr 120 (by decide)]
    exact this
  · rw [hr b (by omega), hs.fq b (by omega)]; exact h5 b hb
  · rw [e, u2_at]
    by_cases ej : j = p
    · rw [if_pos ej, ej]
    · rw [if_neg ej, hb n hn]; exact h6 j (by omega)
/-- while trim writes -/
def TrW (t : Nat → Option (Nat × Nat)) (P : Nat → Nat → Value) (I I7 : Nat → Nat → Int32) (n : Nat) (σ : Sg) (ρ : Rs) (y : Lay) (p : Nat) : Prop := HP t I7 P (sGr σ (trG σ p)) y ∧ HdR I7 ρ ∧ HF4 I I7 ∧ ∀ j, j < s_np σ → I7 n j = nI (idl σ j)
theorem TrW.step {t : Nat → Option (Nat × Nat)} {P : Nat → Nat → Value} {I I7 I6 : Nat → Nat → Int32} {n : Nat} {σ : Sg} {ρ : Rs} {y : Lay} {p : Nat} (h : TrW t P I I7 n σ ρ y p) (hp : p < s_np σ) (hyn : y.1 p ≠ n) (e : I6 = u2 I7 (y.1 p) 0 (nI (adf (s_gr σ p) (idl σ p)))) : TrW t P I I6 n σ ρ y (p + 1) := by
  obtain ⟨h1, h2, h3, h4⟩ := h
  have h144 := h1.ge (p := p) hp
  have hr : ∀ b, b < 144 → I6 b = I7 b := fun b hb => by rw [e, u2_row _ _ _ (by omega)]
  refine ⟨?_, ?_, fun b hb => by rw [hr b (by omega)]; exact h3 b hb, fun j hj => by rw [e, u2_row _ _ _ (fun z => hyn z.symm)]; exact h4 j hj⟩
  · have := h1.put0 (p := p) (g := adf (s_gr σ p) (idl σ p)) hp e
    rw [← trG_s]; exact this
  · unfold HdR at h2 ⊢
    rw [hr 100 (by decide), hr 101 (by decide), hr 107 (by decide), hr 118 (by decide), hr 120 (by decide)]
    exact h2
set_option maxHeartbeats 4000000 in
theorem h_trim (G : GG) (d : Nat)  (σ : Sg) (ρ : Rs) : HCon G (d + 8) M1_trim [.ref 100] σ ρ (nI (nTrim σ)) (sTrim σ) ρ 1 10 := by
  intro t I J P n sl hS hD hT hn hB0 hSl0
  have hB : n ≤ 601124 := by omega
  have hSl : sl ≤ 7293033 := by omega
  have hσ := hD.1
  have hρ := hD.2.1
  obtain ⟨y, hP⟩ := hD.2.2.1
  have hR := hD.2.2.2.1
  have hF := hD.2.2.2.2
  have hnp := hσ.1
  refine CA.w ?_
  show RA _ _ M1_trim 0 [.ref 100, U0, U0, U0] [] _ _
  refine x_iconst (v := nI 0) d1_trim_0 (by decide) ?_
  refine x_istore_n d1_trim_1 ?_
  refine x_bipush (v := nI 10) d1_trim_2 (by decide) ?_
  refine x_newarrE (k := 0) d1_trim_4 (lw_g (lw_at lw_m1 150 rfl) rfl) rfl (by decide) (by omega) (by omega) (fun t1 I1 J1 P1 ht1 hI1 hJ1 hP1 => ?_)
  have gw := (Gw.rf (I := I) (J := J) (P := P) hT).new ht1 hI1 hJ1 hP1
  have hS1 := gw.sh hn hS
  have htn : t1 n = some (100, 10) := by rw [ht1, p1_self]
  refine x_astore_n d1_trim_6 ?_
  refine x_iconst (v := nI 0) d1_trim_7 (by decide) ?_
  refine x_istore_n d1_trim_8 ?_
  have h33 : ∀ p, p ≤ s_np σ → ∀ I7, TrW t1 P1 I I7 n σ ρ y p → RA G (d + 8) M1_trim 33 [.ref 100, .int (nI (sumN p (fun p => pop (idl σ p)))), .ref n, .int (nI p)] [] (t1, I7, J1, P1, n + 1, sl + 10) (fun o h' => o = .inl (some (.int (nI (nTrim σ)))) ∧ HCn t (sTrim σ) ρ 1 10 I J n sl h') := by
    refine up_ind ?_
    intro p hp_ ih I7 hW
    refine x_iload_n d1_trim_33 rfl ?_
    refine x_aload_n d1_trim_34 rfl ?_
    refine x_getI d1_trim_35 f1_73 (hS1.T rfl) ?_
    refine x_top (congrArg Value.int (show I7 100 5 = nI (s_np σ) from hW.1.1)) ?_
    refine x_icmp_geN 75 d1_trim_38 (by decide) (by omega) (by omega) (fun b38 => ?_) (fun b38 => ?_)
    · refine x_aload_n d1_trim_75 rfl ?_
      refine x_iconst (v := nI 0) d1_trim_76 (by decide) ?_
      refine x_putIE d1_trim_77 p1_80 (hS1.T rfl) (fun I11 hI11 => ?_)
      refine x_iload_n d1_trim_80 rfl ?_
      refine x_ireturn d1_trim_81 ?_
      have hpe : p = s_np σ := by omega
      subst hpe
      have hr : ∀ b, b ≠ 100 → I11 b = I7 b := fun b hb => by rw [hI11, u2_row _ _ _ hb]
      have hf : ∀ k, k ≠ 8 → I11 100 k = I7 100 k := fun k hk => by rw [hI11, u2_ne _ _ hk]
      refine ⟨rfl, _, I11, _, _, n + 1, sl + 10, rfl, hS1, ⟨hσ.gr' (fun q hq => trG_lt hσ hq), hρ, ⟨y, hW.1.fr (hf 5 (by decide)) (fun b hb => hr b (by omega))⟩, ?_, ⟨0, by decide, by rw [hI11, u2_self], fun e => absurd e (by decide)⟩⟩, gw.b, by omega, by omega, by omega, by omega, fun b hb => by rw [hr b (by omega)]; exact hW.2.2.1 b hb, (gw.f4 hn).2, gw.ty⟩
      have h2 := hW.2.1
      unfold HdR at h2 ⊢
      rw [hf 1 (by decide), hf 10 (by decide), hf 12 (by decide), hf 11 (by decide), hf 15 (by decide), hf 20 (by decide), hr 101 (by decide), hr 107 (by decide), hr 118 (by decide), hr 120 (by decide)]
      exact h2
    · refine x_iload_n d1_trim_41 rfl ?_
      refine x_aload_n d1_trim_42 rfl ?_
      refine x_iload_n d1_trim_43 rfl ?_
      refine x_ialdN d1_trim_44 htn (by omega) ?_
      refine x_top (congrArg Value.int (show I7 n p = nI (idl σ p) from (hW.2.2.2 p b38))) ?_
      have hil : idl σ p < 65536 := adf_lt (hσ.gr b38)
      refine x_invS 1 d1_trim_45 s1_174 (h_ones G _ _ (idl σ p) hil) (Cont.p ?_) (hB := by show n + 1 ≤ 601124; omega) (hS := by show sl + 10 ≤ 7293033; omega)
      refine x_iaddN d1_trim_48 ?_
      refine x_istore_n d1_trim_49 ?_
      refine x_aload_n d1_trim_50 rfl ?_
      refine x_getP d1_trim_51 f1_24 (hS1.T rfl) (hS1.P rfl) ?_
      refine x_iload_n d1_trim_54 rfl ?_
      refine x_aald5N d1_trim_55 (hS1.T rfl) (by omega) (hW.1.at_ (p := p) b38) ?_
      refine x_dup d1_trim_56 rfl ?_
      refine x_getI d1_trim_57 f1_100 (hW.1.ty (p := p) b38) ?_
      refine x_top (congrArg Value.int (show I7 (y.1 p) 0 = nI (s_gr σ p) from ((hW.1.gr (p := p) b38).trans (show nI (trG σ p p) = nI (s_gr σ p) by unfold trG; rw [if_neg (Nat.lt_irrefl _)])))) ?_
      have hgr_ := hσ.gr b38
      refine x_aload_n d1_trim_60 rfl ?_
      refine x_iload_n d1_trim_61 rfl ?_
      refine x_ialdN d1_trim_62 htn (by omega) ?_
      refine x_top (congrArg Value.int (show I7 n p = nI (idl σ p) from (hW.2.2.2 p b38))) ?_
      have hil : idl σ p < 65536 := adf_lt (hσ.gr b38)
      refine x_iconst (v := -1) d1_trim_63 (by decide) ?_
      refine x_ixor d1_trim_64 ?_
      refine x_andnN d1_trim_65 (by omega) ?_
      refine x_putIE d1_trim_66 p1_100 (hW.1.ty (p := p) b38) (fun I12 hI12 => ?_) (ha := (by have := hW.1.ge (p := p) b38; omega))
      refine x_iincN (c := 1) d1_trim_69 rfl (by decide) ?_
      refine x_goto 33 d1_trim_72 (by decide) ?_
      exact ih (by omega) I12 (hW.step b38 (hT.ne (hP.ty b38)) hI12)
  have h9 : ∀ p, p ≤ s_np σ → ∀ I9, TrM I I9 n σ ρ p → RA G (d + 8) M1_trim 9 [.ref 100, .int (nI 0), .ref n, .int (nI p)] [] (t1, I9, J1, P1, n + 1, sl + 10) (fun o h' => o = .inl (some (.int (nI (nTrim σ)))) ∧ HCn t (sTrim σ) ρ 1 10 I J n sl h') := by
    refine up_ind ?_
    intro p hp_ ih I9 hM
    refine x_iload_n d1_trim_9 rfl ?_
    refine x_aload_n d1_trim_10 rfl ?_
    refine x_getI d1_trim_11 f1_73 (hS1.T rfl) ?_
    refine x_top (congrArg Value.int (show I9 100 5 = nI (s_np σ) from (hM.hp gw hn hT hP).1)) ?_
    refine x_icmp_geN 31 d1_trim_14 (by decide) (by omega) (by omega) (fun b14 => ?_) (fun b14 => ?_)
    · refine x_iconst (v := nI 0) d1_trim_31 (by decide) ?_
      refine x_istore_n d1_trim_32 ?_
      have hpe : p = s_np σ := by omega
      subst hpe
      exact h33 0 (Nat.zero_le _) I9 ⟨by rw [trG_0]; exact hM.hp gw hn hT hP, hM.2.2.1, hM.2.2.2.2.1, hM.2.2.2.2.2⟩
    · refine x_aload_n d1_trim_17 rfl ?_
      refine x_iload_n d1_trim_18 rfl ?_
      refine x_aload_n d1_trim_19 rfl ?_
      refine x_iload_n d1_trim_20 rfl ?_
      refine x_invV 100 1 d1_trim_21 (hS1.T rfl) v1_225_1 (h_idleC _ hS1 hσ (hM.hp gw hn hT hP) hM.2.2.2.1 (p := p) b14 (by omega) (by omega)) ?_ (hB := by show n + 1 ≤ 601124; omega) (hS := by show sl + 10 ≤ 7293033; omega)
      rintro o h' ⟨rfl, I8, rfl, hs8, hf8⟩
      show RA _ _ _ _ _ [_, _, _] _ _
      refine x_iastN d1_trim_24 htn (by omega) (fun I11 hI11 => ?_) (ha := (by omega))
      refine x_iincN (c := 1) d1_trim_25 rfl (by decide) ?_
      refine x_goto 9 d1_trim_28 (by decide) ?_
      exact ih (by omega) I11 (hM.step hn hs8 hf8 hI11)
  exact h9 0 (Nat.zero_le _) I1 ⟨fun b a c => gw.i b c, by rw [gw.i 100 (by omega)], by
    unfold HdR
    rw [gw.i 100 (by omega), gw.i 101 (by omega), gw.i 107 (by omega), gw.i 118 (by omega), gw.i 120 (by omega)]
    exact hR, hF.keep (by rw [gw.i 100 (by omega)]) (fun b hb => gw.i b (by simp only [List.mem_cons, List.not_mem_nil, or_false] at hb; omega)), (gw.f4 hn).1, fun j hj => absurd hj (Nat.not_lt_zero _)⟩
