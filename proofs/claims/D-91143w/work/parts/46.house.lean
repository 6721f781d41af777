/-! ===== the house's whole picture ===== -/
/-- sets by door out of sets by secret -/
noncomputable def trp (m : Nat → Nat) (d : Nat) : Nat := mk16 (fun s => (m s).testBit d = true)
theorem trp_lt (m : Nat → Nat) (d : Nat) : trp m d < 65536 := mk16_lt _
theorem trp_bit {m : Nat → Nat} {d s : Nat} (hs : s < 16) : (trp m d).testBit s = (m s).testBit d := by
  rw [Bool.eq_iff_iff, trp, mk16_bit]; simp [hs]
def HdR (I : Nat → Nat → Int32) (ρ : Rs) : Prop := I 100 1 = nI (r_td ρ) ∧ (∀ j, j < r_td ρ → I 101 j = r_tp ρ j) ∧ (∀ d, d < 16 → I 107 d = nI (trp (r_mt ρ) d)) ∧ I 100 10 = nI (r_tr ρ) ∧ (r_tr ρ = 4 → I 100 12 = r_wh ρ) ∧ I 100 11 = nI (r_fa ρ) ∧ I 100 15 = nI (r_sn ρ) ∧ (∀ j, j < r_sn ρ → I 118 j = nI (r_sp ρ j)) ∧ I 100 20 = nI (r_cn ρ) ∧ ∀ j, j < r_cn ρ → I 120 j = nI (r_cd ρ j)
def HdF (I : Nat → Nat → Int32) (σ : Sg) : Prop := ∃ fl, fl ≤ 1 ∧ I 100 8 = nI fl ∧ (fl = 1 → FlR I 108 (fin7 σ))
def HdS (t : Nat → Option (Nat × Nat)) (I : Nat → Nat → Int32) (P : Nat → Nat → Value) (σ : Sg) (ρ : Rs) : Prop := SgOK σ ∧ RsOK ρ ∧ (∃ y, HP t I P σ y) ∧ HdR I ρ ∧ HdF I σ
/-- nothing but scratch has changed -/
def HSm (I I' : Nat → Nat → Int32) : Prop := (∀ b, b ∉ [100, 108, 109, 110, 111, 112, 113, 114, 115, 117, 119, 121] → I' b = I b) ∧ ∀ k, k ∉ [8, 19] → I' 100 k = I 100 k
theorem HSm.rf (I : Nat → Nat → Int32) : HSm I I := ⟨fun _ _ => rfl, fun _ _ => rfl⟩
theorem HSm.trans {I1 I2 I3 : Nat → Nat → Int32} (h : HSm I1 I2) (h' : HSm I2 I3) : HSm I1 I3 := ⟨fun b hb => (h'.1 b hb).trans (h.1 b hb), fun k hk => (h'.2 k hk).trans (h.2 k hk)⟩
theorem HSm.u {I I' : Nat → Nat → Int32} {a k : Nat} {v : Int32} (hI : I' = u2 I a k v) (ha : a ∈ [108, 109, 110, 111, 112, 113, 114, 115, 117, 119, 121]) : HSm I I' :=
  ⟨fun b hb => by rw [hI, u2_row _ _ _ (fun e => hb (by rw [e]; simp only [List.mem_cons, List.not_mem_nil, or_false] at ha ⊢; omega))], fun j _ => by rw [hI, u2_row _ _ _ (fun e => by rw [← e] at ha; revert ha; decide)]⟩
theorem HSm.c {I I' : Nat → Nat → Int32} {k : Nat} {v : Int32} (hI : I' = u2 I 100 k v) (hk : k ∈ [8, 19]) : HSm I I' :=
  ⟨fun b hb => by rw [hI, u2_row _ _ _ (fun e => hb (by rw [e]; decide))], fun j hj => by rw [hI, u2_ne _ _ (fun e => hj (by rw [e]; exact hk))]⟩
theorem HSm.hp {t : Nat → Option (Nat × Nat)} {I I' : Nat → Nat → Int32} {P : Nat → Nat → Value} {σ : Sg} {y : Lay} (h : HSm I I') (hP : HP t I P σ y) : HP t I' P σ y :=
  hP.fr (h.2 5 (by decide)) (fun b hb => h.1 b (fun e => by simp only [List.mem_cons, List.not_mem_nil, or_false] at e; omega))
theorem HSm.hr {I I' : Nat → Nat → Int32} {ρ : Rs} (h : HSm I I') (hR : HdR I ρ) : HdR I' ρ := by
  unfold HdR
  rw [h.2 1 (by decide), h.2 10 (by decide), h.2 12 (by decide), h.2 11 (by decide), h.2 15 (by decide), h.2 20 (by decide), h.1 101 (by decide), h.1 107 (by decide), h.1 118 (by decide), h.1 120 (by decide)]
  exact hR
/-- outside the house's static cells nothing has changed -/
def HFq (I I' : Nat → Nat → Int32) : Prop := ∀ b, b < 100 ∨ 122 ≤ b → I' b = I b
theorem HSm.fq {I I' : Nat → Nat → Int32} (h : HSm I I') : HFq I I' := fun b hb => h.1 b (fun e => by simp only [List.mem_cons, List.not_mem_nil, or_false] at e; omega)
theorem HFq.trans {I1 I2 I3 : Nat → Nat → Int32} (h : HFq I1 I2) (h' : HFq I2 I3) : HFq I1 I3 := fun b hb => (h' b hb).trans (h b hb)
theorem HFq.u {I I' : Nat → Nat → Int32} {a k : Nat} {v : Int32} (hI : I' = u2 I a k v) (ha : 100 ≤ a ∧ a < 122) : HFq I I' := fun b hb => by rw [hI, u2_row _ _ _ (by omega)]
/-- flown -/
def Fwn (I : Nat → Nat → Int32) (σ : Sg) : Prop := I 100 8 = nI 1 ∧ FlR I 108 (fin7 σ)
theorem Fwn.f {I : Nat → Nat → Int32} {σ : Sg} (h : Fwn I σ) : HdF I σ := ⟨1, by decide, h.1, fun _ => h.2⟩
theorem Fwn.keep {I I' : Nat → Nat → Int32} {σ : Sg} (h : Fwn I σ) (h8 : I' 100 8 = I 100 8) (hr : ∀ b, b ∈ [108, 110, 111] → I' b = I b) : Fwn I' σ := by
  refine ⟨h8.trans h.1, ?_, ?_, ?_⟩
  · rw [hr (108 + 2) (by decide)]; exact h.2.1
  · rw [hr (108 + 3) (by decide)]; exact h.2.2.1
  · rw [hr 108 (by decide)]; exact h.2.2.2
theorem HdF.keep {I I' : Nat → Nat → Int32} {σ : Sg} (h : HdF I σ) (h8 : I' 100 8 = I 100 8) (hr : ∀ b, b ∈ [108, 110, 111] → I' b = I b) : HdF I' σ := by
  obtain ⟨fl, h1, h2, h3⟩ := h
  refine ⟨fl, h1, h8.trans h2, fun e => ⟨?_, ?_, ?_⟩⟩
  · rw [hr (108 + 2) (by decide)]; exact (h3 e).1
  · rw [hr (108 + 3) (by decide)]; exact (h3 e).2.1
  · rw [hr 108 (by decide)]; exact (h3 e).2.2
theorem HSm.hds {t : Nat → Option (Nat × Nat)} {I I' : Nat → Nat → Int32} {P : Nat → Nat → Value} {σ : Sg} {ρ : Rs} (h : HSm I I') (hf : Fwn I' σ) (hD : HdS t I P σ ρ) : HdS t I' P σ ρ :=
  ⟨hD.1, hD.2.1, by obtain ⟨y, hP⟩ := hD.2.2.1; exact ⟨y, h.hp hP⟩, h.hr hD.2.2.2.1, hf.f⟩
/-- a question to the house -/
def HQ (G : GG) (d : Nat) (y : Mk) (av : List Value) (σ : Sg) (ρ : Rs) (r : Int32) (σ' : Sg) (ρ' : Rs) : Prop :=
  ∀ (t : Nat → Option (Nat × Nat)) (I : Nat → Nat → Int32) (J : Nat → Nat → Int64) (P : Nat → Nat → Value) (n sl : Nat), SH t P → HdS t I P σ ρ → n ≤ 601124 → sl ≤ 7293033 →
    CA G d y av (t, I, J, P, n, sl) (fun o h' => o = .inl (some (.int r)) ∧ ∃ I', h' = (t, I', J, P, n, sl) ∧ HdS t I' P σ' ρ' ∧ HFq I I')
theorem fin7_congr {σ : Sg} {g g' : Nat → Nat} (h : ∀ p, p < s_np σ → g p = g' p) (q : Nat) : fin7 (sGr σ g) q = fin7 (sGr σ g') q := by
  unfold fin7
  split
  · exact mk16_congr (fun s _ => held_congr h q s)
  · split
    · exact dr_congr h _
    · rfl
theorem fin7_gr {σ : Sg} {g : Nat → Nat} (h : ∀ p, p < s_np σ → g p = s_gr σ p) (q : Nat) : fin7 (sGr σ g) q = fin7 σ q := fin7_congr (g' := s_gr σ) h q
theorem fin7_lt (σ : Sg) (q : Nat) : fin7 σ q < 65536 := by
  unfold fin7; split
  · exact mk16_lt _
  · split
    · exact dr_lt σ _
    · have := askB_lt σ; omega
theorem fin7_h {σ : Sg} {q : Nat} (h : q < 90) : fin7 σ q = mk16 (Held σ q) := if_pos h
theorem fin7_d {σ : Sg} {d : Nat} (h : d < 16) : fin7 σ (90 + d) = dr σ d := by unfold fin7; rw [if_neg (by omega), if_pos (by omega), Nat.add_sub_cancel_left]
theorem fin7_a (σ : Sg) : fin7 σ 106 = askB σ := by unfold fin7; rw [if_neg (by decide), if_neg (by decide)]
/-- but the flow object's cells nothing has changed -/
def FlG (f : Nat) (I I' : Nat → Nat → Int32) : Prop := (∀ b, b ≠ f → b ≠ f + 2 → b ≠ f + 3 → I' b = I b) ∧ ∀ k, k ≠ 4 → k ≠ 5 → I' f k = I f k
theorem FlF.g {f : Nat} {I I' : Nat → Nat → Int32} (h : FlF f I I') : FlG f I I' := ⟨h.1, fun k a _ => h.2 k a⟩
theorem FlG.trans {f : Nat} {I1 I2 I3 : Nat → Nat → Int32} (h : FlG f I1 I2) (h' : FlG f I2 I3) : FlG f I1 I3 := ⟨fun b a c d => (h'.1 b a c d).trans (h.1 b a c d), fun k a b => (h'.2 k a b).trans (h.2 k a b)⟩
theorem FlG.u {f k : Nat} {I I' : Nat → Nat → Int32} {v : Int32} (hI : I' = u2 I f k v) (hk : k = 4 ∨ k = 5) : FlG f I I' := ⟨fun b c _ _ => by rw [hI, u2_row _ _ _ c], fun j a b => by rw [hI, u2_ne _ _ (by omega)]⟩
theorem FlG.hp {t : Nat → Option (Nat × Nat)} {P : Nat → Nat → Value} {f : Nat} {I I' : Nat → Nat → Int32} (h : FlG f I I') (hf : FlT t P f) {σ : Sg} {y : Lay} (hP : HP t I P σ y) : HP t I' P σ y := by
  obtain ⟨-, -, -, -, -, -, -, -, h1, h2⟩ := hf
  exact hP.fr (by rw [h.1 100 (by omega) (by omega) (by omega)]) (fun b hb => h.1 b (by omega) (by omega) (by omega))
