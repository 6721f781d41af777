/-! ===== the rest of the state; the reference's whole picture; arguments as indices ===== -/
/-- meant (by secret, sets of doors); taped, tape; trouble, where, fault; steps; cured -/
abbrev Rs : Type := (Nat → Nat) × Nat × (Nat → Int32) × Nat × Int32 × Nat × Nat × (Nat → Nat) × Nat × (Nat → Nat)
def r_mt (ρ : Rs) : Nat → Nat := ρ.1
def r_td (ρ : Rs) : Nat := ρ.2.1
def r_tp (ρ : Rs) : Nat → Int32 := ρ.2.2.1
def r_tr (ρ : Rs) : Nat := ρ.2.2.2.1
def r_wh (ρ : Rs) : Int32 := ρ.2.2.2.2.1
def r_fa (ρ : Rs) : Nat := ρ.2.2.2.2.2.1
def r_sn (ρ : Rs) : Nat := ρ.2.2.2.2.2.2.1
def r_sp (ρ : Rs) : Nat → Nat := ρ.2.2.2.2.2.2.2.1
def r_cn (ρ : Rs) : Nat := ρ.2.2.2.2.2.2.2.2.1
def r_cd (ρ : Rs) : Nat → Nat := ρ.2.2.2.2.2.2.2.2.2
/-- trouble told, where gone -/
def rT (ρ : Rs) (k : Nat) : Rs := (r_mt ρ, r_td ρ, r_tp ρ, k, -1, r_fa ρ, r_sn ρ, r_sp ρ, r_cn ρ, r_cd ρ)
def RsOK (ρ : Rs) : Prop := (∀ s, s < 16 → r_mt ρ s < 65536) ∧ r_td ρ ≤ 300 ∧ r_tr ρ < 100 ∧ r_fa ρ < 100 ∧ r_sn ρ ≤ 92 ∧ r_cn ρ ≤ 10 ∧ (r_tr ρ ≠ 4 → r_wh ρ = -1)
/-- the reference's fields and arrays hold the rest -/
def MR (I : Nat → Nat → Int32) (ρ : Rs) : Prop := (∀ s, s < 16 → I 125 s = nI (r_mt ρ s)) ∧ I 122 15 = nI (r_td ρ) ∧ (∀ j, j < r_td ρ → I 132 j = r_tp ρ j) ∧ I 122 1 = nI (r_tr ρ) ∧ I 122 2 = r_wh ρ ∧ I 122 3 = nI (r_fa ρ) ∧ I 122 30 = nI (r_sn ρ) ∧ (∀ j, j < r_sn ρ → I 139 j = nI (r_sp ρ j)) ∧ I 122 34 = nI (r_cn ρ) ∧ ∀ j, j < r_cn ρ → I 141 j = nI (r_cd ρ j)
def MdS (I : Nat → Nat → Int32) (σ : Sg) (ρ : Rs) : Prop := SgOK σ ∧ RsOK ρ ∧ MP I σ ∧ MR I ρ
/-- nothing but scratch has changed -/
def MSm (I I' : Nat → Nat → Int32) : Prop := (∀ b, b ∉ [122, 133, 134, 135, 136, 137, 138, 140, 142] → I' b = I b) ∧ ∀ k, k ∉ [0, 16, 17, 18, 19, 20, 21] → I' 122 k = I 122 k
theorem MSm.rf (I : Nat → Nat → Int32) : MSm I I := ⟨fun _ _ => rfl, fun _ _ => rfl⟩
theorem MSm.trans {I1 I2 I3 : Nat → Nat → Int32} (h : MSm I1 I2) (h' : MSm I2 I3) : MSm I1 I3 := ⟨fun b hb => (h'.1 b hb).trans (h.1 b hb), fun k hk => (h'.2 k hk).trans (h.2 k hk)⟩
theorem MSm.mp {I I' : Nat → Nat → Int32} (h : MSm I I') {σ : Sg} (hM : MP I σ) : MP I' σ := by
  unfold MP
  rw [h.2 4 (by decide), h.1 123 (by decide), h.1 124 (by decide), h.1 126 (by decide), h.1 127 (by decide), h.1 128 (by decide), h.1 129 (by decide), h.1 130 (by decide)]
  exact hM
theorem MSm.mr {I I' : Nat → Nat → Int32} (h : MSm I I') {ρ : Rs} (hM : MR I ρ) : MR I' ρ := by
  unfold MR
  rw [h.2 15 (by decide), h.2 1 (by decide), h.2 2 (by decide), h.2 3 (by decide), h.2 30 (by decide), h.2 34 (by decide), h.1 125 (by decide), h.1 132 (by decide), h.1 139 (by decide), h.1 141 (by decide)]
  exact hM
theorem MSm.mds {I I' : Nat → Nat → Int32} (h : MSm I I') {σ : Sg} {ρ : Rs} (hM : MdS I σ ρ) : MdS I' σ ρ := ⟨hM.1, hM.2.1, h.mp hM.2.2.1, h.mr hM.2.2.2⟩
/-- thrown := 0 -/
theorem MSm.thr {I I' : Nat → Nat → Int32} {v : Int32} (hI : I' = u2 I 122 0 v) : MSm I I' := by
  refine ⟨fun b hb => by rw [hI, u2_row _ _ _ (fun e => hb (by rw [e]; decide))], fun k hk => ?_⟩
  rw [hI, u2_ne _ _ (fun e => hk (by rw [e]; decide))]
theorem MSm.wk {σ : Sg} {I I' : Nat → Nat → Int32} (h : WK σ I I') : MSm I I' :=
  ⟨fun b hb => h.1 b (fun e => hb (by simp only [List.mem_cons, List.not_mem_nil, or_false] at e ⊢; omega)), fun k _ => by rw [h.1 122 (by decide)]⟩
theorem MSm.ak {I I' : Nat → Nat → Int32} (h : ∀ b, b ∉ [137] → I' b = I b) : MSm I I' :=
  ⟨fun b hb => h b (fun e => hb (by simp only [List.mem_cons, List.not_mem_nil, or_false] at e ⊢; omega)), fun k _ => by rw [h 122 (by decide)]⟩
/-- outside the reference's cells nothing has changed -/
def MF (I I' : Nat → Nat → Int32) : Prop := ∀ b, b < 122 ∨ 142 < b → I' b = I b
def JF (J J' : Nat → Nat → Int64) : Prop := ∀ b, b ≠ 122 → J' b = J b
theorem MSm.mf {I I' : Nat → Nat → Int32} (h : MSm I I') : MF I I' := fun b hb => h.1 b (fun e => by simp only [List.mem_cons, List.not_mem_nil, or_false] at e; omega)
theorem MF.rf (I : Nat → Nat → Int32) : MF I I := fun _ _ => rfl
theorem MF.trans {I1 I2 I3 : Nat → Nat → Int32} (h : MF I1 I2) (h' : MF I2 I3) : MF I1 I3 := fun b hb => (h' b hb).trans (h b hb)
theorem MF.u {I I' : Nat → Nat → Int32} {a k : Nat} {v : Int32} (hI : I' = u2 I a k v) (ha : 122 ≤ a ∧ a ≤ 142) : MF I I' := fun b hb => by rw [hI, u2_row _ _ _ (by omega)]
theorem JF.rf (J : Nat → Nat → Int64) : JF J J := fun _ _ => rfl
/-- an argument as an index below n -/
def ixOf (v : Int32) (n : Nat) : Option Nat := if 0 ≤ v ∧ v < nI n then some v.toNatClampNeg else none
theorem ix_cases (v : Int32) {n : Nat} (hn : n < 2 ^ 31) : (¬ (0 ≤ v ∧ v < nI n) ∧ ixOf v n = none) ∨ ∃ p, p < n ∧ v = nI p ∧ (0 ≤ v ∧ v < nI n) ∧ ixOf v n = some p := by
  by_cases h : 0 ≤ v ∧ v < nI n
  · right
    obtain ⟨j, hj, e⟩ := nI_of (x := v) (Int32.not_lt.mpr h.1)
    have hjn : j < n := by
      have := h.2
      rw [e] at this
      exact (nI_ltI hj hn).mp this
    refine ⟨j, hjn, e, h, ?_⟩
    rw [ixOf, if_pos h, e, nI_clamp hj]
  · left
    exact ⟨h, if_neg h⟩
/-- an argument between 0 and m -/
theorem ix_le (v : Int32) {m : Nat} (hm : m < 2 ^ 31 - 1) : (0 ≤ v ∧ v ≤ nI m) ↔ (0 ≤ v ∧ v < nI (m + 1)) := by
  constructor
  · rintro ⟨h1, h2⟩
    obtain ⟨j, hj, rfl⟩ := nI_of (x := v) (Int32.not_lt.mpr h1)
    exact ⟨h1, (nI_ltI hj (by omega)).mpr (by have := (nI_leI hj (by omega)).mp h2; omega)⟩
  · rintro ⟨h1, h2⟩
    obtain ⟨j, hj, rfl⟩ := nI_of (x := v) (Int32.not_lt.mpr h1)
    exact ⟨h1, (nI_leI hj (by omega)).mpr (by have := (nI_ltI hj (by omega)).mp h2; omega)⟩
theorem b2i_congr {a b : Prop} [Decidable a] [Decidable b] (h : a ↔ b) : b2i a = b2i b := by
  unfold b2i
  by_cases ha : a
  · rw [if_pos ha, if_pos (h.mp ha)]
  · rw [if_neg ha, if_neg (fun z => ha (h.mpr z))]
/-- the contract of one of the reference's public methods -/
def MCon (G : GG) (d : Nat) (y : Mk) (av : List Value) (σ : Sg) (ρ : Rs) (r : Int32) (σ' : Sg) (ρ' : Rs) : Prop :=
  ∀ (t : Nat → Option (Nat × Nat)) (I : Nat → Nat → Int32) (J : Nat → Nat → Int64) (P : Nat → Nat → Value) (n sl : Nat), SH t P → MdS I σ ρ → n ≤ 601124 → sl ≤ 7293033 →
    CA G d y av (t, I, J, P, n, sl) (fun o h' => o = .inl (some (.int r)) ∧ ∃ I' J', h' = (t, I', J', P, n, sl) ∧ MdS I' σ' ρ' ∧ MF I I' ∧ JF J J' ∧ I' 122 0 = 0)
noncomputable def lk (σ : Sg) (s : Nat) : Nat := mk16 (fun d => Door σ d s)
noncomputable def dr (σ : Sg) (d : Nat) : Nat := mk16 (fun s => Door σ d s)
theorem lk_lt (σ : Sg) (s : Nat) : lk σ s < 65536 := mk16_lt _
theorem dr_lt (σ : Sg) (s : Nat) : dr σ s < 65536 := mk16_lt _
theorem lk_dr (σ : Sg) {s d : Nat} (hs : s < 16) (hd : d < 16) : (lk σ s).testBit d = (dr σ d).testBit s := by
  rw [Bool.eq_iff_iff, lk, dr, mk16_bit, mk16_bit]
  simp [hs, hd]
