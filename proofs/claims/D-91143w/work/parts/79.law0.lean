/-! ===== the law: both sides in one memory ===== -/
theorem HdS.mf {t : Nat → Option (Nat × Nat)} {I I' : Nat → Nat → Int32} {P : Nat → Nat → Value} {σ : Sg} {ρ : Rs} (h : HdS t I P σ ρ) (hF : MF I I') : HdS t I' P σ ρ := by
  obtain ⟨h1, h2, ⟨y, hP⟩, h4, h5⟩ := h
  refine ⟨h1, h2, ⟨y, hP.fr (by rw [hF 100 (by omega)]) (fun b hb => hF b (by omega))⟩, ?_, h5.keep (by rw [hF 100 (by omega)]) (fun b hb => hF b (by simp only [List.mem_cons, List.not_mem_nil, or_false] at hb; omega))⟩
  unfold HdR
  rw [hF 100 (by omega), hF 101 (by omega), hF 107 (by omega), hF 118 (by omega), hF 120 (by omega)]
  exact h4
theorem MdS.hf {I I' : Nat → Nat → Int32} {σ : Sg} {ρ : Rs} (h : MdS I σ ρ) (hF : HF4 I I') : MdS I' σ ρ := by
  obtain ⟨h1, h2, h3, h4⟩ := h
  have r : ∀ b, 122 ≤ b → b < 144 → I' b = I b := fun b a c => hF b (Or.inr ⟨a, c⟩)
  refine ⟨h1, h2, ?_, ?_⟩
  · unfold MP
    rw [r 122 (by decide) (by decide), r 123 (by decide) (by decide), r 124 (by decide) (by decide), r 126 (by decide) (by decide), r 127 (by decide) (by decide), r 128 (by decide) (by decide), r 129 (by decide) (by decide), r 130 (by decide) (by decide)]
    exact h3
  · unfold MR
    rw [r 122 (by decide) (by decide), r 125 (by decide) (by decide), r 132 (by decide) (by decide), r 139 (by decide) (by decide), r 141 (by decide) (by decide)]
    exact h4
/-- where the law stands: the house holds σ ρ, the reference σ2 ρ2; the script lies at 63 -/
def LwS (len : Nat) (sc : Nat → Int32) (t : Nat → Option (Nat × Nat)) (I : Nat → Nat → Int32) (P : Nat → Nat → Value) (n : Nat) (σ : Sg) (ρ : Rs) (σ2 : Sg) (ρ2 : Rs) : Prop := SH t P ∧ CSt t I P ∧ HdS t I P σ ρ ∧ MdS I σ2 ρ2 ∧ TyB t n ∧ 144 ≤ n ∧ t 63 = some (100, len) ∧ ∀ j, j < len → I 63 j = sc j
/-- the house has answered -/
theorem LwS.h {len : Nat} {sc : Nat → Int32} {t : Nat → Option (Nat × Nat)} {I : Nat → Nat → Int32} {J : Nat → Nat → Int64} {P : Nat → Nat → Value} {n sl : Nat} {σ σ' σ2 : Sg} {ρ ρ' ρ2 : Rs} {c1 c2 : Nat} {h' : AH} (h : LwS len sc t I P n σ ρ σ2 ρ2) (hc : HCn t σ' ρ' c1 c2 I J n sl h') : ∃ t' I' J' P' n' sl', h' = (t', I', J', P', n', sl') ∧ LwS len sc t' I' P' n' σ' ρ' σ2 ρ2 ∧ n ≤ n' ∧ n' ≤ n + c1 ∧ sl ≤ sl' ∧ sl' ≤ sl + c2 ∧ JF4 J J' := by
  obtain ⟨a1, a2, a3, a4, a5, a6, a7, a8⟩ := h
  obtain ⟨t', I', J', P', n', sl', rfl, b1, b2, b3, b4, b5, b6, b7, b8, b9, b10⟩ := hc
  exact ⟨t', I', J', P', n', sl', rfl, ⟨b1, a2.sh b1 (fun b hb => b8 b (by omega)), b2, a4.hf b8, b3, by omega, b10 _ _ a7, fun j hj => by rw [b8 63 (by omega)]; exact a8 j hj⟩, b4, b5, b6, b7, b9⟩
/-- the reference has answered -/
theorem LwS.m {len : Nat} {sc : Nat → Int32} {t : Nat → Option (Nat × Nat)} {I I' : Nat → Nat → Int32} {P : Nat → Nat → Value} {n : Nat} {σ σ2 σ' : Sg} {ρ ρ2 ρ' : Rs} (h : LwS len sc t I P n σ ρ σ2 ρ2) (hD : MdS I' σ' ρ') (hF : MF I I') : LwS len sc t I' P n σ ρ σ' ρ' := by
  obtain ⟨a1, a2, a3, a4, a5, a6, a7, a8⟩ := h
  exact ⟨a1, a2.sh a1 (fun b hb => hF b (by omega)), a3.mf hF, hD, a5, a6, a7, fun j hj => by rw [hF 63 (by omega)]; exact a8 j hj⟩
