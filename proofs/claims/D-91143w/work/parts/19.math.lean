/-! ===== the mathematical state: parts, grants, lines (rows 12 p + k) ===== -/
/-- parts; of part p: grants, lines; of row l: kind, number, first, second (of ask); from (4 l + i) -/
abbrev Sg : Type := Nat × (Nat → Nat) × (Nat → Nat) × (Nat → Nat) × (Nat → Nat) × (Nat → Nat) × (Nat → Nat) × (Nat → Nat)
def s_np (σ : Sg) : Nat := σ.1
def s_gr (σ : Sg) : Nat → Nat := σ.2.1
def s_ln (σ : Sg) : Nat → Nat := σ.2.2.1
def s_kk (σ : Sg) : Nat → Nat := σ.2.2.2.1
def s_nu (σ : Sg) : Nat → Nat := σ.2.2.2.2.1
def s_fs (σ : Sg) : Nat → Nat := σ.2.2.2.2.2.1
def s_sc (σ : Sg) : Nat → Nat := σ.2.2.2.2.2.2.1
def s_fr (σ : Sg) : Nat → Nat := σ.2.2.2.2.2.2.2
def LnOK (σ : Sg) (l : Nat) : Prop := s_kk σ l ≤ 5 ∧ s_nu σ l < 16 ∧ s_fs σ l < 8 ∧ (s_kk σ l = 1 → 1 ≤ s_nu σ l ∧ s_nu σ l ≤ 4) ∧ (s_kk σ l = 2 → s_nu σ l < s_np σ ∧ s_sc σ l < 8) ∧ (s_kk σ l = 5 → s_nu σ l = 0) ∧ (s_kk σ l = 1 → ∀ i, i < s_nu σ l → s_fr σ (4 * l + i) < 8)
def SgOK (σ : Sg) : Prop := s_np σ ≤ 10 ∧ ∀ p, p < s_np σ → s_gr σ p < 65536 ∧ s_ln σ p ≤ 12 ∧ ∀ k, k < s_ln σ p → LnOK σ (12 * p + k)
theorem SgOK.gr {σ : Sg} (h : SgOK σ) {p : Nat} (hp : p < s_np σ) : s_gr σ p < 65536 := (h.2 p hp).1
theorem SgOK.ln {σ : Sg} (h : SgOK σ) {p : Nat} (hp : p < s_np σ) : s_ln σ p ≤ 12 := (h.2 p hp).2.1
theorem SgOK.row {σ : Sg} (h : SgOK σ) {p k : Nat} (hp : p < s_np σ) (hk : k < s_ln σ p) : LnOK σ (12 * p + k) := (h.2 p hp).2.2 k hk
/-- what line(.., 3) tells -/
def secv (σ : Sg) (l : Nat) : Int32 := if s_kk σ l = 1 then nI (s_fr σ (4 * l)) else if s_kk σ l = 2 then nI (s_sc σ l) else -1
/-- the reference's arrays hold the state -/
def MP (I : Nat → Nat → Int32) (σ : Sg) : Prop := I 122 4 = nI (s_np σ) ∧ ∀ p, p < s_np σ → I 123 p = nI (s_gr σ p) ∧ I 124 p = nI (s_ln σ p) ∧ ∀ k, k < s_ln σ p → I 126 (12 * p + k) = nI (s_kk σ (12 * p + k)) ∧ I 127 (12 * p + k) = nI (s_nu σ (12 * p + k)) ∧ I 128 (12 * p + k) = nI (s_fs σ (12 * p + k)) ∧ I 129 (12 * p + k) = secv σ (12 * p + k) ∧ (s_kk σ (12 * p + k) = 1 → ∀ i, i < s_nu σ (12 * p + k) → I 130 (4 * (12 * p + k) + i) = nI (s_fr σ (4 * (12 * p + k) + i)))
section MPs
variable {I : Nat → Nat → Int32} {σ : Sg} {p k : Nat}
theorem MP.np (h : MP I σ) : I 122 4 = nI (s_np σ) := h.1
theorem MP.gr (h : MP I σ) (hp : p < s_np σ) : I 123 p = nI (s_gr σ p) := (h.2 p hp).1
theorem MP.ln (h : MP I σ) (hp : p < s_np σ) : I 124 p = nI (s_ln σ p) := (h.2 p hp).2.1
theorem MP.kk (h : MP I σ) (hp : p < s_np σ) (hk : k < s_ln σ p) : I 126 (12 * p + k) = nI (s_kk σ (12 * p + k)) := ((h.2 p hp).2.2 k hk).1
theorem MP.nu (h : MP I σ) (hp : p < s_np σ) (hk : k < s_ln σ p) : I 127 (12 * p + k) = nI (s_nu σ (12 * p + k)) := ((h.2 p hp).2.2 k hk).2.1
theorem MP.fs (h : MP I σ) (hp : p < s_np σ) (hk : k < s_ln σ p) : I 128 (12 * p + k) = nI (s_fs σ (12 * p + k)) := ((h.2 p hp).2.2 k hk).2.2.1
theorem MP.se (h : MP I σ) (hp : p < s_np σ) (hk : k < s_ln σ p) : I 129 (12 * p + k) = secv σ (12 * p + k) := ((h.2 p hp).2.2 k hk).2.2.2.1
theorem MP.fr (h : MP I σ) (hp : p < s_np σ) (hk : k < s_ln σ p) (h1 : s_kk σ (12 * p + k) = 1) {i : Nat} (hi : i < s_nu σ (12 * p + k)) : I 130 (4 * (12 * p + k) + i) = nI (s_fr σ (4 * (12 * p + k) + i)) := ((h.2 p hp).2.2 k hk).2.2.2.2 h1 i hi
end MPs
theorem up_ind {N : Nat} {H : Nat → Prop} (step : ∀ k, k ≤ N → (k < N → H (k + 1)) → H k) : ∀ k, k ≤ N → H k := by
  intro k hk
  obtain ⟨j, hj⟩ := Nat.exists_eq_add_of_le hk
  induction j generalizing k with
  | zero => exact step k hk (fun h => absurd h (by omega))
  | succ j ih => exact step k hk (fun h => ih (k + 1) h (by omega))
theorem wh_ind {α : Type} {H : α → Prop} (μ : α → Nat) (step : ∀ x, (∀ z, μ z < μ x → H z) → H x) : ∀ x, H x := by
  intro x
  generalize hn : μ x = n
  induction n using Nat.strongRecOn generalizing x with
  | _ n ih => exact step x (fun z hz => ih (μ z) (by omega) z rfl)
theorem u2_at {α : Type} (f : Nat → Nat → α) (a k : Nat) (v : α) (j : Nat) : u2 f a k v a j = if j = k then v else f a j := by simp [u2]
/-- asked: the least set with part 0 that has with a part all that it asks -/
def Asked (σ : Sg) (p : Nat) : Prop := ∀ S : Nat → Prop, (0 < s_np σ → S 0) → (∀ p, p < s_np σ → S p → ∀ k, k < s_ln σ p → s_kk σ (12 * p + k) = 2 → S (s_nu σ (12 * p + k))) → S p
theorem Asked.zero {σ : Sg} (h : 0 < s_np σ) : Asked σ 0 := fun _ h0 _ => h0 h
theorem Asked.step {σ : Sg} {p k : Nat} (h : Asked σ p) (hp : p < s_np σ) (hk : k < s_ln σ p) (h2 : s_kk σ (12 * p + k) = 2) : Asked σ (s_nu σ (12 * p + k)) := fun S h0 hs => hs p hp (h S h0 hs) k hk h2
noncomputable def bP (P : Prop) : Nat := @ite Nat P (Classical.propDecidable P) 1 0
theorem bP_t {P : Prop} (h : P) : bP P = 1 := @if_pos P (Classical.propDecidable P) h Nat 1 0
theorem bP_f {P : Prop} (h : ¬ P) : bP P = 0 := @if_neg P (Classical.propDecidable P) h Nat 1 0
theorem bP_lt (P : Prop) : bP P < 2 := by
  by_cases h : P
  · rw [bP_t h]; decide
  · rw [bP_f h]; decide
theorem bP_1 {P : Prop} : bP P = 1 ↔ P := by
  by_cases h : P
  · rw [bP_t h]; exact ⟨fun _ => h, fun _ => rfl⟩
  · rw [bP_f h]; exact ⟨fun z => absurd z (by decide), fun z => absurd z h⟩
theorem bP_0 {P : Prop} : bP P = 0 ↔ ¬ P := by
  by_cases h : P
  · rw [bP_t h]; exact ⟨fun z => absurd z (by decide), fun z => absurd h z⟩
  · rw [bP_f h]; exact ⟨fun _ => h, fun _ => rfl⟩
