/-! ===== contracts' forms ===== -/
/-- a pure method: its answer, the heap as it was -/
def CP (G : GG) (d : Nat) (y : Mk) (av : List Value) (h : AH) (v : Value) : Prop := CA G d y av h (fun o h' => o = .inl (some v) ∧ h' = h)
section Forms
variable {G : GG} {d : Nat} {y : Mk} {pc : Nat} {ls st av : List Value} {h : AH} {Q : AO → AH → Prop}
theorem Cont.p {v : Value} (k : RA G d y (pc + 3) ls (v :: st) h Q) : ∀ o h', (o = .inl (some v) ∧ h' = h) → Cont G d y pc ls st Q o h' := by
  rintro o h' ⟨rfl, rfl⟩
  exact k
theorem CA.w (k : RA G d y 0 (entL av (mk_l y)) [] h Q) (hc : av.all cat1 = true := by rfl) (hn : av.length ≤ mk_l y := by exact Nat.le_of_ble_eq_true rfl) (hp : plainName (mk_n y).cls = true := by decide) : CA G d y av h Q :=
  CA.of (fun v hv => List.all_eq_true.mp hc v hv) hn hp k
end Forms
def b2i (b : Prop) [Decidable b] : Int32 := if b then 1 else 0
theorem b2i_t {b : Prop} [Decidable b] (h : b) : b2i b = 1 := if_pos h
theorem b2i_f {b : Prop} [Decidable b] (h : ¬ b) : b2i b = 0 := if_neg h
theorem Cont.e {G : GG} {d : Nat} {y : Mk} {pc : Nat} {ls st : List Value} {Q : AO → AH → Prop} {v : Value} {h2 : AH} (k : RA G d y (pc + 3) ls (v :: st) h2 Q) : ∀ o h', (o = .inl (some v) ∧ h' = h2) → Cont G d y pc ls st Q o h' := by
  rintro o h' ⟨rfl, rfl⟩
  exact k
theorem Cont.ev {G : GG} {d : Nat} {y : Mk} {pc : Nat} {ls st : List Value} {Q : AO → AH → Prop} {h2 : AH} (k : RA G d y (pc + 3) ls st h2 Q) : ∀ o h', (o = .inl none ∧ h' = h2) → Cont G d y pc ls st Q o h' := by
  rintro o h' ⟨rfl, rfl⟩
  exact k
