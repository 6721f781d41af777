/-! ===== the house's reader: how it stands, what it may change ===== -/
def HdX (I : Nat → Nat → Int32) (z : Nat) (f : Nat → Nat) : Prop := I 102 4 = nI z ∧ (∀ j, j < z → btN (I 101 j) = f j) ∧ z ≤ 300
def HRd (t : Nat → Option (Nat × Nat)) (I : Nat → Nat → Int32) (P : Nat → Nat → Value) (z : Nat) (f : Nat → Nat) (p : Nat) : Prop := I 102 5 = nI (tE z f p) ∧ I 102 6 = nI (tK z f p) ∧ I 102 7 = nI (tA z f p) ∧ (tK z f p = 3 → I 102 8 = nI (tV z f p)) ∧ (tK z f p = 2 → ∃ (w v : Nat), P 102 9 = .ref w ∧ StrT t I P w v (tL z f p) (tW z f p) ∧ (144 ≤ w ∧ 100 ≤ v) ∧ HsK I w (hsV (tW z f p) (tL z f p))) ∧ HdX I z f
/-- what the reading may change: its own cells, new ones; with s false the Strings' hashes too -/
def GR (s : Prop) (t : Nat → Option (Nat × Nat)) (I : Nat → Nat → Int32) (J : Nat → Nat → Int64) (P : Nat → Nat → Value) (t' : Nat → Option (Nat × Nat)) (I' : Nat → Nat → Int32) (J' : Nat → Nat → Int64) (P' : Nat → Nat → Value) (n' : Nat) : Prop :=
  (∀ a tg, t a = some tg → t' a = some tg) ∧ (∀ b tg, t b = some tg → (tg = (15, 0) → s) → ¬ (102 ≤ b ∧ b ≤ 105) → I' b = I b) ∧ (∀ b, b < 144 → ¬ (102 ≤ b ∧ b ≤ 105) → I' b = I b) ∧ (∀ b, b < 144 → J' b = J b) ∧ (∀ b tg, t b = some tg → b ≠ 102 → P' b = P b) ∧ (∀ k, k ≠ 9 → P' 102 k = P 102 k) ∧ TyB t' n'
section GRs
variable {s : Prop} {t t' t'' : Nat → Option (Nat × Nat)} {I I' I'' : Nat → Nat → Int32} {J J' J'' : Nat → Nat → Int64} {P P' P'' : Nat → Nat → Value} {n n' n'' : Nat}
theorem GR.rf (h : TyB t n) : GR s t I J P t I J P n := ⟨fun _ _ e => e, fun _ _ _ _ _ => rfl, fun _ _ _ => rfl, fun _ _ => rfl, fun _ _ _ _ => rfl, fun _ _ => rfl, h⟩
theorem GR.trans (g : GR s t I J P t' I' J' P' n') (g' : GR s t' I' J' P' t'' I'' J'' P'' n'') : GR s t I J P t'' I'' J'' P'' n'' :=
  ⟨fun a tg h => g'.1 a tg (g.1 a tg h), fun b tg h h2 h3 => (g'.2.1 b tg (g.1 b tg h) h2 h3).trans (g.2.1 b tg h h2 h3), fun b h h2 => (g'.2.2.1 b h h2).trans (g.2.2.1 b h h2), fun b h => (g'.2.2.2.1 b h).trans (g.2.2.2.1 b h), fun b tg h h2 => (g'.2.2.2.2.1 b tg (g.1 b tg h) h2).trans (g.2.2.2.2.1 b tg h h2), fun k h => (g'.2.2.2.2.2.1 k h).trans (g.2.2.2.2.2.1 k h), g'.2.2.2.2.2.2⟩
theorem GR.weak {s' : Prop} (hs : s' → s) (g : GR s t I J P t' I' J' P' n') : GR s' t I J P t' I' J' P' n' := ⟨g.1, fun b tg h h2 h3 => g.2.1 b tg h (fun e => hs (h2 e)) h3, g.2.2⟩
theorem GR.ui (g : GR s t I J P t' I' J' P' n') {a k : Nat} {v : Int32} (e : I'' = u2 I' a k v) (ha : 102 ≤ a ∧ a ≤ 105) : GR s t I J P t' I'' J' P' n' :=
  ⟨g.1, fun b tg h h2 h3 => by rw [e, u2_row _ _ _ (fun z => h3 (by rw [z]; exact ha))]; exact g.2.1 b tg h h2 h3, fun b h h3 => by rw [e, u2_row _ _ _ (fun z => h3 (by rw [z]; exact ha))]; exact g.2.2.1 b h h3, g.2.2.2⟩
theorem GR.up (g : GR s t I J P t' I' J' P' n') {v : Value} (e : P'' = u2 P' 102 9 v) : GR s t I J P t' I' J' P'' n' :=
  ⟨g.1, g.2.1, g.2.2.1, g.2.2.2.1, fun b tg h h2 => by rw [e, u2_row _ _ _ h2]; exact g.2.2.2.2.1 b tg h h2, fun k h => by rw [e, u2_ne _ _ h]; exact g.2.2.2.2.2.1 k h, g.2.2.2.2.2.2⟩
/-- grown: what is not typed before may be anything -/
theorem Gw.gr (g : Gw t I J P n t' I' J' P' n') (hT : TyB t n) (hn : 144 ≤ n) : GR s t I J P t' I' J' P' n' :=
  ⟨g.ty, fun b tg h _ _ => g.i b (hT b tg h), fun b h _ => g.i b (by omega), fun b h => g.j b (by omega), fun b tg h _ => g.p b (hT b tg h), fun k _ => by rw [g.p 102 (by omega)], g.b⟩
theorem P0_ty {a k : Nat} {v : Value} (h : P0 (100 * a + k) = some v) (hk : k < 100) : ∃ c, T0 a = some c := by
  unfold P0 at h
  have h1 := List.mem_map_of_mem (f := fun q : Nat × Value => q.1) (look_mem _ h)
  have h2 := (by decide : ∀ z ∈ _, (T0 (z / 100)).isSome = true) _ h1
  rw [show (100 * a + k) / 100 = a by omega] at h2
  exact Option.isSome_iff_exists.mp h2
theorem P0_9 : P0 (100 * 102 + 9) = none := by decide
theorem GR.sh (g : GR s t I J P t' I' J' P' n') (hS : SH t P) : SH t' P' :=
  ⟨fun a c e => g.1 a c (hS.1 a c e), fun a k v hk e => by
    by_cases h2 : a = 102
    · subst h2
      have : k ≠ 9 := fun z => by subst z; rw [P0_9] at e; cases e
      rw [g.2.2.2.2.2.1 k this]; exact hS.2 _ k v hk e
    · obtain ⟨c, hc⟩ := P0_ty e hk
      rw [g.2.2.2.2.1 a c (hS.1 a c hc) h2]; exact hS.2 a k v hk e⟩
theorem GR.f4 (g : GR s t I J P t' I' J' P' n') : HF4 I I' ∧ JF4 J J' := ⟨fun b hb => g.2.2.1 b (by omega) (by omega), g.2.2.2.1⟩
theorem HdX.gr {z : Nat} {f : Nat → Nat} (h : HdX I z f) (g : GR s t I J P t' I' J' P' n') (h4 : I' 102 4 = nI z) : HdX I' z f := ⟨h4, by rw [g.2.2.1 101 (by decide) (by omega)]; exact h.2.1, h.2.2⟩
end GRs
def seeV (z : Nat) (f : Nat → Nat) (k : Nat) : Int32 := if k < z then nI (f k) else -1
theorem seeV_t {z k : Nat} {f : Nat → Nat} (h : k < z) : seeV z f k = nI (f k) := if_pos h
theorem seeV_f {z k : Nat} {f : Nat → Nat} (h : ¬ k < z) : seeV z f k = -1 := if_neg h
theorem HdX.lt {I : Nat → Nat → Int32} {z k : Nat} {f : Nat → Nat} (h : HdX I z f) (hk : k < z) : f k < 256 := by rw [← h.2.1 k hk]; exact (btN_lt _).1
