/-! ===== reading: tokens, names, lines, as both sides read them ===== -/
noncomputable def rn (C : Nat → Prop) (k : Nat) : Nat := the (fun j => k ≤ j ∧ ¬ C j ∧ ∀ i, k ≤ i → i < j → C i)
theorem rn_eq {C : Nat → Prop} {k j : Nat} (h1 : k ≤ j) (h2 : ¬ C j) (h3 : ∀ i, k ≤ i → i < j → C i) : rn C k = j := by
  refine the_eq (P := fun j => k ≤ j ∧ ¬ C j ∧ ∀ i, k ≤ i → i < j → C i) ⟨h1, h2, h3⟩ ?_
  rintro a b ⟨a1, a2, a3⟩ ⟨b1, b2, b3⟩
  rcases Nat.lt_trichotomy a b with z | z | z
  · exact absurd (b3 a a1 z) a2
  · exact z
  · exact absurd (a3 b b1 z) b2
theorem rn_ok {C : Nat → Prop} {k z : Nat} (hz : ∀ j, C j → j < z) (hk : k ≤ z) : k ≤ rn C k ∧ rn C k ≤ z ∧ ¬ C (rn C k) ∧ ∀ i, k ≤ i → i < rn C k → C i := by
  obtain ⟨j, ⟨h1, h2⟩, h3⟩ := least_ex (P := fun j => k ≤ j ∧ ¬ C j) (n := z) ⟨hk, fun h => absurd (hz z h) (Nat.lt_irrefl _)⟩
  have e : rn C k = j := rn_eq h1 h2 (fun i a b => Classical.byContradiction fun q => h3 i b ⟨a, q⟩)
  rw [e]
  refine ⟨h1, ?_, h2, fun i a b => Classical.byContradiction fun q => h3 i b ⟨a, q⟩⟩
  rcases Nat.lt_or_ge z j with y | y
  · exact absurd ⟨hk, fun h => absurd (hz z h) (Nat.lt_irrefl _)⟩ (h3 z y)
  · exact y
abbrev Sp (z : Nat) (f : Nat → Nat) (j : Nat) : Prop := j < z ∧ f j = 32
abbrev Ltr (z : Nat) (f : Nat → Nat) (j : Nat) : Prop := j < z ∧ 97 ≤ f j ∧ f j ≤ 122
abbrev Dgt (z : Nat) (f : Nat → Nat) (j : Nat) : Prop := j < z ∧ 48 ≤ f j ∧ f j ≤ 57
/-- the token's place; the ends of runs -/
noncomputable def tA (z : Nat) (f : Nat → Nat) (p : Nat) : Nat := rn (Sp z f) p
noncomputable def tLe (z : Nat) (f : Nat → Nat) (p : Nat) : Nat := rn (Ltr z f) (tA z f p)
noncomputable def tDe (z : Nat) (f : Nat → Nat) (p : Nat) : Nat := rn (Dgt z f) (tA z f p)
/-- 0 the end, 1 bad, 2 a word, 3 a number, 44, 59 signs -/
noncomputable def tK (z : Nat) (f : Nat → Nat) (p : Nat) : Nat :=
  if tA z f p < z then (if Ltr z f (tA z f p) then (if tLe z f p - tA z f p ≤ 8 then 2 else 1) else if Dgt z f (tA z f p) then (if tDe z f p - tA z f p ≤ 2 then 3 else 1) else if f (tA z f p) = 44 then 44 else if f (tA z f p) = 59 then 59 else 1) else 0
noncomputable def tE (z : Nat) (f : Nat → Nat) (p : Nat) : Nat :=
  if tA z f p < z then (if Ltr z f (tA z f p) then tLe z f p else if Dgt z f (tA z f p) then tDe z f p else tA z f p + 1) else tA z f p
noncomputable def tV (z : Nat) (f : Nat → Nat) (p : Nat) : Nat := if tDe z f p - tA z f p ≤ 1 then f (tA z f p) - 48 else 10 * (f (tA z f p) - 48) + (f (tA z f p + 1) - 48)
noncomputable def tL (z : Nat) (f : Nat → Nat) (p : Nat) : Nat := tLe z f p - tA z f p
noncomputable def tW (z : Nat) (f : Nat → Nat) (p i : Nat) : Nat := f (tA z f p + i)
section Tok
variable {z p : Nat} {f : Nat → Nat}
theorem tA_ok (hp : p ≤ z) : p ≤ tA z f p ∧ tA z f p ≤ z ∧ ¬ Sp z f (tA z f p) ∧ ∀ i, p ≤ i → i < tA z f p → Sp z f i := rn_ok (fun _ h => h.1) hp
theorem tLe_ok (hp : p ≤ z) : tA z f p ≤ tLe z f p ∧ tLe z f p ≤ z ∧ ¬ Ltr z f (tLe z f p) ∧ ∀ i, tA z f p ≤ i → i < tLe z f p → Ltr z f i := rn_ok (fun _ h => h.1) (tA_ok hp).2.1
theorem tDe_ok (hp : p ≤ z) : tA z f p ≤ tDe z f p ∧ tDe z f p ≤ z ∧ ¬ Dgt z f (tDe z f p) ∧ ∀ i, tA z f p ≤ i → i < tDe z f p → Dgt z f i := rn_ok (fun _ h => h.1) (tA_ok hp).2.1
theorem tE_le (hp : p ≤ z) : p ≤ tE z f p ∧ tE z f p ≤ z := by
  have h1 := tA_ok (f := f) hp
  have h2 := tLe_ok (f := f) hp
  have h3 := tDe_ok (f := f) hp
  unfold tE
  split
  · split
    · omega
    · split
      · omega
      · omega
  · omega
theorem tK_end (h : ¬ tA z f p < z) : tK z f p = 0 ∧ tE z f p = tA z f p := by unfold tK tE; rw [if_neg h, if_neg h]; exact ⟨rfl, rfl⟩
theorem tK_word (h : Ltr z f (tA z f p)) : tK z f p = (if tLe z f p - tA z f p ≤ 8 then 2 else 1) ∧ tE z f p = tLe z f p := by unfold tK tE; rw [if_pos h.1, if_pos h, if_pos h.1, if_pos h]; exact ⟨rfl, rfl⟩
theorem tK_num (h : Dgt z f (tA z f p)) : tK z f p = (if tDe z f p - tA z f p ≤ 2 then 3 else 1) ∧ tE z f p = tDe z f p := by
  have hn : ¬ Ltr z f (tA z f p) := fun q => by have := q.2; have := h.2; omega
  unfold tK tE; rw [if_pos h.1, if_neg hn, if_pos h, if_pos h.1, if_neg hn, if_pos h]; exact ⟨rfl, rfl⟩
theorem tK_sign (h : tA z f p < z) (h1 : ¬ Ltr z f (tA z f p)) (h2 : ¬ Dgt z f (tA z f p)) : tK z f p = (if f (tA z f p) = 44 then 44 else if f (tA z f p) = 59 then 59 else 1) ∧ tE z f p = tA z f p + 1 := by
  unfold tK tE; rw [if_pos h, if_neg h1, if_neg h2, if_pos h, if_neg h1, if_neg h2]; exact ⟨rfl, rfl⟩
/-- a word's letters -/
theorem tW_ok (hp : p ≤ z) (h : tK z f p = 2) : 1 ≤ tL z f p ∧ tL z f p ≤ 8 ∧ ∀ i, i < tL z f p → 97 ≤ tW z f p i ∧ tW z f p i ≤ 122 := by
  have h1 := tLe_ok (f := f) hp
  by_cases ha : tA z f p < z
  · by_cases hl : Ltr z f (tA z f p)
    · rw [(tK_word hl).1] at h
      split at h
      · next q =>
        refine ⟨?_, q, fun i hi => (h1.2.2.2 (tA z f p + i) (by omega) (by unfold tL at hi; omega)).2⟩
        unfold tL
        rcases Nat.lt_or_ge (tA z f p) (tLe z f p) with y | y
        · omega
        · have e : tLe z f p = tA z f p := by omega
          have := h1.2.2.1
          rw [e] at this
          exact absurd hl this
      · cases h
    · by_cases hd : Dgt z f (tA z f p)
      · rw [(tK_num hd).1] at h
        split at h <;> cases h
      · rw [(tK_sign ha hl hd).1] at h
        split at h
        · cases h
        · split at h <;> cases h
  · rw [(tK_end ha).1] at h; cases h
theorem tV_lt (z : Nat) (f : Nat → Nat) (p : Nat) (hp : p ≤ z) (h : tK z f p = 3) : tV z f p < 100 := by
  have h1 := tDe_ok (f := f) hp
  by_cases ha : tA z f p < z
  · by_cases hl : Ltr z f (tA z f p)
    · rw [(tK_word hl).1] at h
      split at h <;> cases h
    · by_cases hd : Dgt z f (tA z f p)
      · unfold tV
        split
        · omega
        · next q =>
          have := (h1.2.2.2 (tA z f p + 1) (by omega) (by omega)).2
          omega
      · rw [(tK_sign ha hl hd).1] at h
        split at h
        · cases h
        · split at h <;> cases h
  · rw [(tK_end ha).1] at h; cases h
end Tok
/-- a word as a number -/
def encN (c : Nat → Nat) : Nat → Nat
  | 0 => 0
  | n + 1 => 32 * encN c n + (c n - 96)
theorem encN_lt {c : Nat → Nat} {n : Nat} (h : ∀ i, i < n → 97 ≤ c i ∧ c i ≤ 122) : encN c n < 32 ^ n := by
  induction n with
  | zero => exact (by decide : 0 < 32 ^ 0)
  | succ n ih =>
    have h1 := ih (fun i hi => h i (by omega))
    have h2 := h n (by omega)
    rw [encN, Nat.pow_succ]; omega
theorem encN_pos {c : Nat → Nat} {n : Nat} (h : ∀ i, i < n → 97 ≤ c i ∧ c i ≤ 122) (hn : 0 < n) : 0 < encN c n := by
  cases n with
  | zero => omega
  | succ n => have := h n (by omega); rw [encN]; omega
theorem encN_inj {c c2 : Nat → Nat} : ∀ n m, (∀ i, i < n → 97 ≤ c i ∧ c i ≤ 122) → (∀ i, i < m → 97 ≤ c2 i ∧ c2 i ≤ 122) → (encN c n = encN c2 m ↔ StrEq n m c c2) := by
  intro n
  induction n with
  | zero =>
    intro m _ h2
    constructor
    · intro e
      rcases Nat.eq_zero_or_pos m with y | y
      · exact ⟨y.symm, fun i hi => absurd hi (Nat.not_lt_zero _)⟩
      · have := encN_pos h2 y; rw [← e] at this; exact absurd this (Nat.lt_irrefl _)
    · intro e; rw [← e.1]; rfl
  | succ n ih =>
    intro m h1 h2
    cases m with
    | zero =>
      constructor
      · intro e
        have := encN_pos h1 (by omega)
        rw [e] at this; exact absurd this (Nat.lt_irrefl _)
      · intro e; have := e.1; omega
    | succ m =>
      have a := h1 n (by omega)
      have b := h2 m (by omega)
      have k := ih m (fun i hi => h1 i (by omega)) (fun i hi => h2 i (by omega))
      rw [encN, encN]
      constructor
      · intro e
        have e1 : encN c n = encN c2 m := by omega
        have e2 : c n = c2 m := by omega
        obtain ⟨q1, q2⟩ := k.mp e1
        subst q1
        refine ⟨rfl, fun i hi => ?_⟩
        by_cases ei : i = n
        · rw [ei]; exact e2
        · exact q2 i (by omega)
      · rintro ⟨q1, q2⟩
        have q1 : n = m := by omega
        subst q1
        rw [k.mpr ⟨rfl, fun i hi => q2 i (by omega)⟩, q2 n (by omega)]
theorem lN_inj {a b : Nat} (ha : a < 2 ^ 63) (hb : b < 2 ^ 63) (h : lN a = lN b) : a = b := by
  have h1 : (BitVec.ofNat 64 a).toNat = (BitVec.ofNat 64 b).toNat := congrArg (fun x : Int64 => x.toBitVec.toNat) h
  rw [BitVec.toNat_ofNat, BitVec.toNat_ofNat, Nat.mod_eq_of_lt (by omega), Nat.mod_eq_of_lt (by omega)] at h1
  exact h1
theorem lN_toI {a : Nat} (ha : a < 2 ^ 63) : (lN a).toInt = (a : Int) := Int64.toInt_ofNat_of_lt ha
/-- constant words -/
def lt_ (L : List Nat) (i : Nat) : Nat := L.getD i 0
def wIs (z : Nat) (f : Nat → Nat) (p : Nat) (L : List Nat) : Prop := tK z f p = 2 ∧ StrEq (tL z f p) L.length (tW z f p) (lt_ L)
abbrev RR (α : Type) : Type := (Nat × Nat) ⊕ α
def kw_get : List Nat := [103, 101, 116]
def kw_let : List Nat := [108, 101, 116]
def kw_ask : List Nat := [97, 115, 107]
def kw_put : List Nat := [112, 117, 116]
def kw_wash : List Nat := [119, 97, 115, 104]
def kw_result : List Nat := [114, 101, 115, 117, 108, 116]
def kw_to : List Nat := [116, 111]
def kw_from : List Nat := [102, 114, 111, 109]
def kw_with : List Nat := [119, 105, 116, 104]
def kw_by : List Nat := [98, 121]
def kw_of : List Nat := [111, 102]
/-- String constants by their addresses -/
def cstT : List (Nat × List Nat) := [(1, []), (2, []), (3, kw_get), (4, kw_let), (5, kw_ask), (6, kw_put), (7, kw_wash), (8, kw_result), (9, kw_to), (10, kw_from), (11, kw_with), (12, kw_by), (13, kw_of), (14, kw_get), (15, kw_let), (16, kw_ask), (17, kw_put), (18, kw_wash), (19, kw_result), (20, kw_to), (21, kw_from), (22, kw_with), (23, kw_by), (24, kw_of)]
def CSt (t : Nat → Option (Nat × Nat)) (I : Nat → Nat → Int32) (P : Nat → Nat → Value) : Prop := ∀ e ∈ cstT, StrT t I P e.1 (e.1 + 30) e.2.length (lt_ e.2)
section Parse
variable (z : Nat) (f : Nat → Nat)
/-- a word that must stand here -/
noncomputable def psW (L : List Nat) (p : Nat) : RR Nat := @ite _ (wIs z f p L) (Classical.propDecidable _) (.inr (tE z f p)) (.inl (1, tA z f p))
/-- a name that stands here -/
noncomputable def psN (p : Nat) : RR Nat := if tK z f p = 2 then (if tL z f p = 1 ∧ tW z f p 0 ≤ 104 then .inr (tW z f p 0 - 97) else .inl (2, tA z f p)) else .inl (1, tA z f p)
noncomputable def psM (p : Nat) : RR (Nat × Nat) := match psN z f p with
  | .inl e => .inl e
  | .inr x => .inr (x, tE z f p)
/-- a number below m -/
noncomputable def psV (m p : Nat) : RR (Nat × Nat) := if tK z f p = 3 then (if tV z f p < m then .inr (tV z f p, tE z f p) else .inl (3, tA z f p)) else .inl (1, tA z f p)
/-- names behind from -/
noncomputable def psF : Nat → Nat → (Nat → Nat) → Nat → RR (Nat × (Nat → Nat) × Nat)
  | 0, _, _, p => match psN z f p with
    | .inl e => .inl e
    | .inr _ => .inl (4, tA z f p)
  | n + 1, m, fr, p => match psN z f p with
    | .inl e => .inl e
    | .inr x => if tK z f (tE z f p) = 44 then psF n (m + 1) (upN fr m x) (tE z f (tE z f p)) else .inr (m + 1, upN fr m x, tE z f p)
/-- kind, number, first, second, from -/
abbrev Lne : Type := Nat × Nat × Nat × Nat × (Nat → Nat)
noncomputable def psL (np w p : Nat) : RR (Lne × Nat) := match w with
  | 0 => match psV z f 16 p with
    | .inl e => .inl e
    | .inr (v, p1) => match psW z f kw_to p1 with
      | .inl e => .inl e
      | .inr p2 => match psM z f p2 with
        | .inl e => .inl e
        | .inr (x, p3) => .inr ((0, v, x, 0, fun _ => 0), p3)
  | 1 => match psM z f p with
    | .inl e => .inl e
    | .inr (x, p1) => match psW z f kw_from p1 with
      | .inl e => .inl e
      | .inr p2 => match psF z f 4 0 (fun _ => 0) p2 with
        | .inl e => .inl e
        | .inr (m, fr, p3) => .inr ((1, m, x, 0, fr), p3)
  | 2 => match psV z f np p with
    | .inl e => .inl e
    | .inr (v, p1) => match psW z f kw_with p1 with
      | .inl e => .inl e
      | .inr p2 => match psM z f p2 with
        | .inl e => .inl e
        | .inr (x, p3) => match psW z f kw_to p3 with
          | .inl e => .inl e
          | .inr p4 => match psM z f p4 with
            | .inl e => .inl e
            | .inr (y, p5) => .inr ((2, v, x, y, fun _ => 0), p5)
  | 3 => match psM z f p with
    | .inl e => .inl e
    | .inr (x, p1) => match psW z f kw_by p1 with
      | .inl e => .inl e
      | .inr p2 => match psV z f 16 p2 with
        | .inl e => .inl e
        | .inr (v, p3) => .inr ((3, v, x, 0, fun _ => 0), p3)
  | 4 => match psM z f p with
    | .inl e => .inl e
    | .inr (x, p1) => match psW z f kw_of p1 with
      | .inl e => .inl e
      | .inr p2 => match psV z f 16 p2 with
        | .inl e => .inl e
        | .inr (v, p3) => .inr ((4, v, x, 0, fun _ => 0), p3)
  | _ => match psM z f p with
    | .inl e => .inl e
    | .inr (x, p1) => .inr ((5, 0, x, 0, fun _ => 0), p1)
/-- the word that begins a line -/
noncomputable def psK (p : Nat) : Option Nat := @ite _ (wIs z f p kw_get) (Classical.propDecidable _) (some 0) (@ite _ (wIs z f p kw_let) (Classical.propDecidable _) (some 1) (@ite _ (wIs z f p kw_ask) (Classical.propDecidable _) (some 2)
  (@ite _ (wIs z f p kw_put) (Classical.propDecidable _) (some 3) (@ite _ (wIs z f p kw_wash) (Classical.propDecidable _) (some 4) (@ite _ (wIs z f p kw_result) (Classical.propDecidable _) (some 5) none)))))
noncomputable def psA (np : Nat) : Nat → Nat → (Nat → Lne) → Nat → RR (Nat × (Nat → Lne))
  | 0, _, _, p => match psK z f p with
    | none => .inl (1, tA z f p)
    | some _ => .inl (4, tA z f p)
  | n + 1, m, rs, p => match psK z f p with
    | none => .inl (1, tA z f p)
    | some w => match psL z f np w (tE z f p) with
      | .inl e => .inl e
      | .inr (l, p1) => if tK z f p1 = 59 then psA np n (m + 1) (fun j => if j = m then l else rs j) (tE z f p1) else if tK z f p1 = 0 then .inr (m + 1, fun j => if j = m then l else rs j) else .inl (1, tA z f p1)
end Parse
