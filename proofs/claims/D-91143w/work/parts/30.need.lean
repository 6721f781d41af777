/-! ===== rights that are needed, helped, trimmed; key ===== -/
def ndK (σ : Sg) (p k : Nat) : Nat := if s_kk σ (12 * p + k) = 0 ∨ s_kk σ (12 * p + k) = 3 then 2 ^ s_nu σ (12 * p + k) else 0
def ndR (σ : Sg) (p : Nat) : Nat := orF (ndK σ p) (s_ln σ p)
noncomputable def ndF (σ : Sg) (p : Nat) : Nat := @ite Nat (Asked σ p) (Classical.propDecidable _) (ndR σ p) 0
theorem ndF_t {σ : Sg} {p : Nat} (h : Asked σ p) : ndF σ p = ndR σ p := @if_pos _ (Classical.propDecidable _) h Nat _ _
theorem ndF_f {σ : Sg} {p : Nat} (h : ¬ Asked σ p) : ndF σ p = 0 := @if_neg _ (Classical.propDecidable _) h Nat _ _
theorem ndK_lt {σ : Sg} (hσ : SgOK σ) {p k : Nat} (hp : p < s_np σ) (hk : k < s_ln σ p) : ndK σ p k < 65536 := by
  unfold ndK; split
  · exact p2_lt (hσ.row hp hk).2.1
  · decide
theorem ndR_lt {σ : Sg} (hσ : SgOK σ) {p : Nat} (hp : p < s_np σ) : ndR σ p < 65536 := orF_lt (fun _ hk => ndK_lt hσ hp hk)
theorem ndF_lt {σ : Sg} (hσ : SgOK σ) {p : Nat} (hp : p < s_np σ) : ndF σ p < 65536 := by
  by_cases h : Asked σ p
  · rw [ndF_t h]; exact ndR_lt hσ hp
  · rw [ndF_f h]; decide
def AskL (σ : Sg) (p q : Nat) : Prop := ∃ k, k < s_ln σ p ∧ s_kk σ (12 * p + k) = 2 ∧ s_nu σ (12 * p + k) = q
/-- what a part asks, and what those ask .. -/
def Hlp (σ : Sg) (pt q : Nat) : Prop := ∀ S : Nat → Prop, (∀ q, AskL σ pt q → S q) → (∀ p, p < s_np σ → S p → ∀ q, AskL σ p q → S q) → S q
theorem Hlp.z {σ : Sg} {pt q : Nat} (h : AskL σ pt q) : Hlp σ pt q := fun _ a _ => a q h
theorem Hlp.s {σ : Sg} {pt p q : Nat} (h : Hlp σ pt p) (hp : p < s_np σ) (hq : AskL σ p q) : Hlp σ pt q := fun S a b => b p hp (h S a b) q hq
noncomputable def rch (σ : Sg) (pt : Nat) : Nat := mkS (Hlp σ pt) 10
def asK (σ : Sg) (p k : Nat) : Nat := if s_kk σ (12 * p + k) = 2 then 2 ^ s_nu σ (12 * p + k) else 0
def asb (σ : Sg) (p : Nat) : Nat := orF (asK σ p) (s_ln σ p)
theorem asK_bit {σ : Sg} {p k q : Nat} : (asK σ p k).testBit q = true ↔ s_kk σ (12 * p + k) = 2 ∧ s_nu σ (12 * p + k) = q := by
  unfold asK
  split
  · next e => rw [p2_bit, decide_eq_true_iff]; exact ⟨fun h => ⟨e, h⟩, fun h => h.2⟩
  · next e => simp [e]
theorem asb_bit {σ : Sg} {p q : Nat} : (asb σ p).testBit q = true ↔ AskL σ p q := by
  unfold asb
  rw [orF_bit]
  constructor
  · rintro ⟨i, h1, h2⟩; exact ⟨i, h1, asK_bit.mp h2⟩
  · rintro ⟨i, h1, h2⟩; exact ⟨i, h1, asK_bit.mpr h2⟩
theorem AskL.lt {σ : Sg} (hσ : SgOK σ) {p q : Nat} (hp : p < s_np σ) (h : AskL σ p q) : q < s_np σ := by
  obtain ⟨k, h1, h2, h3⟩ := h
  rw [← h3]; exact ((hσ.row hp h1).2.2.2.2.1 h2).1
def HpI (σ : Sg) (pt a : Nat) : Prop := a < 1024 ∧ ∀ q, a.testBit q = true → Hlp σ pt q
def HpS (σ : Sg) (pt h0 a p : Nat) : Prop := HpI σ pt a ∧ (∀ i, h0.testBit i = true → a.testBit i = true) ∧ ∀ p', p' < p → (p' = pt ∨ h0.testBit p' = true) → ∀ q, AskL σ p' q → a.testBit q = true
def HpK (σ : Sg) (pt h0 a p k : Nat) : Prop := HpS σ pt h0 a p ∧ ∀ k', k' < k → s_kk σ (12 * p + k') = 2 → a.testBit (s_nu σ (12 * p + k')) = true
theorem HpI.zero (σ : Sg) (pt : Nat) : HpI σ pt 0 := ⟨by decide, fun q h => by simp at h⟩
theorem HpS.init {σ : Sg} {pt a : Nat} (h : HpI σ pt a) : HpS σ pt a a 0 := ⟨h, fun _ h => h, fun _ h => absurd h (Nat.not_lt_zero _)⟩
theorem lt1024 {a : Nat} (h : ∀ i, 10 ≤ i → a.testBit i = false) : a < 1024 := Nat.lt_pow_two_of_testBit (n := 10) a (fun i hi => h i hi)
theorem bit_hi10 {a i : Nat} (ha : a < 1024) (hi : 10 ≤ i) : a.testBit i = false := Nat.testBit_lt_two_pow (Nat.lt_of_lt_of_le ha (show 1024 ≤ 2 ^ i from Nat.pow_le_pow_right (n := 2) (by decide) hi))
theorem or10 {a b : Nat} (ha : a < 1024) (hb : b < 1024) : a ||| b < 1024 := Nat.or_lt_two_pow (n := 10) ha hb
theorem asK_lt {σ : Sg} (hσ : SgOK σ) {p k : Nat} (hp : p < s_np σ) (hk : k < s_ln σ p) : asK σ p k < 1024 := by
  have hnp := hσ.1
  refine lt1024 (fun i hi => ?_)
  cases hb : (asK σ p k).testBit i with
  | false => rfl
  | true =>
    have h := asK_bit.mp hb
    have := ((hσ.row hp hk).2.2.2.2.1 h.1).1
    omega
theorem orF_lt10 {f : Nat → Nat} {n : Nat} (h : ∀ i, i < n → f i < 1024) : orF f n < 1024 := by
  induction n with
  | zero => exact (by decide : 0 < 1024)
  | succ n ih => exact or10 (ih (fun i hi => h i (by omega))) (h n (by omega))
theorem asb_lt {σ : Sg} (hσ : SgOK σ) {p : Nat} (hp : p < s_np σ) : asb σ p < 1024 := orF_lt10 (fun _ hk => asK_lt hσ hp hk)
/-- one line of a part that may be gone through -/
theorem HpK.line {σ : Sg} {pt h0 a p k : Nat} (hσ : SgOK σ) (h : HpK σ pt h0 a p k) (hp : p < s_np σ) (hk : k < s_ln σ p) (hs : p = pt ∨ Hlp σ pt p) : HpK σ pt h0 (a ||| asK σ p k) p (k + 1) := by
  obtain ⟨⟨⟨i1, i2⟩, s1, s2⟩, k1⟩ := h
  refine ⟨⟨⟨or10 i1 (asK_lt hσ hp hk), fun q hq => ?_⟩, fun i hi => or_sub (s1 i hi), fun p' hp' hc q hq => or_sub (s2 p' hp' hc q hq)⟩, fun k' hk' h2 => ?_⟩
  · rw [Nat.testBit_or, Bool.or_eq_true] at hq
    rcases hq with hq | hq
    · exact i2 q hq
    · have hL : AskL σ p q := ⟨k, hk, asK_bit.mp hq⟩
      rcases hs with e | e
      · subst e; exact Hlp.z hL
      · exact e.s hp hL
  · by_cases e : k' = k
    · subst e
      rw [Nat.testBit_or, Bool.or_eq_true]
      exact Or.inr (asK_bit.mpr ⟨h2, rfl⟩)
    · exact or_sub (k1 k' (by omega) h2)
theorem HpK.next {σ : Sg} {pt h0 a p : Nat} (h : HpK σ pt h0 a p (s_ln σ p)) : HpS σ pt h0 a (p + 1) := by
  refine ⟨h.1.1, h.1.2.1, fun p' hp' hc q hq => ?_⟩
  by_cases e : p' = p
  · subst e
    obtain ⟨k, h1, h2, h3⟩ := hq
    rw [← h3]; exact h.2 k h1 h2
  · exact h.1.2.2 p' (by omega) hc q hq
theorem HpS.skip {σ : Sg} {pt h0 a p : Nat} (h : HpS σ pt h0 a p) (h1 : p ≠ pt) (h2 : h0.testBit p = false) : HpS σ pt h0 a (p + 1) := by
  refine ⟨h.1, h.2.1, fun p' hp' hc q hq => ?_⟩
  by_cases e : p' = p
  · subst e
    rcases hc with hc | hc
    · exact absurd hc h1
    · rw [h2] at hc; cases hc
  · exact h.2.2 p' (by omega) hc q hq
theorem HpS.all {σ : Sg} {pt h0 a p : Nat} (hσ : SgOK σ) (h : HpS σ pt h0 a p) (hp : p < s_np σ) (hs : p = pt ∨ Hlp σ pt p) : HpS σ pt h0 (a ||| asb σ p) (p + 1) := by
  obtain ⟨⟨i1, i2⟩, s1, s2⟩ := h
  refine ⟨⟨or10 i1 (asb_lt hσ hp), fun q hq => ?_⟩, fun i hi => or_sub (s1 i hi), fun p' hp' hc q hq => ?_⟩
  · rw [Nat.testBit_or, Bool.or_eq_true] at hq
    rcases hq with hq | hq
    · exact i2 q hq
    · rcases hs with e | e
      · subst e; exact Hlp.z (asb_bit.mp hq)
      · exact e.s hp (asb_bit.mp hq)
  · by_cases e : p' = p
    · subst e
      rw [Nat.testBit_or, Bool.or_eq_true]
      exact Or.inr (asb_bit.mpr hq)
    · exact or_sub (s2 p' (by omega) hc q hq)
theorem HpS.fin {σ : Sg} {pt a : Nat} (hσ : SgOK σ) (h : HpS σ pt a a (s_np σ)) (hpt : pt < s_np σ) : a = rch σ pt := by
  have hnp := hσ.1
  refine bit_ext (fun i => ?_)
  rw [Bool.eq_iff_iff, rch, mkS_bit]
  constructor
  · intro hb
    refine ⟨?_, h.1.2 i hb⟩
    rcases Nat.lt_or_ge i 10 with z | z
    · exact z
    · rw [bit_hi10 h.1.1 z] at hb; cases hb
  · rintro ⟨-, hH⟩
    exact hH (fun q => a.testBit q = true) (fun q hq => h.2.2 pt hpt (Or.inl rfl) q hq) (fun p hp hs q hq => h.2.2 p hp (Or.inr hs) q hq)
theorem sub_lt_of {a b : Nat} (h : ∀ i, a.testBit i = true → b.testBit i = true) (hne : b ≠ a) : a < b := by
  have e : b ||| a = b := bit_ext (fun i => by
    rw [Nat.testBit_or]
    cases ha : a.testBit i with
    | false => simp
    | true => rw [h i ha]; rfl)
  have : a ≤ b ||| a := Nat.right_le_or
  rw [e] at this
  omega
noncomputable def hlS (σ : Sg) (pt q : Nat) : Nat := if (rch σ pt).testBit q = true then s_gr σ q &&& ndF σ q else 0
theorem hlS_lt {σ : Sg} (hσ : SgOK σ) {pt q : Nat} (hq : q < s_np σ) : hlS σ pt q < 65536 := by
  unfold hlS; split
  · exact and_lt (hσ.gr hq)
  · decide
noncomputable def qNeeded (σ : Sg) (v : Int32) : Int32 := match ixOf v (s_np σ) with
  | some p => nI (ndF σ p)
  | none => -1
noncomputable def qIdle (σ : Sg) (v : Int32) : Int32 := match ixOf v (s_np σ) with
  | some p => nI (adf (s_gr σ p) (ndF σ p))
  | none => -1
noncomputable def qLacking (σ : Sg) (v : Int32) : Int32 := match ixOf v (s_np σ) with
  | some p => nI (adf (ndF σ p) (s_gr σ p))
  | none => -1
noncomputable def qHelped (σ : Sg) (v : Int32) : Int32 := match ixOf v (s_np σ) with
  | some p => @ite Int32 (Asked σ p) (Classical.propDecidable _) (nI (adf (orF (hlS σ p) (s_np σ)) (s_gr σ p))) (nI 0)
  | none => -1
theorem qHelped_t {σ : Sg} {v : Int32} {p : Nat} (e : ixOf v (s_np σ) = some p) (h : Asked σ p) : qHelped σ v = nI (adf (orF (hlS σ p) (s_np σ)) (s_gr σ p)) := by
  unfold qHelped; rw [e]; exact @if_pos _ (Classical.propDecidable _) h Int32 _ _
theorem qHelped_f {σ : Sg} {v : Int32} {p : Nat} (e : ixOf v (s_np σ) = some p) (h : ¬ Asked σ p) : qHelped σ v = nI 0 := by
  unfold qHelped; rw [e]; exact @if_neg _ (Classical.propDecidable _) h Int32 _ _
noncomputable def idl (σ : Sg) (p : Nat) : Nat := adf (s_gr σ p) (ndF σ p)
noncomputable def nTrim (σ : Sg) : Nat := sumN (s_np σ) (fun p => pop (idl σ p))
noncomputable def trG (σ : Sg) (k p : Nat) : Nat := if p < k then adf (s_gr σ p) (idl σ p) else s_gr σ p
noncomputable def sTrim (σ : Sg) : Sg := sGr σ (trG σ (s_np σ))
theorem trG_lt {σ : Sg} (hσ : SgOK σ) {k p : Nat} (hp : p < s_np σ) : trG σ k p < 65536 := by
  unfold trG; split
  · exact adf_lt (hσ.gr hp)
  · exact hσ.gr hp
/-- one grant turned -/
def flp (σ : Sg) (p r : Nat) : Sg := sGr σ (upN (s_gr σ) p (s_gr σ p ^^^ 2 ^ r))
theorem flp_ok {σ : Sg} (hσ : SgOK σ) {p r : Nat} (hp : p < s_np σ) (hr : r < 16) : SgOK (flp σ p r) :=
  hσ.gr' (fun q hq => by
    unfold upN; split
    · exact xor_lt (hσ.gr hp) (p2_lt hr)
    · exact hσ.gr hq)
noncomputable def qWithout (σ : Sg) (ρ : Rs) (v u : Int32) : Int32 × Rs := match ixOf v (s_np σ) with
  | some p => match ixOf u 16 with
    | some r => (nI (nMis (flp σ p r) ρ), rT ρ 0)
    | none => (-1, rT ρ 2)
  | none => (-1, rT ρ 1)
/-- the key: of those with W the first with the least M, if it is less than l -/
def kyJ (W : Nat → Bool) (M : Nat → Nat) : Nat → Nat → Nat → Int32 → Int32
  | 0, _, _, b => b
  | f + 1, j, l, b => if W j = true then (if M j < l then kyJ W M f (j + 1) (M j) (nI (100 * (j / 16) + j % 16)) else kyJ W M f (j + 1) l b) else kyJ W M f (j + 1) l b
def kyW (σ : Sg) (j : Nat) : Bool := (s_gr σ (j / 16)).testBit (j % 16)
noncomputable def kyM (σ : Sg) (ρ : Rs) (j : Nat) : Nat := nMis (flp σ (j / 16) (j % 16)) ρ
noncomputable def qKey (σ : Sg) (ρ : Rs) : Int32 × Rs := if nMis σ ρ = 0 then (-1, rT ρ 5) else (kyJ (kyW σ) (kyM σ ρ) (16 * s_np σ) 0 (nMis σ ρ) (-2), rT ρ 0)
theorem nMis_le (σ : Sg) (ρ : Rs) : nMis σ ρ ≤ 256 := sumN_le (n := 16) (c := 16) (fun _ _ => pop_le _)
theorem i32_sub {a b : Nat} (ha : a < 2 ^ 30) (hb : b < 2 ^ 30) : (nI a - nI b).toInt = (a : Int) - b := by
  rw [Int32.toInt_sub, nI_toInt (by omega), nI_toInt (by omega)]
  rw [Int.bmod_def]
  have h1 : (2 : Int) ^ 30 = 1073741824 := by decide
  omega
theorem gone_lt {a l m : Nat} (hl : l ≤ a) (ha : a < 2 ^ 30) (hm : m < 2 ^ 30) : nI (a - l) < nI a - nI m ↔ m < l := by
  rw [Int32.lt_iff_toInt_lt, i32_sub ha hm, nI_toInt (by omega)]
  omega
theorem MP.upd {I I' : Nat → Nat → Int32} {σ : Sg} {g : Nat → Nat} (hM : MP I σ) (hg : ∀ p, p < s_np σ → I' 123 p = nI (g p)) (hr : ∀ b, b ≠ 123 → I' b = I b) : MP I' (sGr σ g) :=
  hM.gr' (by rw [hr 122 (by decide)]) hg (fun b hb => hr b (by rintro rfl; revert hb; decide))
theorem xor2 (a b : Nat) : a ^^^ b ^^^ b = a := by rw [Nat.xor_assoc, Nat.xor_self, Nat.xor_zero]
theorem upN_back (g : Nat → Nat) (p v : Nat) : upN (upN g p v) p (g p) = g := by
  funext j; unfold upN; split
  · next e => rw [e]
  · rfl
theorem u2_back {α : Type} {f : Nat → Nat → α} {a k : Nat} {v w : α} (h : f a k = w) : u2 (u2 f a k v) a k w = f := by
  funext b j; unfold u2
  by_cases hb : b = a
  · by_cases hj : j = k
    · subst hb; subst hj; simp [h]
    · simp [hb, hj]
  · simp [hb]
