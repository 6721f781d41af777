/-! ===== what is held: the least sets; one line's step on sets of places ===== -/
def Wsh (σ : Sg) (p n s : Nat) : Prop := ∃ k, k < s_ln σ p ∧ s_kk σ (12 * p + k) = 4 ∧ s_fs σ (12 * p + k) = n ∧ s_nu σ (12 * p + k) = s
/-- closed under the line k of part p -/
def HClK (σ : Sg) (S : Nat → Nat → Prop) (p k : Nat) : Prop :=
  (s_kk σ (12 * p + k) = 0 → (s_gr σ p).testBit (s_nu σ (12 * p + k)) = true → S (8 * p + s_fs σ (12 * p + k)) (s_nu σ (12 * p + k))) ∧
  (s_kk σ (12 * p + k) = 1 → ∀ i, i < s_nu σ (12 * p + k) → ∀ s, S (8 * p + s_fr σ (4 * (12 * p + k) + i)) s → ¬ Wsh σ p (s_fs σ (12 * p + k)) s → S (8 * p + s_fs σ (12 * p + k)) s) ∧
  (s_kk σ (12 * p + k) = 2 → (∀ s, S (8 * p + s_fs σ (12 * p + k)) s → ¬ Wsh σ (s_nu σ (12 * p + k)) 0 s → S (8 * s_nu σ (12 * p + k)) s) ∧
    ∀ s, S (80 + s_nu σ (12 * p + k)) s → ¬ Wsh σ p (s_sc σ (12 * p + k)) s → S (8 * p + s_sc σ (12 * p + k)) s) ∧
  (s_kk σ (12 * p + k) = 5 → ∀ s, S (8 * p + s_fs σ (12 * p + k)) s → S (80 + p) s)
def HCl (σ : Sg) (S : Nat → Nat → Prop) : Prop := ∀ p, p < s_np σ → Asked σ p → ∀ k, k < s_ln σ p → HClK σ S p k
def Held (σ : Sg) (q s : Nat) : Prop := ∀ S : Nat → Nat → Prop, HCl σ S → S q s
theorem Held.cl (σ : Sg) : HCl σ (Held σ) := by
  intro p hp hA k hk
  refine ⟨fun h0 hg S hS => (hS p hp hA k hk).1 h0 hg, fun h1 i hi s hs hw S hS => (hS p hp hA k hk).2.1 h1 i hi s (hs S hS) hw, fun h2 => ⟨fun s hs hw S hS => ((hS p hp hA k hk).2.2.1 h2).1 s (hs S hS) hw, fun s hs hw S hS => ((hS p hp hA k hk).2.2.1 h2).2 s (hs S hS) hw⟩, fun h5 s hs S hS => (hS p hp hA k hk).2.2.2 h5 s (hs S hS)⟩
/-- secret s comes to door d -/
def Door (σ : Sg) (d s : Nat) : Prop := ∃ p k, p < s_np σ ∧ Asked σ p ∧ k < s_ln σ p ∧ s_kk σ (12 * p + k) = 3 ∧ s_nu σ (12 * p + k) = d ∧ (s_gr σ p).testBit d = true ∧ Held σ (8 * p + s_fs σ (12 * p + k)) s
/-- sets of places that are sound -/
def HI (σ : Sg) (h : Nat → Nat) : Prop := (∀ q, q < 90 → h q < 65536) ∧ ∀ q, q < 90 → ∀ s, (h q).testBit s = true → Held σ q s
def mu90 (h : Nat → Nat) : Nat := sumN 90 (fun q => 16 - pop (h q))
/-- grown: c tells whether -/
def Grow (h h' : Nat → Nat) (c : Nat) : Prop := c ≤ 1 ∧ (c = 0 → ∀ q, q < 90 → h' q = h q) ∧ (c = 1 → mu90 h' < mu90 h)
def orF (f : Nat → Nat) : Nat → Nat
  | 0 => 0
  | n + 1 => orF f n ||| f n
theorem orF_lt {f : Nat → Nat} {n : Nat} (h : ∀ i, i < n → f i < 65536) : orF f n < 65536 := by
  induction n with
  | zero => exact (by decide : 0 < 65536)
  | succ n ih => exact or_lt (ih (fun i hi => h i (by omega))) (h n (by omega))
theorem orF_bit {f : Nat → Nat} {n s : Nat} : (orF f n).testBit s = true ↔ ∃ i, i < n ∧ (f i).testBit s = true := by
  induction n with
  | zero => simp [orF]
  | succ n ih =>
    rw [orF, Nat.testBit_or, Bool.or_eq_true, ih]
    constructor
    · rintro (⟨i, h1, h2⟩ | h)
      · exact ⟨i, by omega, h2⟩
      · exact ⟨n, by omega, h⟩
    · rintro ⟨i, h1, h2⟩
      by_cases e : i = n
      · subst e; exact Or.inr h2
      · exact Or.inl ⟨i, by omega, h2⟩
/-- x comes to the place q, but what is washed there -/
def com (h w : Nat → Nat) (q x : Nat) : Nat → Nat := upN h q (h q ||| adf x (w q))
theorem upN_self (a : Nat → Nat) (k v : Nat) : upN a k v k = v := if_pos rfl
theorem upN_ne (a : Nat → Nat) {k j : Nat} (v : Nat) (h : j ≠ k) : upN a k v j = a j := if_neg h
theorem pop_mono {a b : Nat} (h : ∀ i, a.testBit i = true → b.testBit i = true) : pop a ≤ pop b := by
  unfold pop
  have : ∀ n, sumN n (fun i => (a.testBit i).toNat) ≤ sumN n (fun i => (b.testBit i).toNat) := by
    intro n
    induction n with
    | zero => exact Nat.le_refl _
    | succ n ih =>
      rw [sumN, sumN]
      have : (a.testBit n).toNat ≤ (b.testBit n).toNat := by
        cases ha : a.testBit n with
        | false => simp
        | true => rw [h n ha]; exact Nat.le_refl _
      omega
  exact this 16
theorem pop_lt {a b : Nat} (ha : a < 65536) (hb : b < 65536) (h : ∀ i, a.testBit i = true → b.testBit i = true) (hne : a ≠ b) : pop a < pop b := by
  obtain ⟨i, hi, h1, h2⟩ : ∃ i, i < 16 ∧ a.testBit i = false ∧ b.testBit i = true := by
    apply Classical.byContradiction
    intro hc
    apply hne
    refine bit_ext (fun i => ?_)
    cases hbi : b.testBit i with
    | false =>
      cases hai : a.testBit i with
      | false => rfl
      | true => rw [h i hai] at hbi; cases hbi
    | true =>
      cases hai : a.testBit i with
      | true => rfl
      | false =>
        exfalso
        apply hc
        refine ⟨i, ?_, hai, hbi⟩
        rcases Nat.lt_or_ge i 16 with z | z
        · exact z
        · rw [bit_hi hb z] at hbi; cases hbi
  refine sumN_lt (fun j _ => ?_) hi (by rw [h1, h2]; decide)
  cases haj : a.testBit j with
  | false => simp
  | true => rw [h j haj]; exact Nat.le_refl _
/-- one set grows -/
theorem Grow.up {h : Nat → Nat} {q v : Nat} (hq : q < 90) (hh : h q < 65536) (hv : v < 65536) (hs : ∀ i, (h q).testBit i = true → v.testBit i = true) : Grow h (upN h q v) (if v = h q then 0 else 1) := by
  refine ⟨by split <;> decide, fun hc j _ => ?_, fun hc => ?_⟩
  · split at hc
    · next e =>
      by_cases ej : j = q
      · rw [ej, upN_self, e]
      · rw [upN_ne _ _ ej]
    · cases hc
  · split at hc
    · cases hc
    · next e =>
      have hp := pop_lt hh hv hs (fun z => e z.symm)
      have hp16 := pop_le v
      refine sumN_lt (fun i _ => ?_) hq (by rw [upN_self]; omega)
      by_cases ej : i = q
      · rw [ej, upN_self]; omega
      · rw [upN_ne _ _ ej]; exact Nat.le_refl _
theorem Grow.trans {h1 h2 h3 : Nat → Nat} {a b c : Nat} (g1 : Grow h1 h2 a) (g2 : Grow h2 h3 b) (hc : c = if a = 0 ∧ b = 0 then 0 else 1) : Grow h1 h3 c := by
  subst hc
  refine ⟨by split <;> decide, fun hc => ?_, fun hc => ?_⟩
  · split at hc
    · next e => intro q hq; rw [g2.2.1 e.2 q hq, g1.2.1 e.1 q hq]
    · cases hc
  · have e1 : ∀ {x z : Nat → Nat}, (∀ q, q < 90 → z q = x q) → mu90 z = mu90 x := fun h => sumN_congr (fun i hi => by rw [h i hi])
    have h1 := g1.1
    have h2 := g2.1
    split at hc
    · cases hc
    · next e =>
      rcases (by omega : a = 0 ∨ a = 1) with ea | ea <;> rcases (by omega : b = 0 ∨ b = 1) with eb | eb
      · exact absurd ⟨ea, eb⟩ e
      · rw [← e1 (g1.2.1 ea)]; exact g2.2.2 eb
      · rw [e1 (g2.2.1 eb)]; exact g1.2.2 ea
      · exact Nat.lt_trans (g2.2.2 eb) (g1.2.2 ea)
theorem or_sub {a b i : Nat} (h : a.testBit i = true) : (a ||| b).testBit i = true := by rw [Nat.testBit_or, h]; rfl
/-- sound: a place gets what it may -/
theorem HI.up {σ : Sg} {h : Nat → Nat} (hI : HI σ h) {q v : Nat} (hv : v < 65536) (hs : ∀ s, v.testBit s = true → Held σ q s) : HI σ (upN h q v) := by
  refine ⟨fun j hj => ?_, fun j hj s hb => ?_⟩
  · by_cases e : j = q
    · rw [e, upN_self]; exact hv
    · rw [upN_ne _ _ e]; exact hI.1 j hj
  · by_cases e : j = q
    · rw [e, upN_self] at hb; rw [e]; exact hs s hb
    · rw [upN_ne _ _ e] at hb; exact hI.2 j hj s hb
theorem HI.com {σ : Sg} {h w : Nat → Nat} (hI : HI σ h) {q x : Nat} (hq : q < 90) (hx : x < 65536) (hs : ∀ s, x.testBit s = true → (w q).testBit s = false → Held σ q s) : HI σ (com h w q x) := by
  refine hI.up (or_lt (hI.1 q hq) (adf_lt hx)) (fun s hb => ?_)
  rw [Nat.testBit_or, Bool.or_eq_true, adf_bit hx, Bool.and_eq_true] at hb
  rcases hb with hb | ⟨h1, h2⟩
  · exact hI.2 q hq s hb
  · exact hs s h1 (by simpa using h2)
theorem Grow.com {h w : Nat → Nat} {q x : Nat} (hq : q < 90) (hh : h q < 65536) (hx : x < 65536) : Grow h (com h w q x) (if h q ||| adf x (w q) = h q then 0 else 1) :=
  Grow.up hq hh (or_lt hh (adf_lt hx)) (fun _ hi => or_sub hi)
/-- what has not grown is closed -/
theorem com_cl {h w : Nat → Nat} {q x : Nat} (hx : x < 65536) (e : h q ||| adf x (w q) = h q) {s : Nat} (h1 : x.testBit s = true) (h2 : (w q).testBit s = false) : (h q).testBit s = true := by
  rw [← e, Nat.testBit_or, adf_bit hx, h1, h2]; simp
/-- the step of the line k of part p -/
def stepL (σ : Sg) (w h : Nat → Nat) (p k : Nat) : Nat → Nat :=
  if s_kk σ (12 * p + k) = 1 then com h w (8 * p + s_fs σ (12 * p + k)) (orF (fun i => h (8 * p + s_fr σ (4 * (12 * p + k) + i))) (s_nu σ (12 * p + k)))
  else if s_kk σ (12 * p + k) = 2 then com (com h w (8 * s_nu σ (12 * p + k)) (h (8 * p + s_fs σ (12 * p + k)))) w (8 * p + s_sc σ (12 * p + k)) (h (80 + s_nu σ (12 * p + k)))
  else if s_kk σ (12 * p + k) = 5 then upN h (80 + p) (h (80 + p) ||| h (8 * p + s_fs σ (12 * p + k)))
  else h
/-- the washed sets are right for the asked parts -/
def WI (σ : Sg) (w : Nat → Nat) : Prop := ∀ p, p < s_np σ → Asked σ p → ∀ n, n < 8 → w (8 * p + n) = mk16 (Wsh σ p n)
theorem WI.bit {σ : Sg} {w : Nat → Nat} (hσ : SgOK σ) (hW : WI σ w) {p n s : Nat} (hp : p < s_np σ) (hA : Asked σ p) (hn : n < 8) : (w (8 * p + n)).testBit s = false ↔ ¬ Wsh σ p n s := by
  rw [hW p hp hA n hn]
  cases hb : (mk16 (Wsh σ p n)).testBit s with
  | false =>
    refine ⟨fun _ hw => ?_, fun _ => rfl⟩
    obtain ⟨k, h1, h2, h3, h4⟩ := id hw
    have := (hσ.row hp h1).2.1
    rw [mk16_bit.mpr ⟨by omega, hw⟩] at hb; cases hb
  | true => exact ⟨fun h => (by cases h), fun h => absurd (mk16_bit.mp hb).2 h⟩
theorem stepL_HI {σ : Sg} {w h : Nat → Nat} (hσ : SgOK σ) (hW : WI σ w) (hI : HI σ h) {p k : Nat} (hp : p < s_np σ) (hA : Asked σ p) (hk : k < s_ln σ p) : HI σ (stepL σ w h p k) := by
  have hnp := hσ.1
  obtain ⟨r1, r2, r3, r4, r5, r6, r7⟩ := hσ.row hp hk
  have hcl := Held.cl σ p hp hA k hk
  unfold stepL
  split
  · next e =>
    have hf := r7 e
    refine hI.com (by omega) (orF_lt (fun i hi => hI.1 _ (by have := hf i hi; omega))) (fun s hs hw => ?_)
    obtain ⟨i, hi, hb⟩ := orF_bit.mp hs
    exact hcl.2.1 e i hi s (hI.2 _ (by have := hf i hi; omega) s hb) ((hW.bit hσ hp hA r3).mp hw)
  · split
    · next e =>
      obtain ⟨e1, e2⟩ := r5 e
      have hA2 : Asked σ (s_nu σ (12 * p + k)) := hA.step hp hk e
      refine HI.com (hI.com (by omega) (hI.1 _ (by omega)) (fun s hs hw => ?_)) (by omega) (hI.1 _ (by omega)) (fun s hs hw => ?_)
      · have hw' : (w (8 * s_nu σ (12 * p + k) + 0)).testBit s = false := hw
        exact (hcl.2.2.1 e).1 s (hI.2 _ (by omega) s hs) ((hW.bit hσ e1 hA2 (by decide)).mp hw')
      · exact (hcl.2.2.1 e).2 s (hI.2 _ (by omega) s hs) ((hW.bit hσ hp hA e2).mp hw)
    · split
      · next e =>
        refine hI.up (or_lt (hI.1 _ (by omega)) (hI.1 _ (by omega))) (fun s hs => ?_)
        rw [Nat.testBit_or, Bool.or_eq_true] at hs
        rcases hs with hs | hs
        · exact hI.2 _ (by omega) s hs
        · exact hcl.2.2.2 e s (hI.2 _ (by omega) s hs)
      · exact hI
