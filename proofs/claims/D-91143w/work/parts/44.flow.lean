/-! ===== the house: what flows; its parts and lines as they lie ===== -/
theorem Asked.lt {σ : Sg} (hσ : SgOK σ) {p : Nat} (h : Asked σ p) : p < s_np σ :=
  h (fun q => q < s_np σ) (fun h => h) (fun p hp _ k hk h2 => ((hσ.row hp hk).2.2.2.2.1 h2).1)
noncomputable def wS (σ : Sg) (q : Nat) : Nat := mk16 (Wsh σ (q / 8) (q % 8))
theorem wS_at (σ : Sg) {p n : Nat} (hn : n < 8) : wS σ (8 * p + n) = mk16 (Wsh σ p n) := by
  unfold wS; rw [show (8 * p + n) / 8 = p by omega, show (8 * p + n) % 8 = n by omega]
theorem wS_bit {σ : Sg} (hσ : SgOK σ) {p n s : Nat} (hp : p < s_np σ) (hn : n < 8) : (wS σ (8 * p + n)).testBit s = false ↔ ¬ Wsh σ p n s := by
  rw [wS_at σ hn]
  cases hb : (mk16 (Wsh σ p n)).testBit s with
  | false =>
    refine ⟨fun _ hw => ?_, fun _ => rfl⟩
    obtain ⟨k, h1, h2, h3, h4⟩ := id hw
    have := (hσ.row hp h1).2.1
    rw [mk16_bit.mpr ⟨by omega, hw⟩] at hb; cases hb
  | true => exact ⟨fun h => (by cases h), fun h => absurd (mk16_bit.mp hb).2 h⟩
def mu7 (h : Nat → Nat) : Nat := sumN 107 (fun q => 16 - pop (h q))
def Gro (h h' : Nat → Nat) (c : Nat) : Prop := c ≤ 1 ∧ (c = 0 → ∀ q, q < 107 → h' q = h q) ∧ (c = 1 → mu7 h' < mu7 h)
theorem Gro.rf (h : Nat → Nat) : Gro h h 0 := ⟨by decide, fun _ _ _ => rfl, fun e => absurd e (by decide)⟩
theorem Gro.up {h : Nat → Nat} {q v : Nat} (hq : q < 107) (hh : h q < 65536) (hv : v < 65536) (hs : ∀ i, (h q).testBit i = true → v.testBit i = true) : Gro h (upN h q v) (if v = h q then 0 else 1) := by
  refine ⟨by split <;> decide, fun hc j _ => ?_, fun hc => ?_⟩
  · split at hc
    · next e =>
      by_cases ej : j = q
      · rw [ej, upN_self, e]
      · rw [upN_ne _ _ ej]
    · cases hc
  · split at hc
    · cases hc
    · next e =>
      have hp := pop_lt hh hv hs (fun z => e z.symm)
      have hp16 := pop_le v
      refine sumN_lt (fun i _ => ?_) hq (by rw [upN_self]; omega)
      by_cases ej : i = q
      · rw [ej, upN_self]; omega
      · rw [upN_ne _ _ ej]; exact Nat.le_refl _
theorem Gro.trans {h1 h2 h3 : Nat → Nat} {a b : Nat} (g1 : Gro h1 h2 a) (g2 : Gro h2 h3 b) : Gro h1 h3 (a ||| b) := by
  have l1 := g1.1
  have l2 := g2.1
  have e1 : ∀ {x z : Nat → Nat}, (∀ q, q < 107 → z q = x q) → mu7 z = mu7 x := fun h => sumN_congr (fun i hi => by rw [h i hi])
  rcases (by omega : a = 0 ∨ a = 1) with ea | ea <;> rcases (by omega : b = 0 ∨ b = 1) with eb | eb <;> subst ea <;> subst eb
  · exact ⟨by decide, fun _ q hq => (g2.2.1 rfl q hq).trans (g1.2.1 rfl q hq), fun e => absurd e (by decide)⟩
  · exact ⟨by decide, fun e => absurd e (by decide), fun _ => by rw [← e1 (g1.2.1 rfl)]; exact g2.2.2 rfl⟩
  · exact ⟨by decide, fun e => absurd e (by decide), fun _ => by rw [e1 (g2.2.1 rfl)]; exact g1.2.2 rfl⟩
  · exact ⟨by decide, fun e => absurd e (by decide), fun _ => Nat.lt_trans (g2.2.2 rfl) (g1.2.2 rfl)⟩
/-- one line's step: places 0 .. 89, doors 90 .. 105, who is asked 106 -/
noncomputable def stG (σ : Sg) (h : Nat → Nat) (p k : Nat) : Nat → Nat :=
  if s_kk σ (12 * p + k) = 0 then (if (s_gr σ p).testBit (s_nu σ (12 * p + k)) = true then upN h (8 * p + s_fs σ (12 * p + k)) (h (8 * p + s_fs σ (12 * p + k)) ||| 2 ^ s_nu σ (12 * p + k)) else h)
  else if s_kk σ (12 * p + k) = 1 then com h (wS σ) (8 * p + s_fs σ (12 * p + k)) (orF (fun i => h (8 * p + s_fr σ (4 * (12 * p + k) + i))) (s_nu σ (12 * p + k)))
  else if s_kk σ (12 * p + k) = 2 then com (com (upN h 106 (h 106 ||| 2 ^ s_nu σ (12 * p + k))) (wS σ) (8 * s_nu σ (12 * p + k)) (h (8 * p + s_fs σ (12 * p + k)))) (wS σ) (8 * p + s_sc σ (12 * p + k)) (h (80 + s_nu σ (12 * p + k)))
  else if s_kk σ (12 * p + k) = 3 then (if (s_gr σ p).testBit (s_nu σ (12 * p + k)) = true then upN h (90 + s_nu σ (12 * p + k)) (h (90 + s_nu σ (12 * p + k)) ||| h (8 * p + s_fs σ (12 * p + k))) else h)
  else if s_kk σ (12 * p + k) = 5 then upN h (80 + p) (h (80 + p) ||| h (8 * p + s_fs σ (12 * p + k)))
  else h
/-- sound -/
def HG (σ : Sg) (h : Nat → Nat) : Prop := (∀ q, q < 107 → h q < 65536) ∧ (∀ q, q < 90 → ∀ s, (h q).testBit s = true → Held σ q s) ∧ (∀ d, d < 16 → ∀ s, (h (90 + d)).testBit s = true → Door σ d s) ∧ ∀ p, (h 106).testBit p = true → Asked σ p
theorem HG.up {σ : Sg} {h : Nat → Nat} (hI : HG σ h) {q v : Nat} (hq : q < 90) (hv : v < 65536) (hs : ∀ s, v.testBit s = true → Held σ q s) : HG σ (upN h q v) := by
  refine ⟨fun j hj => ?_, fun j hj s hb => ?_, fun d hd s hb => ?_, fun p hb => ?_⟩
  · by_cases e : j = q
    · rw [e, upN_self]; exact hv
    · rw [upN_ne _ _ e]; exact hI.1 j hj
  · by_cases e : j = q
    · rw [e, upN_self] at hb; rw [e]; exact hs s hb
    · rw [upN_ne _ _ e] at hb; exact hI.2.1 j hj s hb
  · rw [upN_ne _ _ (by omega)] at hb; exact hI.2.2.1 d hd s hb
  · rw [upN_ne _ _ (by omega)] at hb; exact hI.2.2.2 p hb
theorem HG.com {σ : Sg} {h w : Nat → Nat} (hI : HG σ h) {q x : Nat} (hq : q < 90) (hx : x < 65536) (hs : ∀ s, x.testBit s = true → (w q).testBit s = false → Held σ q s) : HG σ (com h w q x) := by
  refine hI.up hq (or_lt (hI.1 q (by omega)) (adf_lt hx)) (fun s hb => ?_)
  rw [Nat.testBit_or, Bool.or_eq_true, adf_bit hx, Bool.and_eq_true] at hb
  rcases hb with hb | ⟨h1, h2⟩
  · exact hI.2.1 q hq s hb
  · exact hs s h1 (by simpa using h2)
theorem stG_HG {σ : Sg} {h : Nat → Nat} (hσ : SgOK σ) (hI : HG σ h) {p k : Nat} (hp : p < s_np σ) (hA : Asked σ p) (hk : k < s_ln σ p) : HG σ (stG σ h p k) := by
  have hnp := hσ.1
  obtain ⟨r1, r2, r3, r4, r5, r6, r7⟩ := hσ.row hp hk
  have hcl := Held.cl σ p hp hA k hk
  unfold stG
  split
  · next e =>
    split
    · next hg =>
      refine hI.up (by omega) (or_lt (hI.1 _ (by omega)) (p2_lt r2)) (fun s hs => ?_)
      rw [Nat.testBit_or, Bool.or_eq_true, p2_bit, decide_eq_true_iff] at hs
      rcases hs with hs | hs
      · exact hI.2.1 _ (by omega) s hs
      · rw [← hs]; exact hcl.1 e hg
    · exact hI
  · split
    · next e =>
      refine hI.com (by omega) (orF_lt (fun i hi => hI.1 _ (by have := r7 e i hi; omega))) (fun s hs hw => ?_)
      obtain ⟨i, hi, hb⟩ := orF_bit.mp hs
      exact hcl.2.1 e i hi s (hI.2.1 _ (by have := r7 e i hi; omega) s hb) ((wS_bit hσ hp r3).mp hw)
    · split
      · next e =>
        obtain ⟨e1, e2⟩ := r5 e
        have hA2 : Asked σ (s_nu σ (12 * p + k)) := hA.step hp hk e
        have h0 : HG σ (upN h 106 (h 106 ||| 2 ^ s_nu σ (12 * p + k))) := by
          refine ⟨fun j hj => ?_, fun j hj s hb => ?_, fun d hd s hb => ?_, fun p' hb => ?_⟩
          · by_cases ej : j = 106
            · rw [ej, upN_self]; exact or_lt (hI.1 106 (by decide)) (p2_lt r2)
            · rw [upN_ne _ _ ej]; exact hI.1 j hj
          · rw [upN_ne _ _ (by omega)] at hb; exact hI.2.1 j hj s hb
          · rw [upN_ne _ _ (by omega)] at hb; exact hI.2.2.1 d hd s hb
          · rw [upN_self, Nat.testBit_or, Bool.or_eq_true, p2_bit, decide_eq_true_iff] at hb
            rcases hb with hb | hb
            · exact hI.2.2.2 p' hb
            · rw [← hb]; exact hA2
        refine HG.com (h0.com (by omega) (hI.1 _ (by omega)) (fun s hs hw => ?_)) (by omega) (hI.1 _ (by omega)) (fun s hs hw => ?_)
        · have hw' : (wS σ (8 * s_nu σ (12 * p + k) + 0)).testBit s = false := hw
          exact (hcl.2.2.1 e).1 s (hI.2.1 _ (by omega) s hs) ((wS_bit hσ e1 (by decide)).mp hw')
        · exact (hcl.2.2.1 e).2 s (hI.2.1 _ (by omega) s hs) ((wS_bit hσ hp e2).mp hw)
      · split
        · next e =>
          split
          · next hg =>
            have hd16 := r2
            refine ⟨fun j hj => ?_, fun j hj s hb => ?_, fun d hd s hb => ?_, fun p' hb => ?_⟩
            · by_cases ej : j = 90 + s_nu σ (12 * p + k)
              · rw [ej, upN_self]; exact or_lt (hI.1 _ (by omega)) (hI.1 _ (by omega))
              · rw [upN_ne _ _ ej]; exact hI.1 j hj
            · rw [upN_ne _ _ (by omega)] at hb; exact hI.2.1 j hj s hb
            · by_cases ej : 90 + d = 90 + s_nu σ (12 * p + k)
              · rw [ej, upN_self, Nat.testBit_or, Bool.or_eq_true] at hb
                have ed : d = s_nu σ (12 * p + k) := by omega
                rcases hb with hb | hb
                · rw [ed]; exact hI.2.2.1 _ r2 s hb
                · exact ⟨p, k, hp, hA, hk, e, ed.symm, by rw [ed]; exact hg, hI.2.1 _ (by omega) s hb⟩
              · rw [upN_ne _ _ ej] at hb; exact hI.2.2.1 d hd s hb
            · rw [upN_ne _ _ (by omega)] at hb; exact hI.2.2.2 p' hb
          · exact hI
        · split
          · next e =>
            refine hI.up (by omega) (or_lt (hI.1 _ (by omega)) (hI.1 _ (by omega))) (fun s hs => ?_)
            rw [Nat.testBit_or, Bool.or_eq_true] at hs
            rcases hs with hs | hs
            · exact hI.2.1 _ (by omega) s hs
            · exact hcl.2.2.2 e s (hI.2.1 _ (by omega) s hs)
          · exact hI
/-- closed at a line -/
def ClG (σ : Sg) (h : Nat → Nat) (p k : Nat) : Prop := HClK σ (SB h) p k ∧ (s_kk σ (12 * p + k) = 2 → (h 106).testBit (s_nu σ (12 * p + k)) = true) ∧ (s_kk σ (12 * p + k) = 3 → (s_gr σ p).testBit (s_nu σ (12 * p + k)) = true → ∀ s, (h (8 * p + s_fs σ (12 * p + k))).testBit s = true → (h (90 + s_nu σ (12 * p + k))).testBit s = true)
theorem stG_cl {σ : Sg} {h : Nat → Nat} (hσ : SgOK σ) (hI : HG σ h) {p k : Nat} (hp : p < s_np σ) (hk : k < s_ln σ p) (e : ∀ q, q < 107 → stG σ h p k q = h q) : ClG σ h p k := by
  have hnp := hσ.1
  obtain ⟨r1, r2, r3, r4, r5, r6, r7⟩ := hσ.row hp hk
  refine ⟨⟨fun h0 hb => ⟨by omega, ?_⟩, fun h1 i hi s hs hw => ⟨by omega, ?_⟩, fun h2 => ⟨fun s hs hw => ?_, fun s hs hw => ?_⟩, fun h5 s hs => ⟨by omega, ?_⟩⟩, fun h2 => ?_, fun h3 hg s hs => ?_⟩
  · have e1 := e (8 * p + s_fs σ (12 * p + k)) (by omega)
    unfold stG at e1
    rw [if_pos h0, if_pos hb, upN_self] at e1
    rw [← e1, Nat.testBit_or, p2_bit]; simp
  · have e1 := e (8 * p + s_fs σ (12 * p + k)) (by omega)
    unfold stG at e1
    rw [if_neg (by omega), if_pos h1] at e1
    unfold com at e1
    rw [upN_self] at e1
    exact com_cl (orF_lt (fun i hi => hI.1 _ (by have := r7 h1 i hi; omega))) e1 (orF_bit.mpr ⟨i, hi, hs.2⟩) ((wS_bit hσ hp r3).mpr hw)
  · obtain ⟨q1, q2⟩ := r5 h2
    refine ⟨by omega, ?_⟩
    have e1 := e (8 * s_nu σ (12 * p + k)) (by omega)
    unfold stG at e1
    rw [if_neg (by omega), if_neg (by omega), if_pos h2] at e1
    have hw' : (wS σ (8 * s_nu σ (12 * p + k))).testBit s = false := (wS_bit hσ q1 (n := 0) (by decide)).mpr hw
    have h3 : (com (upN h 106 (h 106 ||| 2 ^ s_nu σ (12 * p + k))) (wS σ) (8 * s_nu σ (12 * p + k)) (h (8 * p + s_fs σ (12 * p + k))) (8 * s_nu σ (12 * p + k))).testBit s = true := by
      unfold com
      rw [upN_self, Nat.testBit_or, adf_bit (hI.1 _ (by omega)), hs.2, hw']; simp
    have h4 := com_mono (w := wS σ) (q := 8 * p + s_sc σ (12 * p + k)) (x := h (80 + s_nu σ (12 * p + k))) h3
    rw [e1] at h4
    exact h4
  · obtain ⟨q1, q2⟩ := r5 h2
    refine ⟨by omega, ?_⟩
    have e1 := e (8 * p + s_sc σ (12 * p + k)) (by omega)
    unfold stG at e1
    rw [if_neg (by omega), if_neg (by omega), if_pos h2] at e1
    rw [← e1]
    show (upN _ _ _ _).testBit s = true
    rw [upN_self, Nat.testBit_or, adf_bit (hI.1 _ (by omega)), hs.2, (wS_bit hσ hp q2).mpr hw]; simp
  · have e1 := e (80 + p) (by omega)
    unfold stG at e1
    rw [if_neg (by omega), if_neg (by omega), if_neg (by omega), if_neg (by omega), if_pos h5, upN_self] at e1
    rw [← e1, Nat.testBit_or, hs.2]; simp
  · obtain ⟨q1, q2⟩ := r5 h2
    have e1 := e 106 (by decide)
    unfold stG at e1
    rw [if_neg (by omega), if_neg (by omega), if_pos h2] at e1
    unfold com at e1
    rw [upN_ne _ _ (by omega), upN_ne _ _ (by omega), upN_self] at e1
    rw [← e1, Nat.testBit_or, p2_bit]; simp
  · have e1 := e (90 + s_nu σ (12 * p + k)) (by omega)
    unfold stG at e1
    rw [if_neg (by omega), if_neg (by omega), if_neg (by omega), if_pos h3, if_pos hg, upN_self] at e1
    rw [← e1, Nat.testBit_or, hs]; simp
theorem ClG.congr {σ : Sg} {h h' : Nat → Nat} (e : ∀ q, q < 107 → h' q = h q) {p k : Nat} (hσ : SgOK σ) (hp : p < s_np σ) (hk : k < s_ln σ p) (hc : ClG σ h p k) : ClG σ h' p k := by
  have hnp := hσ.1
  obtain ⟨r1, r2, r3, -⟩ := hσ.row hp hk
  refine ⟨SB_congr (fun q hq => e q (by omega)) hc.1, fun h2 => by rw [e 106 (by decide)]; exact hc.2.1 h2, fun h3 hg s hs => ?_⟩
  rw [e _ (by omega)] at hs ⊢
  exact hc.2.2 h3 hg s hs
/-- the sweep's invariant -/
def GL (σ : Sg) (h0 h : Nat → Nat) (m p k : Nat) : Prop := m ≤ 1 ∧ HG σ h ∧ (0 < s_np σ → (h 106).testBit 0 = true) ∧ (m = 0 → (∀ q, q < 107 → h q = h0 q) ∧ (∀ p', p' < p → (h 106).testBit p' = true → ∀ k, k < s_ln σ p' → ClG σ h p' k) ∧ ((h 106).testBit p = true → ∀ k', k' < k → ClG σ h p k')) ∧ (m = 1 → mu7 h < mu7 h0)
theorem GL.init {σ : Sg} {h : Nat → Nat} (hI : HG σ h) (h0 : 0 < s_np σ → (h 106).testBit 0 = true) : GL σ h h 0 0 0 :=
  ⟨by decide, hI, h0, fun _ => ⟨fun _ _ => rfl, fun p hp => absurd hp (Nat.not_lt_zero _), fun _ k hk => absurd hk (Nat.not_lt_zero _)⟩, fun e => absurd e (by decide)⟩
theorem stG_ask {σ : Sg} {h : Nat → Nat} (hσ : SgOK σ) {p k i : Nat} (hp : p < s_np σ) (hk : k < s_ln σ p) (hb : (h 106).testBit i = true) : (stG σ h p k 106).testBit i = true := by
  have hnp := hσ.1
  obtain ⟨r1, r2, r3, r4, r5, r6, r7⟩ := hσ.row hp hk
  unfold stG
  split
  · split
    · rw [upN_ne _ _ (by omega)]; exact hb
    · exact hb
  · split
    · unfold com; rw [upN_ne _ _ (by omega)]; exact hb
    · split
      · next e =>
        have := r5 e
        unfold com
        rw [upN_ne _ _ (by omega), upN_ne _ _ (by omega), upN_self]; exact or_sub hb
      · split
        · split
          · rw [upN_ne _ _ (by omega)]; exact hb
          · exact hb
        · split
          · rw [upN_ne _ _ (by omega)]; exact hb
          · exact hb
theorem GL.step {σ : Sg} {h0 h : Nat → Nat} {m p k c : Nat} (hσ : SgOK σ) (hL : GL σ h0 h m p k) (hp : p < s_np σ) (hA : (h 106).testBit p = true) (hk : k < s_ln σ p) (hG : Gro h (stG σ h p k) c) : GL σ h0 (stG σ h p k) (m ||| c) p (k + 1) := by
  obtain ⟨l1, l2, l3, l4, l5⟩ := hL
  have hc1 := hG.1
  have e1 : ∀ {x z : Nat → Nat}, (∀ q, q < 107 → z q = x q) → mu7 z = mu7 x := fun h => sumN_congr (fun i hi => by rw [h i hi])
  refine ⟨?_, stG_HG hσ l2 hp (l2.2.2.2 p hA) hk, fun h => stG_ask hσ hp hk (l3 h), ?_, ?_⟩
  · rcases (by omega : m = 0 ∨ m = 1) with em | em <;> rcases (by omega : c = 0 ∨ c = 1) with ec | ec <;> subst em <;> subst ec <;> decide
  · intro e
    have em : m = 0 := by rcases (by omega : m = 0 ∨ m = 1) with em | em <;> rcases (by omega : c = 0 ∨ c = 1) with ec | ec <;> subst em <;> subst ec <;> first | rfl | exact absurd e (by decide)
    have ec : c = 0 := by rcases (by omega : c = 0 ∨ c = 1) with ec | ec; exact ec; subst em; subst ec; exact absurd e (by decide)
    have hsame := hG.2.1 ec
    refine ⟨fun j hj => (hsame j hj).trans ((l4 em).1 j hj), fun p' hp' hA' k' hk' => ?_, fun hA' k' hk' => ?_⟩
    · rw [hsame 106 (by decide)] at hA'
      exact ClG.congr hsame hσ (by omega) hk' ((l4 em).2.1 p' hp' hA' k' hk')
    · by_cases e1 : k' = k
      · subst e1; exact ClG.congr hsame hσ hp hk (stG_cl hσ l2 hp hk hsame)
      · exact ClG.congr hsame hσ hp (by omega) ((l4 em).2.2 hA k' (by omega))
  · intro e
    rcases (by omega : m = 0 ∨ m = 1) with em | em <;> rcases (by omega : c = 0 ∨ c = 1) with ec | ec
    · subst em; subst ec; exact absurd e (by decide)
    · have := hG.2.2 ec; rw [e1 (l4 em).1] at this; exact this
    · have := l5 em; rw [e1 (hG.2.1 ec)]; exact this
    · exact Nat.lt_trans (hG.2.2 ec) (l5 em)
theorem GL.next {σ : Sg} {h0 h : Nat → Nat} {m p k : Nat} (hL : GL σ h0 h m p k) (hk : (h 106).testBit p = true → k = s_ln σ p) : GL σ h0 h m (p + 1) 0 := by
  obtain ⟨l1, l2, l3, l4, l5⟩ := hL
  refine ⟨l1, l2, l3, fun e => ⟨(l4 e).1, fun p' hp' hA k' hk' => ?_, fun _ k hk => absurd hk (Nat.not_lt_zero _)⟩, l5⟩
  by_cases ep : p' = p
  · subst ep
    exact (l4 e).2.2 hA k' (by rw [hk hA]; exact hk')
  · exact (l4 e).2.1 p' (by omega) hA k' hk'
noncomputable def askB (σ : Sg) : Nat := mkS (Asked σ) 10
theorem askB_bit {σ : Sg} (hσ : SgOK σ) {p : Nat} : (askB σ).testBit p = true ↔ Asked σ p := by
  rw [askB, mkS_bit]
  exact ⟨fun h => h.2, fun h => ⟨by have := h.lt hσ; have := hσ.1; omega, h⟩⟩
theorem askB_lt (σ : Sg) : askB σ < 1024 := lt1024 (fun i hi => by cases hb : (askB σ).testBit i with | false => rfl | true => have := ((mkS_bit _ _ _).mp hb).1; omega)
/-- all as it must be -/
noncomputable def fin7 (σ : Sg) (q : Nat) : Nat := if q < 90 then mk16 (Held σ q) else if q < 106 then dr σ (q - 90) else askB σ
theorem GL.fin {σ : Sg} {h0 h : Nat → Nat} (hσ : SgOK σ) (hL : GL σ h0 h 0 (s_np σ) 0) {q : Nat} (hq : q < 107) : h q = fin7 σ q := by
  obtain ⟨l1, l2, l3, l4, l5⟩ := hL
  have hcl := (l4 rfl).2.1
  have hnp := hσ.1
  have hask : ∀ p, Asked σ p → (h 106).testBit p = true := fun p hA => hA (fun q => (h 106).testBit q = true) l3 (fun p hp hb k hk h2 => (hcl p hp hb k hk).2.1 h2)
  have hcl2 : HCl σ (SB h) := fun p hp hA k hk => (hcl p hp (hask p hA) k hk).1
  unfold fin7
  split
  · next h9 => exact mk16_eq (l2.1 q hq) (fun i _ => ⟨fun hb => l2.2.1 q h9 i hb, fun hH => (hH (SB h) hcl2).2⟩)
  · split
    · next h9 h10 =>
      refine mk16_eq (l2.1 q hq) (fun s _ => ⟨fun hb => l2.2.2.1 (q - 90) (by omega) s (by rw [show 90 + (q - 90) = q by omega]; exact hb), ?_⟩)
      rintro ⟨p, k, h1, h2, h3, h4, h5, h6, h7⟩
      have := (hcl p h1 (hask p h2) k h3).2.2 h4 (by rw [h5]; exact h6) s (h7 (SB h) hcl2).2
      rw [h5, show 90 + (q - 90) = q by omega] at this
      exact this
    · have e : q = 106 := by omega
      subst e
      refine bit_ext (fun i => ?_)
      rw [Bool.eq_iff_iff, askB_bit hσ]
      exact ⟨fun hb => l2.2.2.2 i hb, hask i⟩
/-- a line as it lies -/
def LnR (t : Nat → Option (Nat × Nat)) (I : Nat → Nat → Int32) (P : Nat → Nat → Value) (σ : Sg) (l a : Nat) : Prop := 144 ≤ a ∧ t a = some (9 + s_kk σ l, 0) ∧ I a 0 = nI (s_kk σ l) ∧ I a 1 = nI (s_nu σ l) ∧ I a 2 = nI (s_fs σ l) ∧ (s_kk σ l = 2 → I a 3 = nI (s_sc σ l)) ∧ (s_kk σ l = 1 → P a 3 = .ref (a + 1) ∧ t (a + 1) = some (100, 4) ∧ ∀ i, i < s_nu σ l → I (a + 1) i = nI (s_fr σ (4 * l + i)))
/-- a part as it lies: at a, its lines at L -/
def PtR (t : Nat → Option (Nat × Nat)) (I : Nat → Nat → Int32) (P : Nat → Nat → Value) (σ : Sg) (p a L : Nat) (la : Nat → Nat) : Prop := 144 ≤ a ∧ P 106 p = .ref a ∧ t a = some (7, 0) ∧ t (a + 1) = some (106, 12) ∧ I a 0 = nI (s_gr σ p) ∧ I a 1 = nI (s_ln σ p) ∧ P a 2 = .ref L ∧ t L = some (106, 12) ∧ P a 3 = .ref (a + 2) ∧ t (a + 2) = some (100, 8) ∧ (∀ n, n < 8 → I (a + 2) n = nI (mk16 (Wsh σ p n))) ∧ ∀ k, k < s_ln σ p → P L k = .ref (la (12 * p + k)) ∧ LnR t I P σ (12 * p + k) (la (12 * p + k))
abbrev Lay : Type := (Nat → Nat) × (Nat → Nat) × (Nat → Nat)
def HP (t : Nat → Option (Nat × Nat)) (I : Nat → Nat → Int32) (P : Nat → Nat → Value) (σ : Sg) (y : Lay) : Prop := I 100 5 = nI (s_np σ) ∧ (∀ p, p < 10 → s_np σ ≤ p → P 106 p = .null) ∧ (∀ p, p < s_np σ → PtR t I P σ p (y.1 p) (y.2.1 p) y.2.2) ∧ ∀ p q, p < s_np σ → q < s_np σ → p ≠ q → y.1 p ≠ y.1 q
section HPs
variable {t : Nat → Option (Nat × Nat)} {I : Nat → Nat → Int32} {P : Nat → Nat → Value} {σ : Sg} {y : Lay} {p k : Nat}
theorem HP.ge (h : HP t I P σ y) (hp : p < s_np σ) : 144 ≤ y.1 p := (h.2.2.1 p hp).1
theorem HP.at_ (h : HP t I P σ y) (hp : p < s_np σ) : P 106 p = .ref (y.1 p) := (h.2.2.1 p hp).2.1
theorem HP.ty (h : HP t I P σ y) (hp : p < s_np σ) : t (y.1 p) = some (7, 0) := (h.2.2.1 p hp).2.2.1
theorem HP.gr (h : HP t I P σ y) (hp : p < s_np σ) : I (y.1 p) 0 = nI (s_gr σ p) := (h.2.2.1 p hp).2.2.2.2.1
theorem HP.ln (h : HP t I P σ y) (hp : p < s_np σ) : I (y.1 p) 1 = nI (s_ln σ p) := (h.2.2.1 p hp).2.2.2.2.2.1
theorem HP.pl (h : HP t I P σ y) (hp : p < s_np σ) : P (y.1 p) 2 = .ref (y.2.1 p) := (h.2.2.1 p hp).2.2.2.2.2.2.1
theorem HP.tl (h : HP t I P σ y) (hp : p < s_np σ) : t (y.2.1 p) = some (106, 12) := (h.2.2.1 p hp).2.2.2.2.2.2.2.1
theorem HP.pw (h : HP t I P σ y) (hp : p < s_np σ) : P (y.1 p) 3 = .ref (y.1 p + 2) := (h.2.2.1 p hp).2.2.2.2.2.2.2.2.1
theorem HP.tw (h : HP t I P σ y) (hp : p < s_np σ) : t (y.1 p + 2) = some (100, 8) := (h.2.2.1 p hp).2.2.2.2.2.2.2.2.2.1
theorem HP.w (h : HP t I P σ y) (hp : p < s_np σ) {n : Nat} (hn : n < 8) : I (y.1 p + 2) n = nI (wS σ (8 * p + n)) := by rw [wS_at σ hn]; exact (h.2.2.1 p hp).2.2.2.2.2.2.2.2.2.2.1 n hn
theorem HP.lp (h : HP t I P σ y) (hp : p < s_np σ) (hk : k < s_ln σ p) : P (y.2.1 p) k = .ref (y.2.2 (12 * p + k)) := ((h.2.2.1 p hp).2.2.2.2.2.2.2.2.2.2.2 k hk).1
theorem HP.lr (h : HP t I P σ y) (hp : p < s_np σ) (hk : k < s_ln σ p) : LnR t I P σ (12 * p + k) (y.2.2 (12 * p + k)) := ((h.2.2.1 p hp).2.2.2.2.2.2.2.2.2.2.2 k hk).2
end HPs
/-- where the cells above 143 are as they were, parts and lines are -/
theorem HP.fr {t : Nat → Option (Nat × Nat)} {I I' : Nat → Nat → Int32} {P : Nat → Nat → Value} {σ : Sg} {y : Lay} (h : HP t I P σ y) (h5 : I' 100 5 = I 100 5) (hI : ∀ b, 144 ≤ b → I' b = I b) : HP t I' P σ y := by
  refine ⟨h5.trans h.1, h.2.1, fun p hp => ?_, h.2.2.2⟩
  obtain ⟨a1, a2, a3, a4, a5, a6, a7, a8, a9, a10, a11, a12⟩ := h.2.2.1 p hp
  refine ⟨a1, a2, a3, a4, by rw [hI _ a1]; exact a5, by rw [hI _ a1]; exact a6, a7, a8, a9, a10, by rw [hI _ (by omega)]; exact a11, fun k hk => ⟨(a12 k hk).1, ?_⟩⟩
  obtain ⟨b1, b2, b3, b4, b5, b6, b7⟩ := (a12 k hk).2
  exact ⟨b1, b2, by rw [hI _ b1]; exact b3, by rw [hI _ b1]; exact b4, by rw [hI _ b1]; exact b5, fun e => by rw [hI _ b1]; exact b6 e, fun e => ⟨(b7 e).1, (b7 e).2.1, by rw [hI _ (by omega)]; exact (b7 e).2.2⟩⟩
/-- grants matter nowhere in it but in the parts' own cells -/
theorem Wsh_gr (σ : Sg) (g : Nat → Nat) : Wsh (sGr σ g) = Wsh σ := rfl
/-- a flow object's place -/
def FlT (t : Nat → Option (Nat × Nat)) (P : Nat → Nat → Value) (f : Nat) : Prop := t f = some (4, 0) ∧ P f 0 = .ref 106 ∧ P f 1 = .ref (f + 1) ∧ t (f + 1) = some (100, 10) ∧ P f 2 = .ref (f + 2) ∧ t (f + 2) = some (100, 90) ∧ P f 3 = .ref (f + 3) ∧ t (f + 3) = some (100, 16) ∧ 108 ≤ f ∧ f ≤ 112
theorem FlT.f {t : Nat → Option (Nat × Nat)} {P : Nat → Nat → Value} (hS : SH t P) : FlT t P 108 := ⟨hS.T rfl, hS.P rfl, hS.P rfl, hS.T rfl, hS.P rfl, hS.T rfl, hS.P rfl, hS.T rfl, by decide, by decide⟩
theorem FlT.t {t : Nat → Option (Nat × Nat)} {P : Nat → Nat → Value} (hS : SH t P) : FlT t P 112 := ⟨hS.T rfl, hS.P rfl, hS.P rfl, hS.T rfl, hS.P rfl, hS.T rfl, hS.P rfl, hS.T rfl, by decide, by decide⟩
/-- a flow object holds the vector h -/
def FlR (I : Nat → Nat → Int32) (f : Nat) (h : Nat → Nat) : Prop := (∀ q, q < 90 → I (f + 2) q = nI (h q)) ∧ (∀ d, d < 16 → I (f + 3) d = nI (h (90 + d))) ∧ I f 4 = nI (h 106)
/-- but the flow object's cells nothing has changed -/
def FlF (f : Nat) (I I' : Nat → Nat → Int32) : Prop := (∀ b, b ≠ f → b ≠ f + 2 → b ≠ f + 3 → I' b = I b) ∧ ∀ k, k ≠ 4 → I' f k = I f k
theorem FlF.rf (f : Nat) (I : Nat → Nat → Int32) : FlF f I I := ⟨fun _ _ _ _ => rfl, fun _ _ => rfl⟩
theorem FlF.trans {f : Nat} {I1 I2 I3 : Nat → Nat → Int32} (h : FlF f I1 I2) (h' : FlF f I2 I3) : FlF f I1 I3 := ⟨fun b a c d => (h'.1 b a c d).trans (h.1 b a c d), fun k hk => (h'.2 k hk).trans (h.2 k hk)⟩
theorem FlF.held {f q : Nat} {I I' : Nat → Nat → Int32} {v : Int32} (hI : I' = u2 I (f + 2) q v) : FlF f I I' := ⟨fun b _ c _ => by rw [hI, u2_row _ _ _ c], fun k _ => by rw [hI, u2_row _ _ _ (by omega)]⟩
theorem FlF.door {f q : Nat} {I I' : Nat → Nat → Int32} {v : Int32} (hI : I' = u2 I (f + 3) q v) : FlF f I I' := ⟨fun b _ _ c => by rw [hI, u2_row _ _ _ c], fun k _ => by rw [hI, u2_row _ _ _ (by omega)]⟩
theorem FlF.ask {f : Nat} {I I' : Nat → Nat → Int32} {v : Int32} (hI : I' = u2 I f 4 v) : FlF f I I' := ⟨fun b c _ _ => by rw [hI, u2_row _ _ _ c], fun k hk => by rw [hI, u2_ne _ _ hk]⟩
theorem FlR.held {f q v : Nat} {I I' : Nat → Nat → Int32} {h : Nat → Nat} (hr : FlR I f h) (hI : I' = u2 I (f + 2) q (nI v)) (hq : q < 90) : FlR I' f (upN h q v) := by
  refine ⟨row_set hr.1 hI rfl, fun d hd => ?_, ?_⟩
  · rw [hI, u2_row _ _ _ (by omega), upN_ne _ _ (by omega)]; exact hr.2.1 d hd
  · rw [hI, u2_row _ _ _ (by omega), upN_ne _ _ (by omega)]; exact hr.2.2
theorem FlR.door {f d v : Nat} {I I' : Nat → Nat → Int32} {h : Nat → Nat} (hr : FlR I f h) (hI : I' = u2 I (f + 3) d (nI v)) (hd : d < 16) : FlR I' f (upN h (90 + d) v) := by
  refine ⟨fun q hq => ?_, fun e he => ?_, ?_⟩
  · rw [hI, u2_row _ _ _ (by omega), upN_ne _ _ (by omega)]; exact hr.1 q hq
  · rw [hI, u2_at]
    by_cases ee : e = d
    · rw [if_pos ee, ee, upN_self]
    · rw [if_neg ee, upN_ne _ _ (by omega)]; exact hr.2.1 e he
  · rw [hI, u2_row _ _ _ (by omega), upN_ne _ _ (by omega)]; exact hr.2.2
theorem FlR.ask {f v : Nat} {I I' : Nat → Nat → Int32} {h : Nat → Nat} (hr : FlR I f h) (hI : I' = u2 I f 4 (nI v)) : FlR I' f (upN h 106 v) := by
  refine ⟨fun q hq => ?_, fun e he => ?_, ?_⟩
  · rw [hI, u2_row _ _ _ (by omega), upN_ne _ _ (by omega)]; exact hr.1 q hq
  · rw [hI, u2_row _ _ _ (by omega), upN_ne _ _ (by omega)]; exact hr.2.1 e he
  · rw [hI, u2_self, upN_self]
theorem FlF.hp {t : Nat → Option (Nat × Nat)} {P : Nat → Nat → Value} {f : Nat} {I I' : Nat → Nat → Int32} (h : FlF f I I') (hf : FlT t P f) {σ : Sg} {y : Lay} (hP : HP t I P σ y) : HP t I' P σ y := by
  obtain ⟨-, -, -, -, -, -, -, -, h1, h2⟩ := hf
  exact hP.fr (by rw [h.1 100 (by omega) (by omega) (by omega)]) (fun b hb => h.1 b (by omega) (by omega) (by omega))
