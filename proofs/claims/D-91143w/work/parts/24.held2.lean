/-! ===== sweeps over all lines, till nothing grows ===== -/
theorem nx_shlb {a n : Nat} (ha : a < 2) (hn : n < 31) : nI a <<< (nI n &&& 31) = nI (a * 2 ^ n) := by
  have h2 : 2 ^ n < 2 ^ 31 := Nat.pow_lt_pow_right (by decide) hn
  have h3 : a * 2 ^ n ≤ 1 * 2 ^ n := Nat.mul_le_mul_right _ (by omega)
  exact pk_shlN _ n (s_l n (by omega)) (by omega)
theorem x_shlbN {G : GG} {d : Nat} {y : Mk} {pc : Nat} {ls st : List Value} {Q : AO → AH → Prop} {h : AH} {a n : Nat} (hd : decode (mk_c y) pc = .ok (.ishl, 1)) (ha : a < 2) (hn : n < 31) (k : RA G d y (pc + 1) ls (.int (nI (a * 2 ^ n)) :: st) h Q) : RA G d y pc ls (.int (nI n) :: .int (nI a) :: st) h Q :=
  x_ishl hd (by rw [nx_shlb ha hn]; exact k)
theorem x_tbN {G : GG} {d : Nat} {y : Mk} {pc : Nat} {ls st : List Value} {Q : AO → AH → Prop} {h : AH} {a n : Nat} (hd : decode (mk_c y) pc = .ok (.iand, 1)) (k : RA G d y (pc + 1) ls (.int (nI (tb a n)) :: st) h Q) : RA G d y pc ls (.int (nI 1) :: .int (nI (a / 2 ^ n)) :: st) h Q := x_iandN hd k
def SB (h : Nat → Nat) (q s : Nat) : Prop := q < 90 ∧ (h q).testBit s = true
def G0 (σ : Sg) (h : Nat → Nat) : Prop := ∀ p, p < s_np σ → Asked σ p → ∀ k, k < s_ln σ p → s_kk σ (12 * p + k) = 0 → (s_gr σ p).testBit (s_nu σ (12 * p + k)) = true → (h (8 * p + s_fs σ (12 * p + k))).testBit (s_nu σ (12 * p + k)) = true
theorem com_mono {h w : Nat → Nat} {q x j s : Nat} (hb : (h j).testBit s = true) : (com h w q x j).testBit s = true := by
  unfold com
  by_cases e : j = q
  · rw [e, upN_self]; rw [e] at hb; exact or_sub hb
  · rw [upN_ne _ _ e]; exact hb
theorem stepL_mono {σ : Sg} {w h : Nat → Nat} {p k j s : Nat} (hb : (h j).testBit s = true) : (stepL σ w h p k j).testBit s = true := by
  unfold stepL
  split
  · exact com_mono hb
  · split
    · exact com_mono (com_mono hb)
    · split
      · by_cases e : j = 80 + p
        · rw [e, upN_self]; rw [e] at hb; exact or_sub hb
        · rw [upN_ne _ _ e]; exact hb
      · exact hb
theorem G0.step {σ : Sg} {w h : Nat → Nat} {p k : Nat} (hg : G0 σ h) : G0 σ (stepL σ w h p k) := fun p' hp hA k' hk h0 hb => stepL_mono (hg p' hp hA k' hk h0 hb)
/-- nothing has grown at this line: it is closed -/
theorem stepL_cl {σ : Sg} {w h : Nat → Nat} (hσ : SgOK σ) (hW : WI σ w) (hI : HI σ h) (hg : G0 σ h) {p k : Nat} (hp : p < s_np σ) (hA : Asked σ p) (hk : k < s_ln σ p) (e : ∀ q, q < 90 → stepL σ w h p k q = h q) : HClK σ (SB h) p k := by
  have hnp := hσ.1
  obtain ⟨r1, r2, r3, r4, r5, r6, r7⟩ := hσ.row hp hk
  refine ⟨fun h0 hb => ⟨by omega, hg p hp hA k hk h0 hb⟩, fun h1 i hi s hs hw => ⟨by omega, ?_⟩, fun h2 => ⟨fun s hs hw => ?_, fun s hs hw => ?_⟩, fun h5 s hs => ⟨by omega, ?_⟩⟩
  · have e1 := e (8 * p + s_fs σ (12 * p + k)) (by omega)
    unfold stepL at e1
    rw [if_pos h1] at e1
    unfold com at e1
    rw [upN_self] at e1
    exact com_cl (orF_lt (fun i hi => hI.1 _ (by have := r7 h1 i hi; omega))) e1 (orF_bit.mpr ⟨i, hi, hs.2⟩) ((hW.bit hσ hp hA r3).mpr hw)
  · obtain ⟨q1, q2⟩ := r5 h2
    have hA2 : Asked σ (s_nu σ (12 * p + k)) := hA.step hp hk h2
    refine ⟨by omega, ?_⟩
    have e1 := e (8 * s_nu σ (12 * p + k)) (by omega)
    unfold stepL at e1
    rw [if_neg (by omega), if_pos h2] at e1
    have hw' : (w (8 * s_nu σ (12 * p + k))).testBit s = false := (hW.bit hσ q1 hA2 (n := 0) (by decide)).mpr hw
    have h3 : (com h w (8 * s_nu σ (12 * p + k)) (h (8 * p + s_fs σ (12 * p + k))) (8 * s_nu σ (12 * p + k))).testBit s = true := by
      unfold com
      rw [upN_self, Nat.testBit_or, adf_bit (hI.1 _ (by omega)), hs.2, hw']; simp
    have h4 := com_mono (w := w) (q := 8 * p + s_sc σ (12 * p + k)) (x := h (80 + s_nu σ (12 * p + k))) h3
    rw [e1] at h4
    exact h4
  · obtain ⟨q1, q2⟩ := r5 h2
    refine ⟨by omega, ?_⟩
    have e1 := e (8 * p + s_sc σ (12 * p + k)) (by omega)
    unfold stepL at e1
    rw [if_neg (by omega), if_pos h2] at e1
    rw [← e1]
    show (upN _ _ _ _).testBit s = true
    rw [upN_self, Nat.testBit_or, adf_bit (hI.1 _ (by omega)), hs.2, (hW.bit hσ hp hA q2).mpr hw]; simp
  · have e1 := e (80 + p) (by omega)
    unfold stepL at e1
    rw [if_neg (by omega), if_neg (by omega), if_pos h5, upN_self] at e1
    rw [← e1, Nat.testBit_or, hs.2]; simp
theorem SB_congr {σ : Sg} {h h' : Nat → Nat} (e : ∀ q, q < 90 → h' q = h q) {p k : Nat} (hc : HClK σ (SB h) p k) : HClK σ (SB h') p k := by
  have : SB h' = SB h := by
    funext q s
    unfold SB
    by_cases hq : q < 90
    · rw [e q hq]
    · simp [hq]
  rw [this]; exact hc
/-- the sweep's invariant -/
def HL2 (σ : Sg) (h0 h : Nat → Nat) (m p k : Nat) : Prop := m ≤ 1 ∧ HI σ h ∧ G0 σ h ∧ (m = 0 → (∀ q, q < 90 → h q = h0 q) ∧ (∀ p', p' < p → Asked σ p' → ∀ k, k < s_ln σ p' → HClK σ (SB h) p' k) ∧ (Asked σ p → ∀ k', k' < k → HClK σ (SB h) p k')) ∧ (m = 1 → mu90 h < mu90 h0)
theorem HL2.init {σ : Sg} {h : Nat → Nat} (hI : HI σ h) (hg : G0 σ h) : HL2 σ h h 0 0 0 :=
  ⟨by decide, hI, hg, fun _ => ⟨fun _ _ => rfl, fun p hp => absurd hp (Nat.not_lt_zero _), fun _ k hk => absurd hk (Nat.not_lt_zero _)⟩, fun e => absurd e (by decide)⟩
theorem HL2.step {σ : Sg} {h0 h w : Nat → Nat} {m p k c m' : Nat} (hσ : SgOK σ) (hW : WI σ w) (hL : HL2 σ h0 h m p k) (hp : p < s_np σ) (hA : Asked σ p) (hk : k < s_ln σ p) (hG : Grow h (stepL σ w h p k) c) (hm : m' = if m = 0 ∧ c = 0 then 0 else 1) : HL2 σ h0 (stepL σ w h p k) m' p (k + 1) := by
  obtain ⟨l1, l2, l3, l4, l5⟩ := hL
  have hc1 := hG.1
  refine ⟨by rw [hm]; split <;> decide, stepL_HI hσ hW l2 hp hA hk, l3.step, fun e => ?_, fun e => ?_⟩
  · rw [hm] at e
    split at e
    · next q =>
      have hsame := hG.2.1 q.2
      refine ⟨fun j hj => (hsame j hj).trans ((l4 q.1).1 j hj), fun p' hp' hA' k' hk' => SB_congr hsame ((l4 q.1).2.1 p' hp' hA' k' hk'), fun _ k' hk' => SB_congr hsame ?_⟩
      by_cases e1 : k' = k
      · subst e1; exact stepL_cl hσ hW l2 l3 hp hA hk hsame
      · exact (l4 q.1).2.2 hA k' (by omega)
    · cases e
  · rw [hm] at e
    have e1 : ∀ {x z : Nat → Nat}, (∀ q, q < 90 → z q = x q) → mu90 z = mu90 x := fun h => sumN_congr (fun i hi => by rw [h i hi])
    split at e
    · cases e
    · next q =>
      rcases (by omega : m = 0 ∨ m = 1) with em | em <;> rcases (by omega : c = 0 ∨ c = 1) with ec | ec
      · exact absurd ⟨em, ec⟩ q
      · have := hG.2.2 ec; rw [e1 (l4 em).1] at this; exact this
      · have := l5 em; rw [e1 (hG.2.1 ec)]; exact this
      · exact Nat.lt_trans (hG.2.2 ec) (l5 em)
theorem HL2.next {σ : Sg} {h0 h : Nat → Nat} {m p k : Nat} (hL : HL2 σ h0 h m p k) (hk : Asked σ p → k = s_ln σ p) : HL2 σ h0 h m (p + 1) 0 := by
  obtain ⟨l1, l2, l3, l4, l5⟩ := hL
  refine ⟨l1, l2, l3, fun e => ⟨(l4 e).1, fun p' hp' hA k' hk' => ?_, fun _ k hk => absurd hk (Nat.not_lt_zero _)⟩, l5⟩
  by_cases ep : p' = p
  · subst ep
    exact (l4 e).2.2 hA k' (by rw [hk hA]; exact hk')
  · exact (l4 e).2.1 p' (by omega) hA k' hk'
theorem HL2.fin {σ : Sg} {h0 h : Nat → Nat} (hL : HL2 σ h0 h 0 (s_np σ) 0) {q : Nat} (hq : q < 90) : h q = mk16 (Held σ q) := by
  obtain ⟨l1, l2, l3, l4, l5⟩ := hL
  refine mk16_eq (l2.1 q hq) (fun i _ => ⟨fun hb => l2.2 q hq i hb, fun hH => ?_⟩)
  exact (hH (SB h) (fun p hp hA k hk => (l4 rfl).2.1 p hp hA k hk)).2
/-- the first pass: washes and gets -/
def Dn (p k p' k' : Nat) : Prop := p' < p ∨ (p' = p ∧ k' < k)
def WL (σ : Sg) (w h : Nat → Nat) (p k : Nat) : Prop := (∀ q, q < 80 → w q < 65536) ∧ HI σ h ∧
  (∀ p' n s, p' < s_np σ → n < 8 → ((w (8 * p' + n)).testBit s = true ↔ Asked σ p' ∧ ∃ k', k' < s_ln σ p' ∧ Dn p k p' k' ∧ s_kk σ (12 * p' + k') = 4 ∧ s_fs σ (12 * p' + k') = n ∧ s_nu σ (12 * p' + k') = s)) ∧
  ∀ p', p' < s_np σ → Asked σ p' → ∀ k', k' < s_ln σ p' → Dn p k p' k' → s_kk σ (12 * p' + k') = 0 → (s_gr σ p').testBit (s_nu σ (12 * p' + k')) = true → (h (8 * p' + s_fs σ (12 * p' + k'))).testBit (s_nu σ (12 * p' + k')) = true
theorem WL.init (σ : Sg) {w h : Nat → Nat} (hw : ∀ q, q < 80 → w q = 0) (hh : ∀ q, q < 90 → h q = 0) (hσ : SgOK σ) : WL σ w h 0 0 := by
  have hnp := hσ.1
  refine ⟨fun q hq => by rw [hw q hq]; decide, ⟨fun q hq => by rw [hh q hq]; decide, fun q hq s hb => by rw [hh q hq] at hb; simp at hb⟩, fun p' n s hp hn => ?_, fun p' hp hA k' hk hd => ?_⟩
  · rw [hw _ (by omega)]
    constructor
    · intro hb; simp at hb
    · rintro ⟨-, k', -, hd, -⟩
      rcases hd with z | z <;> omega
  · rcases hd with z | z <;> omega
theorem WL.next {σ : Sg} {w h : Nat → Nat} {p k : Nat} (hL : WL σ w h p k) (hk : Asked σ p → k = s_ln σ p) : WL σ w h (p + 1) 0 := by
  have key : ∀ p' k', Asked σ p' → k' < s_ln σ p' → (Dn p k p' k' ↔ Dn (p + 1) 0 p' k') := by
    intro p' k' hA hk'
    constructor
    · rintro (z | ⟨z, z2⟩)
      · exact Or.inl (by omega)
      · exact Or.inl (by omega)
    · rintro (z | ⟨z, z2⟩)
      · by_cases e : p' = p
        · subst e; exact Or.inr ⟨rfl, by rw [hk hA]; exact hk'⟩
        · exact Or.inl (by omega)
      · omega
  refine ⟨hL.1, hL.2.1, fun p' n s hp hn => ?_, fun p' hp hA k' hk' hd => hL.2.2.2 p' hp hA k' hk' ((key p' k' hA hk').mpr hd)⟩
  rw [hL.2.2.1 p' n s hp hn]
  constructor
  · rintro ⟨hA, k', h1, h2, h3⟩; exact ⟨hA, k', h1, (key p' k' hA h1).mp h2, h3⟩
  · rintro ⟨hA, k', h1, h2, h3⟩; exact ⟨hA, k', h1, (key p' k' hA h1).mpr h2, h3⟩
theorem Dn_succ {p k p' k' : Nat} : Dn p (k + 1) p' k' ↔ Dn p k p' k' ∨ (p' = p ∧ k' = k) := by
  unfold Dn; omega
/-- a line that is neither a wash nor a get that brings anything -/
theorem WL.line {σ : Sg} {w h : Nat → Nat} {p k : Nat} (hσ : SgOK σ) (hL : WL σ w h p k) (hp : p < s_np σ) (hA : Asked σ p) (hk : k < s_ln σ p) :
    WL σ (if s_kk σ (12 * p + k) = 4 then upN w (8 * p + s_fs σ (12 * p + k)) (w (8 * p + s_fs σ (12 * p + k)) ||| 2 ^ s_nu σ (12 * p + k)) else w)
      (if s_kk σ (12 * p + k) = 0 then upN h (8 * p + s_fs σ (12 * p + k)) (h (8 * p + s_fs σ (12 * p + k)) ||| (s_gr σ p &&& 2 ^ s_nu σ (12 * p + k))) else h) p (k + 1) := by
  have hnp := hσ.1
  obtain ⟨r1, r2, r3, -⟩ := hσ.row hp hk
  have hgr := hσ.gr hp
  obtain ⟨l1, l2, l3, l4⟩ := hL
  refine ⟨fun q hq => ?_, ?_, fun p' n s hp' hn => ?_, fun p' hp' hA' k' hk' hd h0 hb => ?_⟩
  · split
    · by_cases e : q = 8 * p + s_fs σ (12 * p + k)
      · rw [e, upN_self]; exact or_lt (l1 _ (by omega)) (p2_lt r2)
      · rw [upN_ne _ _ e]; exact l1 q hq
    · exact l1 q hq
  · split
    · next e0 =>
      refine l2.up (or_lt (l2.1 _ (by omega)) (and_lt hgr)) (fun s hs => ?_)
      rw [Nat.testBit_or, Nat.testBit_and, p2_bit, Bool.or_eq_true, Bool.and_eq_true] at hs
      rcases hs with hs | ⟨h1, h2⟩
      · exact l2.2 _ (by omega) s hs
      · have h2 := of_decide_eq_true h2
        subst h2
        exact (Held.cl σ p hp hA k hk).1 e0 h1
    · exact l2
  · have hold := l3 p' n s hp' hn
    have hsp : (∃ k', k' < s_ln σ p' ∧ Dn p (k + 1) p' k' ∧ s_kk σ (12 * p' + k') = 4 ∧ s_fs σ (12 * p' + k') = n ∧ s_nu σ (12 * p' + k') = s) ↔ (∃ k', k' < s_ln σ p' ∧ Dn p k p' k' ∧ s_kk σ (12 * p' + k') = 4 ∧ s_fs σ (12 * p' + k') = n ∧ s_nu σ (12 * p' + k') = s) ∨ (p' = p ∧ s_kk σ (12 * p + k) = 4 ∧ s_fs σ (12 * p + k) = n ∧ s_nu σ (12 * p + k) = s) := by
      constructor
      · rintro ⟨k', a1, a2, a3, a4, a5⟩
        rcases Dn_succ.mp a2 with z | ⟨z1, z2⟩
        · exact Or.inl ⟨k', a1, z, a3, a4, a5⟩
        · subst z1; subst z2; exact Or.inr ⟨rfl, a3, a4, a5⟩
      · rintro (⟨k', a1, a2, a3⟩ | ⟨z, a3⟩)
        · exact ⟨k', a1, Dn_succ.mpr (Or.inl a2), a3⟩
        · subst z; exact ⟨k, hk, Dn_succ.mpr (Or.inr ⟨rfl, rfl⟩), a3⟩
    rw [hsp]
    split
    · next e4 =>
      by_cases e : 8 * p' + n = 8 * p + s_fs σ (12 * p + k)
      · have ep : p' = p := by omega
        have en : n = s_fs σ (12 * p + k) := by omega
        subst ep; subst en
        rw [upN_self, Nat.testBit_or, p2_bit, Bool.or_eq_true, hold, decide_eq_true_iff]
        constructor
        · rintro (⟨z1, z2⟩ | z)
          · exact ⟨z1, Or.inl z2⟩
          · exact ⟨hA, Or.inr ⟨rfl, e4, rfl, z⟩⟩
        · rintro ⟨z1, z2 | ⟨-, -, -, z⟩⟩
          · exact Or.inl ⟨z1, z2⟩
          · exact Or.inr z
      · rw [upN_ne _ _ e, hold]
        constructor
        · rintro ⟨z1, z2⟩; exact ⟨z1, Or.inl z2⟩
        · rintro ⟨z1, z2 | ⟨a1, a2, a3, a4⟩⟩
          · exact ⟨z1, z2⟩
          · exact absurd (by rw [a1, a3]) e
    · next e4 =>
      rw [hold]
      constructor
      · rintro ⟨z1, z2⟩; exact ⟨z1, Or.inl z2⟩
      · rintro ⟨z1, z2 | ⟨a1, a2, a3, a4⟩⟩
        · exact ⟨z1, z2⟩
        · exact absurd a2 e4
  · rcases Dn_succ.mp hd with z | ⟨z1, z2⟩
    · have := l4 p' hp' hA' k' hk' z h0 hb
      split
      · by_cases e : 8 * p' + s_fs σ (12 * p' + k') = 8 * p + s_fs σ (12 * p + k)
        · rw [e, upN_self]; rw [e] at this; exact or_sub this
        · rw [upN_ne _ _ e]; exact this
      · exact this
    · subst z1; subst z2
      rw [if_pos h0, upN_self, Nat.testBit_or, Nat.testBit_and, p2_bit, hb]; simp
theorem WL.fin {σ : Sg} {w h : Nat → Nat} (hσ : SgOK σ) (hL : WL σ w h (s_np σ) 0) : WI σ w ∧ HI σ h ∧ G0 σ h := by
  have hnp := hσ.1
  refine ⟨fun p hp hA n hn => mk16_eq (hL.1 _ (by omega)) (fun s _ => ?_), hL.2.1, fun p hp hA k hk => hL.2.2.2 p hp hA k hk (Or.inl hp)⟩
  rw [hL.2.2.1 p n s hp hn]
  constructor
  · rintro ⟨-, k', h1, h2, h3⟩; exact ⟨k', h1, h3⟩
  · rintro ⟨k', h1, h3⟩; exact ⟨hA, k', h1, Or.inl hp, h3⟩
/-- what goes out: rows by secret -/
def DLk (σ : Sg) (dl : Nat → Nat) (p k : Nat) : Prop := ∀ s, s < 16 → dl s < 65536 ∧ ∀ d, ((dl s).testBit d = true ↔ ∃ p' k', p' < s_np σ ∧ Asked σ p' ∧ k' < s_ln σ p' ∧ Dn p k p' k' ∧ s_kk σ (12 * p' + k') = 3 ∧ s_nu σ (12 * p' + k') = d ∧ (s_gr σ p').testBit d = true ∧ Held σ (8 * p' + s_fs σ (12 * p' + k')) s)
theorem DLk.init (σ : Sg) {dl : Nat → Nat} (h : ∀ s, s < 16 → dl s = 0) : DLk σ dl 0 0 := by
  intro s hs
  rw [h s hs]
  refine ⟨by decide, fun d => ⟨fun hb => by simp at hb, ?_⟩⟩
  rintro ⟨p', k', -, -, -, hd, -⟩
  rcases hd with z | z <;> omega
theorem DLk.next {σ : Sg} {dl : Nat → Nat} {p k : Nat} (hL : DLk σ dl p k) (hk : Asked σ p → k = s_ln σ p) : DLk σ dl (p + 1) 0 := by
  intro s hs
  refine ⟨(hL s hs).1, fun d => ?_⟩
  rw [(hL s hs).2 d]
  constructor
  · rintro ⟨p', k', h1, h2, h3, h4, h5⟩
    refine ⟨p', k', h1, h2, h3, Or.inl ?_, h5⟩
    rcases h4 with z | z <;> omega
  · rintro ⟨p', k', h1, h2, h3, h4, h5⟩
    refine ⟨p', k', h1, h2, h3, ?_, h5⟩
    rcases h4 with z | z
    · by_cases e : p' = p
      · subst e; exact Or.inr ⟨rfl, by rw [hk h2]; exact h3⟩
      · exact Or.inl (by omega)
    · omega
theorem DLk.skip {σ : Sg} {dl : Nat → Nat} {p k : Nat} (hL : DLk σ dl p k) (hn : ¬ (s_kk σ (12 * p + k) = 3 ∧ (s_gr σ p).testBit (s_nu σ (12 * p + k)) = true)) : DLk σ dl p (k + 1) := by
  intro s hs
  refine ⟨(hL s hs).1, fun d => ?_⟩
  rw [(hL s hs).2 d]
  constructor
  · rintro ⟨p', k', h1, h2, h3, h4, h5⟩
    exact ⟨p', k', h1, h2, h3, Dn_succ.mpr (Or.inl h4), h5⟩
  · rintro ⟨p', k', h1, h2, h3, h4, h5⟩
    rcases Dn_succ.mp h4 with z | ⟨z1, z2⟩
    · exact ⟨p', k', h1, h2, h3, z, h5⟩
    · subst z1; subst z2
      exact absurd ⟨h5.1, by rw [h5.2.1]; exact h5.2.2.1⟩ hn
theorem tb_shl {a s n i : Nat} : (tb a s * 2 ^ n).testBit i = (a.testBit s && decide (n = i)) := by
  rw [tb_eq]
  cases a.testBit s with
  | false => simp
  | true => rw [show (true : Bool).toNat = 1 from rfl, Nat.one_mul, p2_bit]; simp
theorem DLk.line {σ : Sg} {dl dl' : Nat → Nat} {H : Nat} {p k : Nat} (hσ : SgOK σ) (hL : DLk σ dl p k) (hp : p < s_np σ) (hA : Asked σ p) (hk : k < s_ln σ p) (h3 : s_kk σ (12 * p + k) = 3) (hg : (s_gr σ p).testBit (s_nu σ (12 * p + k)) = true) (hH : ∀ s, s < 16 → (H.testBit s = true ↔ Held σ (8 * p + s_fs σ (12 * p + k)) s)) (hd : ∀ s, s < 16 → dl' s = dl s ||| tb H s * 2 ^ s_nu σ (12 * p + k)) : DLk σ dl' p (k + 1) := by
  have r2 := (hσ.row hp hk).2.1
  intro s hs
  rw [hd s hs]
  have hlt : tb H s * 2 ^ s_nu σ (12 * p + k) < 65536 := by
    refine lt_of_bits (fun i hi => ?_)
    rw [tb_shl, decide_eq_false (show ¬ s_nu σ (12 * p + k) = i by omega), Bool.and_false]
  refine ⟨or_lt (hL s hs).1 hlt, fun d => ?_⟩
  rw [Nat.testBit_or, Bool.or_eq_true, (hL s hs).2 d, tb_shl, Bool.and_eq_true, hH s hs, decide_eq_true_iff]
  constructor
  · rintro (⟨p', k', h1, h2, h4, h5, h6⟩ | ⟨z1, z2⟩)
    · exact ⟨p', k', h1, h2, h4, Dn_succ.mpr (Or.inl h5), h6⟩
    · exact ⟨p, k, hp, hA, hk, Dn_succ.mpr (Or.inr ⟨rfl, rfl⟩), h3, z2, by rw [← z2]; exact hg, z1⟩
  · rintro ⟨p', k', h1, h2, h4, h5, h6⟩
    rcases Dn_succ.mp h5 with z | ⟨z1, z2⟩
    · exact Or.inl ⟨p', k', h1, h2, h4, z, h6⟩
    · subst z1; subst z2
      exact Or.inr ⟨h6.2.2.2, h6.2.1⟩
theorem DLk.fin {σ : Sg} {dl : Nat → Nat} (hL : DLk σ dl (s_np σ) 0) {s : Nat} (hs : s < 16) : dl s = mk16 (fun d => Door σ d s) := by
  refine mk16_eq (hL s hs).1 (fun d _ => ?_)
  rw [(hL s hs).2 d]
  constructor
  · rintro ⟨p', k', h1, h2, h3, h4, h5⟩; exact ⟨p', k', h1, h2, h3, h5⟩
  · rintro ⟨p', k', h1, h2, h3, h5⟩; exact ⟨p', k', h1, h2, h3, Or.inl h1, h5⟩
