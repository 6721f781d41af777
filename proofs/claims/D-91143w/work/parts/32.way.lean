/-! ===== ways: where a line leads a secret, how far it is to a door ===== -/
/-- the line k of part p leads the secret s from the place q to q' (90: out by the door d) -/
def Ld (σ : Sg) (s d q p k q' : Nat) : Prop :=
  (s_kk σ (12 * p + k) = 1 ∧ (∃ i, i < s_nu σ (12 * p + k) ∧ q = 8 * p + s_fr σ (4 * (12 * p + k) + i)) ∧ ¬ Wsh σ p (s_fs σ (12 * p + k)) s ∧ q' = 8 * p + s_fs σ (12 * p + k)) ∨
  (s_kk σ (12 * p + k) = 2 ∧ q = 80 + s_nu σ (12 * p + k) ∧ ¬ Wsh σ p (s_sc σ (12 * p + k)) s ∧ q' = 8 * p + s_sc σ (12 * p + k)) ∨
  (s_kk σ (12 * p + k) = 2 ∧ q = 8 * p + s_fs σ (12 * p + k) ∧ ¬ Wsh σ (s_nu σ (12 * p + k)) 0 s ∧ q' = 8 * s_nu σ (12 * p + k)) ∨
  (s_kk σ (12 * p + k) = 3 ∧ q = 8 * p + s_fs σ (12 * p + k) ∧ s_nu σ (12 * p + k) = d ∧ (s_gr σ p).testBit d = true ∧ q' = 90) ∨
  (s_kk σ (12 * p + k) = 5 ∧ q = 8 * p + s_fs σ (12 * p + k) ∧ q' = 80 + p)
theorem Ld.fn {σ : Sg} {s d q p k a b : Nat} (hσ : SgOK σ) (hp : p < s_np σ) (hk : k < s_ln σ p) (h1 : Ld σ s d q p k a) (h2 : Ld σ s d q p k b) : a = b := by
  have hnp := hσ.1
  have hf := (hσ.row hp hk).2.2.1
  rcases h1 with ⟨a1, -, -, a2⟩ | ⟨a1, a3, -, a2⟩ | ⟨a1, a3, -, a2⟩ | ⟨a1, a3, -, -, a2⟩ | ⟨a1, a3, a2⟩ <;> rcases h2 with ⟨b1, -, -, b2⟩ | ⟨b1, b3, -, b2⟩ | ⟨b1, b3, -, b2⟩ | ⟨b1, b3, -, -, b2⟩ | ⟨b1, b3, b2⟩ <;> omega
theorem Ld.lt {σ : Sg} {s d q p k q' : Nat} (hσ : SgOK σ) (hp : p < s_np σ) (hk : k < s_ln σ p) (h : Ld σ s d q p k q') : q < 90 ∧ q' ≤ 90 := by
  have hnp := hσ.1
  obtain ⟨r1, r2, r3, r4, r5, r6, r7⟩ := hσ.row hp hk
  rcases h with ⟨a1, ⟨i, hi, ei⟩, -, a2⟩ | ⟨a1, a3, -, a2⟩ | ⟨a1, a3, -, a2⟩ | ⟨a1, a3, -, -, a2⟩ | ⟨a1, a3, a2⟩
  · have := r7 a1 i hi; omega
  · have := r5 a1; omega
  · have := r5 a1; omega
  · omega
  · omega
noncomputable def ldI (σ : Sg) (s d q p k : Nat) : Int32 := @dite Int32 (∃ q', Ld σ s d q p k q') (Classical.propDecidable _) (fun h => nI (Classical.choose h)) (fun _ => -2)
theorem ldI_t {σ : Sg} {s d q p k q' : Nat} (hσ : SgOK σ) (hp : p < s_np σ) (hk : k < s_ln σ p) (h : Ld σ s d q p k q') : ldI σ s d q p k = nI q' := by
  have hex : ∃ q', Ld σ s d q p k q' := ⟨q', h⟩
  unfold ldI
  rw [@dif_pos _ (Classical.propDecidable _) hex]
  exact congrArg nI (Ld.fn hσ hp hk (Classical.choose_spec hex) h)
theorem ldI_f {σ : Sg} {s d q p k : Nat} (h : ∀ q', ¬ Ld σ s d q p k q') : ldI σ s d q p k = -2 := by
  unfold ldI
  rw [@dif_neg _ (Classical.propDecidable _) (fun z => h z.choose z.choose_spec)]
def Pth (σ : Sg) (s d : Nat) : Nat → Nat → Prop
  | 0, q => q = 90
  | n + 1, q => ∃ p k q', p < s_np σ ∧ Asked σ p ∧ k < s_ln σ p ∧ Ld σ s d q p k q' ∧ Pth σ s d n q'
theorem least_ex {P : Nat → Prop} {n : Nat} (h : P n) : ∃ m, P m ∧ ∀ k, k < m → ¬ P k := by
  induction n using Nat.strongRecOn with
  | _ n ih =>
    by_cases hc : ∃ k, k < n ∧ P k
    · obtain ⟨k, h1, h2⟩ := hc
      exact ih k h1 h2
    · exact ⟨n, h, fun k hk hp => hc ⟨k, hk, hp⟩⟩
/-- how far it is (100000: there is no way) -/
noncomputable def dF (σ : Sg) (s d q : Nat) : Nat := @dite Nat (∃ n, Pth σ s d n q ∧ ∀ m, m < n → ¬ Pth σ s d m q) (Classical.propDecidable _) (fun h => Classical.choose h) (fun _ => 100000)
theorem dF_spec {σ : Sg} {s d q n : Nat} (h : Pth σ s d n q) : Pth σ s d (dF σ s d q) q ∧ ∀ m, m < dF σ s d q → ¬ Pth σ s d m q := by
  have hex := least_ex (P := fun m => Pth σ s d m q) h
  unfold dF
  rw [@dif_pos _ (Classical.propDecidable _) hex]
  exact Classical.choose_spec hex
theorem dF_le {σ : Sg} {s d q n : Nat} (h : Pth σ s d n q) : dF σ s d q ≤ n := by
  rcases Nat.lt_or_ge n (dF σ s d q) with z | z
  · exact absurd h ((dF_spec h).2 n z)
  · exact z
theorem dF_none {σ : Sg} {s d q : Nat} (h : ∀ n, ¬ Pth σ s d n q) : dF σ s d q = 100000 := by
  unfold dF
  rw [@dif_neg _ (Classical.propDecidable _) (fun z => h z.choose z.choose_spec.1)]
theorem dF_90 (σ : Sg) (s d : Nat) : dF σ s d 90 = 0 := Nat.le_zero.mp (dF_le (n := 0) rfl)
/-- a step nearer -/
theorem dF_step {σ : Sg} {s d q n : Nat} (h : Pth σ s d (n + 1) q) (e : dF σ s d q = n + 1) : ∃ p k q', p < s_np σ ∧ Asked σ p ∧ k < s_ln σ p ∧ Ld σ s d q p k q' ∧ Pth σ s d n q' ∧ dF σ s d q' = n := by
  obtain ⟨p, k, q', h1, h2, h3, h4, h5⟩ := h
  refine ⟨p, k, q', h1, h2, h3, h4, h5, ?_⟩
  have h6 := dF_le h5
  rcases Nat.lt_or_ge (dF σ s d q') n with z | z
  · have h7 : Pth σ s d (dF σ s d q' + 1) q := ⟨p, k, q', h1, h2, h3, h4, (dF_spec h5).1⟩
    have := dF_le h7
    omega
  · omega
theorem pigeon {N : Nat} {f : Nat → Nat} : ∀ n, (∀ m, 1 ≤ m → m ≤ n → ∃ q, q < N ∧ f q = m) → n ≤ sumN N (fun q => if 1 ≤ f q ∧ f q ≤ n then 1 else 0) := by
  intro n
  induction n with
  | zero => intro _; exact Nat.zero_le _
  | succ n ih =>
    intro h
    have h1 := ih (fun m a b => h m a (by omega))
    have e : sumN N (fun q => if 1 ≤ f q ∧ f q ≤ n + 1 then 1 else 0) = sumN N (fun q => if 1 ≤ f q ∧ f q ≤ n then 1 else 0) + sumN N (fun q => if f q = n + 1 then 1 else 0) := by
      rw [← sumN_add]
      refine sumN_congr (fun i _ => ?_)
      by_cases a : f i = n + 1
      · rw [if_pos (by omega), if_neg (by omega), if_pos a]
      · by_cases b : 1 ≤ f i ∧ f i ≤ n
        · rw [if_pos (by omega), if_pos b, if_neg a]
        · rw [if_neg (by omega), if_neg b, if_neg a]
    obtain ⟨q, hq, eq⟩ := h (n + 1) (by omega) (Nat.le_refl _)
    have h2 : sumN N (fun _ => 0) < sumN N (fun q => if f q = n + 1 then 1 else 0) := sumN_lt (fun i _ => Nat.zero_le _) hq (by rw [if_pos eq]; decide)
    omega
theorem dF_bound {σ : Sg} (hσ : SgOK σ) {s d q n : Nat} (h : Pth σ s d n q) : dF σ s d q ≤ 90 := by
  have lev : ∀ n q, Pth σ s d n q → dF σ s d q = n → ∀ m, 1 ≤ m → m ≤ n → ∃ q', q' < 90 ∧ dF σ s d q' = m := by
    intro n
    induction n with
    | zero => intro q _ _ m a b; omega
    | succ n ih =>
      intro q hq e m a b
      obtain ⟨p, k, q', h1, h2, h3, h4, h5, h6⟩ := dF_step hq e
      by_cases em : m = n + 1
      · exact ⟨q, (h4.lt hσ h1 h3).1, by rw [em]; exact e⟩
      · exact ih q' h5 h6 m a (by omega)
  have h1 := pigeon (N := 90) (f := dF σ s d) (dF σ s d q) (lev _ q (dF_spec h).1 rfl)
  have h2 := sumN_le (n := 90) (f := fun q' => if 1 ≤ dF σ s d q' ∧ dF σ s d q' ≤ dF σ s d q then 1 else 0) (c := 1) (fun i _ => by split <;> decide)
  omega
theorem dF_cases {σ : Sg} (hσ : SgOK σ) (s d q : Nat) : (dF σ s d q = 100000 ∧ ∀ n, ¬ Pth σ s d n q) ∨ (dF σ s d q ≤ 90 ∧ Pth σ s d (dF σ s d q) q) := by
  by_cases h : ∃ n, Pth σ s d n q
  · obtain ⟨n, hn⟩ := h
    exact Or.inr ⟨dF_bound hσ hn, (dF_spec hn).1⟩
  · exact Or.inl ⟨dF_none (fun n hn => h ⟨n, hn⟩), fun n hn => h ⟨n, hn⟩⟩
theorem dF_pos {σ : Sg} (hσ : SgOK σ) {s d q : Nat} (hq : q < 90) : 1 ≤ dF σ s d q := by
  rcases dF_cases hσ s d q with ⟨h, -⟩ | ⟨-, h⟩
  · omega
  · rcases Nat.eq_zero_or_pos (dF σ s d q) with z | z
    · rw [z] at h
      have h : q = 90 := h
      omega
    · exact z
/-! going through all lines till nothing gets nearer -/
def FI (σ : Sg) (s d : Nat) (f : Nat → Nat) : Prop := f 90 = 0 ∧ ∀ q, q < 90 → 1 ≤ f q ∧ f q ≤ 100000 ∧ (f q < 100000 → Pth σ s d (f q) q)
def ClE (σ : Sg) (s d : Nat) (f : Nat → Nat) (q p k : Nat) : Prop := ∀ q', Ld σ s d q p k q' → f q ≤ f q' + 1
def FLv (σ : Sg) (s d : Nat) (f0 f : Nat → Nat) (m q p k : Nat) : Prop := m ≤ 1 ∧ FI σ s d f ∧
  (m = 0 → (∀ j, j < 91 → f j = f0 j) ∧ (∀ q', q' < q → ∀ p', p' < s_np σ → Asked σ p' → ∀ k', k' < s_ln σ p' → ClE σ s d f q' p' k') ∧ (∀ p', p' < p → Asked σ p' → ∀ k', k' < s_ln σ p' → ClE σ s d f q p' k') ∧ (Asked σ p → ∀ k', k' < k → ClE σ s d f q p k')) ∧
  (m = 1 → sumN 90 f < sumN 90 f0)
section FLs
variable {σ : Sg} {s d : Nat} {f0 f : Nat → Nat} {m q p k : Nat}
theorem FLv.init (h : FI σ s d f) : FLv σ s d f f 0 0 0 0 :=
  ⟨by decide, h, fun _ => ⟨fun _ _ => rfl, fun _ h => absurd h (Nat.not_lt_zero _), fun _ h => absurd h (Nat.not_lt_zero _), fun _ _ h => absurd h (Nat.not_lt_zero _)⟩, fun h => absurd h (by decide)⟩
theorem FLv.skip (h : FLv σ s d f0 f m q p k) (hc : ClE σ s d f q p k) : FLv σ s d f0 f m q p (k + 1) := by
  refine ⟨h.1, h.2.1, fun e => ⟨(h.2.2.1 e).1, (h.2.2.1 e).2.1, (h.2.2.1 e).2.2.1, fun hA k' hk' => ?_⟩, h.2.2.2⟩
  by_cases ek : k' = k
  · rw [ek]; exact hc
  · exact (h.2.2.1 e).2.2.2 hA k' (by omega)
theorem FLv.nextp (h : FLv σ s d f0 f m q p k) (hk : Asked σ p → k = s_ln σ p) : FLv σ s d f0 f m q (p + 1) 0 := by
  refine ⟨h.1, h.2.1, fun e => ⟨(h.2.2.1 e).1, (h.2.2.1 e).2.1, fun p' hp' hA k' hk' => ?_, fun _ _ h => absurd h (Nat.not_lt_zero _)⟩, h.2.2.2⟩
  by_cases ep : p' = p
  · subst ep; exact (h.2.2.1 e).2.2.2 hA k' (by rw [hk hA]; exact hk')
  · exact (h.2.2.1 e).2.2.1 p' (by omega) hA k' hk'
theorem FLv.nextq (h : FLv σ s d f0 f m q (s_np σ) 0) : FLv σ s d f0 f m (q + 1) 0 0 := by
  refine ⟨h.1, h.2.1, fun e => ⟨(h.2.2.1 e).1, fun q' hq' p' hp' hA k' hk' => ?_, fun _ h => absurd h (Nat.not_lt_zero _), fun _ _ h => absurd h (Nat.not_lt_zero _)⟩, h.2.2.2⟩
  by_cases eq : q' = q
  · subst eq; exact (h.2.2.1 e).2.2.1 p' hp' hA k' hk'
  · exact (h.2.2.1 e).2.1 q' (by omega) p' hp' hA k' hk'
theorem FI.val (h : FI σ s d f) {q' : Nat} (hq' : q' ≤ 90) (hlt : f q' < 100000) : Pth σ s d (f q') q' := by
  by_cases e : q' = 90
  · rw [e, h.1]; rfl
  · exact (h.2 q' (by omega)).2.2 hlt
theorem FLv.set (hσ : SgOK σ) (h : FLv σ s d f0 f m q p k) (hp : p < s_np σ) (hA : Asked σ p) (hk : k < s_ln σ p) {q' : Nat} (hL : Ld σ s d q p k q') (hlt : f q' + 1 < f q) : FLv σ s d f0 (upN f q (f q' + 1)) 1 q p (k + 1) := by
  obtain ⟨l1, l2, l3, l4⟩ := h
  obtain ⟨hq, hq'⟩ := hL.lt hσ hp hk
  have hfq := (l2.2 q hq).2.1
  have hP : Pth σ s d (f q' + 1) q := ⟨p, k, q', hp, hA, hk, hL, l2.val hq' (by omega)⟩
  refine ⟨by decide, ⟨?_, fun j hj => ?_⟩, fun e => absurd e (by decide), fun _ => ?_⟩
  · rw [upN_ne _ _ (by omega)]; exact l2.1
  · by_cases e : j = q
    · rw [e, upN_self]; exact ⟨by omega, by omega, fun _ => hP⟩
    · rw [upN_ne _ _ e]; exact l2.2 j hj
  · have h1 : sumN 90 (upN f q (f q' + 1)) < sumN 90 f := by
      refine sumN_lt (fun i _ => ?_) hq (by rw [upN_self]; exact hlt)
      by_cases e : i = q
      · rw [e, upN_self]; omega
      · rw [upN_ne _ _ e]; exact Nat.le_refl _
    rcases (by omega : m = 0 ∨ m = 1) with e | e
    · rw [← sumN_congr (fun i hi => (l3 e).1 i (by omega))]; exact h1
    · exact Nat.lt_trans h1 (l4 e)
theorem FLv.fin (hσ : SgOK σ) (h : FLv σ s d f0 f 0 90 0 0) {j : Nat} (hj : j < 91) : f j = dF σ s d j := by
  obtain ⟨-, l2, l3, -⟩ := h
  have hcl := (l3 rfl).2.1
  have hle : ∀ n q, Pth σ s d n q → f q ≤ n := by
    intro n
    induction n with
    | zero => intro q hq; have hq : q = 90 := hq; rw [hq, l2.1]; exact Nat.le_refl _
    | succ n ih =>
      intro q hq
      obtain ⟨p, k, q', h1, h2, h3, h4, h5⟩ := hq
      have a := hcl q (h4.lt hσ h1 h3).1 p h1 h2 k h3 q' h4
      have b := ih q' h5
      omega
  by_cases e : j = 90
  · rw [e, l2.1, dF_90]
  · obtain ⟨a, b, c⟩ := l2.2 j (by omega)
    rcases dF_cases hσ s d j with ⟨h1, h2⟩ | ⟨h1, h2⟩
    · rw [h1]
      rcases Nat.lt_or_ge (f j) 100000 with z | z
      · exact absurd (c z) (h2 _)
      · omega
    · have h3 := hle _ j h2
      have h4 := dF_le (c (by omega))
      omega
end FLs
/-! the first line of a way, the lines behind it -/
noncomputable def the (P : Nat → Prop) : Nat := @dite Nat (∃ x, P x) (Classical.propDecidable _) (fun h => Classical.choose h) (fun _ => 0)
theorem the_eq {P : Nat → Prop} {x : Nat} (hx : P x) (hu : ∀ a b, P a → P b → a = b) : the P = x := by
  have hex : ∃ x, P x := ⟨x, hx⟩
  unfold the
  rw [@dif_pos _ (Classical.propDecidable _) hex]
  exact hu _ _ (Classical.choose_spec hex) hx
theorem the_lt {P : Nat → Prop} {n : Nat} (h0 : 0 < n) (h : ∀ x, P x → x < n) : the P < n := by
  unfold the
  by_cases hex : ∃ x, P x
  · rw [@dif_pos _ (Classical.propDecidable _) hex]; exact h _ (Classical.choose_spec hex)
  · rw [@dif_neg _ (Classical.propDecidable _) hex]; exact h0
/-- a row of a part that is asked -/
def Rw (σ : Sg) (l : Nat) : Prop := l / 12 < s_np σ ∧ Asked σ (l / 12) ∧ l % 12 < s_ln σ (l / 12)
def cdF (l : Nat) : Nat := 100 * (l / 12) + l % 12
/-- a get of the secret s -/
def Gt (σ : Sg) (s l : Nat) : Prop := Rw σ l ∧ s_kk σ l = 0 ∧ s_nu σ l = s ∧ (s_gr σ (l / 12)).testBit s = true
def plc (σ : Sg) (l : Nat) : Nat := 8 * (l / 12) + s_fs σ l
def Fst (σ : Sg) (s d l : Nat) : Prop := Gt σ s l ∧ dF σ s d (plc σ l) < 100000 ∧ ∀ l', Gt σ s l' → dF σ s d (plc σ l) ≤ dF σ s d (plc σ l') ∧ (l' < l → dF σ s d (plc σ l) < dF σ s d (plc σ l'))
theorem Fst.u {σ : Sg} {s d a b : Nat} (ha : Fst σ s d a) (hb : Fst σ s d b) : a = b := by
  have h1 := ha.2.2 b hb.1
  have h2 := hb.2.2 a ha.1
  rcases Nat.lt_trichotomy a b with z | z | z
  · have := h2.2 z; omega
  · exact z
  · have := h1.2 z; omega
/-- the gets up to the row l: the best of them -/
def GS (σ : Sg) (s d l : Nat) (o : Option Nat) : Prop := match o with
  | none => ∀ l', l' < l → Gt σ s l' → dF σ s d (plc σ l') = 100000
  | some b => b < l ∧ Gt σ s b ∧ dF σ s d (plc σ b) < 100000 ∧ ∀ l', l' < l → Gt σ s l' → dF σ s d (plc σ b) ≤ dF σ s d (plc σ l') ∧ (l' < b → dF σ s d (plc σ b) < dF σ s d (plc σ l'))
theorem GS.skip {σ : Sg} {s d l : Nat} {o : Option Nat} (h : GS σ s d l o) (hn : ¬ Gt σ s l) : GS σ s d (l + 1) o := by
  cases o with
  | none => intro l' hl hg; exact h l' (by rcases Nat.lt_or_ge l' l with z | z; exact z; exact absurd ((by omega : l' = l) ▸ hg) hn) hg
  | some b => exact ⟨Nat.lt_succ_of_lt h.1, h.2.1, h.2.2.1, fun l' hl hg => h.2.2.2 l' (by rcases Nat.lt_or_ge l' l with z | z; exact z; exact absurd ((by omega : l' = l) ▸ hg) hn) hg⟩
theorem GS.jump {σ : Sg} {s d l l2 : Nat} {o : Option Nat} (h : GS σ s d l o) (hl : l ≤ l2) (hn : ∀ l', l ≤ l' → l' < l2 → ¬ Gt σ s l') : GS σ s d l2 o := by
  cases o with
  | none => intro l' hl' hg; exact h l' (by rcases Nat.lt_or_ge l' l with z | z; exact z; exact absurd hg (hn l' z hl')) hg
  | some b => exact ⟨Nat.lt_of_lt_of_le h.1 hl, h.2.1, h.2.2.1, fun l' hl' hg => h.2.2.2 l' (by rcases Nat.lt_or_ge l' l with z | z; exact z; exact absurd hg (hn l' z hl')) hg⟩
def dO (σ : Sg) (s d : Nat) (o : Option Nat) (x : Nat) : Prop := match o with
  | none => x = 100000
  | some b => x = dF σ s d (plc σ b)
theorem GS.worse {σ : Sg} {s d l x : Nat} {o : Option Nat} (h : GS σ s d l o) (hx : dO σ s d o x) (hn : x ≤ dF σ s d (plc σ l)) (hd : dF σ s d (plc σ l) ≤ 100000) : GS σ s d (l + 1) o := by
  cases o with
  | none =>
    have hx : x = 100000 := hx
    intro l' hl hg
    rcases Nat.lt_or_ge l' l with z | z
    · exact h l' z hg
    · have : l' = l := by omega
      subst this; omega
  | some b =>
    have hx : x = dF σ s d (plc σ b) := hx
    refine ⟨Nat.lt_succ_of_lt h.1, h.2.1, h.2.2.1, fun l' hl hg => ?_⟩
    rcases Nat.lt_or_ge l' l with z | z
    · exact h.2.2.2 l' z hg
    · have : l' = l := by omega
      subst this
      exact ⟨by omega, fun z => absurd z (by have := h.1; omega)⟩
theorem GS.better {σ : Sg} {s d l x : Nat} {o : Option Nat} (h : GS σ s d l o) (hx : dO σ s d o x) (hg : Gt σ s l) (hn : dF σ s d (plc σ l) < x) (hx1 : x ≤ 100000) : GS σ s d (l + 1) (some l) := by
  refine ⟨Nat.lt_succ_self l, hg, by omega, fun l' hl hg' => ?_⟩
  rcases Nat.lt_or_ge l' l with z | z
  · cases o with
    | none =>
      have := h l' z hg'
      omega
    | some b =>
      have hx : x = dF σ s d (plc σ b) := hx
      have := (h.2.2.2 l' z hg').1
      omega
  · have : l' = l := by omega
    subst this
    exact ⟨Nat.le_refl _, fun z => absurd z (Nat.lt_irrefl _)⟩
theorem GS.fst {σ : Sg} (hσ : SgOK σ) {s d l b : Nat} (h : GS σ s d l (some b)) (hl : 12 * s_np σ ≤ l) : Fst σ s d b :=
  ⟨h.2.1, h.2.2.1, fun l' hg => h.2.2.2 l' (by have := hg.1.1; have := (hσ.ln hg.1.1); have := hg.1.2.2; omega) hg⟩
theorem GS.no {σ : Sg} (hσ : SgOK σ) {s d l : Nat} (h : GS σ s d l none) (hl : 12 * s_np σ ≤ l) : ¬ ∃ b, Fst σ s d b := by
  rintro ⟨b, hb⟩
  have h1 := h b (by have := hb.1.1.1; have := (hσ.ln hb.1.1.1); have := hb.1.1.2.2; omega) hb.1
  have := hb.2.1
  omega
/-- the first line by which the place q gets nearer -/
def Nx (σ : Sg) (s d q l : Nat) : Prop := Rw σ l ∧ (∃ q', Ld σ s d q (l / 12) (l % 12) q' ∧ dF σ s d q' + 1 = dF σ s d q) ∧ ∀ l', l' < l → Rw σ l' → ∀ q', Ld σ s d q (l' / 12) (l' % 12) q' → dF σ s d q' + 1 ≠ dF σ s d q
theorem Nx.u {σ : Sg} {s d q a b : Nat} (ha : Nx σ s d q a) (hb : Nx σ s d q b) : a = b := by
  rcases Nat.lt_trichotomy a b with z | z | z
  · obtain ⟨q', h1, h2⟩ := ha.2.1
    exact absurd h2 (hb.2.2 a z ha.1 q' h1)
  · exact z
  · obtain ⟨q', h1, h2⟩ := hb.2.1
    exact absurd h2 (ha.2.2 b z hb.1 q' h1)
noncomputable def nxL (σ : Sg) (s d q : Nat) : Nat := the (Nx σ s d q)
noncomputable def nxQ (σ : Sg) (s d q : Nat) : Nat := the (Ld σ s d q (nxL σ s d q / 12) (nxL σ s d q % 12))
theorem nxL_eq {σ : Sg} {s d q l : Nat} (h : Nx σ s d q l) : nxL σ s d q = l := the_eq h (fun _ _ a b => a.u b)
theorem nxQ_eq {σ : Sg} (hσ : SgOK σ) {s d q l q' : Nat} (h : Nx σ s d q l) (hL : Ld σ s d q (l / 12) (l % 12) q') : nxQ σ s d q = q' := by
  unfold nxQ
  rw [nxL_eq h]
  exact the_eq hL (fun _ _ a b => a.fn hσ h.1.1 h.1.2.2 b)
/-- there is one -/
theorem Nx.ex {σ : Sg} (hσ : SgOK σ) {s d q n : Nat} (hd : dF σ s d q = n + 1) (hn : n + 1 < 100000) : ∃ l, Nx σ s d q l := by
  rcases dF_cases hσ s d q with ⟨h1, -⟩ | ⟨h1, h2⟩
  · omega
  · rw [hd] at h2
    obtain ⟨p, k, q', a1, a2, a3, a4, a5, a6⟩ := dF_step h2 hd
    have hk := hσ.ln a1
    have e1 : (12 * p + k) / 12 = p := by omega
    have e2 : (12 * p + k) % 12 = k := by omega
    obtain ⟨l, h3, h4⟩ := least_ex (P := fun l => Rw σ l ∧ ∃ q', Ld σ s d q (l / 12) (l % 12) q' ∧ dF σ s d q' + 1 = dF σ s d q) (n := 12 * p + k) (by
      refine ⟨⟨by rw [e1]; exact a1, by rw [e1]; exact a2, by rw [e1, e2]; exact a3⟩, q', ?_, by omega⟩
      rw [e1, e2]; exact a4)
    exact ⟨l, h3.1, h3.2, fun l' hl' hr q' hq' e => h4 l' hl' ⟨hr, q', hq', e⟩⟩
theorem Nx.q {σ : Sg} (hσ : SgOK σ) {s d q l : Nat} (h : Nx σ s d q l) : Ld σ s d q (l / 12) (l % 12) (nxQ σ s d q) ∧ dF σ s d (nxQ σ s d q) + 1 = dF σ s d q := by
  obtain ⟨q', h1, h2⟩ := h.2.1
  rw [nxQ_eq hσ h h1]
  exact ⟨h1, h2⟩
noncomputable def wq (σ : Sg) (s d q : Nat) : Nat → Nat
  | 0 => q
  | i + 1 => nxQ σ s d (wq σ s d q i)
theorem wq_d {σ : Sg} (hσ : SgOK σ) {s d q n : Nat} (hd : dF σ s d q = n) (hn : n ≤ 90) : ∀ i, i ≤ n → dF σ s d (wq σ s d q i) + i = n := by
  intro i
  induction i with
  | zero => intro _; exact hd
  | succ i ih =>
    intro hi
    have h1 := ih (by omega)
    obtain ⟨l, hl⟩ := Nx.ex hσ (s := s) (d := d) (q := wq σ s d q i) (n := n - i - 1) (by omega) (by omega)
    have := (hl.q hσ).2
    show dF σ s d (nxQ σ s d (wq σ s d q i)) + (i + 1) = n
    omega
noncomputable def wyL (σ : Sg) (s d : Nat) : Nat := the (Fst σ s d)
noncomputable def wyN (σ : Sg) (s d : Nat) : Nat := dF σ s d (plc σ (wyL σ s d))
noncomputable def wyS (σ : Sg) (s d j : Nat) : Nat := match j with
  | 0 => cdF (wyL σ s d)
  | i + 1 => cdF (nxL σ s d (wq σ s d (plc σ (wyL σ s d)) i))
def rSp (ρ : Rs) (n : Nat) (f : Nat → Nat) : Rs := (r_mt ρ, r_td ρ, r_tp ρ, r_tr ρ, r_wh ρ, r_fa ρ, n, f, r_cn ρ, r_cd ρ)
noncomputable def qWay (σ : Sg) (ρ : Rs) (v u : Int32) : Int32 × Rs := match ixOf v 16, ixOf u 16 with
  | some s, some d => @ite (Int32 × Rs) (∃ l, Fst σ s d l) (Classical.propDecidable _) (nI (wyN σ s d + 1), rT (rSp ρ (wyN σ s d + 1) (wyS σ s d)) 0) (-2, rT ρ 0)
  | _, _ => (-1, rT ρ 2)
theorem wyL_eq {σ : Sg} {s d l : Nat} (h : Fst σ s d l) : wyL σ s d = l := the_eq h (fun _ _ a b => a.u b)
theorem dF_le5 {σ : Sg} (hσ : SgOK σ) (s d q : Nat) : dF σ s d q ≤ 100000 := by rcases dF_cases hσ s d q with ⟨h, -⟩ | ⟨h, -⟩ <;> omega
theorem Fst.bd {σ : Sg} (hσ : SgOK σ) {s d l : Nat} (h : Fst σ s d l) : dF σ s d (plc σ l) ≤ 90 := by rcases dF_cases hσ s d (plc σ l) with ⟨h1, -⟩ | ⟨h1, -⟩; have := h.2.1; omega; exact h1
