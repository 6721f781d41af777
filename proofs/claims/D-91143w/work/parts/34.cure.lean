/-! ===== cures: candidates, sets of them, the best ===== -/
theorem held_congr {σ : Sg} {g g' : Nat → Nat} (h : ∀ p, p < s_np σ → g p = g' p) (q s : Nat) : Held (sGr σ g) q s ↔ Held (sGr σ g') q s := by
  have key : ∀ (a b : Nat → Nat), (∀ p, p < s_np σ → a p = b p) → ∀ S, HCl (sGr σ a) S → HCl (sGr σ b) S := by
    intro a b hab S hS p hp hA k hk
    obtain ⟨h1, h2⟩ := hS p hp hA k hk
    refine ⟨fun h0 hb => h1 h0 ?_, h2⟩
    show (a p).testBit _ = true
    rw [hab p hp]; exact hb
  exact ⟨fun hh S hS => hh S (key g' g (fun p hp => (h p hp).symm) S hS), fun hh S hS => hh S (key g g' h S hS)⟩
theorem door_congr {σ : Sg} {g g' : Nat → Nat} (h : ∀ p, p < s_np σ → g p = g' p) (d s : Nat) : Door (sGr σ g) d s ↔ Door (sGr σ g') d s := by
  have key : ∀ (a b : Nat → Nat), (∀ p, p < s_np σ → a p = b p) → Door (sGr σ a) d s → Door (sGr σ b) d s := by
    rintro a b hab ⟨p, k, h1, h2, h3, h4, h5, h6, h7⟩
    refine ⟨p, k, h1, h2, h3, h4, h5, ?_, (held_congr hab _ _).mp h7⟩
    have h6 : (a p).testBit d = true := h6
    show (b p).testBit d = true
    rw [← hab p h1]; exact h6
  exact ⟨key g g' h, key g' g (fun p hp => (h p hp).symm)⟩
theorem lk_congr {σ : Sg} {g g' : Nat → Nat} (h : ∀ p, p < s_np σ → g p = g' p) (s : Nat) : lk (sGr σ g) s = lk (sGr σ g') s := mk16_congr (fun d _ => door_congr h d s)
theorem dr_congr {σ : Sg} {g g' : Nat → Nat} (h : ∀ p, p < s_np σ → g p = g' p) (d : Nat) : dr (sGr σ g) d = dr (sGr σ g') d := mk16_congr (fun s _ => door_congr h d s)
/-- fewer grants: less is held -/
theorem held_mono {σ : Sg} {g g' : Nat → Nat} (h : ∀ p, p < s_np σ → ∀ i, (g p).testBit i = true → (g' p).testBit i = true) {q s : Nat} (hh : Held (sGr σ g) q s) : Held (sGr σ g') q s := by
  intro S hS
  refine hh S (fun p hp hA k hk => ?_)
  obtain ⟨h1, h2⟩ := hS p hp hA k hk
  exact ⟨fun h0 hb => h1 h0 (h p hp _ hb), h2⟩
theorem door_mono {σ : Sg} {g g' : Nat → Nat} (h : ∀ p, p < s_np σ → ∀ i, (g p).testBit i = true → (g' p).testBit i = true) {d s : Nat} (hh : Door (sGr σ g) d s) : Door (sGr σ g') d s := by
  obtain ⟨p, k, h1, h2, h3, h4, h5, h6, h7⟩ := hh
  exact ⟨p, k, h1, h2, h3, h4, h5, h p h1 _ h6, held_mono h h7⟩
/-! candidates -/
def cnW (W : Nat → Bool) (x : Nat) : Nat := sumN x (fun i => (W i).toNat)
theorem cnW_succ (W : Nat → Bool) (x : Nat) : cnW W (x + 1) = cnW W x + (W x).toNat := rfl
theorem cnW_t {W : Nat → Bool} {x : Nat} (h : W x = true) : cnW W (x + 1) = cnW W x + 1 := by rw [cnW_succ, h]; rfl
theorem cnW_f {W : Nat → Bool} {x : Nat} (h : W x = false) : cnW W (x + 1) = cnW W x := by rw [cnW_succ, h]; rfl
theorem cnW_mono {W : Nat → Bool} {x y : Nat} (h : x ≤ y) : cnW W x ≤ cnW W y := by
  induction y with
  | zero => rw [Nat.le_zero.mp h]; exact Nat.le_refl _
  | succ y ih =>
    by_cases e : x = y + 1
    · rw [e]; exact Nat.le_refl _
    · have := ih (by omega)
      rw [cnW_succ]; omega
theorem cnW_lt {W : Nat → Bool} {x y : Nat} (h : x < y) (hx : W x = true) : cnW W x < cnW W y := by
  have := cnW_mono (W := W) (x := x + 1) (y := y) h
  rw [cnW_t hx] at this; omega
theorem cnW_inj {W : Nat → Bool} {x y : Nat} (hx : W x = true) (hy : W y = true) (h : cnW W x = cnW W y) : x = y := by
  rcases Nat.lt_trichotomy x y with z | z | z
  · have := cnW_lt z hx; omega
  · exact z
  · have := cnW_lt z hy; omega
theorem cnW_ex {W : Nat → Bool} : ∀ N j, j < cnW W N → ∃ x, x < N ∧ W x = true ∧ cnW W x = j := by
  intro N
  induction N with
  | zero => intro j h; exact absurd h (Nat.not_lt_zero _)
  | succ N ih =>
    intro j h
    cases hW : W N with
    | false =>
      rw [cnW_f hW] at h
      obtain ⟨x, h1, h2⟩ := ih j h
      exact ⟨x, by omega, h2⟩
    | true =>
      rw [cnW_t hW] at h
      by_cases e : j = cnW W N
      · exact ⟨N, by omega, hW, e.symm⟩
      · obtain ⟨x, h1, h2⟩ := ih j (by omega)
        exact ⟨x, by omega, h2⟩
theorem cnW_le (W : Nat → Bool) (x : Nat) : cnW W x ≤ x := by
  have := sumN_le (n := x) (f := fun i => (W i).toNat) (c := 1) (fun i _ => by cases W i <;> decide)
  unfold cnW; omega
noncomputable def cdW (σ : Sg) (x : Nat) : Bool := (s_gr σ (x / 16) &&& ndF σ (x / 16)).testBit (x % 16)
noncomputable def cdN (σ : Sg) : Nat := cnW (cdW σ) (16 * s_np σ)
noncomputable def cdI (σ : Sg) (j : Nat) : Nat := the (fun x => x < 16 * s_np σ ∧ cdW σ x = true ∧ cnW (cdW σ) x = j)
theorem cdI_eq {σ : Sg} {x : Nat} (h1 : x < 16 * s_np σ) (h2 : cdW σ x = true) : cdI σ (cnW (cdW σ) x) = x :=
  the_eq (P := fun y => y < 16 * s_np σ ∧ cdW σ y = true ∧ cnW (cdW σ) y = cnW (cdW σ) x) ⟨h1, h2, rfl⟩ (fun a b ha hb => cnW_inj ha.2.1 hb.2.1 (ha.2.2.trans hb.2.2.symm))
theorem cdI_ok {σ : Sg} {j : Nat} (h : j < cdN σ) : cdI σ j < 16 * s_np σ ∧ cdW σ (cdI σ j) = true ∧ cnW (cdW σ) (cdI σ j) = j := by
  obtain ⟨x, h1, h2, h3⟩ := cnW_ex _ j h
  have := cdI_eq h1 h2
  rw [h3] at this
  rw [this]
  exact ⟨h1, h2, h3⟩
theorem cdI_inj {σ : Sg} {i j : Nat} (hi : i < cdN σ) (hj : j < cdN σ) (h : cdI σ i = cdI σ j) : i = j := by
  rw [← (cdI_ok hi).2.2, ← (cdI_ok hj).2.2, h]
def cod (x : Nat) : Nat := 100 * (x / 16) + x % 16
/-- those of the set S among the first k candidates -/
def eB (c : Nat → Nat) (S : Nat) : Nat → Nat → Bool
  | 0, _ => false
  | k + 1, j => eB c S k j ^^ (S.testBit k && decide (c k = j))
/-- the grants g with those of e turned -/
noncomputable def gT (g : Nat → Nat) (e : Nat → Bool) (p : Nat) : Nat := mk16 (fun r => ((g p).testBit r ^^ e (16 * p + r)) = true)
theorem gT_bit {g : Nat → Nat} {e : Nat → Bool} {p r : Nat} (hr : r < 16) : (gT g e p).testBit r = ((g p).testBit r ^^ e (16 * p + r)) := by
  rw [Bool.eq_iff_iff, gT, mk16_bit]; simp [hr]
theorem gT_lt (g : Nat → Nat) (e : Nat → Bool) (p : Nat) : gT g e p < 65536 := mk16_lt _
theorem gT_id {g : Nat → Nat} {e : Nat → Bool} {p : Nat} (hg : g p < 65536) (he : ∀ j, e j = false) : gT g e p = g p := by
  refine bit_ext (fun i => ?_)
  by_cases hi : i < 16
  · rw [gT_bit hi, he]; simp
  · rw [bit_hi (gT_lt g e p) (by omega), bit_hi hg (by omega)]
theorem gT_congr {g : Nat → Nat} {e e' : Nat → Bool} (h : ∀ j, e j = e' j) : gT g e = gT g e' := by
  have : e = e' := funext h
  rw [this]
theorem gT_step (g : Nat → Nat) (e : Nat → Bool) (c : Nat) : gT g (fun j => e j ^^ decide (c = j)) = upN (gT g e) (c / 16) (gT g e (c / 16) ^^^ 2 ^ (c % 16)) := by
  funext p
  have hr := Nat.mod_lt c (show 0 < 16 by decide)
  by_cases ep : p = c / 16
  · rw [ep, upN_self]
    refine bit_ext (fun i => ?_)
    by_cases hi : i < 16
    · rw [gT_bit hi, Nat.testBit_xor, gT_bit hi, p2_bit]
      have : (c = 16 * (c / 16) + i) ↔ (c % 16 = i) := by omega
      simp only [this, Bool.xor_assoc]
    · rw [bit_hi (gT_lt _ _ _) (by omega), bit_hi (xor_lt (gT_lt _ _ _) (p2_lt hr)) (by omega)]
  · rw [upN_ne _ _ ep]
    refine bit_ext (fun i => ?_)
    by_cases hi : i < 16
    · rw [gT_bit hi, gT_bit hi]
      have : ¬ c = 16 * p + i := by omega
      simp [this]
    · rw [bit_hi (gT_lt _ _ _) (by omega), bit_hi (gT_lt _ _ _) (by omega)]
theorem eB_iff {c : Nat → Nat} {S n : Nat} (hinj : ∀ i j, i < n → j < n → c i = c j → i = j) : ∀ k, k ≤ n → ∀ j, eB c S k j = true ↔ ∃ i, i < k ∧ S.testBit i = true ∧ c i = j := by
  intro k
  induction k with
  | zero => intro _ j; simp [eB]
  | succ k ih =>
    intro hk j
    have h1 := ih (by omega) j
    rw [eB]
    cases hb : (S.testBit k && decide (c k = j)) with
    | false =>
      rw [Bool.xor_false, h1]
      constructor
      · rintro ⟨i, a, b⟩; exact ⟨i, by omega, b⟩
      · rintro ⟨i, a, b1, b2⟩
        by_cases e : i = k
        · subst e; simp [b1, b2] at hb
        · exact ⟨i, by omega, b1, b2⟩
    | true =>
      rw [Bool.and_eq_true, decide_eq_true_iff] at hb
      have h2 : eB c S k j = false := by
        cases hq : eB c S k j with
        | false => rfl
        | true =>
          obtain ⟨i, a, b1, b2⟩ := h1.mp hq
          have := hinj i k (by omega) (by omega) (b2.trans hb.2.symm)
          omega
      rw [h2]
      constructor
      · intro _; exact ⟨k, by omega, hb.1, hb.2⟩
      · intro _; rfl
/-- all services, no misuse -/
def Wel (σ : Sg) (ρ : Rs) (g : Nat → Nat) : Prop := ∀ s, s < 16 → lk (sGr σ g) s = lk σ s &&& r_mt ρ s
noncomputable def gS (σ : Sg) (S : Nat) : Nat → Nat := gT (s_gr σ) (eB (cdI σ) S (cdN σ))
def WelS (σ : Sg) (ρ : Rs) (S : Nat) : Prop := Wel σ ρ (gS σ S)
/-- the first where they differ is in a -/
def Ahd (a b : Nat) : Prop := ∃ i, a.testBit i = true ∧ b.testBit i = false ∧ ∀ j, j < i → a.testBit j = b.testBit j
def Bet (a b : Nat) : Prop := pop a < pop b ∨ (pop a = pop b ∧ Ahd a b)
theorem Ahd.asym {a b : Nat} (h1 : Ahd a b) (h2 : Ahd b a) : False := by
  obtain ⟨i, a1, a2, a3⟩ := h1
  obtain ⟨j, b1, b2, b3⟩ := h2
  rcases Nat.lt_trichotomy i j with z | z | z
  · have := b3 i z; rw [a1, a2] at this; cases this
  · subst z; rw [a1] at b2; cases b2
  · have := a3 j z; rw [b1, b2] at this; cases this
theorem Ahd.trans {a b c : Nat} (h1 : Ahd a b) (h2 : Ahd b c) : Ahd a c := by
  obtain ⟨i, a1, a2, a3⟩ := h1
  obtain ⟨j, b1, b2, b3⟩ := h2
  rcases Nat.lt_trichotomy i j with z | z | z
  · exact ⟨i, a1, by rw [← b3 i z]; exact a2, fun k hk => (a3 k hk).trans (b3 k (by omega))⟩
  · subst z; rw [a2] at b1; cases b1
  · exact ⟨j, by rw [a3 j z]; exact b1, b2, fun k hk => (a3 k (by omega)).trans (b3 k hk)⟩
theorem Ahd.tri {a b : Nat} (h : a ≠ b) : Ahd a b ∨ Ahd b a := by
  have hex : ∃ i, a.testBit i ≠ b.testBit i := Classical.byContradiction fun z => h (bit_ext (fun i => Classical.byContradiction fun q => z ⟨i, q⟩))
  obtain ⟨i, hi⟩ := hex
  obtain ⟨m, h1, h2⟩ := least_ex (P := fun i => a.testBit i ≠ b.testBit i) hi
  have h3 : ∀ j, j < m → a.testBit j = b.testBit j := fun j hj => Classical.byContradiction fun q => h2 j hj q
  cases ha : a.testBit m with
  | true => exact Or.inl ⟨m, ha, by cases hb : b.testBit m with | false => rfl | true => exact absurd (ha.trans hb.symm) h1, h3⟩
  | false => exact Or.inr ⟨m, by cases hb : b.testBit m with | true => rfl | false => exact absurd (ha.trans hb.symm) h1, ha, fun j hj => (h3 j hj).symm⟩
theorem Bet.asym {a b : Nat} (h1 : Bet a b) (h2 : Bet b a) : False := by
  rcases h1 with z | ⟨z1, z2⟩ <;> rcases h2 with y | ⟨y1, y2⟩
  · omega
  · omega
  · omega
  · exact z2.asym y2
theorem Bet.trans {a b c : Nat} (h1 : Bet a b) (h2 : Bet b c) : Bet a c := by
  rcases h1 with z | ⟨z1, z2⟩ <;> rcases h2 with y | ⟨y1, y2⟩
  · exact Or.inl (by omega)
  · exact Or.inl (by omega)
  · exact Or.inl (by omega)
  · exact Or.inr ⟨by omega, z2.trans y2⟩
/-- the best of the sets below m -/
def BstU (σ : Sg) (ρ : Rs) (m : Nat) (o : Option Nat) : Prop := match o with
  | none => ∀ S, 1 ≤ S → S < m → ¬ WelS σ ρ S
  | some b => 1 ≤ b ∧ b < m ∧ WelS σ ρ b ∧ ∀ S, 1 ≤ S → S < m → WelS σ ρ S → S = b ∨ Bet b S
def Bst (σ : Sg) (ρ : Rs) (b : Nat) : Prop := BstU σ ρ (2 ^ cdN σ) (some b)
theorem Bst.u {σ : Sg} {ρ : Rs} {a b : Nat} (ha : Bst σ ρ a) (hb : Bst σ ρ b) : a = b := by
  obtain ⟨a1, a2, a3, a4⟩ := ha
  obtain ⟨b1, b2, b3, b4⟩ := hb
  rcases a4 b b1 b2 b3 with z | z
  · exact z.symm
  · rcases b4 a a1 a2 a3 with y | y
    · exact y
    · exact absurd y (fun q => z.asym q)
theorem BstU.init (σ : Sg) (ρ : Rs) : BstU σ ρ 1 none := fun S h1 h2 => by omega
theorem BstU.skip {σ : Sg} {ρ : Rs} {m b : Nat} (h : BstU σ ρ m (some b)) (hb : Bet b m) : BstU σ ρ (m + 1) (some b) := by
  refine ⟨h.1, Nat.lt_succ_of_lt h.2.1, h.2.2.1, fun S h1 h2 h3 => ?_⟩
  by_cases e : S = m
  · right; rw [e]; exact hb
  · exact h.2.2.2 S h1 (by omega) h3
theorem BstU.not {σ : Sg} {ρ : Rs} {m : Nat} {o : Option Nat} (h : BstU σ ρ m o) (hn : ¬ WelS σ ρ m) : BstU σ ρ (m + 1) o := by
  cases o with
  | none => intro S h1 h2 h3; exact h S h1 (by rcases Nat.lt_or_ge S m with z | z; exact z; exact absurd ((by omega : S = m) ▸ h3) hn) h3
  | some b => exact ⟨h.1, Nat.lt_succ_of_lt h.2.1, h.2.2.1, fun S h1 h2 h3 => h.2.2.2 S h1 (by rcases Nat.lt_or_ge S m with z | z; exact z; exact absurd ((by omega : S = m) ▸ h3) hn) h3⟩
theorem BstU.yes {σ : Sg} {ρ : Rs} {m : Nat} {o : Option Nat} (h : BstU σ ρ m o) (hm : 1 ≤ m) (hw : WelS σ ρ m) (hb : ∀ b, o = some b → Bet m b) : BstU σ ρ (m + 1) (some m) := by
  refine ⟨hm, Nat.lt_succ_self m, hw, fun S h1 h2 h3 => ?_⟩
  by_cases e : S = m
  · exact Or.inl e
  · right
    cases o with
    | none => exact absurd h3 (h S h1 (by omega))
    | some b =>
      have h4 := hb b rfl
      rcases h.2.2.2 S h1 (by omega) h3 with z | z
      · rw [z]; exact h4
      · exact h4.trans z
/-- the lowest bit -/
def lowb (d : Nat) : Nat := if d % 2 = 1 then 1 else if d % 4 = 2 then 2 else if d % 8 = 4 then 4 else if d % 16 = 8 then 8 else if d % 32 = 16 then 16 else if d % 64 = 32 then 32 else if d % 128 = 64 then 64 else if d % 256 = 128 then 128 else if d % 512 = 256 then 256 else if d % 1024 = 512 then 512 else 0
theorem lowb_i : ∀ d, d < 1024 → nI d &&& -nI d = nI (lowb d) := by decide +kernel
theorem lowb_ok : ∀ d, d < 1024 → d ≠ 0 → ∃ i, i < 10 ∧ lowb d = 2 ^ i ∧ d.testBit i = true ∧ ∀ j, j < i → d.testBit j = false := by decide +kernel
theorem ahd_iff {a b : Nat} (ha : a < 1024) (hb : b < 1024) : lowb (a ^^^ b) &&& a ≠ 0 ↔ Ahd a b := by
  by_cases e : a ^^^ b = 0
  · have hab : a = b := bit_ext (fun i => by
      have : (a ^^^ b).testBit i = false := by rw [e]; simp
      rw [Nat.testBit_xor] at this
      revert this
      cases a.testBit i <;> cases b.testBit i <;> simp)
    subst hab
    rw [e]
    constructor
    · intro h; exact absurd (by decide : lowb 0 = 0) (fun z => h (by rw [z]; exact Nat.zero_and a))
    · intro h; exact absurd h (fun q => q.asym q)
  · obtain ⟨i, h1, h2, h3, h4⟩ := lowb_ok _ (Nat.xor_lt_two_pow (n := 10) ha hb) e
    rw [h2, Nat.and_comm, and2_ne]
    have h5 : ∀ j, j < i → a.testBit j = b.testBit j := fun j hj => by
      have := h4 j hj
      rw [Nat.testBit_xor] at this
      revert this
      cases a.testBit j <;> cases b.testBit j <;> simp
    rw [Nat.testBit_xor] at h3
    constructor
    · intro h
      refine ⟨i, h, ?_, h5⟩
      rw [h] at h3; simpa using h3
    · intro h
      cases hai : a.testBit i with
      | true => rfl
      | false =>
        rw [hai] at h3
        exact absurd ⟨i, by simpa using h3, hai, fun j hj => (h5 j hj).symm⟩ (fun q => h.asym q)
/-- how many of S lie below i -/
def cnB (S i : Nat) : Nat := cnW (fun t => S.testBit t) i
noncomputable def cdS (σ : Sg) (S j : Nat) : Nat := the (fun x => ∃ i, S.testBit i = true ∧ cnB S i = j ∧ x = cod (cdI σ i))
theorem cdS_eq {σ : Sg} {S i : Nat} (h : S.testBit i = true) : cdS σ S (cnB S i) = cod (cdI σ i) := by
  refine the_eq (P := fun x => ∃ k, S.testBit k = true ∧ cnB S k = cnB S i ∧ x = cod (cdI σ k)) ⟨i, h, rfl, rfl⟩ ?_
  rintro a b ⟨k, h1, h2, h3⟩ ⟨l, h4, h5, h6⟩
  rw [h3, h6, cnW_inj (W := fun t => S.testBit t) h1 h4 (h2.trans h5.symm)]
theorem cnB_pop {S n : Nat} (hS : S < 2 ^ n) (hn : n ≤ 16) : cnB S n = pop S := by
  have key : ∀ m, n ≤ m → m ≤ 16 → cnB S m = cnB S n := by
    intro m
    induction m with
    | zero => intro h _; rw [Nat.le_zero.mp h]
    | succ m ih =>
      intro h h2
      by_cases e : n = m + 1
      · rw [e]
      · have hz : S.testBit m = false := Nat.testBit_lt_two_pow (Nat.lt_of_lt_of_le hS (Nat.pow_le_pow_right (by decide) (by omega)))
        rw [← ih (by omega) (by omega)]
        exact cnW_f (W := fun t => S.testBit t) hz
  rw [← key 16 hn (Nat.le_refl _)]; rfl
def rCd (ρ : Rs) (n : Nat) (f : Nat → Nat) : Rs := (r_mt ρ, r_td ρ, r_tp ρ, r_tr ρ, r_wh ρ, r_fa ρ, r_sn ρ, r_sp ρ, n, f)
noncomputable def bsF (σ : Sg) (ρ : Rs) : Nat := the (Bst σ ρ)
theorem bsF_eq {σ : Sg} {ρ : Rs} {b : Nat} (h : Bst σ ρ b) : bsF σ ρ = b := the_eq h (fun _ _ x y => x.u y)
noncomputable def qCure (σ : Sg) (ρ : Rs) : Int32 × Rs := if nMis σ ρ = 0 then (nI 0, rT (rCd ρ 0 (r_cd ρ)) 0) else if 10 < cdN σ then (-1, rT ρ 6) else
  @ite _ (∃ b, Bst σ ρ b) (Classical.propDecidable _) (nI (pop (bsF σ ρ)), rT (rCd ρ (pop (bsF σ ρ)) (cdS σ (bsF σ ρ))) 0) (-1, rT ρ 5)
