/-! ===== the house: cures, pure ===== -/
theorem cnB_hi {S n m : Nat} (hS : S < 2 ^ n) (h : n ≤ m) : cnB S m = cnB S n := by
  induction m with
  | zero => rw [Nat.le_zero.mp h]
  | succ m ih =>
    by_cases e : n = m + 1
    · rw [e]
    · have hz : S.testBit m = false := Nat.testBit_lt_two_pow (Nat.lt_of_lt_of_le hS (Nat.pow_le_pow_right (by decide) (by omega)))
      rw [← ih (by omega)]
      exact cnW_f (W := fun t => S.testBit t) hz
theorem cnB_cg {S T x : Nat} (h : ∀ i, i < x → S.testBit i = T.testBit i) : cnB S x = cnB T x := sumN_congr (fun i hi => congrArg Bool.toNat (h i hi))
theorem cnB_no {S x y i : Nat} (h : cnB S x = cnB S y) (hx : x ≤ i) (hy : i < y) : S.testBit i = false := by
  cases hb : S.testBit i with
  | false => rfl
  | true =>
    have h1 := cnW_lt (W := fun t => S.testBit t) hy hb
    have h2 := cnW_mono (W := fun t => S.testBit t) hx
    unfold cnB at h; omega
theorem or2_bit (T i j : Nat) : (T ||| 2 ^ i).testBit j = (T.testBit j || decide (i = j)) := by rw [Nat.testBit_or, p2_bit]
theorem or2_lt {T i n : Nat} (hT : T < 2 ^ n) (hi : i < n) : T ||| 2 ^ i < 2 ^ n := Nat.or_lt_two_pow hT (Nat.pow_lt_pow_right (by decide) hi)
theorem cnB_or {T i N : Nat} (hT : T < 2 ^ i) (hi : i < N) : cnB (T ||| 2 ^ i) N = cnB T N + 1 := by
  have h0 : T < 2 ^ (i + 1) := Nat.lt_of_lt_of_le hT (Nat.pow_le_pow_right (by decide) (by omega))
  rw [cnB_hi (or2_lt h0 (Nat.lt_succ_self i)) hi, cnB_hi hT (by omega)]
  rw [show cnB (T ||| 2 ^ i) (i + 1) = cnB (T ||| 2 ^ i) i + 1 from cnW_t (W := fun t => (T ||| 2 ^ i).testBit t) (by rw [or2_bit]; simp)]
  rw [cnB_cg (S := T ||| 2 ^ i) (T := T) (fun j hj => by rw [or2_bit, decide_eq_false (by omega), Bool.or_false])]
/-- the row of what is picked lists S -/
def En (I : Nat → Nat → Int32) (S : Nat) : Prop := ∀ i, S.testBit i = true → I 121 (cnB S i) = nI i
theorem En.zero (I : Nat → Nat → Int32) : En I 0 := fun i h => by rw [Nat.zero_testBit] at h; cases h
theorem bit_lt {S n i : Nat} (hS : S < 2 ^ n) (h : S.testBit i = true) : i < n := Classical.byContradiction fun z => by
  rw [Nat.testBit_lt_two_pow (Nat.lt_of_lt_of_le hS (Nat.pow_le_pow_right (by decide) (by omega)))] at h; cases h
theorem En.or {I I' : Nat → Nat → Int32} {T i N : Nat} (h : En I T) (hT : T < 2 ^ i) (hi : i < N) (hI : I' 121 = (u2 I 121 (cnB T N) (nI i)) 121) : En I' (T ||| 2 ^ i) := by
  intro j hj
  rw [or2_bit] at hj
  have hc : ∀ j, j ≤ i → cnB (T ||| 2 ^ i) j = cnB T j := fun j hj => cnB_cg (fun t ht => by rw [or2_bit, decide_eq_false (by omega), Bool.or_false])
  have hN : cnB T N = cnB T i := cnB_hi hT (by omega)
  by_cases e : i = j
  · subst e
    rw [hc i (Nat.le_refl _), hI, hN, u2_self]
  · rw [decide_eq_false e, Bool.or_false] at hj
    have hji := bit_lt hT hj
    have := cnW_lt (W := fun t => T.testBit t) hji hj
    rw [hc j (by omega), hI, u2_ne _ _ (by rw [hN]; unfold cnB; omega)]
    exact h j hj
theorem En.keep {I I' : Nat → Nat → Int32} {S N : Nat} (h : En I S) (hS : S < 2 ^ N) (hk : ∀ j, j < cnB S N → I' 121 j = I 121 j) : En I' S := fun i hi => by
  rw [hk (cnB S i) (cnW_lt (W := fun t => S.testBit t) (bit_lt hS hi) hi)]; exact h i hi
/-- sets that go on from T, by c of those from fr on -/
def Ext (σ : Sg) (T fr c S : Nat) : Prop := S < 2 ^ cdN σ ∧ (∀ i, i < fr → S.testBit i = T.testBit i) ∧ cnB S (cdN σ) = cnB T (cdN σ) + c
theorem Ext.same {σ : Sg} {T fr S : Nat} (h : Ext σ T fr 0 S) (hT : T < 2 ^ fr) (hf : fr ≤ cdN σ) : S = T := by
  obtain ⟨h1, h2, h3⟩ := h
  have e : cnB S fr = cnB S (cdN σ) := by rw [cnB_cg h2, h3, cnB_hi hT hf]; rfl
  refine bit_ext (fun i => ?_)
  by_cases hi : i < fr
  · exact h2 i hi
  · rw [Nat.testBit_lt_two_pow (Nat.lt_of_lt_of_le hT (Nat.pow_le_pow_right (by decide) (by omega)))]
    by_cases hn : i < cdN σ
    · exact cnB_no e (by omega) hn
    · exact Nat.testBit_lt_two_pow (Nat.lt_of_lt_of_le h1 (Nat.pow_le_pow_right (by decide) (by omega)))
theorem Ext.rf {σ : Sg} {T fr : Nat} (hT : T < 2 ^ fr) (hf : fr ≤ cdN σ) : Ext σ T fr 0 T := ⟨Nat.lt_of_lt_of_le hT (Nat.pow_le_pow_right (by decide) hf), fun _ _ => rfl, rfl⟩
theorem Ext.up {σ : Sg} {T fr c i S : Nat} (h : Ext σ (T ||| 2 ^ i) (i + 1) c S) (hT : T < 2 ^ fr) (hf : fr ≤ i) (hi : i < cdN σ) : Ext σ T fr (c + 1) S := by
  obtain ⟨h1, h2, h3⟩ := h
  refine ⟨h1, fun j hj => ?_, ?_⟩
  · rw [h2 j (by omega), or2_bit, decide_eq_false (by omega), Bool.or_false]
  · rw [h3, cnB_or (Nat.lt_of_lt_of_le hT (Nat.pow_le_pow_right (by decide) hf)) hi]; omega
theorem Ext.dn {σ : Sg} {T fr c i S : Nat} (h : Ext σ T fr (c + 1) S) (hT : T < 2 ^ fr) (hf : fr ≤ i) (hi : i < cdN σ) (ha : ∀ j, j < i → S.testBit j = T.testBit j) (hb : S.testBit i = true) : Ext σ (T ||| 2 ^ i) (i + 1) c S := by
  refine ⟨h.1, fun j hj => ?_, ?_⟩
  · rw [or2_bit]
    by_cases e : i = j
    · subst e; rw [hb]; simp
    · rw [decide_eq_false e, Bool.or_false]; exact ha j (by omega)
  · rw [h.2.2, cnB_or (Nat.lt_of_lt_of_le hT (Nat.pow_le_pow_right (by decide) hf)) hi]; omega
theorem Ext.end_ {σ : Sg} {T fr c S : Nat} (h : Ext σ T fr (c + 1) S) (hT : T < 2 ^ fr) (hf : fr ≤ cdN σ) (ha : ∀ j, j < cdN σ → S.testBit j = T.testBit j) : False := by
  have := cnB_cg ha
  have := h.2.2
  omega
/-- the grants without one more -/
theorem gS_step {σ : Sg} (hσ : SgOK σ) {S j : Nat} (hj : j < cdN σ) (hb : S.testBit j = false) : gS σ (S ||| 2 ^ j) = upN (gS σ S) (cdI σ j / 16) (adf (gS σ S (cdI σ j / 16)) (2 ^ (cdI σ j % 16))) := by
  obtain ⟨c1, c2, c3⟩ := cdI_ok hj
  have hr := Nat.mod_lt (cdI σ j) (show 0 < 16 by decide)
  have inj : ∀ a b, a < cdN σ → b < cdN σ → cdI σ a = cdI σ b → a = b := fun a b ha hb h => cdI_inj ha hb h
  have key : ∀ x, eB (cdI σ) (S ||| 2 ^ j) (cdN σ) x = (eB (cdI σ) S (cdN σ) x || decide (cdI σ j = x)) := fun x => by
    rw [Bool.eq_iff_iff, Bool.or_eq_true, decide_eq_true_iff, eB_iff inj _ (Nat.le_refl _), eB_iff inj _ (Nat.le_refl _)]
    constructor
    · rintro ⟨i, a1, a2, a3⟩
      rw [or2_bit, Bool.or_eq_true, decide_eq_true_iff] at a2
      rcases a2 with a2 | a2
      · exact Or.inl ⟨i, a1, a2, a3⟩
      · right; rw [a2]; exact a3
    · rintro (⟨i, a1, a2, a3⟩ | a3)
      · exact ⟨i, a1, by rw [or2_bit, a2]; rfl, a3⟩
      · exact ⟨j, hj, by rw [or2_bit]; simp, a3⟩
  have hn : eB (cdI σ) S (cdN σ) (cdI σ j) = false := by
    cases hq : eB (cdI σ) S (cdN σ) (cdI σ j) with
    | false => rfl
    | true =>
      obtain ⟨i, a1, a2, a3⟩ := (eB_iff inj _ (Nat.le_refl _) _).mp hq
      rw [inj i j a1 hj a3, hb] at a2; cases a2
  have hg : (s_gr σ (cdI σ j / 16)).testBit (cdI σ j % 16) = true := by
    unfold cdW at c2; rw [Nat.testBit_and, Bool.and_eq_true] at c2; exact c2.1
  funext p
  refine bit_ext (fun i => ?_)
  unfold gS
  by_cases hi : i < 16
  · rw [gT_bit hi, key]
    by_cases ep : p = cdI σ j / 16
    · subst ep
      rw [upN_self, adf_bit (gT_lt _ _ _), gT_bit hi, p2_bit]
      by_cases er : i = cdI σ j % 16
      · subst er
        rw [show 16 * (cdI σ j / 16) + cdI σ j % 16 = cdI σ j by omega, hn, hg]; simp
      · rw [decide_eq_false (show ¬ cdI σ j = 16 * (cdI σ j / 16) + i by omega), decide_eq_false (fun z => er z.symm)]; simp
    · rw [upN_ne _ _ ep, gT_bit hi, decide_eq_false (show ¬ cdI σ j = 16 * p + i by omega), Bool.or_false]
  · rw [bit_hi (gT_lt _ _ _) (by omega)]
    unfold upN; split
    · rw [bit_hi (adf_lt (gT_lt _ _ _)) (by omega)]
    · rw [bit_hi (gT_lt _ _ _) (by omega)]
theorem gS_zero {σ : Sg} (hσ : SgOK σ) {p : Nat} (hp : p < s_np σ) : gS σ 0 p = s_gr σ p := by
  refine gT_id (hσ.gr hp) (fun j => ?_)
  have : ∀ k, eB (cdI σ) 0 k j = false := fun k => by
    induction k with
    | zero => rfl
    | succ k ih => rw [eB_f (Nat.zero_testBit k), ih]
  exact this _
theorem gS_lt (σ : Sg) (S p : Nat) : gS σ S p < 65536 := gT_lt _ _ _
theorem gS_sub {σ : Sg} (hσ : SgOK σ) {S p i : Nat} (hp : p < s_np σ) (h : (gS σ S p).testBit i = true) : (s_gr σ p).testBit i = true := by
  have hi : i < 16 := Classical.byContradiction fun z => by rw [bit_hi (gS_lt σ S p) (by omega)] at h; cases h
  unfold gS at h
  rw [gT_bit hi] at h
  cases hg : (s_gr σ p).testBit i with
  | true => rfl
  | false =>
    rw [hg, Bool.false_xor] at h
    obtain ⟨k, a1, a2, a3⟩ := (eB_iff (n := cdN σ) (fun a b ha hb h => cdI_inj ha hb h) _ (Nat.le_refl _) _).mp h
    have c2 := (cdI_ok a1).2.1
    rw [a3] at c2
    unfold cdW at c2
    rw [show (16 * p + i) / 16 = p by omega, show (16 * p + i) % 16 = i by omega, Nat.testBit_and, Bool.and_eq_true] at c2
    rw [c2.1] at hg; cases hg
theorem adf0 {a b : Nat} (ha : a < 65536) : adf a b = 0 ↔ ∀ i, a.testBit i = true → b.testBit i = true := by
  constructor
  · intro h i hi
    have := congrArg (fun z => z.testBit i) h
    simp only [adf_bit ha, hi, Nat.zero_testBit] at this
    simpa using this
  · intro h
    refine bit_ext (fun i => ?_)
    rw [adf_bit ha, Nat.zero_testBit]
    cases hb : a.testBit i with
    | false => rfl
    | true => rw [h i hb]; rfl
/-- no misuse, each service -/
theorem wel_iff {σ : Sg} {ρ : Rs} {g : Nat → Nat} (hρ : RsOK ρ) (hg : ∀ p, p < s_np σ → ∀ i, (g p).testBit i = true → (s_gr σ p).testBit i = true) : ((∀ d, d < 16 → adf (dr (sGr σ g) d) (trp (r_mt ρ) d) = 0) ∧ ∀ d, d < 16 → adf (dr σ d &&& trp (r_mt ρ) d) (dr (sGr σ g) d) = 0) ↔ Wel σ ρ g := by
  have drb : ∀ (τ : Sg) d s, (dr τ d).testBit s = true ↔ s < 16 ∧ Door τ d s := fun τ d s => mk16_bit
  have lkb : ∀ (τ : Sg) s d, (lk τ s).testBit d = true ↔ d < 16 ∧ Door τ d s := fun τ s d => mk16_bit
  have mono : ∀ d s, Door (sGr σ g) d s → Door σ d s := fun d s h => door_mono (g' := s_gr σ) hg h
  constructor
  · rintro ⟨h1, h2⟩ s hs
    refine bit_ext (fun d => ?_)
    rw [Nat.testBit_and, Bool.eq_iff_iff, Bool.and_eq_true, lkb, lkb]
    constructor
    · rintro ⟨hd, hD⟩
      refine ⟨⟨hd, mono d s hD⟩, ?_⟩
      have := (adf0 (dr_lt _ d)).mp (h1 d hd) s ((drb _ d s).mpr ⟨hs, hD⟩)
      rw [trp_bit hs] at this; exact this
    · rintro ⟨⟨hd, hD⟩, hm⟩
      refine ⟨hd, ?_⟩
      have := (adf0 (and_lt (dr_lt _ d))).mp (h2 d hd) s (by rw [Nat.testBit_and, Bool.and_eq_true, trp_bit hs]; exact ⟨(drb _ d s).mpr ⟨hs, hD⟩, hm⟩)
      exact ((drb _ d s).mp this).2
  · intro h
    refine ⟨fun d hd => (adf0 (dr_lt _ d)).mpr (fun s hb => ?_), fun d hd => (adf0 (and_lt (dr_lt _ d))).mpr (fun s hb => ?_)⟩
    · obtain ⟨hs, hD⟩ := (drb _ d s).mp hb
      have h1 := (lkb (sGr σ g) s d).mpr ⟨hd, hD⟩
      rw [h s hs, Nat.testBit_and, Bool.and_eq_true] at h1
      rw [trp_bit hs]; exact h1.2
    · rw [Nat.testBit_and, Bool.and_eq_true] at hb
      obtain ⟨hs, hD⟩ := (drb _ d s).mp hb.1
      rw [trp_bit hs] at hb
      have h1 : (lk (sGr σ g) s).testBit d = true := by rw [h s hs, Nat.testBit_and, Bool.and_eq_true]; exact ⟨(lkb σ s d).mpr ⟨hd, hD⟩, hb.2⟩
      exact (drb _ d s).mpr ⟨hs, ((lkb _ s d).mp h1).2⟩
/-- those of S that are picked before the k-th -/
noncomputable def pkU (S k : Nat) : Nat := mk16 (fun i => S.testBit i = true ∧ cnB S i < k)
theorem pkU_0 (S : Nat) : pkU S 0 = 0 := mk16_eq (by decide) (fun i _ => by rw [Nat.zero_testBit]; exact ⟨fun h => (by cases h), fun h => absurd h.2 (Nat.not_lt_zero _)⟩) |>.symm
theorem pkU_s {S i : Nat} (hi : i < 16) (h : S.testBit i = true) : pkU S (cnB S i + 1) = pkU S (cnB S i) ||| 2 ^ i ∧ (pkU S (cnB S i)).testBit i = false := by
  refine ⟨?_, ?_⟩
  · refine bit_ext (fun j => ?_)
    rw [or2_bit, Bool.eq_iff_iff, Bool.or_eq_true, decide_eq_true_iff]
    unfold pkU
    rw [mk16_bit, mk16_bit]
    constructor
    · rintro ⟨a, b, c⟩
      by_cases e : cnB S j = cnB S i
      · right; exact cnW_inj (W := fun t => S.testBit t) h b e.symm
      · left; exact ⟨a, b, by omega⟩
    · rintro (⟨a, b, c⟩ | e)
      · exact ⟨a, b, by omega⟩
      · subst e; exact ⟨hi, h, by omega⟩
  · cases hq : (pkU S (cnB S i)).testBit i with
    | false => rfl
    | true =>
      unfold pkU at hq
      have := (mk16_bit.mp hq).2.2
      omega
theorem pkU_n {S N : Nat} (hS : S < 2 ^ N) (hN : N ≤ 16) : pkU S (cnB S N) = S := by
  refine bit_ext (fun j => ?_)
  rw [Bool.eq_iff_iff]
  unfold pkU
  rw [mk16_bit]
  constructor
  · intro h; exact h.2.1
  · intro h
    have hj := bit_lt hS h
    exact ⟨by omega, h, cnW_lt (W := fun t => S.testBit t) hj h⟩
theorem pk_ex {S N k : Nat} (hk : k < cnB S N) : ∃ i, i < N ∧ S.testBit i = true ∧ cnB S i = k := cnW_ex (W := fun t => S.testBit t) N k hk
theorem sum0 {n : Nat} {f : Nat → Nat} : sumN n f = 0 ↔ ∀ i, i < n → f i = 0 := by
  induction n with
  | zero => exact ⟨fun _ i h => absurd h (Nat.not_lt_zero _), fun _ => rfl⟩
  | succ n ih =>
    show sumN n f + f n = 0 ↔ _
    constructor
    · intro h i hi
      by_cases e : i = n
      · rw [e]; omega
      · exact ih.mp (by omega) i (by omega)
    · intro h
      have h1 := ih.mpr (fun i hi => h i (by omega))
      have h2 := h n (by omega)
      omega
theorem pop0 {a : Nat} (ha : a < 65536) : pop a = 0 ↔ a = 0 := by
  constructor
  · intro h
    refine bit_ext (fun i => ?_)
    rw [Nat.zero_testBit]
    by_cases hi : i < 16
    · have := sum0.mp (show sumN 16 (fun i => (a.testBit i).toNat) = 0 from h) i hi
      revert this; cases a.testBit i <;> simp
    · exact bit_hi ha (by omega)
  · rintro rfl; decide
theorem cd_sum (σ : Sg) (p : Nat) : cnW (cdW σ) (16 * (p + 1)) = cnW (cdW σ) (16 * p) + pop (s_gr σ p &&& ndF σ p) := by
  have h : ∀ r, r ≤ 16 → cnW (cdW σ) (16 * p + r) = cnW (cdW σ) (16 * p) + sumN r (fun i => ((s_gr σ p &&& ndF σ p).testBit i).toNat) := by
    intro r
    induction r with
    | zero => intro _; rfl
    | succ r ih =>
      intro hr
      rw [← Nat.add_assoc, cnW_succ, ih (by omega)]
      have e : cdW σ (16 * p + r) = (s_gr σ p &&& ndF σ p).testBit r := by unfold cdW; rw [show (16 * p + r) / 16 = p by omega, show (16 * p + r) % 16 = r by omega]
      rw [e]
      exact Nat.add_assoc _ _ _
  have := h 16 (Nat.le_refl _)
  rw [show 16 * (p + 1) = 16 * p + 16 by omega]
  exact this
