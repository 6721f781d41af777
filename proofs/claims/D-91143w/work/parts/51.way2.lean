/-! ===== the house: ways, pure ===== -/
noncomputable def hlI (σ : Sg) (s d q p k : Nat) : Int32 := @dite Int32 (∃ q', Ld σ s d q p k q' ∧ q' ≠ 90) (Classical.propDecidable _) (fun h => nI (Classical.choose h)) (fun _ => -1)
theorem hlI_t {σ : Sg} {s d q p k q' : Nat} (hσ : SgOK σ) (hp : p < s_np σ) (hk : k < s_ln σ p) (h : Ld σ s d q p k q') (hne : q' ≠ 90) : hlI σ s d q p k = nI q' := by
  have hex : ∃ q', Ld σ s d q p k q' ∧ q' ≠ 90 := ⟨q', h, hne⟩
  unfold hlI
  rw [@dif_pos _ (Classical.propDecidable _) hex]
  exact congrArg nI (Ld.fn hσ hp hk (Classical.choose_spec hex).1 h)
theorem hlI_f {σ : Sg} {s d q p k : Nat} (h : ∀ q', Ld σ s d q p k q' → q' = 90) : hlI σ s d q p k = -1 := by
  unfold hlI
  rw [@dif_neg _ (Classical.propDecidable _) (fun z => z.choose_spec.2 (h _ z.choose_spec.1))]
theorem hlI_no {σ : Sg} {s d q p k : Nat} (hσ : SgOK σ) (hp : p < s_np σ) (hk : k < s_ln σ p) (h : hlI σ s d q p k = -1) : ∀ q', Ld σ s d q p k q' → q' = 90 := fun q' hL => Classical.byContradiction fun hne => by
  rw [hlI_t hσ hp hk hL hne] at h
  exact nI_m1 (by have := (hL.lt hσ hp hk).2; omega) h
theorem hlI_yes {σ : Sg} {s d q p k : Nat} (h : ¬ hlI σ s d q p k = -1) : ∃ q', Ld σ s d q p k q' ∧ q' ≠ 90 :=
  Classical.byContradiction fun z => h (hlI_f (fun q' hL => Classical.byContradiction fun hne => z ⟨q', hL, hne⟩))
theorem hl_of {σ : Sg} {s d q p k x : Nat} (hσ : SgOK σ) (hp : p < s_np σ) (hk : k < s_ln σ p) (hx : x ≠ 90) (hL : Ld σ s d q p k x) : nI x = hlI σ s d q p k := (hlI_t hσ hp hk hL hx).symm
theorem Ld_90 {σ : Sg} {s d q p k : Nat} (hσ : SgOK σ) (hp : p < s_np σ) (hk : k < s_ln σ p) : Ld σ s d q p k 90 ↔ (s_kk σ (12 * p + k) = 3 ∧ q = 8 * p + s_fs σ (12 * p + k) ∧ s_nu σ (12 * p + k) = d ∧ (s_gr σ p).testBit d = true) := by
  have hnp := hσ.1
  obtain ⟨r1, r2, r3, r4, r5, r6, r7⟩ := hσ.row hp hk
  constructor
  · intro h
    rcases h with ⟨a1, -, -, a2⟩ | ⟨a1, a3, -, a2⟩ | ⟨a1, a3, -, a2⟩ | ⟨a1, a3, a4, a5, a2⟩ | ⟨a1, a3, a2⟩
    · omega
    · have := r5 a1; omega
    · have := r5 a1; omega
    · exact ⟨a1, a3, a4, a5⟩
    · omega
  · rintro ⟨a1, a3, a4, a5⟩
    exact Or.inr (Or.inr (Or.inr (Or.inl ⟨a1, a3, a4, a5, rfl⟩)))
/-- a row that leads a place on to one that is so far -/
def NC (σ : Sg) (s d : Nat) (fr : Nat → Nat) (q left l : Nat) : Prop := Rw σ l ∧ ∃ q', Ld σ s d q (l / 12) (l % 12) q' ∧ ((left = 0 ∧ q' = 90) ∨ (left ≠ 0 ∧ q' ≠ 90 ∧ fr q' = left))
def NF (σ : Sg) (s d : Nat) (fr : Nat → Nat) (q left l : Nat) : Prop := NC σ s d fr q left l ∧ ∀ l', l' < l → ¬ NC σ s d fr q left l'
theorem NF.u {σ : Sg} {s d : Nat} {fr : Nat → Nat} {q left a b : Nat} (ha : NF σ s d fr q left a) (hb : NF σ s d fr q left b) : a = b := by
  rcases Nat.lt_trichotomy a b with z | z | z
  · exact absurd ha.1 (hb.2 a z)
  · exact z
  · exact absurd hb.1 (ha.2 b z)
noncomputable def nfI (σ : Sg) (s d : Nat) (fr : Nat → Nat) (q left : Nat) : Int32 := @dite Int32 (∃ l, NF σ s d fr q left l) (Classical.propDecidable _) (fun h => nI (cdF (Classical.choose h))) (fun _ => -1)
theorem nfI_t {σ : Sg} {s d : Nat} {fr : Nat → Nat} {q left l : Nat} (h : NF σ s d fr q left l) : nfI σ s d fr q left = nI (cdF l) := by
  have hex : ∃ l, NF σ s d fr q left l := ⟨l, h⟩
  unfold nfI
  rw [@dif_pos _ (Classical.propDecidable _) hex]
  rw [NF.u (Classical.choose_spec hex) h]
theorem nfI_f {σ : Sg} {s d : Nat} {fr : Nat → Nat} {q left : Nat} (h : ∀ l, ¬ NC σ s d fr q left l) : nfI σ s d fr q left = -1 := by
  unfold nfI
  rw [@dif_neg _ (Classical.propDecidable _) (fun z => h _ z.choose_spec.1)]
theorem nfI_no {σ : Sg} (hσ : SgOK σ) {s d : Nat} {fr : Nat → Nat} {q left : Nat} (h : nfI σ s d fr q left = -1) : ∀ l, ¬ NC σ s d fr q left l := fun l hl => by
  obtain ⟨m, h1, h2⟩ := least_ex (P := fun l => NC σ s d fr q left l) hl
  rw [nfI_t ⟨h1, h2⟩] at h
  refine nI_m1 ?_ h
  have a := h1.1.1
  have b := hσ.1
  unfold cdF; omega
theorem nfI_yes {σ : Sg} {s d : Nat} {fr : Nat → Nat} {q left : Nat} (h : ¬ nfI σ s d fr q left = -1) : ∃ l, NC σ s d fr q left l :=
  Classical.byContradiction fun z => h (nfI_f (fun l hl => z ⟨l, hl⟩))
theorem Rw.lt {σ : Sg} (hσ : SgOK σ) {l : Nat} (h : Rw σ l) : l < 12 * s_np σ := by have := h.1; have := hσ.ln h.1; have := h.2.2; omega
/-- the distances so far, in the round n, places below q done -/
noncomputable def bfF (σ : Sg) (s d n q j : Nat) : Nat := if dF σ s d j < n ∨ (dF σ s d j = n ∧ j < q) then dF σ s d j else 0
theorem bf_end (σ : Sg) (s d n : Nat) : bfF σ s d n 90 = fun j => if dF σ s d j < n ∨ (dF σ s d j = n ∧ j < 90) then dF σ s d j else 0 := rfl
/-- in the round n a place is reached just if it is n lines far -/
theorem bf_nc {σ : Sg} (hσ : SgOK σ) {s d n q at_ : Nat} {fr : Nat → Nat} (hfr : ∀ j, j < 90 → fr j = bfF σ s d n q j) (hn : 1 ≤ n) (hn9 : n < 1000) (hat : at_ < 90) (h0 : n ≤ dF σ s d at_) : (∃ l, NC σ s d fr at_ (n - 1) l) ↔ dF σ s d at_ = n := by
  constructor
  · rintro ⟨l, hr, q', hL, hc⟩
    have hd : dF σ s d q' = n - 1 := by
      rcases hc with ⟨a, b⟩ | ⟨a, b, c⟩
      · rw [b, dF_90]; omega
      · have hq' := (hL.lt hσ hr.1 hr.2.2).2
        rw [hfr q' (by omega)] at c
        unfold bfF at c
        split at c
        · exact c
        · omega
    have hp : Pth σ s d (n - 1) q' := by
      rcases dF_cases hσ s d q' with ⟨h1, -⟩ | ⟨-, h2⟩
      · omega
      · rw [hd] at h2; exact h2
    have h3 : Pth σ s d (n - 1 + 1) at_ := ⟨l / 12, l % 12, q', hr.1, hr.2.1, hr.2.2, hL, hp⟩
    have := dF_le h3
    omega
  · intro e
    obtain ⟨m, rfl⟩ : ∃ m, n = m + 1 := ⟨n - 1, by omega⟩
    rcases dF_cases hσ s d at_ with ⟨h1, -⟩ | ⟨-, h2⟩
    · omega
    · rw [e] at h2
      obtain ⟨p, k, q', a1, a2, a3, a4, a5, a6⟩ := dF_step h2 e
      have hk := hσ.ln a1
      have e1 : (12 * p + k) / 12 = p := by omega
      have e2 : (12 * p + k) % 12 = k := by omega
      refine ⟨12 * p + k, ⟨by rw [e1]; exact a1, by rw [e1]; exact a2, by rw [e1, e2]; exact a3⟩, q', by rw [e1, e2]; exact a4, ?_⟩
      by_cases h9 : q' = 90
      · left; rw [h9, dF_90] at a6; exact ⟨by omega, h9⟩
      · right
        have hq' := (a4.lt hσ a1 a3).2
        have hpos := dF_pos hσ (s := s) (d := d) (q := q') (by omega)
        refine ⟨by omega, h9, ?_⟩
        rw [hfr q' (by omega)]
        unfold bfF
        rw [if_pos (by omega), a6]; omega
/-- nothing in the round n: nothing farther -/
theorem bf_none {σ : Sg} (hσ : SgOK σ) {s d n : Nat} (hn : 1 ≤ n) (h : ∀ q, q < 90 → dF σ s d q ≠ n) : ∀ q, q < 90 → dF σ s d q < n ∨ dF σ s d q = 100000 := by
  have lev : ∀ m q, Pth σ s d m q → dF σ s d q = m → n ≤ m → ∃ q', q' < 90 ∧ dF σ s d q' = n := by
    intro m
    induction m with
    | zero => intro q _ _ hm; omega
    | succ m ih =>
      intro q hq e hm
      obtain ⟨p, k, q', h1, h2, h3, h4, h5, h6⟩ := dF_step hq e
      by_cases em : n = m + 1
      · exact ⟨q, (h4.lt hσ h1 h3).1, by rw [em]; exact e⟩
      · exact ih q' h5 h6 (by omega)
  intro q hq
  rcases dF_cases hσ s d q with ⟨h1, -⟩ | ⟨h1, h2⟩
  · exact Or.inr h1
  · left
    rcases Nat.lt_or_ge (dF σ s d q) n with z | z
    · exact z
    · obtain ⟨q', a, b⟩ := lev _ q h2 rfl z
      exact absurd b (h q' a)
/-- as the house keeps it: 0 where there is no way -/
noncomputable def hfF (σ : Sg) (s d q : Nat) : Nat := if dF σ s d q = 100000 then 0 else dF σ s d q
theorem hfF_lt {σ : Sg} (hσ : SgOK σ) (s d q : Nat) : hfF σ s d q ≤ 90 := by
  unfold hfF
  rcases dF_cases hσ s d q with ⟨h1, -⟩ | ⟨h1, -⟩
  · rw [if_pos h1]; exact Nat.zero_le _
  · rw [if_neg (by omega)]; exact h1
theorem nf_nx {σ : Sg} (hσ : SgOK σ) {s d q left l : Nat} {fr : Nat → Nat} (hfr : ∀ j, j < 90 → fr j = hfF σ s d j) (hd : dF σ s d q = left + 1) (h9 : left + 1 ≤ 90) (h : Nx σ s d q l) : NF σ s d fr q left l := by
  have key : ∀ l', Rw σ l' → ∀ q', Ld σ s d q (l' / 12) (l' % 12) q' → (((left = 0 ∧ q' = 90) ∨ (left ≠ 0 ∧ q' ≠ 90 ∧ fr q' = left)) ↔ dF σ s d q' + 1 = dF σ s d q) := by
    intro l' hr q' hL
    have hq' := (hL.lt hσ hr.1 hr.2.2).2
    by_cases e9 : q' = 90
    · rw [e9, dF_90, hd]; omega
    · have hpos := dF_pos hσ (s := s) (d := d) (q := q') (by omega)
      rw [hfr q' (by omega), hd]
      unfold hfF
      by_cases e5 : dF σ s d q' = 100000
      · rw [if_pos e5]; omega
      · rw [if_neg e5]; omega
  obtain ⟨q', h1, h2⟩ := h.2.1
  refine ⟨⟨h.1, q', h1, (key l h.1 q' h1).mpr h2⟩, ?_⟩
  rintro l' hl' ⟨hr, q2, h3, h4⟩
  exact h.2.2 l' hl' hr q2 h3 ((key l' hr q2 h3).mp h4)
theorem cdF_d (l : Nat) : cdF l / 100 = l / 12 ∧ cdF l % 100 = l % 12 := by unfold cdF; omega
theorem Fwn.same {I : Nat → Nat → Int32} {σ : Sg} (h : Fwn I σ) : u2 I 100 8 (nI 1) = I := by
  funext b j; unfold u2
  by_cases hb : b = 100
  · by_cases hj : j = 8
    · subst hb; subst hj; simp [h.1]
    · simp [hb, hj]
  · simp [hb]
