/-! ===== lines that are read: they are well made; the state behind them ===== -/
def LneOK (np : Nat) (l : Lne) : Prop := l.1 ≤ 5 ∧ l.2.1 < 16 ∧ l.2.2.1 < 8 ∧ (l.1 = 1 → 1 ≤ l.2.1 ∧ l.2.1 ≤ 4) ∧ (l.1 = 2 → l.2.1 < np ∧ l.2.2.2.1 < 8) ∧ (l.1 = 5 → l.2.1 = 0) ∧ (l.1 = 1 → ∀ i, i < l.2.1 → l.2.2.2.2 i < 8)
section PsOK
variable {z : Nat} {f : Nat → Nat}
theorem psM_ok {p x p1 : Nat} (hp : p ≤ z) (h : psM z f p = .inr (x, p1)) : x < 8 ∧ p1 ≤ z := by
  unfold psM at h
  cases hn : psN z f p with
  | inl e => rw [hn] at h; cases h
  | inr y =>
    rw [hn] at h
    cases h
    exact ⟨(psN_k hn hp).2, (tE_le hp).2⟩
theorem psW_ok {p p1 : Nat} {L : List Nat} (hp : p ≤ z) (h : psW z f L p = .inr p1) : p1 ≤ z := by
  by_cases hw : wIs z f p L
  · rw [psW_t hw] at h; cases h; exact (tE_le hp).2
  · rw [psW_f hw] at h; cases h
theorem psV_ok {m p v p1 : Nat} (hp : p ≤ z) (h : psV z f m p = .inr (v, p1)) : v < m ∧ p1 ≤ z := by
  unfold psV at h
  split at h
  · split at h
    · next h2 => cases h; exact ⟨h2, (tE_le hp).2⟩
    · cases h
  · cases h
theorem psF_ok : ∀ (nn m : Nat) (fr : Nat → Nat) (p : Nat), p ≤ z → (∀ i, i < m → fr i < 8) → ∀ (m' : Nat) (fr' : Nat → Nat) (p1 : Nat), psF z f nn m fr p = .inr (m', fr', p1) → m < m' ∧ m' ≤ m + nn ∧ (∀ i, i < m' → fr' i < 8) ∧ p1 ≤ z := by
  intro nn
  induction nn with
  | zero =>
    intro m fr p hp hfr m' fr' p1 h
    rw [psF] at h
    cases hn : psN z f p with
    | inl e => rw [hn] at h; cases h
    | inr y => rw [hn] at h; cases h
  | succ nn ih =>
    intro m fr p hp hfr m' fr' p1 h
    rw [psF] at h
    cases hn : psN z f p with
    | inl e => rw [hn] at h; cases h
    | inr y =>
      rw [hn] at h
      have hy := (psN_k hn hp).2
      have hfr2 : ∀ i, i < m + 1 → upN fr m y i < 8 := fun i hi => by
        unfold upN; split
        · exact hy
        · exact hfr i (by omega)
      have hp1 := (tE_le (f := f) hp).2
      have h : (if tK z f (tE z f p) = 44 then psF z f nn (m + 1) (upN fr m y) (tE z f (tE z f p)) else .inr (m + 1, upN fr m y, tE z f p)) = .inr (m', fr', p1) := h
      split at h
      · obtain ⟨a, b, c, d⟩ := ih (m + 1) (upN fr m y) (tE z f (tE z f p)) (tE_le hp1).2 hfr2 m' fr' p1 h
        exact ⟨by omega, by omega, c, d⟩
      · cases h
        exact ⟨by omega, by omega, hfr2, hp1⟩
theorem psL_ok {np w p : Nat} (hnp : np ≤ 10) (hw : w ≤ 5) (hp : p ≤ z) {l : Lne} {p1 : Nat} (h : psL z f np w p = .inr (l, p1)) : LneOK np l ∧ p1 ≤ z := by
  rcases (by omega : w = 0 ∨ w = 1 ∨ w = 2 ∨ w = 3 ∨ w = 4 ∨ w = 5) with rfl | rfl | rfl | rfl | rfl | rfl
  · simp only [psL] at h
    cases h1 : psV z f 16 p with
    | inl e => rw [h1] at h; cases h
    | inr a =>
      obtain ⟨v, q1⟩ := a
      rw [h1] at h
      obtain ⟨a1, a2⟩ := psV_ok hp h1
      cases h2 : psW z f kw_to q1 with
      | inl e => simp only [h2] at h; cases h
      | inr q2 =>
        simp only [h2] at h
        have b2 := psW_ok a2 h2
        cases h3 : psM z f q2 with
        | inl e => rw [h3] at h; cases h
        | inr c =>
          obtain ⟨x, q3⟩ := c
          rw [h3] at h
          obtain ⟨c1, c2⟩ := psM_ok b2 h3
          cases h
          exact ⟨⟨by show 0 ≤ 5; decide, a1, c1, (fun e => by cases e), (fun e => by cases e), (fun e => by cases e), (fun e => by cases e)⟩, c2⟩
  · simp only [psL] at h
    cases h1 : psM z f p with
    | inl e => rw [h1] at h; cases h
    | inr a =>
      obtain ⟨x, q1⟩ := a
      rw [h1] at h
      obtain ⟨a1, a2⟩ := psM_ok hp h1
      cases h2 : psW z f kw_from q1 with
      | inl e => simp only [h2] at h; cases h
      | inr q2 =>
        simp only [h2] at h
        have b2 := psW_ok a2 h2
        cases h3 : psF z f 4 0 (fun _ => 0) q2 with
        | inl e => rw [h3] at h; cases h
        | inr c =>
          obtain ⟨m, fr, q3⟩ := c
          rw [h3] at h
          obtain ⟨c1, c2, c3, c4⟩ := psF_ok 4 0 (fun _ => 0) q2 b2 (fun i hi => absurd hi (Nat.not_lt_zero _)) m fr q3 h3
          cases h
          exact ⟨⟨by show 1 ≤ 5; decide, by show m < 16; omega, a1, fun _ => ⟨by show 1 ≤ m; omega, by show m ≤ 4; omega⟩, (fun e => by cases e), (fun e => by cases e), fun _ => c3⟩, c4⟩
  · simp only [psL] at h
    cases h1 : psV z f np p with
    | inl e => rw [h1] at h; cases h
    | inr a =>
      obtain ⟨v, q1⟩ := a
      rw [h1] at h
      obtain ⟨a1, a2⟩ := psV_ok hp h1
      cases h2 : psW z f kw_with q1 with
      | inl e => simp only [h2] at h; cases h
      | inr q2 =>
        simp only [h2] at h
        have b2 := psW_ok a2 h2
        cases h3 : psM z f q2 with
        | inl e => rw [h3] at h; cases h
        | inr c =>
          obtain ⟨x, q3⟩ := c
          rw [h3] at h
          obtain ⟨c1, c2⟩ := psM_ok b2 h3
          cases h4 : psW z f kw_to q3 with
          | inl e => simp only [h4] at h; cases h
          | inr q4 =>
            simp only [h4] at h
            have d2 := psW_ok c2 h4
            cases h5 : psM z f q4 with
            | inl e => rw [h5] at h; cases h
            | inr g =>
              obtain ⟨y, q5⟩ := g
              rw [h5] at h
              obtain ⟨e1, e2⟩ := psM_ok d2 h5
              cases h
              exact ⟨⟨by show 2 ≤ 5; decide, by show v < 16; omega, c1, (fun e => by cases e), fun _ => ⟨a1, e1⟩, (fun e => by cases e), (fun e => by cases e)⟩, e2⟩
  · simp only [psL] at h
    cases h1 : psM z f p with
    | inl e => rw [h1] at h; cases h
    | inr a =>
      obtain ⟨x, q1⟩ := a
      rw [h1] at h
      obtain ⟨a1, a2⟩ := psM_ok hp h1
      cases h2 : psW z f kw_by q1 with
      | inl e => simp only [h2] at h; cases h
      | inr q2 =>
        simp only [h2] at h
        have b2 := psW_ok a2 h2
        cases h3 : psV z f 16 q2 with
        | inl e => rw [h3] at h; cases h
        | inr c =>
          obtain ⟨v, q3⟩ := c
          rw [h3] at h
          obtain ⟨c1, c2⟩ := psV_ok b2 h3
          cases h
          exact ⟨⟨by show 3 ≤ 5; decide, c1, a1, (fun e => by cases e), (fun e => by cases e), (fun e => by cases e), (fun e => by cases e)⟩, c2⟩
  · simp only [psL] at h
    cases h1 : psM z f p with
    | inl e => rw [h1] at h; cases h
    | inr a =>
      obtain ⟨x, q1⟩ := a
      rw [h1] at h
      obtain ⟨a1, a2⟩ := psM_ok hp h1
      cases h2 : psW z f kw_of q1 with
      | inl e => simp only [h2] at h; cases h
      | inr q2 =>
        simp only [h2] at h
        have b2 := psW_ok a2 h2
        cases h3 : psV z f 16 q2 with
        | inl e => rw [h3] at h; cases h
        | inr c =>
          obtain ⟨v, q3⟩ := c
          rw [h3] at h
          obtain ⟨c1, c2⟩ := psV_ok b2 h3
          cases h
          exact ⟨⟨by show 4 ≤ 5; decide, c1, a1, (fun e => by cases e), (fun e => by cases e), (fun e => by cases e), (fun e => by cases e)⟩, c2⟩
  · simp only [psL] at h
    cases h1 : psM z f p with
    | inl e => rw [h1] at h; cases h
    | inr a =>
      obtain ⟨x, q1⟩ := a
      rw [h1] at h
      obtain ⟨a1, a2⟩ := psM_ok hp h1
      cases h
      exact ⟨⟨by show 5 ≤ 5; decide, by show 0 < 16; decide, a1, (fun e => by cases e), (fun e => by cases e), fun _ => rfl, (fun e => by cases e)⟩, a2⟩
theorem psK_ok {p w : Nat} (h : psK z f p = some w) : tK z f p = 2 ∧ w ≤ 5 := by
  unfold psK at h
  by_cases h0 : wIs z f p kw_get
  · rw [@if_pos _ (Classical.propDecidable _) h0] at h; cases h; exact ⟨h0.1, by decide⟩
  rw [@if_neg _ (Classical.propDecidable _) h0] at h
  by_cases h0 : wIs z f p kw_let
  · rw [@if_pos _ (Classical.propDecidable _) h0] at h; cases h; exact ⟨h0.1, by decide⟩
  rw [@if_neg _ (Classical.propDecidable _) h0] at h
  by_cases h0 : wIs z f p kw_ask
  · rw [@if_pos _ (Classical.propDecidable _) h0] at h; cases h; exact ⟨h0.1, by decide⟩
  rw [@if_neg _ (Classical.propDecidable _) h0] at h
  by_cases h0 : wIs z f p kw_put
  · rw [@if_pos _ (Classical.propDecidable _) h0] at h; cases h; exact ⟨h0.1, by decide⟩
  rw [@if_neg _ (Classical.propDecidable _) h0] at h
  by_cases h0 : wIs z f p kw_wash
  · rw [@if_pos _ (Classical.propDecidable _) h0] at h; cases h; exact ⟨h0.1, by decide⟩
  rw [@if_neg _ (Classical.propDecidable _) h0] at h
  by_cases h0 : wIs z f p kw_result
  · rw [@if_pos _ (Classical.propDecidable _) h0] at h; cases h; exact ⟨h0.1, by decide⟩
  rw [@if_neg _ (Classical.propDecidable _) h0] at h
  cases h
theorem psA_ok {np : Nat} (hnp : np ≤ 10) : ∀ (nn m : Nat) (rs : Nat → Lne) (p : Nat), p ≤ z → (∀ k, k < m → LneOK np (rs k)) → ∀ (m' : Nat) (rs' : Nat → Lne), psA z f np nn m rs p = .inr (m', rs') → m' ≤ m + nn ∧ ∀ k, k < m' → LneOK np (rs' k) := by
  intro nn
  induction nn with
  | zero =>
    intro m rs p hp hrs m' rs' h
    rw [psA] at h
    cases hk : psK z f p with
    | none => rw [hk] at h; cases h
    | some w => rw [hk] at h; cases h
  | succ nn ih =>
    intro m rs p hp hrs m' rs' h
    rw [psA] at h
    cases hk : psK z f p with
    | none => rw [hk] at h; cases h
    | some w =>
      rw [hk] at h
      have hw := (psK_ok hk).2
      cases hl : psL z f np w (tE z f p) with
      | inl e => simp only [hl] at h; cases h
      | inr a =>
        obtain ⟨l, p1⟩ := a
        simp only [hl] at h
        obtain ⟨b1, b2⟩ := psL_ok hnp hw (tE_le hp).2 hl
        have hrs2 : ∀ k, k < m + 1 → LneOK np (if k = m then l else rs k) := fun k hk => by
          split
          · exact b1
          · exact hrs k (by omega)
        split at h
        · obtain ⟨c1, c2⟩ := ih (m + 1) (fun j => if j = m then l else rs j) (tE z f p1) (tE_le b2).2 hrs2 m' rs' h
          exact ⟨by omega, c2⟩
        · split at h
          · cases h
            exact ⟨by omega, hrs2⟩
          · cases h
/-- the errors' numbers -/
theorem psN_F {p F pl : Nat} (h : psN z f p = .inl (F, pl)) : F ≤ 4 := by
  unfold psN at h
  split at h
  · split at h
    · cases h
    · cases h; decide
  · cases h; decide
theorem psM_F {p F pl : Nat} (h : psM z f p = .inl (F, pl)) : F ≤ 4 := by
  unfold psM at h
  cases hn : psN z f p with
  | inl e => rw [hn] at h; cases h; exact psN_F hn
  | inr y => rw [hn] at h; cases h
theorem psW_F {p F pl : Nat} {L : List Nat} (h : psW z f L p = .inl (F, pl)) : F ≤ 4 := by
  by_cases hw : wIs z f p L
  · rw [psW_t hw] at h; cases h
  · rw [psW_f hw] at h; cases h; decide
theorem psV_F {m p F pl : Nat} (h : psV z f m p = .inl (F, pl)) : F ≤ 4 := by
  unfold psV at h
  split at h
  · split at h
    · cases h
    · cases h; decide
  · cases h; decide
theorem psF_F : ∀ (nn m : Nat) (fr : Nat → Nat) (p F pl : Nat), psF z f nn m fr p = .inl (F, pl) → F ≤ 4 := by
  intro nn
  induction nn with
  | zero =>
    intro m fr p F pl h
    rw [psF] at h
    cases hn : psN z f p with
    | inl e => rw [hn] at h; cases h; exact psN_F hn
    | inr y => rw [hn] at h; cases h; decide
  | succ nn ih =>
    intro m fr p F pl h
    rw [psF] at h
    cases hn : psN z f p with
    | inl e => rw [hn] at h; cases h; exact psN_F hn
    | inr y =>
      rw [hn] at h
      have h : (if tK z f (tE z f p) = 44 then psF z f nn (m + 1) (upN fr m y) (tE z f (tE z f p)) else .inr (m + 1, upN fr m y, tE z f p)) = .inl (F, pl) := h
      split at h
      · exact ih _ _ _ _ _ h
      · cases h
theorem psL_F {np w p F pl : Nat} (hw : w ≤ 5) (h : psL z f np w p = .inl (F, pl)) : F ≤ 4 := by
  rcases (by omega : w = 0 ∨ w = 1 ∨ w = 2 ∨ w = 3 ∨ w = 4 ∨ w = 5) with rfl | rfl | rfl | rfl | rfl | rfl
  · simp only [psL] at h
    cases h1 : psV z f 16 p with
    | inl e => rw [h1] at h; cases h; exact psV_F h1
    | inr a =>
      obtain ⟨v, q1⟩ := a
      rw [h1] at h
      cases h2 : psW z f kw_to q1 with
      | inl e => simp only [h2] at h; cases h; exact psW_F h2
      | inr q2 =>
        simp only [h2] at h
        cases h3 : psM z f q2 with
        | inl e => rw [h3] at h; cases h; exact psM_F h3
        | inr c => rw [h3] at h; cases h
  · simp only [psL] at h
    cases h1 : psM z f p with
    | inl e => rw [h1] at h; cases h; exact psM_F h1
    | inr a =>
      obtain ⟨x, q1⟩ := a
      rw [h1] at h
      cases h2 : psW z f kw_from q1 with
      | inl e => simp only [h2] at h; cases h; exact psW_F h2
      | inr q2 =>
        simp only [h2] at h
        cases h3 : psF z f 4 0 (fun _ => 0) q2 with
        | inl e => rw [h3] at h; cases h; exact psF_F _ _ _ _ _ _ h3
        | inr c => rw [h3] at h; cases h
  · simp only [psL] at h
    cases h1 : psV z f np p with
    | inl e => rw [h1] at h; cases h; exact psV_F h1
    | inr a =>
      obtain ⟨v, q1⟩ := a
      rw [h1] at h
      cases h2 : psW z f kw_with q1 with
      | inl e => simp only [h2] at h; cases h; exact psW_F h2
      | inr q2 =>
        simp only [h2] at h
        cases h3 : psM z f q2 with
        | inl e => rw [h3] at h; cases h; exact psM_F h3
        | inr c =>
          obtain ⟨x, q3⟩ := c
          rw [h3] at h
          cases h4 : psW z f kw_to q3 with
          | inl e => simp only [h4] at h; cases h; exact psW_F h4
          | inr q4 =>
            simp only [h4] at h
            cases h5 : psM z f q4 with
            | inl e => rw [h5] at h; cases h; exact psM_F h5
            | inr g => rw [h5] at h; cases h
  · simp only [psL] at h
    cases h1 : psM z f p with
    | inl e => rw [h1] at h; cases h; exact psM_F h1
    | inr a =>
      obtain ⟨x, q1⟩ := a
      rw [h1] at h
      cases h2 : psW z f kw_by q1 with
      | inl e => simp only [h2] at h; cases h; exact psW_F h2
      | inr q2 =>
        simp only [h2] at h
        cases h3 : psV z f 16 q2 with
        | inl e => rw [h3] at h; cases h; exact psV_F h3
        | inr c => rw [h3] at h; cases h
  · simp only [psL] at h
    cases h1 : psM z f p with
    | inl e => rw [h1] at h; cases h; exact psM_F h1
    | inr a =>
      obtain ⟨x, q1⟩ := a
      rw [h1] at h
      cases h2 : psW z f kw_of q1 with
      | inl e => simp only [h2] at h; cases h; exact psW_F h2
      | inr q2 =>
        simp only [h2] at h
        cases h3 : psV z f 16 q2 with
        | inl e => rw [h3] at h; cases h; exact psV_F h3
        | inr c => rw [h3] at h; cases h
  · simp only [psL] at h
    cases h1 : psM z f p with
    | inl e => rw [h1] at h; cases h; exact psM_F h1
    | inr a => rw [h1] at h; cases h
theorem psA_F {np : Nat} : ∀ (nn m : Nat) (rs : Nat → Lne) (p F pl : Nat), psA z f np nn m rs p = .inl (F, pl) → F ≤ 4 := by
  intro nn
  induction nn with
  | zero =>
    intro m rs p F pl h
    rw [psA] at h
    cases hk : psK z f p with
    | none => rw [hk] at h; cases h; decide
    | some w => rw [hk] at h; cases h; decide
  | succ nn ih =>
    intro m rs p F pl h
    rw [psA] at h
    cases hk : psK z f p with
    | none => rw [hk] at h; cases h; decide
    | some w =>
      rw [hk] at h
      cases hl : psL z f np w (tE z f p) with
      | inl e => simp only [hl] at h; cases h; exact psL_F (psK_ok hk).2 hl
      | inr a =>
        obtain ⟨l, p1⟩ := a
        simp only [hl] at h
        split at h
        · exact ih _ _ _ _ _ h
        · split at h
          · cases h
          · cases h; decide
end PsOK
/-- the lines of one part, new -/
def sLines (σ : Sg) (pt m : Nat) (rs : Nat → Lne) : Sg := (s_np σ, s_gr σ, upN (s_ln σ) pt m, fun j => if j / 12 = pt then (rs (j % 12)).1 else s_kk σ j, fun j => if j / 12 = pt then (rs (j % 12)).2.1 else s_nu σ j, fun j => if j / 12 = pt then (rs (j % 12)).2.2.1 else s_fs σ j, fun j => if j / 12 = pt then (rs (j % 12)).2.2.2.1 else s_sc σ j, fun x => if x / 48 = pt then (rs (x / 4 % 12)).2.2.2.2 (x % 4) else s_fr σ x)
def rFl (ρ : Rs) (F tr : Nat) (wh : Int32) : Rs := (r_mt ρ, 0, r_tp ρ, tr, wh, F, r_sn ρ, r_sp ρ, r_cn ρ, r_cd ρ)
noncomputable def qLines (σ : Sg) (ρ : Rs) (v u : Int32) : Int32 × Sg × Rs := match ixOf v (s_np σ) with
  | none => (-1, σ, rT ρ 1)
  | some pt => match ixOf u (r_td ρ + 1) with
    | none => (-1, σ, rT ρ 2)
    | some z => match psA z (fun j => btN (r_tp ρ j)) (s_np σ) 12 0 (fun _ => (0, 0, 0, 0, fun _ => 0)) 0 with
      | .inl (F, pl) => (-1, σ, rFl ρ F 4 (nI pl))
      | .inr (m, rs) => (nI m, sLines σ pt m rs, rFl ρ 0 0 (-1))
theorem SgOK.lines {σ : Sg} (h : SgOK σ) {pt m : Nat} {rs : Nat → Lne} (hm : m ≤ 12) (hr : ∀ k, k < m → LneOK (s_np σ) (rs k)) : SgOK (sLines σ pt m rs) := by
  refine ⟨h.1, fun p hp => ?_⟩
  have hp : p < s_np σ := hp
  refine ⟨h.gr hp, ?_, fun k hk => ?_⟩
  · show upN (s_ln σ) pt m p ≤ 12
    unfold upN; split
    · exact hm
    · exact h.ln hp
  · have hk : k < upN (s_ln σ) pt m p := hk
    by_cases e : p = pt
    · rw [e, upN_self] at hk
      have e1 : (12 * p + k) / 12 = pt := by omega
      have e2 : (12 * p + k) % 12 = k := by omega
      obtain ⟨r1, r2, r3, r4, r5, r6, r7⟩ := hr k hk
      have hkk : s_kk (sLines σ pt m rs) (12 * p + k) = (rs k).1 := by show (if (12 * p + k) / 12 = pt then (rs ((12 * p + k) % 12)).1 else _) = _; rw [if_pos e1, e2]
      have hnu : s_nu (sLines σ pt m rs) (12 * p + k) = (rs k).2.1 := by show (if (12 * p + k) / 12 = pt then (rs ((12 * p + k) % 12)).2.1 else _) = _; rw [if_pos e1, e2]
      have hfs : s_fs (sLines σ pt m rs) (12 * p + k) = (rs k).2.2.1 := by show (if (12 * p + k) / 12 = pt then (rs ((12 * p + k) % 12)).2.2.1 else _) = _; rw [if_pos e1, e2]
      have hsc : s_sc (sLines σ pt m rs) (12 * p + k) = (rs k).2.2.2.1 := by show (if (12 * p + k) / 12 = pt then (rs ((12 * p + k) % 12)).2.2.2.1 else _) = _; rw [if_pos e1, e2]
      have hfr : ∀ i, i < 4 → s_fr (sLines σ pt m rs) (4 * (12 * p + k) + i) = (rs k).2.2.2.2 i := fun i hi => by
        show (if (4 * (12 * p + k) + i) / 48 = pt then (rs ((4 * (12 * p + k) + i) / 4 % 12)).2.2.2.2 ((4 * (12 * p + k) + i) % 4) else _) = _
        rw [if_pos (by omega), show (4 * (12 * p + k) + i) / 4 % 12 = k by omega, show (4 * (12 * p + k) + i) % 4 = i by omega]
      unfold LnOK
      rw [hkk, hnu, hfs, hsc]
      refine ⟨r1, r2, r3, r4, r5, r6, fun e i hi => ?_⟩
      rw [hfr i (by have := r4 e; omega)]
      exact r7 e i hi
    · rw [upN_ne _ _ e] at hk
      have hln := h.ln hp
      have e1 : ¬ (12 * p + k) / 12 = pt := by omega
      have hkk : s_kk (sLines σ pt m rs) (12 * p + k) = s_kk σ (12 * p + k) := if_neg e1
      have hnu : s_nu (sLines σ pt m rs) (12 * p + k) = s_nu σ (12 * p + k) := if_neg e1
      have hfs : s_fs (sLines σ pt m rs) (12 * p + k) = s_fs σ (12 * p + k) := if_neg e1
      have hsc : s_sc (sLines σ pt m rs) (12 * p + k) = s_sc σ (12 * p + k) := if_neg e1
      have hro := h.row hp hk
      unfold LnOK
      rw [hkk, hnu, hfs, hsc]
      refine ⟨hro.1, hro.2.1, hro.2.2.1, hro.2.2.2.1, hro.2.2.2.2.1, hro.2.2.2.2.2.1, fun e i hi => ?_⟩
      have : s_fr (sLines σ pt m rs) (4 * (12 * p + k) + i) = s_fr σ (4 * (12 * p + k) + i) := if_neg (by have := hro.2.2.2.1 e; omega)
      rw [this]
      exact hro.2.2.2.2.2.2 e i hi
