/-! ===== what the calls answer, what they change: parts, grants, meant, the tape, lines ===== -/
theorem MR.same {I I' : Nat → Nat → Int32} {ρ : Rs} (h : MR I ρ) (h122 : ∀ k, k ∈ [1, 2, 3, 15, 30, 34] → I' 122 k = I 122 k) (hr : ∀ b, b ∈ [125, 132, 139, 141] → I' b = I b) : MR I' ρ := by
  unfold MR
  rw [h122 15 (by decide), h122 1 (by decide), h122 2 (by decide), h122 3 (by decide), h122 30 (by decide), h122 34 (by decide), hr 125 (by decide), hr 132 (by decide), hr 139 (by decide), hr 141 (by decide)]
  exact h
theorem MP.same {I I' : Nat → Nat → Int32} {σ : Sg} (h : MP I σ) (h4 : I' 122 4 = I 122 4) (hr : ∀ b, b ∈ [123, 124, 126, 127, 128, 129, 130] → I' b = I b) : MP I' σ := by
  unfold MP
  rw [h4, hr 123 (by decide), hr 124 (by decide), hr 126 (by decide), hr 127 (by decide), hr 128 (by decide), hr 129 (by decide), hr 130 (by decide)]
  exact h
/-- a part more -/
def sPart (σ : Sg) (g : Nat) : Sg := (s_np σ + 1, upN (s_gr σ) (s_np σ) g, upN (s_ln σ) (s_np σ) 0, s_kk σ, s_nu σ, s_fs σ, s_sc σ, s_fr σ)
/-- other grants -/
def sGr (σ : Sg) (g : Nat → Nat) : Sg := (s_np σ, g, s_ln σ, s_kk σ, s_nu σ, s_fs σ, s_sc σ, s_fr σ)
theorem SgOK.part {σ : Sg} {g : Nat} (h : SgOK σ) (hn : s_np σ < 10) (hg : g < 65536) : SgOK (sPart σ g) := by
  refine ⟨hn, fun p hp => ?_⟩
  have hp : p < s_np σ + 1 := hp
  by_cases e : p = s_np σ
  · refine ⟨?_, ?_, fun k hk => ?_⟩
    · show upN (s_gr σ) (s_np σ) g p < 65536
      rw [e, upN_self]; exact hg
    · show upN (s_ln σ) (s_np σ) 0 p ≤ 12
      rw [e, upN_self]; decide
    · have hk : k < upN (s_ln σ) (s_np σ) 0 p := hk
      rw [e, upN_self] at hk
      exact absurd hk (Nat.not_lt_zero _)
  · obtain ⟨a, b, c⟩ := h.2 p (by omega)
    refine ⟨?_, ?_, fun k hk => ?_⟩
    · show upN (s_gr σ) (s_np σ) g p < 65536
      rw [upN_ne _ _ e]; exact a
    · show upN (s_ln σ) (s_np σ) 0 p ≤ 12
      rw [upN_ne _ _ e]; exact b
    · have hk : k < upN (s_ln σ) (s_np σ) 0 p := hk
      rw [upN_ne _ _ e] at hk
      obtain ⟨r1, r2, r3, r4, r5, r6, r7⟩ := c k hk
      exact ⟨r1, r2, r3, r4, fun z => ⟨Nat.lt_succ_of_lt (r5 z).1, (r5 z).2⟩, r6, r7⟩
theorem MP.part {I I' : Nat → Nat → Int32} {σ : Sg} {g : Nat} (hM : MP I σ) (h4 : I' 122 4 = nI (s_np σ + 1)) (hg : I' 123 = u2 I 123 (s_np σ) (nI g) 123) (hl : I' 124 = u2 I 124 (s_np σ) (nI 0) 124) (hr : ∀ b, b ∈ [126, 127, 128, 129, 130] → I' b = I b) : MP I' (sPart σ g) := by
  refine ⟨h4, fun p hp => ?_⟩
  have hp : p < s_np σ + 1 := hp
  show I' 123 p = nI (upN (s_gr σ) (s_np σ) g p) ∧ I' 124 p = nI (upN (s_ln σ) (s_np σ) 0 p) ∧ ∀ k, k < upN (s_ln σ) (s_np σ) 0 p → _
  rw [hg, hl, u2_at, u2_at]
  by_cases e : p = s_np σ
  · rw [if_pos e, if_pos e, e, upN_self, upN_self]
    exact ⟨rfl, rfl, fun k hk => absurd hk (Nat.not_lt_zero _)⟩
  · rw [if_neg e, if_neg e, upN_ne _ _ e, upN_ne _ _ e, hr 126 (by decide), hr 127 (by decide), hr 128 (by decide), hr 129 (by decide), hr 130 (by decide)]
    exact hM.2 p (by omega)
theorem SgOK.gr' {σ : Sg} {g : Nat → Nat} (h : SgOK σ) (hg : ∀ p, p < s_np σ → g p < 65536) : SgOK (sGr σ g) :=
  ⟨h.1, fun p hp => ⟨hg p hp, (h.2 p hp).2.1, (h.2 p hp).2.2⟩⟩
theorem MP.gr' {I I' : Nat → Nat → Int32} {σ : Sg} {g : Nat → Nat} (hM : MP I σ) (h4 : I' 122 4 = I 122 4) (hg : ∀ p, p < s_np σ → I' 123 p = nI (g p)) (hr : ∀ b, b ∈ [124, 126, 127, 128, 129, 130] → I' b = I b) : MP I' (sGr σ g) := by
  refine ⟨h4.trans hM.1, fun p hp => ⟨hg p hp, ?_⟩⟩
  rw [hr 124 (by decide), hr 126 (by decide), hr 127 (by decide), hr 128 (by decide), hr 129 (by decide), hr 130 (by decide)]
  exact (hM.2 p hp).2
/-- meant, by secret -/
def rMt (ρ : Rs) (m : Nat → Nat) : Rs := (m, r_td ρ, r_tp ρ, r_tr ρ, r_wh ρ, r_fa ρ, r_sn ρ, r_sp ρ, r_cn ρ, r_cd ρ)
def rTp (ρ : Rs) (n : Nat) (f : Nat → Int32) : Rs := (r_mt ρ, n, f, r_tr ρ, r_wh ρ, r_fa ρ, r_sn ρ, r_sp ρ, r_cn ρ, r_cd ρ)
/-- the twenty bytes of a feed -/
def fdB (a b c d e : Int32) (k : Nat) : Int32 := ((if k < 4 then a else if k < 8 then b else if k < 12 then c else if k < 16 then d else e) >>> (nI (24 - 8 * (k % 4)) &&& 31)).toInt8.toInt32
def qPart (σ : Sg) (ρ : Rs) (v : Int32) : Int32 × Sg × Rs := match ixOf v 65536 with
  | some g => if s_np σ = 10 then (-1, σ, rT ρ 3) else (nI (s_np σ), sPart σ g, rT ρ 0)
  | none => (-1, σ, rT ρ 2)
def qGrant (σ : Sg) (ρ : Rs) (v u : Int32) : Int32 × Sg × Rs := match ixOf v (s_np σ) with
  | some p => match ixOf u 65536 with
    | some g => (nI 1, sGr σ (upN (s_gr σ) p g), rT ρ 0)
    | none => (nI 0, σ, rT ρ 2)
  | none => (nI 0, σ, rT ρ 1)
def qFeed (ρ : Rs) (a b c d e : Int32) : Int32 × Rs := if r_td ρ + 20 ≤ 300 then (nI (r_td ρ + 20), rTp ρ (r_td ρ + 20) (fun j => if j < r_td ρ then r_tp ρ j else fdB a b c d e (j - r_td ρ))) else (-1, ρ)
def qMeant (ρ : Rs) (v u : Int32) (b : Bool) : Int32 × Rs := match ixOf v 16, ixOf u 16 with
  | some s, some d => (nI 1, rT (rMt ρ (upN (r_mt ρ) s (if b then r_mt ρ s ||| 2 ^ d else adf (r_mt ρ s) (2 ^ d)))) 0)
  | _, _ => (nI 0, rT ρ 2)
def qLine (σ : Sg) (v u w : Int32) : Int32 := match ixOf v (s_np σ) with
  | some p => match ixOf u (s_ln σ p) with
    | some k => match ixOf w 4 with
      | some 0 => nI (s_kk σ (12 * p + k))
      | some 1 => nI (s_nu σ (12 * p + k))
      | some 2 => nI (s_fs σ (12 * p + k))
      | some 3 => secv σ (12 * p + k)
      | _ => -1
    | none => -1
  | none => -1
def qCount (σ : Sg) (ρ : Rs) (v : Int32) : Int32 := match ixOf v 5 with
  | some 0 => nI (s_np σ)
  | some 1 => nI (sumN (s_np σ) (s_ln σ))
  | some 2 => nI (sumN (s_np σ) (fun p => pop (s_gr σ p)))
  | some 3 => nI (sumN 16 (fun s => pop (r_mt ρ s)))
  | some 4 => nI (r_td ρ)
  | _ => -1
noncomputable def nLeaks (σ : Sg) : Nat := sumN 16 (fun s => pop (lk σ s))
noncomputable def nMis (σ : Sg) (ρ : Rs) : Nat := sumN 16 (fun s => pop (adf (lk σ s) (r_mt ρ s)))
noncomputable def nServ (σ : Sg) (ρ : Rs) : Nat := sumN 16 (fun s => pop (lk σ s &&& r_mt ρ s))
/-- the i-th of those with W, from j on, c seen -/
def wrJ (W : Nat → Bool) (v : Int32) : Nat → Nat → Nat → Option Nat
  | 0, _, _ => none
  | f + 1, j, c => if W j = true then (if nI c = v then some j else wrJ W v f (j + 1) (c + 1)) else wrJ W v f (j + 1) c
noncomputable def wrW (σ : Sg) (ρ : Rs) (j : Nat) : Bool := (adf (lk σ (j / 16)) (r_mt ρ (j / 16))).testBit (j % 16)
def wrV (o : Option Nat) : Int32 := match o with
  | some j => nI (100 * (j / 16) + j % 16)
  | none => -1
noncomputable def qWrong (σ : Sg) (ρ : Rs) (v : Int32) : Int32 := wrV (wrJ (wrW σ ρ) v 256 0 0)
def qStep (ρ : Rs) (v : Int32) : Int32 := match ixOf v (r_sn ρ) with
  | some i => nI (r_sp ρ i)
  | none => 0
def qThr (ρ : Rs) (v : Int32) : Int32 := match ixOf v (r_sn ρ) with
  | some _ => 0
  | none => 1
def qCured (ρ : Rs) (v : Int32) : Int32 := match ixOf v (r_cn ρ) with
  | some i => nI (r_cd ρ i)
  | none => -1
theorem tout {v : Int32} {n : Nat} (h : ¬ (0 ≤ v ∧ v < nI n)) (hn : n < 2 ^ 31) : v.toInt < 0 ∨ (n : Int) - 1 < v.toInt := by
  rcases Int.lt_or_le v.toInt 0 with z | z
  · exact Or.inl z
  · right
    apply Classical.byContradiction
    intro q
    apply h
    have h0 : (0 : Int32) ≤ v := Int32.le_iff_toInt_le.mpr z
    refine ⟨h0, Int32.lt_iff_toInt_lt.mpr ?_⟩
    rw [nI_toInt hn]; omega
theorem and2_0 {a d : Nat} : a &&& 2 ^ d = 0 ↔ a.testBit d = false := by
  constructor
  · intro h
    cases hb : a.testBit d with
    | false => rfl
    | true =>
      have : (a &&& 2 ^ d).testBit d = true := by rw [Nat.testBit_and, hb, p2_bit]; simp
      rw [h] at this; simp at this
  · intro h
    refine bit_ext (fun i => ?_)
    rw [Nat.testBit_and, p2_bit]
    by_cases e : d = i
    · subst e; rw [h]; simp
    · simp [e]
theorem and2_ne {a d : Nat} : a &&& 2 ^ d ≠ 0 ↔ a.testBit d = true := by
  rw [ne_eq, and2_0]; simp
theorem dr_orF (σ : Sg) {d : Nat} (hd : d < 16) : orF (fun s => tb (lk σ s) d * 2 ^ s) 16 = dr σ d := by
  refine mk16_eq ?_ (fun i hi => ?_)
  · refine orF_lt (fun s hs => lt_of_bits (fun i hi => ?_))
    rw [tb_shl, decide_eq_false (show ¬ s = i by omega), Bool.and_false]
  · rw [orF_bit]
    constructor
    · rintro ⟨s, hs, hb⟩
      rw [tb_shl, Bool.and_eq_true, decide_eq_true_iff] at hb
      have e := hb.2
      subst e
      have := hb.1
      rw [lk, mk16_bit] at this
      exact this.2
    · intro h
      refine ⟨i, hi, ?_⟩
      rw [tb_shl, lk, mk16_bit.mpr ⟨hd, h⟩]; simp
theorem MdS.same {I I' : Nat → Nat → Int32} {σ : Sg} {ρ : Rs} (h : MdS I σ ρ) (e : ∀ b, b ∈ [123, 124, 125, 126, 127, 128, 129, 130, 132, 139, 141] → I' b = I b) (f : ∀ k, k ∈ [1, 2, 3, 4, 15, 30, 34] → I' 122 k = I 122 k) : MdS I' σ ρ :=
  ⟨h.1, h.2.1, h.2.2.1.same (f 4 (by decide)) (fun b hb => e b (by simp only [List.mem_cons, List.not_mem_nil, or_false] at hb ⊢; omega)), h.2.2.2.same (fun k hk => f k (by simp only [List.mem_cons, List.not_mem_nil, or_false] at hk ⊢; omega)) (fun b hb => e b (by simp only [List.mem_cons, List.not_mem_nil, or_false] at hb ⊢; omega))⟩
theorem MdS.meant {I I' : Nat → Nat → Int32} {σ : Sg} {ρ : Rs} {s x : Nat} (h : MdS I σ ρ) (hI : I' = u2 I 125 s (nI x)) (hx : x < 65536) : MdS I' σ (rMt ρ (upN (r_mt ρ) s x)) := by
  obtain ⟨h1, h2, h3, h4⟩ := h
  refine ⟨h1, ⟨fun j hj => ?_, h2.2⟩, ?_, ?_⟩
  · show upN (r_mt ρ) s x j < 65536
    unfold upN; split
    · exact hx
    · exact h2.1 j hj
  · refine h3.same (by rw [hI, u2_row _ _ _ (by decide)]) (fun b hb => ?_)
    rw [hI, u2_row _ _ _ (by rintro rfl; revert hb; decide)]
  · refine ⟨row_set h4.1 hI rfl, ?_⟩
    rw [hI, u2_row _ _ _ (by decide), u2_row _ _ _ (by decide), u2_row _ _ _ (by decide), u2_row _ _ _ (by decide)]
    exact h4.2
theorem MdS.part {I I' : Nat → Nat → Int32} {σ : Sg} {ρ : Rs} {g : Nat} (h : MdS I σ ρ) (hI : I' = u2 (u2 (u2 I 123 (s_np σ) (nI g)) 124 (s_np σ) (nI 0)) 122 4 (nI (s_np σ + 1))) (hn : s_np σ < 10) (hg : g < 65536) : MdS I' (sPart σ g) ρ := by
  obtain ⟨h1, h2, h3, h4⟩ := h
  refine ⟨h1.part hn hg, h2, h3.part (by rw [hI, u2_self]) ?_ ?_ (fun b hb => ?_), h4.same (fun k hk => ?_) (fun b hb => ?_)⟩
  · rw [hI, u2_row _ _ _ (by decide), u2_row _ _ _ (by decide)]
  · rw [hI, u2_row _ _ _ (by decide)]
    funext j
    rw [u2_at, u2_at, u2_row _ _ _ (by decide)]
  · rw [hI, u2_row _ _ _ (by rintro rfl; revert hb; decide), u2_row _ _ _ (by rintro rfl; revert hb; decide), u2_row _ _ _ (by rintro rfl; revert hb; decide)]
  · rw [hI, u2_ne _ _ (by rintro rfl; revert hk; decide), u2_row _ _ _ (by decide), u2_row _ _ _ (by decide)]
  · rw [hI, u2_row _ _ _ (by rintro rfl; revert hb; decide), u2_row _ _ _ (by rintro rfl; revert hb; decide), u2_row _ _ _ (by rintro rfl; revert hb; decide)]
theorem MdS.grant {I I' : Nat → Nat → Int32} {σ : Sg} {ρ : Rs} {p g : Nat} (h : MdS I σ ρ) (hI : I' = u2 I 123 p (nI g)) (hg : g < 65536) : MdS I' (sGr σ (upN (s_gr σ) p g)) ρ := by
  obtain ⟨h1, h2, h3, h4⟩ := h
  refine ⟨h1.gr' (fun q hq => ?_), h2, h3.gr' (by rw [hI, u2_row _ _ _ (by decide)]) (row_set (fun q hq => h3.gr hq) hI rfl) (fun b hb => ?_), h4.same (fun k hk => ?_) (fun b hb => ?_)⟩
  · unfold upN; split
    · exact hg
    · exact h1.gr hq
  · rw [hI, u2_row _ _ _ (by rintro rfl; revert hb; decide)]
  · rw [hI, u2_row _ _ _ (by decide)]
  · rw [hI, u2_row _ _ _ (by rintro rfl; revert hb; decide)]
/-- the tape with k bytes more -/
def fdT (ρ : Rs) (f : Nat → Int32) (k : Nat) : Rs := rTp ρ (r_td ρ + k) (fun j => if j < r_td ρ then r_tp ρ j else f (j - r_td ρ))
theorem MdS.feed {I I' : Nat → Nat → Int32} {σ : Sg} {ρ : Rs} {f : Nat → Int32} {k : Nat} (h : MdS I σ (fdT ρ f k)) (hI : I' = u2 (u2 I 132 (r_td ρ + k) (f k)) 122 15 (nI (r_td ρ + k + 1))) (hk : r_td ρ + k < 300) : MdS I' σ (fdT ρ f (k + 1)) := by
  obtain ⟨h1, h2, h3, h4⟩ := h
  refine ⟨h1, ⟨h2.1, hk, h2.2.2⟩, h3.same ?_ (fun b hb => ?_), ?_⟩
  · rw [hI, u2_ne _ _ (by decide), u2_row _ _ _ (by decide)]
  · rw [hI, u2_row _ _ _ (by rintro rfl; revert hb; decide), u2_row _ _ _ (by rintro rfl; revert hb; decide)]
  · have er : ∀ b, b ≠ 122 → b ≠ 132 → I' b = I b := fun b x y => by rw [hI, u2_row _ _ _ x, u2_row _ _ _ y]
    have ef : ∀ j, j ≠ 15 → I' 122 j = I 122 j := fun j x => by rw [hI, u2_ne _ _ x, u2_row _ _ _ (by decide)]
    obtain ⟨a1, a2, a3, a4, a5, a6, a7, a8, a9, a10⟩ := h4
    refine ⟨?_, ?_, fun j hj => ?_, ?_, ?_, ?_, ?_, ?_, ?_, ?_⟩
    · rw [er 125 (by decide) (by decide)]; exact a1
    · rw [hI, u2_self]; rfl
    · rw [hI, u2_row _ _ _ (by decide), u2_at]
      have hj : j < r_td ρ + (k + 1) := hj
      by_cases e : j = r_td ρ + k
      · rw [if_pos e, e]
        show f k = if r_td ρ + k < r_td ρ then _ else f (r_td ρ + k - r_td ρ)
        rw [if_neg (by omega), Nat.add_sub_cancel_left]
      · rw [if_neg e]
        exact a3 j (show j < r_td ρ + k by omega)
    · rw [ef 1 (by decide)]; exact a4
    · rw [ef 2 (by decide)]; exact a5
    · rw [ef 3 (by decide)]; exact a6
    · rw [ef 30 (by decide)]; exact a7
    · rw [er 139 (by decide) (by decide)]; exact a8
    · rw [ef 34 (by decide)]; exact a9
    · rw [er 141 (by decide) (by decide)]; exact a10
theorem i8i {x : Int32} : x.toInt8.toInt32.toInt8.toInt32 = x.toInt8.toInt32 := by rw [Int8.toInt8_toInt32]
