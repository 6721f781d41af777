/-! ===== growing heaps ===== -/
section NewE
variable {G : GG} {d : Nat} {y : Mk} {pc : Nat} {ls st : List Value} {t : Nat → Option (Nat × Nat)} {I : Nat → Nat → Int32} {J : Nat → Nat → Int64} {P : Nat → Nat → Value} {n sl : Nat} {Q : AO → AH → Prop}
theorem x_newE {idx c N : Nat} (hd : decode (mk_c y) pc = .ok (.new idx, 3)) (hl0 : NL (mk_n y).cls idx c N) (hB : n + 1 ≤ 601124) (hS : sl + N ≤ 7293033)
    (k0 : ∀ (t' : Nat → Option (Nat × Nat)) (I' : Nat → Nat → Int32) (J' : Nat → Nat → Int64) (P' : Nat → Nat → Value), t' = p1 t n (some (c, 0)) → I' = r1 I n 0 → J' = r1 J n 0 → P' = r1 P n .null → RA G d y (pc + 3) ls (.ref n :: st) (t', I', J', P', n + 1, sl + N) Q) : RA G d y pc ls st (t, I, J, P, n, sl) Q :=
  x_new hd hl0 hB hS (k0 _ _ _ _ rfl rfl rfl rfl)
theorem x_newarrE {atype : ArrayType} {k len : Nat} (hd : decode (mk_c y) pc = .ok (.newarray atype, 2)) (hw : Cond.arrayClass (newarray.typeOf atype) ∈ lw_all) (hty : newarray.typeOf atype = a_ety k) (hl : len < 2 ^ 31) (hB : n + 1 ≤ 601124) (hS : sl + len ≤ 7293033)
    (k0 : ∀ (t' : Nat → Option (Nat × Nat)) (I' : Nat → Nat → Int32) (J' : Nat → Nat → Int64) (P' : Nat → Nat → Value), t' = p1 t n (some (100 + k, len)) → I' = r1 I n 0 → J' = r1 J n 0 → P' = r1 P n .null → RA G d y (pc + 2) ls (.ref n :: st) (t', I', J', P', n + 1, sl + len) Q) (hk : k < 5 := by decide) : RA G d y pc ls (.int (nI len) :: st) (t, I, J, P, n, sl) Q :=
  x_newarray (v := nI len) hd hw hty (fun h => by rw [Int32.lt_iff_toInt_lt, nI_toInt hl] at h; have : (0 : Int32).toInt = 0 := rfl; omega) (nI_clamp hl) hB hS (k0 _ _ _ _ rfl rfl rfl rfl) hk
theorem x_anewarrE {idx k len : Nat} {C : String} (hd : decode (mk_c y) pc = .ok (.anewarray idx, 3)) (hk : 5 ≤ k ∧ k < 7) (hty : a_ety k = .object C) (hw1 : Cond.classLink (mk_n y).cls idx C ∈ lw_all) (hw2 : Cond.arrayOver (.object C) ∈ lw_tbl) (hl : len < 2 ^ 31) (hB : n + 1 ≤ 601124) (hS : sl + len ≤ 7293033)
    (k0 : ∀ (t' : Nat → Option (Nat × Nat)) (I' : Nat → Nat → Int32) (J' : Nat → Nat → Int64) (P' : Nat → Nat → Value), t' = p1 t n (some (100 + k, len)) → I' = r1 I n 0 → J' = r1 J n 0 → P' = r1 P n .null → RA G d y (pc + 3) ls (.ref n :: st) (t', I', J', P', n + 1, sl + len) Q) : RA G d y pc ls (.int (nI len) :: st) (t, I, J, P, n, sl) Q :=
  x_anewarray (v := nI len) hd hk hty hw1 hw2 (fun h => by rw [Int32.lt_iff_toInt_lt, nI_toInt hl] at h; have : (0 : Int32).toInt = 0 := rfl; omega) (nI_clamp hl) hB hS (k0 _ _ _ _ rfl rfl rfl rfl)
theorem x_aastE {a b k len e : Nat} {tb : Nat × Nat} (hd : decode (mk_c y) pc = .ok (.aastore, 1)) (ht : t a = some (100 + k, len)) (he : e < len) (hb0 : t b = some tb) (hA : AL k tb.1) (k0 : ∀ P' : Nat → Nat → Value, P' = u2 P a e (.ref b) → RA G d y (pc + 1) ls st (t, I, J, P', n, sl) Q) (ha : 100 ≤ a := by decide) (hl : len < 2 ^ 31 := by decide) : RA G d y pc ls (.ref b :: .int (nI e) :: .ref a :: st) (t, I, J, P, n, sl) Q :=
  x_aast hd ht (vp_in_nI he hl) hb0 hA (by rw [nI_clamp (Nat.lt_trans he hl)]; exact k0 _ rfl) ha
end NewE
/-- all that is typed lies below n -/
def TyB (t : Nat → Option (Nat × Nat)) (n : Nat) : Prop := ∀ a tg, t a = some tg → a < n
theorem TyB.ne {t : Nat → Option (Nat × Nat)} {n a : Nat} {tg : Nat × Nat} (h : TyB t n) (e : t a = some tg) : a ≠ n := by have := h a tg e; omega
theorem TyB.new {t t' : Nat → Option (Nat × Nat)} {n : Nat} {x : Option (Nat × Nat)} (h : TyB t n) (e : t' = p1 t n x) : TyB t' (n + 1) := fun a tg ha => by
  by_cases z : a = n
  · omega
  · rw [e, p1_ne _ _ z] at ha; have := h a tg ha; omega
/-- what lay below n lies as it did -/
def Gw (t : Nat → Option (Nat × Nat)) (I : Nat → Nat → Int32) (J : Nat → Nat → Int64) (P : Nat → Nat → Value) (n : Nat) (t' : Nat → Option (Nat × Nat)) (I' : Nat → Nat → Int32) (J' : Nat → Nat → Int64) (P' : Nat → Nat → Value) (n' : Nat) : Prop := (∀ a tg, t a = some tg → t' a = some tg) ∧ (∀ b, b < n → I' b = I b) ∧ (∀ b, b < n → J' b = J b) ∧ (∀ b, b < n → P' b = P b) ∧ TyB t' n' ∧ n ≤ n'
section GwS
variable {t t' t'' : Nat → Option (Nat × Nat)} {I I' I'' : Nat → Nat → Int32} {J J' J'' : Nat → Nat → Int64} {P P' P'' : Nat → Nat → Value} {n n' n'' : Nat}
theorem Gw.ty (g : Gw t I J P n t' I' J' P' n') : ∀ a tg, t a = some tg → t' a = some tg := g.1
theorem Gw.i (g : Gw t I J P n t' I' J' P' n') : ∀ b, b < n → I' b = I b := g.2.1
theorem Gw.j (g : Gw t I J P n t' I' J' P' n') : ∀ b, b < n → J' b = J b := g.2.2.1
theorem Gw.p (g : Gw t I J P n t' I' J' P' n') : ∀ b, b < n → P' b = P b := g.2.2.2.1
theorem Gw.b (g : Gw t I J P n t' I' J' P' n') : TyB t' n' := g.2.2.2.2.1
theorem Gw.le (g : Gw t I J P n t' I' J' P' n') : n ≤ n' := g.2.2.2.2.2
theorem Gw.rf (h : TyB t n) : Gw t I J P n t I J P n := ⟨fun _ _ e => e, fun _ _ => rfl, fun _ _ => rfl, fun _ _ => rfl, h, Nat.le_refl _⟩
theorem Gw.new (g : Gw t I J P n t' I' J' P' n') {x : Option (Nat × Nat)} (e1 : t'' = p1 t' n' x) (e2 : I'' = r1 I' n' 0) (e3 : J'' = r1 J' n' 0) (e4 : P'' = r1 P' n' .null) : Gw t I J P n t'' I'' J'' P'' (n' + 1) :=
  ⟨fun a tg h => by rw [e1, p1_ne _ _ (g.b.ne (g.ty a tg h))]; exact g.ty a tg h, fun b hb => by rw [e2, r1_row _ _ (by have := g.le; omega)]; exact g.i b hb, fun b hb => by rw [e3, r1_row _ _ (by have := g.le; omega)]; exact g.j b hb, fun b hb => by rw [e4, r1_row _ _ (by have := g.le; omega)]; exact g.p b hb, g.b.new e1, Nat.le_succ_of_le g.le⟩
theorem Gw.ui (g : Gw t I J P n t' I' J' P' n') {a k : Nat} {v : Int32} (e : I'' = u2 I' a k v) (ha : n ≤ a) : Gw t I J P n t' I'' J' P' n' :=
  ⟨g.ty, fun b hb => by rw [e, u2_row _ _ _ (by omega)]; exact g.i b hb, g.j, g.p, g.b, g.le⟩
theorem Gw.up (g : Gw t I J P n t' I' J' P' n') {a k : Nat} {v : Value} (e : P'' = u2 P' a k v) (ha : n ≤ a) : Gw t I J P n t' I' J' P'' n' :=
  ⟨g.ty, g.i, g.j, fun b hb => by rw [e, u2_row _ _ _ (by omega)]; exact g.p b hb, g.b, g.le⟩
theorem Gw.trans (g : Gw t I J P n t' I' J' P' n') (g' : Gw t' I' J' P' n' t'' I'' J'' P'' n'') : Gw t I J P n t'' I'' J'' P'' n'' :=
  ⟨fun a tg h => g'.ty a tg (g.ty a tg h), fun b hb => (g'.i b (by have := g.le; omega)).trans (g.i b hb), fun b hb => (g'.j b (by have := g.le; omega)).trans (g.j b hb), fun b hb => (g'.p b (by have := g.le; omega)).trans (g.p b hb), g'.b, Nat.le_trans g.le g'.le⟩
end GwS
theorem look_mem {α : Type} {k : Nat} {v : α} : ∀ l : List (Nat × α), List.lookup k l = some v → (k, v) ∈ l
  | [], h => by cases h
  | (a, b) :: l, h => by
    rw [List.lookup_cons] at h
    cases e : (k == a) with
    | true =>
      rw [e] at h
      have h : some b = some v := h
      injection h with h
      have := eq_of_beq e
      rw [this, h]; exact List.mem_cons_self
    | false => rw [e] at h; exact List.mem_cons_of_mem _ (look_mem l h)
theorem T0_lt {a : Nat} {c : Nat × Nat} (h : T0 a = some c) : a < 144 := by
  unfold T0 at h
  split at h
  · have := (List.getElem?_eq_some_iff.mp h).1
    have h2 : layN.length = 44 := rfl
    omega
  · omega
theorem P0_key {x : Nat} {v : Value} (h : P0 x = some v) : x < 12300 ∧ ¬ (10600 ≤ x ∧ x < 10700) := by
  unfold P0 at h
  have h1 := List.mem_map_of_mem (f := fun q : Nat × Value => q.1) (look_mem _ h)
  exact (by decide : ∀ z ∈ _, z < 12300 ∧ ¬ (10600 ≤ z ∧ z < 10700)) _ h1
theorem P0_lt {a k : Nat} {v : Value} (h : P0 (100 * a + k) = some v) (hk : k < 100) : a < 144 ∧ a ≠ 106 := by
  have := P0_key h
  omega
theorem Gw.sh {t t' : Nat → Option (Nat × Nat)} {I I' : Nat → Nat → Int32} {J J' : Nat → Nat → Int64} {P P' : Nat → Nat → Value} {n n' : Nat} (g : Gw t I J P n t' I' J' P' n') (hn : 144 ≤ n) (hS : SH t P) : SH t' P' :=
  ⟨fun a c e => g.ty a c (hS.1 a c e), fun a k v hk e => by rw [g.p a (by have := P0_lt e hk; omega)]; exact hS.2 a k v hk e⟩
/-- parts and lines, where all that they lie in is as it was -/
theorem HP.ext {t t' : Nat → Option (Nat × Nat)} {I I' : Nat → Nat → Int32} {P P' : Nat → Nat → Value} {σ : Sg} {y : Lay} (h : HP t I P σ y) (h5 : I' 100 5 = I 100 5) (h106 : P' 106 = P 106) (ht : ∀ a tg, t a = some tg → t' a = some tg) (hI : ∀ a tg, t a = some tg → 144 ≤ a → I' a = I a) (hP : ∀ a tg, t a = some tg → (144 ≤ a ∨ tg.1 = 106) → P' a = P a) : HP t' I' P' σ y := by
  refine ⟨h5.trans h.1, fun p a b => by rw [h106]; exact h.2.1 p a b, fun p hp => ?_, h.2.2.2⟩
  obtain ⟨a1, a2, a3, a4, a5, a6, a7, a8, a9, a10, a11, a12⟩ := h.2.2.1 p hp
  refine ⟨a1, by rw [h106]; exact a2, ht _ _ a3, ht _ _ a4, by rw [hI _ _ a3 a1]; exact a5, by rw [hI _ _ a3 a1]; exact a6, by rw [hP _ _ a3 (Or.inl a1)]; exact a7, ht _ _ a8, by rw [hP _ _ a3 (Or.inl a1)]; exact a9, ht _ _ a10, by rw [hI _ _ a10 (by omega)]; exact a11, fun k hk => ⟨by rw [hP _ _ a8 (Or.inr rfl)]; exact (a12 k hk).1, ?_⟩⟩
  obtain ⟨b1, b2, b3, b4, b5, b6, b7⟩ := (a12 k hk).2
  exact ⟨b1, ht _ _ b2, by rw [hI _ _ b2 b1]; exact b3, by rw [hI _ _ b2 b1]; exact b4, by rw [hI _ _ b2 b1]; exact b5, fun e => by rw [hI _ _ b2 b1]; exact b6 e, fun e => ⟨by rw [hP _ _ b2 (Or.inl b1)]; exact (b7 e).1, ht _ _ (b7 e).2.1, by rw [hI _ _ (b7 e).2.1 (by omega)]; exact (b7 e).2.2⟩⟩
theorem Gw.hp {t t' : Nat → Option (Nat × Nat)} {I I' : Nat → Nat → Int32} {J J' : Nat → Nat → Int64} {P P' : Nat → Nat → Value} {n n' : Nat} {σ : Sg} {y : Lay} (g : Gw t I J P n t' I' J' P' n') (hn : 144 ≤ n) (hT : TyB t n) (h : HP t I P σ y) : HP t' I' P' σ y :=
  h.ext (by rw [g.i 100 (by omega)]) (g.p 106 (by omega)) g.ty (fun a tg ha _ => g.i a (hT a tg ha)) (fun a tg ha _ => g.p a (hT a tg ha))
theorem Gw.hds {t t' : Nat → Option (Nat × Nat)} {I I' : Nat → Nat → Int32} {J J' : Nat → Nat → Int64} {P P' : Nat → Nat → Value} {n n' : Nat} {σ : Sg} {ρ : Rs} (g : Gw t I J P n t' I' J' P' n') (hn : 144 ≤ n) (hT : TyB t n) (h : HdS t I P σ ρ) : HdS t' I' P' σ ρ := by
  obtain ⟨h1, h2, ⟨y, hP⟩, h4, h5⟩ := h
  refine ⟨h1, h2, ⟨y, g.hp hn hT hP⟩, ?_, h5.keep (by rw [g.i 100 (by omega)]) (fun b hb => g.i b (by simp only [List.mem_cons, List.not_mem_nil, or_false] at hb; omega))⟩
  unfold HdR
  rw [g.i 100 (by omega), g.i 101 (by omega), g.i 107 (by omega), g.i 118 (by omega), g.i 120 (by omega)]
  exact h4
/-- what the house's calls leave of the rest -/
def HF4 (I I' : Nat → Nat → Int32) : Prop := ∀ b, b < 100 ∨ (122 ≤ b ∧ b < 144) → I' b = I b
def JF4 (J J' : Nat → Nat → Int64) : Prop := ∀ b, b < 144 → J' b = J b
theorem HF4.trans {I1 I2 I3 : Nat → Nat → Int32} (h : HF4 I1 I2) (h' : HF4 I2 I3) : HF4 I1 I3 := fun b hb => (h' b hb).trans (h b hb)
theorem HFq.f4 {I I' : Nat → Nat → Int32} (h : HFq I I') : HF4 I I' := fun b hb => h b (by omega)
theorem Gw.f4 {t t' : Nat → Option (Nat × Nat)} {I I' : Nat → Nat → Int32} {J J' : Nat → Nat → Int64} {P P' : Nat → Nat → Value} {n n' : Nat} (g : Gw t I J P n t' I' J' P' n') (hn : 144 ≤ n) : HF4 I I' ∧ JF4 J J' := ⟨fun b hb => g.i b (by omega), fun b hb => g.j b (by omega)⟩
/-- a call of the house: answer r, state after; at most c1 cells, c2 slots -/
def HCn (t : Nat → Option (Nat × Nat)) (σ' : Sg) (ρ' : Rs) (c1 c2 : Nat) (I : Nat → Nat → Int32) (J : Nat → Nat → Int64) (n sl : Nat) (h' : AH) : Prop := ∃ t' I' J' P' n' sl', h' = (t', I', J', P', n', sl') ∧ SH t' P' ∧ HdS t' I' P' σ' ρ' ∧ TyB t' n' ∧ n ≤ n' ∧ n' ≤ n + c1 ∧ sl ≤ sl' ∧ sl' ≤ sl + c2 ∧ HF4 I I' ∧ JF4 J J' ∧ (∀ a tg, t a = some tg → t' a = some tg)
def HCon (G : GG) (d : Nat) (y : Mk) (av : List Value) (σ : Sg) (ρ : Rs) (r : Int32) (σ' : Sg) (ρ' : Rs) (c1 c2 : Nat) : Prop :=
  ∀ (t : Nat → Option (Nat × Nat)) (I : Nat → Nat → Int32) (J : Nat → Nat → Int64) (P : Nat → Nat → Value) (n sl : Nat), SH t P → HdS t I P σ ρ → TyB t n → 144 ≤ n → n + c1 ≤ 601124 → sl + c2 ≤ 7293033 →
    CA G d y av (t, I, J, P, n, sl) (fun o h' => o = .inl (some (.int r)) ∧ HCn t σ' ρ' c1 c2 I J n sl h')
theorem HQ.con {G : GG} {d : Nat} {y : Mk} {av : List Value} {σ σ' : Sg} {ρ ρ' : Rs} {r : Int32} (h : HQ G d y av σ ρ r σ' ρ') (c1 c2 : Nat) : HCon G d y av σ ρ r σ' ρ' c1 c2 := by
  intro t I J P n sl hS hD hT hn hB hSl
  refine CA.mono (h t I J P n sl hS hD (by omega) (by omega)) ?_
  rintro o h' ⟨rfl, I', rfl, hD', hF⟩
  exact ⟨rfl, t, I', J, P, n, sl, rfl, hS, hD', hT, Nat.le_refl _, by omega, Nat.le_refl _, by omega, hF.f4, fun _ _ => rfl, fun _ _ h => h⟩
/-- a part's grants are written -/
theorem HP.put0 {t : Nat → Option (Nat × Nat)} {I I' : Nat → Nat → Int32} {P : Nat → Nat → Value} {σ : Sg} {y : Lay} (h : HP t I P σ y) {p g : Nat} (hp : p < s_np σ) (hI : I' = u2 I (y.1 p) 0 (nI g)) : HP t I' P (sGr σ (upN (s_gr σ) p g)) y := by
  have hg := h.ge hp
  have hty := h.ty hp
  have row : ∀ a tg, t a = some tg → tg ≠ (7, 0) → I' a = I a := fun a tg ha hne => by
    rw [hI, u2_row _ _ _ (fun e => hne (by rw [e, hty] at ha; injection ha with ha; exact ha.symm))]
  refine ⟨by rw [hI, u2_row _ _ _ (by omega)]; exact h.1, h.2.1, fun q hq => ?_, h.2.2.2⟩
  have hq : q < s_np σ := hq
  obtain ⟨a1, a2, a3, a4, a5, a6, a7, a8, a9, a10, a11, a12⟩ := h.2.2.1 q hq
  refine ⟨a1, a2, a3, a4, ?_, ?_, a7, a8, a9, a10, by rw [row _ _ a10 (by decide)]; exact a11, fun k hk => ⟨(a12 k hk).1, ?_⟩⟩
  · show I' (y.1 q) 0 = nI (upN (s_gr σ) p g q)
    by_cases e : q = p
    · rw [e, upN_self, hI, u2_self]
    · rw [upN_ne _ _ e, hI, u2_row _ _ _ (h.2.2.2 q p hq hp e)]; exact a5
  · show I' (y.1 q) 1 = nI (s_ln σ q)
    by_cases e : q = p
    · rw [e, hI, u2_ne _ _ (by decide), ← e]; exact a6
    · rw [hI, u2_row _ _ _ (h.2.2.2 q p hq hp e)]; exact a6
  · obtain ⟨b1, b2, b3, b4, b5, b6, b7⟩ := (a12 k hk).2
    have r2 := row _ _ b2 (by intro z; injection z with z; omega)
    exact ⟨b1, b2, by rw [r2]; exact b3, by rw [r2]; exact b4, by rw [r2]; exact b5, fun e => by rw [r2]; exact b6 e, fun e => ⟨(b7 e).1, (b7 e).2.1, by rw [row _ _ (b7 e).2.1 (by decide)]; exact (b7 e).2.2⟩⟩
/-- a part's grants are written, what flows is to be found anew -/
theorem HdS.put0 {t : Nat → Option (Nat × Nat)} {I I' I'' : Nat → Nat → Int32} {P : Nat → Nat → Value} {σ : Sg} {ρ : Rs} {y : Lay} (hσ : SgOK σ) (hρ : RsOK ρ) (hP : HP t I P σ y) (hR : HdR I ρ) {p g : Nat} (hp : p < s_np σ) (hg : g < 65536) (hI : I' = u2 I (y.1 p) 0 (nI g)) (hI2 : I'' = u2 I' 100 8 (nI 0)) : HdS t I'' P (sGr σ (upN (s_gr σ) p g)) ρ ∧ HF4 I I'' := by
  have h144 := hP.ge hp
  have hr : ∀ b, b < 144 → b ≠ 100 → I'' b = I b := fun b hb h1 => by rw [hI2, u2_row _ _ _ h1, hI, u2_row _ _ _ (by omega)]
  have hf : ∀ k, k ≠ 8 → I'' 100 k = I 100 k := fun k hk => by rw [hI2, u2_ne _ _ hk, hI, u2_row _ _ _ (by omega)]
  refine ⟨⟨hσ.gr' (fun q hq => ?_), hρ, ⟨y, (hP.put0 hp hI).fr (by rw [hI2, u2_ne _ _ (by decide)]) (fun b hb => by rw [hI2, u2_row _ _ _ (by omega)])⟩, ?_, ⟨0, by decide, by rw [hI2, u2_self], fun e => absurd e (by decide)⟩⟩, fun b hb => hr b (by omega) (by omega)⟩
  · unfold upN; split
    · exact hg
    · exact hσ.gr hq
  · unfold HdR
    rw [hf 1 (by decide), hf 10 (by decide), hf 12 (by decide), hf 11 (by decide), hf 15 (by decide), hf 20 (by decide), hr 101 (by decide) (by decide), hr 107 (by decide) (by decide), hr 118 (by decide) (by decide), hr 120 (by decide) (by decide)]
    exact hR
theorem SH.up {t : Nat → Option (Nat × Nat)} {P P' : Nat → Nat → Value} {a k : Nat} {v : Value} (h : SH t P) (e : P' = u2 P a k v) (ha : 144 ≤ a ∨ a = 106) : SH t P' :=
  ⟨h.1, fun b j w hj hb => by have := P0_lt hb hj; rw [e, u2_row _ _ _ (by omega)]; exact h.2 b j w hj hb⟩
