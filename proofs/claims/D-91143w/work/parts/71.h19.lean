/-! the house: lines are made -/
set_option maxRecDepth 100000
/-- a line's cells have been written -/
def LnI (I I' : Nat → Nat → Int32) (a k nu fs : Nat) : Prop := (∀ b, b ≠ a → I' b = I b) ∧ I' a 0 = nI k ∧ I' a 1 = nI nu ∧ I' a 2 = nI fs
/-- a line as it is read, as it lies -/
def LnO (t : Nat → Option (Nat × Nat)) (I : Nat → Nat → Int32) (P : Nat → Nat → Value) (a : Nat) (l : Lne) : Prop := 144 ≤ a ∧ t a = some (9 + l.1, 0) ∧ I a 0 = nI l.1 ∧ I a 1 = nI l.2.1 ∧ I a 2 = nI l.2.2.1 ∧ (l.1 = 2 → I a 3 = nI l.2.2.2.1) ∧ (l.1 = 1 → P a 3 = .ref (a + 1) ∧ t (a + 1) = some (100, 4) ∧ ∀ i, i < l.2.1 → I (a + 1) i = nI (l.2.2.2.2 i))
theorem LnO.gr {s : Prop} {t t' : Nat → Option (Nat × Nat)} {I I' : Nat → Nat → Int32} {J J' : Nat → Nat → Int64} {P P' : Nat → Nat → Value} {n' a : Nat} {l : Lne} (h : LnO t I P a l) (hl : l.1 ≤ 5) (g : GR s t I J P t' I' J' P' n') : LnO t' I' P' a l := by
  obtain ⟨a1, a2, a3, a4, a5, a6, a7⟩ := h
  have r : I' a = I a := g.2.1 _ _ a2 (fun e => by injection e with e; omega) (by omega)
  refine ⟨a1, g.1 _ _ a2, by rw [r]; exact a3, by rw [r]; exact a4, by rw [r]; exact a5, fun e => by rw [r]; exact a6 e, fun e => ?_⟩
  obtain ⟨b1, b2, b3⟩ := a7 e
  exact ⟨by rw [g.2.2.2.2.1 _ _ a2 (by omega)]; exact b1, g.1 _ _ b2, by rw [g.2.1 _ _ b2 (fun e => by injection e with e; exact absurd e (by decide)) (by omega)]; exact b3⟩
theorem HRd.gw {t t' : Nat → Option (Nat × Nat)} {I I' : Nat → Nat → Int32} {J J' : Nat → Nat → Int64} {P P' : Nat → Nat → Value} {n n' z p : Nat} {f : Nat → Nat} (h : HRd t I P z f p) (g : Gw t I J P n t' I' J' P' n') (hT : TyB t n) (hn : 144 ≤ n) : HRd t' I' P' z f p := by
  obtain ⟨a1, a2, a3, a4, a5, a6⟩ := h
  have r2 := g.i 102 (by omega)
  have r1 := g.i 101 (by omega)
  have p2 := g.p 102 (by omega)
  refine ⟨by rw [r2]; exact a1, by rw [r2]; exact a2, by rw [r2]; exact a3, fun e => by rw [r2]; exact a4 e, fun e => ?_, by rw [r2]; exact a6.1, by rw [r1]; exact a6.2.1, a6.2.2⟩
  obtain ⟨w, v, w1, ⟨b1, b2, b3, b4, b5, b6⟩, w3, w4⟩ := a5 e
  have rw_ := g.i w (hT _ _ b1)
  exact ⟨w, v, by rw [p2]; exact w1, ⟨g.ty _ _ b1, by rw [g.p w (hT _ _ b1)]; exact b2, g.ty _ _ b3, by rw [rw_]; exact b4, by rw [g.i v (hT _ _ b3)]; exact b5, b6⟩, w3, by unfold HsK; rw [rw_]; exact w4⟩
theorem HRd.ln {t : Nat → Option (Nat × Nat)} {I I' : Nat → Nat → Int32} {P : Nat → Nat → Value} {z p a g q : Nat} {f : Nat → Nat} (h : HRd t I P z f p) (hta : t a = some (g, q)) (hg : g ≠ 15 ∧ g ≠ 101) (ha : 144 ≤ a) (h1 : ∀ b, b ≠ a → I' b = I b) : HRd t I' P z f p := by
  obtain ⟨a1, a2, a3, a4, a5, a6⟩ := h
  have r2 := h1 102 (by omega)
  have r1 := h1 101 (by omega)
  refine ⟨by rw [r2]; exact a1, by rw [r2]; exact a2, by rw [r2]; exact a3, fun e => by rw [r2]; exact a4 e, fun e => ?_, by rw [r2]; exact a6.1, by rw [r1]; exact a6.2.1, a6.2.2⟩
  obtain ⟨w, v, w1, ⟨b1, b2, b3, b4, b5, b6⟩, w3, w4⟩ := a5 e
  have ew : w ≠ a := fun e => by rw [e, hta] at b1; injection b1 with b1; injection b1 with b1; exact hg.1 b1
  have ev : v ≠ a := fun e => by rw [e, hta] at b3; injection b3 with b3; injection b3 with b3; exact hg.2 b3
  exact ⟨w, v, w1, ⟨b1, b2, b3, by rw [h1 w ew]; exact b4, by rw [h1 v ev]; exact b5, b6⟩, w3, by unfold HsK; rw [h1 w ew]; exact w4⟩
/-- a new cell is written -/
theorem GR.fr {s : Prop} {t t' : Nat → Option (Nat × Nat)} {I I' I'' : Nat → Nat → Int32} {J J' : Nat → Nat → Int64} {P P' : Nat → Nat → Value} {n n' a : Nat} (g : GR s t I J P t' I' J' P' n') (hT : TyB t n) (hn : 144 ≤ n) (ha : n ≤ a) (h1 : ∀ b, b ≠ a → I'' b = I' b) : GR s t I J P t' I'' J' P' n' :=
  ⟨g.1, fun b tg h h2 h3 => (h1 b (by have := hT b tg h; omega)).trans (g.2.1 b tg h h2 h3), fun b h h3 => (h1 b (by omega)).trans (g.2.2.1 b h h3), g.2.2.2⟩
set_option maxHeartbeats 4000000 in
theorem h_l8 {G : GG} (d : Nat) {t : Nat → Option (Nat × Nat)} {J : Nat → Nat → Int64} {P : Nat → Nat → Value} {n sl : Nat} {I : Nat → Nat → Int32} {a g k nu fs : Nat} (hta : t a = some (g, 0)) (hg : g ∈ [9, 10, 11, 12, 13, 14]) (ha : 144 ≤ a) : CA G (d + 1) M8_init [.ref a, .int (nI k), .int (nI nu), .int (nI fs)] (t, I, J, P, n, sl) (fun o h' => o = .inl none ∧ ∃ I', h' = (t, I', J, P, n, sl) ∧ LnI I I' a k nu fs) := by
  refine CA.w ?_
  show RA _ _ M8_init 0 [.ref a, .int (nI k), .int (nI nu), .int (nI fs)] [] _ _
  refine x_aload_n d8_init_0 rfl ?_
  refine x_objInit d8_init_1 o8_3 (lw_g (lw_at lw_m1 31 rfl) rfl) (lw_g (lw_at lw_m1 32 rfl) rfl) (by omega) (by decide) ?_
  refine x_aload_n d8_init_4 rfl ?_
  refine x_iload_n d8_init_5 rfl ?_
  refine x_putIE d8_init_6 p8_9 hta (fun I1 hI1 => ?_) (ha := (by omega)) (hc := hg)
  refine x_aload_n d8_init_9 rfl ?_
  refine x_iload_n d8_init_10 rfl ?_
  refine x_putIE d8_init_11 p8_15 hta (fun I2 hI2 => ?_) (ha := (by omega)) (hc := hg)
  refine x_aload_n d8_init_14 rfl ?_
  refine x_iload_n d8_init_15 rfl ?_
  refine x_putIE d8_init_16 p8_18 hta (fun I3 hI3 => ?_) (ha := (by omega)) (hc := hg)
  exact x_return d8_init_19 ⟨rfl, I3, rfl, fun b hb => by rw [hI3, u2_row _ _ _ hb, hI2, u2_row _ _ _ hb, hI1, u2_row _ _ _ hb], by rw [hI3, u2_ne _ _ (by decide), hI2, u2_ne _ _ (by decide), hI1, u2_self], by rw [hI3, u2_ne _ _ (by decide), hI2, u2_self], by rw [hI3, u2_self]⟩
set_option maxHeartbeats 4000000 in
theorem h_i9 {G : GG} (d : Nat) {t : Nat → Option (Nat × Nat)} {J : Nat → Nat → Int64} {P : Nat → Nat → Value} {n sl : Nat} {I : Nat → Nat → Int32} {a nu fs : Nat} (hta : t a = some (9, 0)) (ha : 144 ≤ a) (hB : n ≤ 601124) (hSl : sl ≤ 7293033) : CA G (d + 2) M9_init [.ref a, .int (nI nu), .int (nI fs)] (t, I, J, P, n, sl) (fun o h' => o = .inl none ∧ ∃ I', h' = (t, I', J, P, n, sl) ∧ LnI I I' a 0 nu fs) := by
  refine CA.w ?_
  show RA _ _ M9_init 0 [.ref a, .int (nI nu), .int (nI fs)] [] _ _
  refine x_aload_n d9_init_0 rfl ?_
  refine x_iconst (v := nI 0) d9_init_1 (by decide) ?_
  refine x_iload_n d9_init_2 rfl ?_
  refine x_iload_n d9_init_3 rfl ?_
  refine x_invI a 3 d9_init_4 (by omega) i9_3 (h_l8 _ (k := 0) (nu := nu) (fs := fs) hta (by decide) ha) ?_ (hB := hB) (hS := hSl)
  rintro o h' ⟨rfl, I9, rfl, q⟩
  show RA _ _ _ _ _ [] _ _
  exact x_return d9_init_7 ⟨rfl, I9, rfl, q⟩
set_option maxHeartbeats 4000000 in
theorem h_i12 {G : GG} (d : Nat) {t : Nat → Option (Nat × Nat)} {J : Nat → Nat → Int64} {P : Nat → Nat → Value} {n sl : Nat} {I : Nat → Nat → Int32} {a nu fs : Nat} (hta : t a = some (12, 0)) (ha : 144 ≤ a) (hB : n ≤ 601124) (hSl : sl ≤ 7293033) : CA G (d + 2) M12_init [.ref a, .int (nI fs), .int (nI nu)] (t, I, J, P, n, sl) (fun o h' => o = .inl none ∧ ∃ I', h' = (t, I', J, P, n, sl) ∧ LnI I I' a 3 nu fs) := by
  refine CA.w ?_
  show RA _ _ M12_init 0 [.ref a, .int (nI fs), .int (nI nu)] [] _ _
  refine x_aload_n d12_init_0 rfl ?_
  refine x_iconst (v := nI 3) d12_init_1 (by decide) ?_
  refine x_iload_n d12_init_2 rfl ?_
  refine x_iload_n d12_init_3 rfl ?_
  refine x_invI a 3 d12_init_4 (by omega) i12_3 (h_l8 _ (k := 3) (nu := nu) (fs := fs) hta (by decide) ha) ?_ (hB := hB) (hS := hSl)
  rintro o h' ⟨rfl, I9, rfl, q⟩
  show RA _ _ _ _ _ [] _ _
  exact x_return d12_init_7 ⟨rfl, I9, rfl, q⟩
set_option maxHeartbeats 4000000 in
theorem h_i13 {G : GG} (d : Nat) {t : Nat → Option (Nat × Nat)} {J : Nat → Nat → Int64} {P : Nat → Nat → Value} {n sl : Nat} {I : Nat → Nat → Int32} {a nu fs : Nat} (hta : t a = some (13, 0)) (ha : 144 ≤ a) (hB : n ≤ 601124) (hSl : sl ≤ 7293033) : CA G (d + 2) M13_init [.ref a, .int (nI fs), .int (nI nu)] (t, I, J, P, n, sl) (fun o h' => o = .inl none ∧ ∃ I', h' = (t, I', J, P, n, sl) ∧ LnI I I' a 4 nu fs) := by
  refine CA.w ?_
  show RA _ _ M13_init 0 [.ref a, .int (nI fs), .int (nI nu)] [] _ _
  refine x_aload_n d13_init_0 rfl ?_
  refine x_iconst (v := nI 4) d13_init_1 (by decide) ?_
  refine x_iload_n d13_init_2 rfl ?_
  refine x_iload_n d13_init_3 rfl ?_
  refine x_invI a 3 d13_init_4 (by omega) i13_3 (h_l8 _ (k := 4) (nu := nu) (fs := fs) hta (by decide) ha) ?_ (hB := hB) (hS := hSl)
  rintro o h' ⟨rfl, I9, rfl, q⟩
  show RA _ _ _ _ _ [] _ _
  exact x_return d13_init_7 ⟨rfl, I9, rfl, q⟩
set_option maxHeartbeats 4000000 in
theorem h_i14 {G : GG} (d : Nat) {t : Nat → Option (Nat × Nat)} {J : Nat → Nat → Int64} {P : Nat → Nat → Value} {n sl : Nat} {I : Nat → Nat → Int32} {a fs : Nat} (hta : t a = some (14, 0)) (ha : 144 ≤ a) (hB : n ≤ 601124) (hSl : sl ≤ 7293033) : CA G (d + 2) M14_init [.ref a, .int (nI fs)] (t, I, J, P, n, sl) (fun o h' => o = .inl none ∧ ∃ I', h' = (t, I', J, P, n, sl) ∧ LnI I I' a 5 0 fs) := by
  refine CA.w ?_
  show RA _ _ M14_init 0 [.ref a, .int (nI fs)] [] _ _
  refine x_aload_n d14_init_0 rfl ?_
  refine x_iconst (v := nI 5) d14_init_1 (by decide) ?_
  refine x_iconst (v := nI 0) d14_init_2 (by decide) ?_
  refine x_iload_n d14_init_3 rfl ?_
  refine x_invI a 3 d14_init_4 (by omega) i14_3 (h_l8 _ (k := 5) (nu := 0) (fs := fs) hta (by decide) ha) ?_ (hB := hB) (hS := hSl)
  rintro o h' ⟨rfl, I9, rfl, q⟩
  show RA _ _ _ _ _ [] _ _
  exact x_return d14_init_7 ⟨rfl, I9, rfl, q⟩
set_option maxHeartbeats 4000000 in
theorem h_i11 {G : GG} (d : Nat) {t : Nat → Option (Nat × Nat)} {J : Nat → Nat → Int64} {P : Nat → Nat → Value} {n sl : Nat} {I : Nat → Nat → Int32} {a nu fs sc : Nat} (hta : t a = some (11, 0)) (ha : 144 ≤ a) (hB : n ≤ 601124) (hSl : sl ≤ 7293033) : CA G (d + 2) M11_init [.ref a, .int (nI nu), .int (nI fs), .int (nI sc)] (t, I, J, P, n, sl) (fun o h' => o = .inl none ∧ ∃ I', h' = (t, I', J, P, n, sl) ∧ LnI I I' a 2 nu fs ∧ I' a 3 = nI sc) := by
  refine CA.w ?_
  show RA _ _ M11_init 0 [.ref a, .int (nI nu), .int (nI fs), .int (nI sc)] [] _ _
  refine x_aload_n d11_init_0 rfl ?_
  refine x_iconst (v := nI 2) d11_init_1 (by decide) ?_
  refine x_iload_n d11_init_2 rfl ?_
  refine x_iload_n d11_init_3 rfl ?_
  refine x_invI a 3 d11_init_4 (by omega) i11_3 (h_l8 _ (k := 2) (nu := nu) (fs := fs) hta (by decide) ha) ?_ (hB := hB) (hS := hSl)
  rintro o h' ⟨rfl, I9, rfl, q⟩
  show RA _ _ _ _ _ [] _ _
  refine x_aload_n d11_init_7 rfl ?_
  refine x_iload_n d11_init_8 rfl ?_
  refine x_putIE d11_init_9 p11_9 hta (fun I11 hI11 => ?_) (ha := (by omega))
  exact x_return d11_init_12 ⟨rfl, I11, rfl, ⟨fun b hb => by rw [hI11, u2_row _ _ _ hb]; exact q.1 b hb, by rw [hI11, u2_ne _ _ (by decide)]; exact q.2.1, by rw [hI11, u2_ne _ _ (by decide)]; exact q.2.2.1, by rw [hI11, u2_ne _ _ (by decide)]; exact q.2.2.2⟩, by rw [hI11, u2_self]⟩
/-- a Let's cells, its names behind it -/
def LtI (t : Nat → Option (Nat × Nat)) (I : Nat → Nat → Int32) (J : Nat → Nat → Int64) (P : Nat → Nat → Value) (a n : Nat) (t' : Nat → Option (Nat × Nat)) (I' : Nat → Nat → Int32) (J' : Nat → Nat → Int64) (P' : Nat → Nat → Value) : Prop := (∀ b (_ : True) tg, t b = some tg → t' b = some tg) ∧ (∀ b, b ≠ a ∧ b ≠ n → I' b = I b) ∧ (∀ b, b ≠ n → J' b = J b) ∧ (∀ b, b ≠ a ∧ b ≠ n → P' b = P b) ∧ TyB t' (n + 1)
set_option maxHeartbeats 4000000 in
theorem h_i10 {G : GG} (d : Nat) {t : Nat → Option (Nat × Nat)} {J : Nat → Nat → Int64} {P : Nat → Nat → Value} {n sl : Nat} {I : Nat → Nat → Int32} (hS : SH t P) (hT : TyB t n) (hn : 144 ≤ n) {a x m : Nat} (hta : t a = some (10, 0)) (ha : 144 ≤ a) (hlt : a < n) (hm4 : m ≤ 4) (hB0 : n + 1 ≤ 601124) (hSl0 : sl + 4 ≤ 7293033) : CA G (d + 2) M10_init [.ref a, .int (nI x), .ref 105, .int (nI m)] (t, I, J, P, n, sl) (fun o h' => o = .inl none ∧ ∃ t' I' J' P', h' = (t', I', J', P', n + 1, sl + 4) ∧ t' a = some (10, 0) ∧ t' n = some (100, 4) ∧ LtI t I J P a n t' I' J' P' ∧ I' a 0 = nI 1 ∧ I' a 1 = nI m ∧ I' a 2 = nI x ∧ P' a 3 = .ref n ∧ ∀ i, i < m → I' n i = I 105 i) := by
  refine CA.w ?_
  show RA _ _ M10_init 0 [.ref a, .int (nI x), .ref 105, .int (nI m)] [] _ _
  have hB : n ≤ 601124 := by omega
  have hSl : sl ≤ 7293033 := by omega
  refine x_aload_n d10_init_0 rfl ?_
  refine x_iconst (v := nI 1) d10_init_1 (by decide) ?_
  refine x_iload_n d10_init_2 rfl ?_
  refine x_iload_n d10_init_3 rfl ?_
  refine x_invI a 3 d10_init_4 (by omega) i10_3 (h_l8 _ (k := 1) (nu := m) (fs := x) hta (by decide) ha) ?_ (hB := hB) (hS := hSl)
  rintro o h' ⟨rfl, I9, rfl, q⟩
  show RA _ _ _ _ _ [] _ _
  refine x_aload_n d10_init_7 rfl ?_
  refine x_iconst (v := nI 4) d10_init_8 (by decide) ?_
  refine x_newarrE (k := 0) d10_init_9 (lw_g (lw_at lw_m1 150 rfl) rfl) rfl (by decide) (by omega) (by omega) (fun t11 I11 J11 P11 ht11 hI11 hJ11 hP11 => ?_)
  have gw := (Gw.rf (I := I9) (J := J) (P := P) hT).new ht11 hI11 hJ11 hP11
  have hS1 := gw.sh hn hS
  have htn : t11 n = some (100, 4) := by rw [ht11, p1_self]
  have hta11 : t11 a = some (10, 0) := by rw [ht11, p1_ne _ _ (hT.ne hta)]; exact hta
  refine x_putPE d10_init_11 p10_9 hta11 (fun P12 hP12 => ?_) (ha := (by omega))
  refine x_aload_n d10_init_14 rfl ?_
  refine x_iconst (v := nI 0) d10_init_15 (by decide) ?_
  refine x_aload_n d10_init_16 rfl ?_
  refine x_getP d10_init_17 f10_9 hta11 (show P12 a 3 = .ref n by rw [hP12, u2_self]) ?_
  refine x_iconst (v := nI 0) d10_init_20 (by decide) ?_
  refine x_iload_n d10_init_21 rfl ?_
  refine x_copyI (a := n) (b := 105) (k := m) (by omega) htn (hS1.T rfl) hm4 (fun I8 hI8 => ?_)
  refine x_return d10_init_25 ?_
  have hI8' : ∀ b, b ≠ n → I8 b = I11 b := fun b hb => by rw [hI8]; funext j; unfold cpI; rw [if_neg (fun z => hb z.1)]
  have hka : I8 a = I9 a := by rw [hI8' a (hT.ne hta), hI11, r1_row _ _ (hT.ne hta)]
  refine ⟨rfl, t11, I8, J11, P12, rfl, hta11, htn, ⟨fun b hb tg hbt => ?_, fun b hb => ?_, fun b hb => ?_, fun b hb => ?_, gw.b⟩, by rw [hka]; exact q.2.1, by rw [hka]; exact q.2.2.1, by rw [hka]; exact q.2.2.2, by rw [hP12, u2_self], fun i hi => ?_⟩
  · exact gw.ty b tg hbt
  · rw [hI8' b (by omega), hI11, r1_row _ _ (by omega)]; exact q.1 b (by omega)
  · rw [hJ11, r1_row _ _ (by omega)]
  · rw [hP12, u2_row _ _ _ (by omega), hP11, r1_row _ _ (by omega)]
  · rw [hI8]; unfold cpI; rw [if_pos ⟨rfl, hi⟩, hI11, r1_row _ _ (by omega), q.1 105 (by omega)]
