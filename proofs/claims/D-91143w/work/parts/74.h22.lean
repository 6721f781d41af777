/-! the house: read -/
set_option maxRecDepth 100000
/-- the lines read so far -/
def RdL (t : Nat → Option (Nat × Nat)) (I : Nat → Nat → Int32) (P : Nat → Nat → Value) (L np m : Nat) (rs : Nat → Lne) (la : Nat → Nat) : Prop := ∀ k, k < m → P L k = .ref (la k) ∧ LnO t I P (la k) (rs k) ∧ LneOK np (rs k)
theorem RdL.gr {s : Prop} {t t' : Nat → Option (Nat × Nat)} {I I' : Nat → Nat → Int32} {J J' : Nat → Nat → Int64} {P P' : Nat → Nat → Value} {n' L np m : Nat} {rs : Nat → Lne} {la : Nat → Nat} (h : RdL t I P L np m rs la) (hL : t L = some (106, 12)) (hL2 : L ≠ 102) (g : GR s t I J P t' I' J' P' n') : RdL t' I' P' L np m rs la := fun k hk => by
  obtain ⟨h1, h2, h3⟩ := h k hk
  exact ⟨by rw [g.2.2.2.2.1 _ _ hL hL2]; exact h1, h2.gr h3.1 g, h3⟩
theorem LnO.pL {t : Nat → Option (Nat × Nat)} {I : Nat → Nat → Int32} {P P' : Nat → Nat → Value} {a L k : Nat} {l : Lne} {v : Value} (h : LnO t I P a l) (hl : l.1 ≤ 5) (hL : t L = some (106, 12)) (e : P' = u2 P L k v) : LnO t I P' a l := by
  obtain ⟨a1, a2, a3, a4, a5, a6, a7⟩ := h
  have hne : a ≠ L := fun q => by rw [q, hL] at a2; injection a2 with a2; injection a2 with a2; omega
  exact ⟨a1, a2, a3, a4, a5, a6, fun q => ⟨by rw [e, u2_row _ _ _ hne]; exact (a7 q).1, (a7 q).2⟩⟩
theorem HRd.pL {t : Nat → Option (Nat × Nat)} {I : Nat → Nat → Int32} {P P' : Nat → Nat → Value} {z p L k : Nat} {f : Nat → Nat} {v : Value} (h : HRd t I P z f p) (hL : t L = some (106, 12)) (hL2 : L ≠ 102) (e : P' = u2 P L k v) : HRd t I P' z f p := by
  obtain ⟨a1, a2, a3, a4, a5, a6⟩ := h
  refine ⟨a1, a2, a3, a4, fun q => ?_, a6⟩
  obtain ⟨w, v, w1, ⟨b1, b2, b3⟩, w3, w4⟩ := a5 q
  have hne : w ≠ L := fun q => by rw [q, hL] at b1; cases b1
  exact ⟨w, v, by rw [e, u2_row _ _ _ (fun q => hL2 q.symm)]; exact w1, ⟨b1, by rw [e, u2_row _ _ _ hne]; exact b2, b3⟩, w3, w4⟩
theorem GR.fp {s : Prop} {t t' : Nat → Option (Nat × Nat)} {I I' : Nat → Nat → Int32} {J J' : Nat → Nat → Int64} {P P' P'' : Nat → Nat → Value} {n n' L k : Nat} {v : Value} (g : GR s t I J P t' I' J' P' n') (hT : TyB t n) (hn : 144 ≤ n) (hL : n ≤ L) (e : P'' = u2 P' L k v) : GR s t I J P t' I' J' P'' n' :=
  ⟨g.1, g.2.1, g.2.2.1, g.2.2.2.1, fun b tg h h2 => by rw [e, u2_row _ _ _ (by have := hT b tg h; omega)]; exact g.2.2.2.2.1 b tg h h2, fun k h => by rw [e, u2_row _ _ _ (by omega)]; exact g.2.2.2.2.2.1 k h, g.2.2.2.2.2.2⟩
theorem psA_n {z p m np : Nat} {f : Nat → Nat} {rs : Nat → Lne} {R : RR (Nat × (Nat → Lne))} (h : psA z f np (12 - m) m rs p = R) (hn : psK z f p = none) : R = .inl (1, tA z f p) := by
  rw [← h]
  cases 12 - m with
  | zero => simp only [psA, hn]
  | succ k => simp only [psA, hn]
theorem psA_4 {z p np k : Nat} {f : Nat → Nat} {rs : Nat → Lne} {R : RR (Nat × (Nat → Lne))} (h : psA z f np (12 - 12) 12 rs p = R) (hn : psK z f p = some k) : R = .inl (4, tA z f p) := by
  rw [← h]
  show psA z f np 0 12 rs p = _
  simp only [psA, hn]
theorem psA_e {z p m np k : Nat} {f : Nat → Nat} {rs : Nat → Lne} {R : RR (Nat × (Nat → Lne))} {e : Nat × Nat} (hm : m < 12) (h : psA z f np (12 - m) m rs p = R) (hn : psK z f p = some k) (hl : psL z f np k (tE z f p) = .inl e) : R = .inl e := by
  rw [← h, show 12 - m = (12 - (m + 1)) + 1 by omega]
  simp only [psA, hn, hl]
theorem psA_s {z p m np k p1 : Nat} {f : Nat → Nat} {rs : Nat → Lne} {l : Lne} {R : RR (Nat × (Nat → Lne))} (hm : m < 12) (h : psA z f np (12 - m) m rs p = R) (hn : psK z f p = some k) (hl : psL z f np k (tE z f p) = .inr (l, p1)) : (if tK z f p1 = 59 then psA z f np (12 - (m + 1)) (m + 1) (fun j => if j = m then l else rs j) (tE z f p1) else if tK z f p1 = 0 then .inr (m + 1, fun j => if j = m then l else rs j) else .inl (1, tA z f p1)) = R := by
  rw [← h, show 12 - m = (12 - (m + 1)) + 1 by omega]
  simp only [psA, hn, hl]
/-- what read leaves -/
def RdP (t0 : Nat → Option (Nat × Nat)) (I0 : Nat → Nat → Int32) (J0 : Nat → Nat → Int64) (P0 : Nat → Nat → Value) (n sl c1 c2 L np : Nat) (r : RR (Nat × (Nat → Lne))) : AO → AH → Prop := fun o h' =>
  ∃ t' I' J' P' n' sl', h' = (t', I', J', P', n', sl') ∧ GR False t0 I0 J0 P0 t' I' J' P' n' ∧ n ≤ n' ∧ n' ≤ n + c1 ∧ sl ≤ sl' ∧ sl' ≤ sl + c2 ∧ match r with
    | .inl e => o = .inr 103 ∧ RdE I' e
    | .inr q => o = .inl (some (.int (nI q.1))) ∧ q.1 ≤ 12 ∧ t' L = some (106, 12) ∧ ∃ la, RdL t' I' P' L np q.1 q.2 la
theorem al_ln {k : Nat} (h : k ≤ 5) : AL 6 (9 + k) := by
  rcases (by omega : k = 0 ∨ k = 1 ∨ k = 2 ∨ k = 3 ∨ k = 4 ∨ k = 5) with rfl | rfl | rfl | rfl | rfl | rfl
  · exact ⟨by decide, by decide, _, _, rfl, by decide, rfl, Or.inr (lw_at lw_m6 182 rfl)⟩
  · exact ⟨by decide, by decide, _, _, rfl, by decide, rfl, Or.inr (lw_at lw_m6 183 rfl)⟩
  · exact ⟨by decide, by decide, _, _, rfl, by decide, rfl, Or.inr (lw_at lw_m6 184 rfl)⟩
  · exact ⟨by decide, by decide, _, _, rfl, by decide, rfl, Or.inr (lw_at lw_m6 185 rfl)⟩
  · exact ⟨by decide, by decide, _, _, rfl, by decide, rfl, Or.inr (lw_at lw_m6 186 rfl)⟩
  · exact ⟨by decide, by decide, _, _, rfl, by decide, rfl, Or.inr (lw_at lw_m6 187 rfl)⟩
set_option maxHeartbeats 16000000 in
theorem h_read {G : GG} (d : Nat) {t : Nat → Option (Nat × Nat)} {J : Nat → Nat → Int64} {P : Nat → Nat → Value} {n sl : Nat} {I : Nat → Nat → Int32} (hS : SH t P) (hT : TyB t n) (hn : 144 ≤ n) {t0 : Nat → Option (Nat × Nat)} {I0 : Nat → Nat → Int32} {J0 : Nat → Nat → Int64} {P0 : Nat → Nat → Value} {n0 : Nat} (hS0 : SH t0 P0) (hC0 : CSt t0 I0 P0) (hT0 : TyB t0 n0) (hn0 : 144 ≤ n0) (g0 : GR False t0 I0 J0 P0 t I J P n) {z np L : Nat} {f : Nat → Nat} (htx : ∀ j, j < z → btN (I 101 j) = f j) (hz : z ≤ 300) (htL : t L = some (106, 12)) (hLn : n0 ≤ L) (hnp1 : 1 ≤ np) (hnp : np ≤ 10) {RE : RR (Nat × (Nat → Lne))} (hRA : psA z f np 12 0 (fun _ => (0, 0, 0, 0, fun _ => 0)) 0 = RE) (hB0 : n + 366 ≤ 601124) (hSl0 : sl + 2100 ≤ 7293033) : CA G (d + 10) M2_read [.ref 102, .int (nI z), .int (nI np), .ref L] (t, I, J, P, n, sl) (RdP t0 I0 J0 P0 n sl 366 2100 L np RE) := by
  refine CA.w ?_
  show RA _ _ M2_read 0 [.ref 102, .int (nI z), .int (nI np), .ref L, U0, U0] [] _ _
  have hend : ∀ m, m ≤ 12 → ∀ (rs : Nat → Lne) (p9 : Nat) (t9 : Nat → Option (Nat × Nat)) (I9 : Nat → Nat → Int32) (J9 : Nat → Nat → Int64) (P9 : Nat → Nat → Value) (n9 sl9 : Nat) (la : Nat → Nat), GR False t0 I0 J0 P0 t9 I9 J9 P9 n9 → HRd t9 I9 P9 z f p9 → p9 ≤ z → n ≤ n9 → n9 ≤ n + 2 + 30 * m → sl ≤ sl9 → sl9 ≤ sl + 12 + 172 * m → t9 L = some (106, 12) → RdL t9 I9 P9 L np m rs la → (if tK z f p9 = 0 then .inr (m, rs) else .inl (1, tA z f p9)) = RE → RA G (d + 10) M2_read 20 [.ref 102, .int (nI z), .int (nI np), .ref L, .int (nI m), .int (nI 0)] [] (t9, I9, J9, P9, n9, sl9) (RdP t0 I0 J0 P0 n sl 366 2100 L np RE) := by
    intro m hm12 rs p9 t9 I9 J9 P9 n9 sl9 la g9 hR9 hp9 hn1 hn2 hs1 hs2 tL9 hL9 hF
    have hS9 := g9.sh hS0
    have hC9 := hC0.gr g9
    have hT9 := g9.2.2.2.2.2.2
    have hn9 : 144 ≤ n9 := by omega
    refine x_iload d2_read_20 rfl ?_
    refine x_if_eqN 74 d2_read_22 (by decide) (by omega) (fun b22 => ?_) (fun b22 => absurd b22 (fun q => q rfl))
    refine x_aload_n d2_read_74 rfl ?_
    refine x_getI d2_read_75 f2_47 (hS9.T rfl) ?_
    refine x_top (congrArg Value.int (show I9 102 6 = nI (tK z f p9) from hR9.2.1)) ?_
    have htk_ := tK_lt z f p9
    refine x_if_eqN 87 d2_read_78 (by decide) (by omega) (fun b78 => ?_) (fun b78 => ?_)
    · refine x_iload d2_read_87 rfl ?_
      refine x_ireturn d2_read_89 ?_
      refine ⟨t9, I9, J9, P9, n9, sl9, rfl, g9, by omega, by omega, by omega, by omega, ?_⟩
      rw [← hF, if_pos b78]
      exact ⟨rfl, hm12, tL9, la, hL9⟩
    · refine x_aload_n d2_read_81 rfl ?_
      refine x_iconst (v := nI 1) d2_read_82 (by decide) ?_
      refine x_invV 102 1 d2_read_83 (hS9.T rfl) v2_78_2 (h_fail _ hS9 (F := 1) hR9.2.2.1 (by omega) (by omega)) ?_ (hB := by show n9 ≤ 601124; omega) (hS := by show sl9 ≤ 7293033; omega)
      rintro o h' ⟨rfl, I8, rfl, hF8, he8⟩
      refine x_athrow d2_read_86 ⟨by decide, Or.inl ⟨rfl, t9, I8, J9, P9, n9, sl9, rfl, g9.trans ⟨fun _ _ q => q, fun b tg _ _ h3 => hF8 b (by omega), fun b _ h3 => hF8 b (by omega), fun _ _ => rfl, fun _ _ _ _ => rfl, fun _ _ => rfl, hT9⟩, by omega, by omega, by omega, by omega, ?_⟩⟩
      rw [← hF, if_neg b78]
      exact ⟨rfl, he8⟩
  have hlp : ∀ m, m ≤ 12 → ∀ (rs : Nat → Lne) (p9 : Nat) (t9 : Nat → Option (Nat × Nat)) (I9 : Nat → Nat → Int32) (J9 : Nat → Nat → Int64) (P9 : Nat → Nat → Value) (n9 sl9 : Nat) (la : Nat → Nat), GR False t0 I0 J0 P0 t9 I9 J9 P9 n9 → HRd t9 I9 P9 z f p9 → p9 ≤ z → n ≤ n9 → n9 ≤ n + 2 + 30 * m → sl ≤ sl9 → sl9 ≤ sl + 12 + 172 * m → t9 L = some (106, 12) → RdL t9 I9 P9 L np m rs la → psA z f np (12 - m) m rs p9 = RE → RA G (d + 10) M2_read 20 [.ref 102, .int (nI z), .int (nI np), .ref L, .int (nI m), .int (nI 1)] [] (t9, I9, J9, P9, n9, sl9) (RdP t0 I0 J0 P0 n sl 366 2100 L np RE) := by
    refine up_ind ?_
    intro m hm12 ih rs p9 t9 I9 J9 P9 n9 sl9 la g9 hR9 hp9 hn1 hn2 hs1 hs2 tL9 hL9 hF
    have hS9 := g9.sh hS0
    have hC9 := hC0.gr g9
    have hT9 := g9.2.2.2.2.2.2
    have hn9 : 144 ≤ n9 := by omega
    refine x_iload d2_read_20 rfl ?_
    refine x_if_eqN 74 d2_read_22 (by decide) (by omega) (fun b22 => absurd b22 (by decide)) (fun b22 => ?_)
    refine x_aload_n d2_read_25 rfl ?_
    refine x_invV 102 0 d2_read_26 (hS9.T rfl) v2_108_2 (h_rbegins _ hS9 hC9 hT9 hn9 hR9 hp9 (by omega) (by omega)) ?_ (hB := by show n9 ≤ 601124; omega) (hS := by show sl9 ≤ 7293033; omega)
    rintro o h' ⟨rfl, I7, rfl, g7, hR7, r57⟩
    have gg7 := g9.trans g7
    have hC7 := hC0.gr gg7
    have hL7 := hL9.gr tL9 (by omega) g7
    show RA _ _ _ _ _ [Value.int (nI (if psK z f p9 = none then 0 else 1))] _ _
    have hpk01 : (if psK z f p9 = none then 0 else 1) ≤ 1 := by split <;> decide
    refine x_if_neN 38 d2_read_29 (by decide) (by omega) (fun b29 => ?_) (fun b29 => ?_)
    · obtain ⟨k, hK⟩ : ∃ k, psK z f p9 = some k := by cases hq : psK z f p9 with | none => rw [if_pos hq] at b29; exact absurd rfl b29 | some k => exact ⟨k, rfl⟩
      refine x_iload d2_read_38 rfl ?_
      refine x_bipush (v := nI 12) d2_read_40 (by decide) ?_
      refine x_icmp_neN 51 d2_read_42 (by decide) (by omega) (by omega) (fun b42 => ?_) (fun b42 => ?_)
      · refine x_aload_n d2_read_51 rfl ?_
        refine x_iload d2_read_52 rfl ?_
        refine x_aload_n d2_read_54 rfl ?_
        refine x_iload_n d2_read_55 rfl ?_
        have hKk := psK_ok hK
        refine x_invV 102 1 d2_read_56 (hS9.T rfl) v2_112_2 (h_rline _ hS9 hC7 hT9 hn9 hR7 hp9 hK hnp1 hnp (by omega) (by omega)) ?_ (hB := by show n9 ≤ 601124; omega) (hS := by show sl9 ≤ 7293033; omega)
        rintro o h' ⟨t6, I6, J6, P6, n6, sl6, rfl, g6, hn6a, hn6b, hs6a, hs6b, hm6⟩
        have gg6 := gg7.trans g6
        cases hr6 : psL z f np k (tE z f p9) with
        | inl e =>
          rw [hr6] at hm6
          obtain ⟨rfl, he⟩ := hm6
          refine ⟨by decide, Or.inl ⟨rfl, t6, I6, J6, P6, n6, sl6, rfl, gg6, by omega, by omega, by omega, by omega, ?_⟩⟩
          rw [psA_e (by omega) hF hK hr6]
          exact ⟨rfl, he⟩
        | inr b6 =>
        rw [hr6] at hm6
        obtain ⟨l, p1⟩ := b6
        obtain ⟨⟨a, ha1, rfl, ha3⟩, hR6⟩ := hm6
        have hR6 : HRd t6 I6 P6 z f p1 := hR6
        have ha3 : LnO t6 I6 P6 a l := ha3
        have hEp := tE_le (f := f) hp9
        have hlk := psL_ok hnp hKk.2 hEp.2 hr6
        have hS6 := gg6.sh hS0
        have tL6 : t6 L = some (106, 12) := g6.1 _ _ tL9
        have hL6 := hL7.gr tL9 (by omega) g6
        have hT6 := gg6.2.2.2.2.2.2
        have hF2 := psA_s (by omega) hF hK hr6
        have hl5 := hlk.1.1
        show RA _ _ _ _ _ [Value.ref a, Value.int (nI m), Value.ref L] _ _
        refine x_aastE d2_read_59 tL6 (by omega) ha3.2.1 (al_ln hl5) (fun P41 hP41 => ?_) (ha := (by omega))
        have g5 := gg6.fp hT0 hn0 hLn hP41
        have hS5 := g5.sh hS0
        have hC5 := hC0.gr g5
        have hR5 := hR6.pL tL6 (by omega) hP41
        have hL5 : RdL t6 I6 P41 L np (m + 1) (fun j => if j = m then l else rs j) (upN la m a) := fun k hk => by
          by_cases ek : k = m
          · subst ek
            show P41 L k = .ref (upN la k a k) ∧ LnO t6 I6 P41 (upN la k a k) (if k = k then l else rs k) ∧ LneOK np (if k = k then l else rs k)
            rw [if_pos rfl, upN_self, hP41]
            exact ⟨u2_self _ _ _ _, ha3.pL hl5 tL6 rfl, hlk.1⟩
          · show P41 L k = .ref (upN la m a k) ∧ LnO t6 I6 P41 (upN la m a k) (if k = m then l else rs k) ∧ LneOK np (if k = m then l else rs k)
            rw [if_neg ek, upN_ne _ _ ek, hP41, u2_ne _ _ ek]
            obtain ⟨z1, z2, z3⟩ := hL6 k (by omega)
            exact ⟨z1, z2.pL z3.1 tL6 rfl, z3⟩
        refine x_iincN (c := 1) d2_read_60 rfl (by decide) ?_
        refine x_aload_n d2_read_63 rfl ?_
        refine x_bipush (v := nI 59) d2_read_64 (by decide) ?_
        refine x_invV 102 1 d2_read_66 (hS5.T rfl) v2_116_2 (h_takes _ hS5 hC5 hT6 (by omega) hR5 hlk.2 (g := 59) (by decide) (by omega) (by omega)) ?_ (hB := by show n6 ≤ 601124; omega) (hS := by show sl6 ≤ 7293033; omega)
        rintro o h' ⟨t4, I4, J4, P4, n4, sl4, rfl, g4, r54, hn4a, hn4b, hs4a, hs4b, rfl, hR4⟩
        have g4w := g4.weak (s' := False) (fun _ => trivial)
        have gg4 := g5.trans g4w
        have tL4 : t4 L = some (106, 12) := g4.1 _ _ tL6
        have hL4 := hL5.gr tL6 (by omega) g4w
        have hE1 := tE_le (f := f) hlk.2
        show RA _ _ _ _ _ [Value.int (nI (if tK z f p1 = 59 then 1 else 0))] _ _
        refine x_istore d2_read_69 ?_
        refine x_goto 20 d2_read_71 (by decide) ?_
        by_cases h59 : tK z f p1 = 59
        · rw [if_pos h59] at hR4 ⊢
          rw [if_pos h59] at hF2
          exact ih (by omega) _ (tE z f p1) t4 I4 J4 P4 n4 sl4 (upN la m a) gg4 hR4 hE1.2 (by omega) (by omega) (by omega) (by omega) tL4 hL4 hF2
        · rw [if_neg h59] at hR4 ⊢
          rw [if_neg h59] at hF2
          exact hend (m + 1) (by omega) _ p1 t4 I4 J4 P4 n4 sl4 (upN la m a) gg4 hR4 hlk.2 (by omega) (by omega) (by omega) (by omega) tL4 hL4 hF2
      · refine x_aload_n d2_read_45 rfl ?_
        refine x_iconst (v := nI 4) d2_read_46 (by decide) ?_
        refine x_invV 102 1 d2_read_47 (hS9.T rfl) v2_78_2 (h_fail _ hS9 (F := 4) hR7.2.2.1 (by omega) (by omega)) ?_ (hB := by show n9 ≤ 601124; omega) (hS := by show sl9 ≤ 7293033; omega)
        rintro o h' ⟨rfl, I8, rfl, hF8, he8⟩
        refine x_athrow d2_read_50 ⟨by decide, Or.inl ⟨rfl, t9, I8, J9, P9, n9, sl9, rfl, gg7.trans ⟨fun _ _ q => q, fun b tg _ _ h3 => hF8 b (by omega), fun b _ h3 => hF8 b (by omega), fun _ _ => rfl, fun _ _ _ _ => rfl, fun _ _ => rfl, hT9⟩, by omega, by omega, by omega, by omega, ?_⟩⟩
        have hm12 : m = 12 := b42
        subst hm12
        rw [psA_4 hF hK]
        exact ⟨rfl, he8⟩
    · refine x_aload_n d2_read_32 rfl ?_
      refine x_iconst (v := nI 1) d2_read_33 (by decide) ?_
      refine x_invV 102 1 d2_read_34 (hS9.T rfl) v2_78_2 (h_fail _ hS9 (F := 1) hR7.2.2.1 (by omega) (by omega)) ?_ (hB := by show n9 ≤ 601124; omega) (hS := by show sl9 ≤ 7293033; omega)
      rintro o h' ⟨rfl, I8, rfl, hF8, he8⟩
      refine x_athrow d2_read_37 ⟨by decide, Or.inl ⟨rfl, t9, I8, J9, P9, n9, sl9, rfl, gg7.trans ⟨fun _ _ q => q, fun b tg _ _ h3 => hF8 b (by omega), fun b _ h3 => hF8 b (by omega), fun _ _ => rfl, fun _ _ _ _ => rfl, fun _ _ => rfl, hT9⟩, by omega, by omega, by omega, by omega, ?_⟩⟩
      have hKn : psK z f p9 = none := Classical.byContradiction fun q => by rw [if_neg q] at b29; exact absurd b29 (by decide)
      rw [psA_n hF hKn]
      exact ⟨rfl, he8⟩
  refine x_aload_n d2_read_0 rfl ?_
  refine x_iload_n d2_read_1 rfl ?_
  refine x_putIE d2_read_2 p2_37 (hS.T rfl) (fun I1 hI1 => ?_)
  have gI1 := g0.ui hI1 (by decide)
  refine x_aload_n d2_read_5 rfl ?_
  refine x_iconst (v := nI 0) d2_read_6 (by decide) ?_
  refine x_putIE d2_read_7 p2_40 (hS.T rfl) (fun I2 hI2 => ?_)
  have gI2 := gI1.ui hI2 (by decide)
  refine x_aload_n d2_read_10 rfl ?_
  have hX : HdX I2 z f := ⟨by rw [hI2, u2_ne _ _ (by decide), hI1, u2_self], fun j hj => by rw [hI2, u2_row _ _ _ (by decide), hI1, u2_row _ _ _ (by decide)]; exact htx j hj, hz⟩
  refine x_invV 102 0 d2_read_11 (hS.T rfl) v2_71_2 (h_rnext _ hS hT hn hX (p := 0) (by rw [hI2, u2_self]) (Nat.zero_le _) (by omega) (by omega)) ?_ (hB := by show n ≤ 601124; omega) (hS := by show sl ≤ 7293033; omega)
  rintro o h' ⟨rfl, t3, I3, J3, P3, n3, sl3, rfl, g3, hR3, r53, hn3a, hn3b, hs3a, hs3b⟩
  have gg3 := gI2.trans (g3.weak (s' := False) (fun _ => trivial))
  have tL3 : t3 L = some (106, 12) := g3.1 _ _ htL
  show RA _ _ _ _ _ [] _ _
  refine x_iconst (v := nI 0) d2_read_14 (by decide) ?_
  refine x_istore d2_read_15 ?_
  refine x_iconst (v := nI 1) d2_read_17 (by decide) ?_
  refine x_istore d2_read_18 ?_
  exact hlp 0 (Nat.zero_le _) (fun _ => (0, 0, 0, 0, fun _ => 0)) 0 t3 I3 J3 P3 n3 sl3 (fun _ => 0) gg3 hR3 (Nat.zero_le _) (by omega) (by omega) (by omega) (by omega) tL3 (fun k hk => absurd hk (Nat.not_lt_zero _)) hRA
