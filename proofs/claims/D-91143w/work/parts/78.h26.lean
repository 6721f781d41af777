/-! constructors: the house, the reference -/
set_option maxRecDepth 100000
set_option maxHeartbeats 16000000 in
theorem h_i1 {G : GG} (d : Nat) {t : Nat → Option (Nat × Nat)} {J : Nat → Nat → Int64} {P : Nat → Nat → Value} {sl : Nat} {I : Nat → Nat → Int32} (ht0 : t 100 = some (1, 0)) (hI0 : ∀ k, I 100 k = 0) (hT : TyB t 101) (hSl : sl + 822 ≤ 7293033) : CA G (d + 6) M1_init [.ref 100] (t, I, J, P, 101, sl) (fun o h' => o = .inl none ∧ ∃ t' I' J' P', h' = (t', I', J', P', 122, sl + 822) ∧ (t' 100 = some (1, 0) ∧ t' 101 = some (101, 300) ∧ t' 102 = some (2, 0) ∧ t' 103 = some (3, 0) ∧ t' 104 = some (102, 8) ∧ t' 105 = some (100, 4) ∧ t' 106 = some (105, 10) ∧ t' 107 = some (100, 16) ∧ t' 108 = some (4, 0) ∧ t' 109 = some (100, 10) ∧ t' 110 = some (100, 90) ∧ t' 111 = some (100, 16) ∧ t' 112 = some (4, 0) ∧ t' 113 = some (100, 10) ∧ t' 114 = some (100, 90) ∧ t' 115 = some (100, 16) ∧ t' 116 = some (3, 0) ∧ t' 117 = some (100, 90) ∧ t' 118 = some (100, 92) ∧ t' 119 = some (100, 10) ∧ t' 120 = some (100, 10) ∧ t' 121 = some (100, 10)) ∧ (P' 100 0 = .ref 101 ∧ P' 100 2 = .ref 102 ∧ P' 100 3 = .ref 106 ∧ P' 100 4 = .ref 107 ∧ P' 100 6 = .ref 108 ∧ P' 100 7 = .ref 112 ∧ P' 100 9 = .ref 116 ∧ P' 100 13 = .ref 117 ∧ P' 100 14 = .ref 118 ∧ P' 100 16 = .ref 119 ∧ P' 100 17 = .ref 120 ∧ P' 100 18 = .ref 121 ∧ P' 102 0 = .ref 103 ∧ P' 102 1 = .ref 101 ∧ P' 102 2 = .ref 104 ∧ P' 102 3 = .ref 105 ∧ P' 108 0 = .ref 106 ∧ P' 108 1 = .ref 109 ∧ P' 108 2 = .ref 110 ∧ P' 108 3 = .ref 111 ∧ P' 112 0 = .ref 106 ∧ P' 112 1 = .ref 113 ∧ P' 112 2 = .ref 114 ∧ P' 112 3 = .ref 115) ∧ (I' 100 1 = 0 ∧ I' 100 5 = 0 ∧ I' 100 8 = 0 ∧ I' 100 10 = 0 ∧ I' 100 11 = 0 ∧ I' 100 15 = 0 ∧ I' 100 20 = 0) ∧ ((∀ k, I' 107 k = 0) ∧ (∀ k, P' 106 k = .null)) ∧ (∀ a, a < 100 → t' a = t a) ∧ (∀ a, a < 100 → I' a = I a) ∧ (∀ a, a < 100 → J' a = J a) ∧ (∀ a, a < 100 → P' a = P a) ∧ TyB t' 122) := by
  refine CA.w ?_
  show RA _ _ M1_init 0 [.ref 100] [] _ _
  refine x_aload_n d1_init_0 rfl ?_
  refine x_objInit d1_init_1 o1_3 (lw_g (lw_at lw_m1 31 rfl) rfl) (lw_g (lw_at lw_m1 32 rfl) rfl) (by decide) (by decide) ?_
  refine x_aload_n d1_init_4 rfl ?_
  refine x_sipush (v := nI 300) d1_init_5 (by decide) ?_
  refine x_newarrE (k := 1) d1_init_8 (lw_g (lw_at lw_m1 117 rfl) rfl) rfl (by decide) (by decide) (by omega) (fun t1 I1 J1 P1 ht1 hI1 hJ1 hP1 => ?_)
  have ht1_100 := ((congrFun ht1 100).trans ((p1_ne _ _ (by decide)).trans ht0))
  have ht1_101 : t1 101 = some (101, 300) := by rw [ht1]; exact p1_self _ _ _
  refine x_putPE d1_init_10 p1_9 ht1_100 (fun P2 hP2 => ?_)
  refine x_aload_n d1_init_13 rfl ?_
  refine x_newE d1_init_14 n1_13 (by decide) (by omega) (fun t3 I3 J3 P3 ht3 hI3 hJ3 hP3 => ?_)
  have ht3_100 := ((congrFun ht3 100).trans ((p1_ne _ _ (by decide)).trans ht1_100))
  have ht3_101 := ((congrFun ht3 101).trans ((p1_ne _ _ (by decide)).trans ht1_101))
  have ht3_102 : t3 102 = some (2, 0) := by rw [ht3]; exact p1_self _ _ _
  refine x_dup d1_init_17 rfl ?_
  refine x_aload_n d1_init_18 rfl ?_
  refine x_getP d1_init_19 f1_9 ht3_100 (show P3 100 0 = .ref 101 by rw [hP3, r1_row _ _ (by decide)]; rw [hP2]; exact u2_self _ _ _ _) ?_
  refine x_invI 102 1 d1_init_22 (by decide) i1_15 (h_i2 _ ht3_102 (by decide) (by decide) (by decide) (by omega)) (Cont.ev ?_) (hB := by show 103 ≤ 601124; decide) (hS := by show sl + 300 + 10 ≤ 7293033; omega)
  obtain ⟨t4, ht4⟩ : ∃ q, q = p1 (p1 (p1 t3 103 (some (3, 0))) 104 (some (102, 8))) 105 (some (100, 4)) := ⟨_, rfl⟩
  obtain ⟨I4, hI4⟩ : ∃ q, q = r1 (r1 (u2 (r1 I3 103 0) 103 8 (-1)) 104 0) 105 0 := ⟨_, rfl⟩
  obtain ⟨J4, hJ4⟩ : ∃ q, q = r1 (r1 (r1 J3 103 0) 104 0) 105 0 := ⟨_, rfl⟩
  obtain ⟨P4, hP4⟩ : ∃ q, q = u2 (u2 (r1 (u2 (r1 (u2 (thP (r1 P3 103 .null) 103) 102 0 (.ref 103)) 104 .null) 102 2 (.ref 104)) 105 .null) 102 3 (.ref 105)) 102 1 (.ref 101) := ⟨_, rfl⟩
  show RA _ _ _ _ _ _ (p1 (p1 (p1 t3 103 (some (3, 0))) 104 (some (102, 8))) 105 (some (100, 4)), r1 (r1 (u2 (r1 I3 103 0) 103 8 (-1)) 104 0) 105 0, r1 (r1 (r1 J3 103 0) 104 0) 105 0, u2 (u2 (r1 (u2 (r1 (u2 (thP (r1 P3 103 .null) 103) 102 0 (.ref 103)) 104 .null) 102 2 (.ref 104)) 105 .null) 102 3 (.ref 105)) 102 1 (.ref 101), 106, sl + 300 + 10 + 9 + 8 + 4) _
  rw [← ht4, ← hI4, ← hJ4, ← hP4]
  have ht4_100 := (congrFun ht4 100).trans ((p1_ne _ _ (by decide)).trans ((p1_ne _ _ (by decide)).trans ((p1_ne _ _ (by decide)).trans (ht3_100))))
  have ht4_101 := (congrFun ht4 101).trans ((p1_ne _ _ (by decide)).trans ((p1_ne _ _ (by decide)).trans ((p1_ne _ _ (by decide)).trans (ht3_101))))
  have ht4_102 := (congrFun ht4 102).trans ((p1_ne _ _ (by decide)).trans ((p1_ne _ _ (by decide)).trans ((p1_ne _ _ (by decide)).trans (ht3_102))))
  have ht4_103 : t4 103 = some (3, 0) := (by rw [ht4]; rfl)
  have ht4_104 : t4 104 = some (102, 8) := (by rw [ht4]; rfl)
  have ht4_105 : t4 105 = some (100, 4) := (by rw [ht4]; rfl)
  refine x_putPE d1_init_25 p1_18 ht4_100 (fun P5 hP5 => ?_)
  refine x_aload_n d1_init_28 rfl ?_
  refine x_bipush (v := nI 10) d1_init_29 (by decide) ?_
  refine x_anewarrE (k := 5) d1_init_31 (by decide) rfl (lw_g (lw_at lw_m1 151 rfl) rfl) (lw_at lw_m1 152 rfl) (by decide) (by decide) (by omega) (fun t6 I6 J6 P6 ht6 hI6 hJ6 hP6 => ?_)
  have ht6_100 := ((congrFun ht6 100).trans ((p1_ne _ _ (by decide)).trans ht4_100))
  have ht6_101 := ((congrFun ht6 101).trans ((p1_ne _ _ (by decide)).trans ht4_101))
  have ht6_102 := ((congrFun ht6 102).trans ((p1_ne _ _ (by decide)).trans ht4_102))
  have ht6_103 := ((congrFun ht6 103).trans ((p1_ne _ _ (by decide)).trans ht4_103))
  have ht6_104 := ((congrFun ht6 104).trans ((p1_ne _ _ (by decide)).trans ht4_104))
  have ht6_105 := ((congrFun ht6 105).trans ((p1_ne _ _ (by decide)).trans ht4_105))
  have ht6_106 : t6 106 = some (105, 10) := by rw [ht6]; exact p1_self _ _ _
  refine x_putPE d1_init_34 p1_24 ht6_100 (fun P7 hP7 => ?_)
  refine x_aload_n d1_init_37 rfl ?_
  refine x_bipush (v := nI 16) d1_init_38 (by decide) ?_
  refine x_newarrE (k := 0) d1_init_40 (lw_g (lw_at lw_m1 150 rfl) rfl) rfl (by decide) (by decide) (by omega) (fun t8 I8 J8 P8 ht8 hI8 hJ8 hP8 => ?_)
  have ht8_100 := ((congrFun ht8 100).trans ((p1_ne _ _ (by decide)).trans ht6_100))
  have ht8_101 := ((congrFun ht8 101).trans ((p1_ne _ _ (by decide)).trans ht6_101))
  have ht8_102 := ((congrFun ht8 102).trans ((p1_ne _ _ (by decide)).trans ht6_102))
  have ht8_103 := ((congrFun ht8 103).trans ((p1_ne _ _ (by decide)).trans ht6_103))
  have ht8_104 := ((congrFun ht8 104).trans ((p1_ne _ _ (by decide)).trans ht6_104))
  have ht8_105 := ((congrFun ht8 105).trans ((p1_ne _ _ (by decide)).trans ht6_105))
  have ht8_106 := ((congrFun ht8 106).trans ((p1_ne _ _ (by decide)).trans ht6_106))
  have ht8_107 : t8 107 = some (100, 16) := by rw [ht8]; exact p1_self _ _ _
  refine x_putPE d1_init_42 p1_28 ht8_100 (fun P9 hP9 => ?_)
  refine x_aload_n d1_init_45 rfl ?_
  refine x_newE d1_init_46 n1_32 (by decide) (by omega) (fun t10 I10 J10 P10 ht10 hI10 hJ10 hP10 => ?_)
  have ht10_100 := ((congrFun ht10 100).trans ((p1_ne _ _ (by decide)).trans ht8_100))
  have ht10_101 := ((congrFun ht10 101).trans ((p1_ne _ _ (by decide)).trans ht8_101))
  have ht10_102 := ((congrFun ht10 102).trans ((p1_ne _ _ (by decide)).trans ht8_102))
  have ht10_103 := ((congrFun ht10 103).trans ((p1_ne _ _ (by decide)).trans ht8_103))
  have ht10_104 := ((congrFun ht10 104).trans ((p1_ne _ _ (by decide)).trans ht8_104))
  have ht10_105 := ((congrFun ht10 105).trans ((p1_ne _ _ (by decide)).trans ht8_105))
  have ht10_106 := ((congrFun ht10 106).trans ((p1_ne _ _ (by decide)).trans ht8_106))
  have ht10_107 := ((congrFun ht10 107).trans ((p1_ne _ _ (by decide)).trans ht8_107))
  have ht10_108 : t10 108 = some (4, 0) := by rw [ht10]; exact p1_self _ _ _
  refine x_dup d1_init_49 rfl ?_
  refine x_aload_n d1_init_50 rfl ?_
  refine x_getP d1_init_51 f1_24 ht10_100 (show P10 100 3 = .ref 106 by rw [hP10, r1_row _ _ (by decide)]; rw [hP9, u2_ne _ _ (by decide)]; rw [hP8, r1_row _ _ (by decide)]; rw [hP7]; exact u2_self _ _ _ _) ?_
  refine x_invI 108 1 d1_init_54 (by decide) i1_34 (h_i4 _ ht10_108 (by decide) (by decide) (by decide) (by omega)) (Cont.ev ?_) (hB := by show 109 ≤ 601124; decide) (hS := by show sl + 300 + 10 + 9 + 8 + 4 + 10 + 16 + 6 ≤ 7293033; omega)
  obtain ⟨t11, ht11⟩ : ∃ q, q = p1 (p1 (p1 t10 109 (some (100, 10))) 110 (some (100, 90))) 111 (some (100, 16)) := ⟨_, rfl⟩
  obtain ⟨I11, hI11⟩ : ∃ q, q = r1 (r1 (r1 I10 109 0) 110 0) 111 0 := ⟨_, rfl⟩
  obtain ⟨J11, hJ11⟩ : ∃ q, q = r1 (r1 (r1 J10 109 0) 110 0) 111 0 := ⟨_, rfl⟩
  obtain ⟨P11, hP11⟩ : ∃ q, q = u2 (u2 (r1 (u2 (r1 (u2 (r1 P10 109 .null) 108 1 (.ref 109)) 110 .null) 108 2 (.ref 110)) 111 .null) 108 3 (.ref 111)) 108 0 (.ref 106) := ⟨_, rfl⟩
  show RA _ _ _ _ _ _ (p1 (p1 (p1 t10 109 (some (100, 10))) 110 (some (100, 90))) 111 (some (100, 16)), r1 (r1 (r1 I10 109 0) 110 0) 111 0, r1 (r1 (r1 J10 109 0) 110 0) 111 0, u2 (u2 (r1 (u2 (r1 (u2 (r1 P10 109 .null) 108 1 (.ref 109)) 110 .null) 108 2 (.ref 110)) 111 .null) 108 3 (.ref 111)) 108 0 (.ref 106), 112, sl + 300 + 10 + 9 + 8 + 4 + 10 + 16 + 6 + 10 + 90 + 16) _
  rw [← ht11, ← hI11, ← hJ11, ← hP11]
  have ht11_100 := (congrFun ht11 100).trans ((p1_ne _ _ (by decide)).trans ((p1_ne _ _ (by decide)).trans ((p1_ne _ _ (by decide)).trans (ht10_100))))
  have ht11_101 := (congrFun ht11 101).trans ((p1_ne _ _ (by decide)).trans ((p1_ne _ _ (by decide)).trans ((p1_ne _ _ (by decide)).trans (ht10_101))))
  have ht11_102 := (congrFun ht11 102).trans ((p1_ne _ _ (by decide)).trans ((p1_ne _ _ (by decide)).trans ((p1_ne _ _ (by decide)).trans (ht10_102))))
  have ht11_103 := (congrFun ht11 103).trans ((p1_ne _ _ (by decide)).trans ((p1_ne _ _ (by decide)).trans ((p1_ne _ _ (by decide)).trans (ht10_103))))
  have ht11_104 := (congrFun ht11 104).trans ((p1_ne _ _ (by decide)).trans ((p1_ne _ _ (by decide)).trans ((p1_ne _ _ (by decide)).trans (ht10_104))))
  have ht11_105 := (congrFun ht11 105).trans ((p1_ne _ _ (by decide)).trans ((p1_ne _ _ (by decide)).trans ((p1_ne _ _ (by decide)).trans (ht10_105))))
  have ht11_106 := (congrFun ht11 106).trans ((p1_ne _ _ (by decide)).trans ((p1_ne _ _ (by decide)).trans ((p1_ne _ _ (by decide)).trans (ht10_106))))
  have ht11_107 := (congrFun ht11 107).trans ((p1_ne _ _ (by decide)).trans ((p1_ne _ _ (by decide)).trans ((p1_ne _ _ (by decide)).trans (ht10_107))))
  have ht11_108 := (congrFun ht11 108).trans ((p1_ne _ _ (by decide)).trans ((p1_ne _ _ (by decide)).trans ((p1_ne _ _ (by decide)).trans (ht10_108))))
  have ht11_109 : t11 109 = some (100, 10) := (by rw [ht11]; rfl)
  have ht11_110 : t11 110 = some (100, 90) := (by rw [ht11]; rfl)
  have ht11_111 : t11 111 = some (100, 16) := (by rw [ht11]; rfl)
  refine x_putPE d1_init_57 p1_37 ht11_100 (fun P12 hP12 => ?_)
  refine x_aload_n d1_init_60 rfl ?_
  refine x_newE d1_init_61 n1_32 (by decide) (by omega) (fun t13 I13 J13 P13 ht13 hI13 hJ13 hP13 => ?_)
  have ht13_100 := ((congrFun ht13 100).trans ((p1_ne _ _ (by decide)).trans ht11_100))
  have ht13_101 := ((congrFun ht13 101).trans ((p1_ne _ _ (by decide)).trans ht11_101))
  have ht13_102 := ((congrFun ht13 102).trans ((p1_ne _ _ (by decide)).trans ht11_102))
  have ht13_103 := ((congrFun ht13 103).trans ((p1_ne _ _ (by decide)).trans ht11_103))
  have ht13_104 := ((congrFun ht13 104).trans ((p1_ne _ _ (by decide)).trans ht11_104))
  have ht13_105 := ((congrFun ht13 105).trans ((p1_ne _ _ (by decide)).trans ht11_105))
  have ht13_106 := ((congrFun ht13 106).trans ((p1_ne _ _ (by decide)).trans ht11_106))
  have ht13_107 := ((congrFun ht13 107).trans ((p1_ne _ _ (by decide)).trans ht11_107))
  have ht13_108 := ((congrFun ht13 108).trans ((p1_ne _ _ (by decide)).trans ht11_108))
  have ht13_109 := ((congrFun ht13 109).trans ((p1_ne _ _ (by decide)).trans ht11_109))
  have ht13_110 := ((congrFun ht13 110).trans ((p1_ne _ _ (by decide)).trans ht11_110))
  have ht13_111 := ((congrFun ht13 111).trans ((p1_ne _ _ (by decide)).trans ht11_111))
  have ht13_112 : t13 112 = some (4, 0) := by rw [ht13]; exact p1_self _ _ _
  refine x_dup d1_init_64 rfl ?_
  refine x_aload_n d1_init_65 rfl ?_
  refine x_getP d1_init_66 f1_24 ht13_100 (show P13 100 3 = .ref 106 by rw [hP13, r1_row _ _ (by decide)]; rw [hP12, u2_ne _ _ (by decide)]; rw [hP11]; show P10 100 3 = _; rw [hP10, r1_row _ _ (by decide)]; rw [hP9, u2_ne _ _ (by decide)]; rw [hP8, r1_row _ _ (by decide)]; rw [hP7]; exact u2_self _ _ _ _) ?_
  refine x_invI 112 1 d1_init_69 (by decide) i1_34 (h_i4 _ ht13_112 (by decide) (by decide) (by decide) (by omega)) (Cont.ev ?_) (hB := by show 113 ≤ 601124; decide) (hS := by show sl + 300 + 10 + 9 + 8 + 4 + 10 + 16 + 6 + 10 + 90 + 16 + 6 ≤ 7293033; omega)
  obtain ⟨t14, ht14⟩ : ∃ q, q = p1 (p1 (p1 t13 113 (some (100, 10))) 114 (some (100, 90))) 115 (some (100, 16)) := ⟨_, rfl⟩
  obtain ⟨I14, hI14⟩ : ∃ q, q = r1 (r1 (r1 I13 113 0) 114 0) 115 0 := ⟨_, rfl⟩
  obtain ⟨J14, hJ14⟩ : ∃ q, q = r1 (r1 (r1 J13 113 0) 114 0) 115 0 := ⟨_, rfl⟩
  obtain ⟨P14, hP14⟩ : ∃ q, q = u2 (u2 (r1 (u2 (r1 (u2 (r1 P13 113 .null) 112 1 (.ref 113)) 114 .null) 112 2 (.ref 114)) 115 .null) 112 3 (.ref 115)) 112 0 (.ref 106) := ⟨_, rfl⟩
  show RA _ _ _ _ _ _ (p1 (p1 (p1 t13 113 (some (100, 10))) 114 (some (100, 90))) 115 (some (100, 16)), r1 (r1 (r1 I13 113 0) 114 0) 115 0, r1 (r1 (r1 J13 113 0) 114 0) 115 0, u2 (u2 (r1 (u2 (r1 (u2 (r1 P13 113 .null) 112 1 (.ref 113)) 114 .null) 112 2 (.ref 114)) 115 .null) 112 3 (.ref 115)) 112 0 (.ref 106), 116, sl + 300 + 10 + 9 + 8 + 4 + 10 + 16 + 6 + 10 + 90 + 16 + 6 + 10 + 90 + 16) _
  rw [← ht14, ← hI14, ← hJ14, ← hP14]
  have ht14_100 := (congrFun ht14 100).trans ((p1_ne _ _ (by decide)).trans ((p1_ne _ _ (by decide)).trans ((p1_ne _ _ (by decide)).trans (ht13_100))))
  have ht14_101 := (congrFun ht14 101).trans ((p1_ne _ _ (by decide)).trans ((p1_ne _ _ (by decide)).trans ((p1_ne _ _ (by decide)).trans (ht13_101))))
  have ht14_102 := (congrFun ht14 102).trans ((p1_ne _ _ (by decide)).trans ((p1_ne _ _ (by decide)).trans ((p1_ne _ _ (by decide)).trans (ht13_102))))
  have ht14_103 := (congrFun ht14 103).trans ((p1_ne _ _ (by decide)).trans ((p1_ne _ _ (by decide)).trans ((p1_ne _ _ (by decide)).trans (ht13_103))))
  have ht14_104 := (congrFun ht14 104).trans ((p1_ne _ _ (by decide)).trans ((p1_ne _ _ (by decide)).trans ((p1_ne _ _ (by decide)).trans (ht13_104))))
  have ht14_105 := (congrFun ht14 105).trans ((p1_ne _ _ (by decide)).trans ((p1_ne _ _ (by decide)).trans ((p1_ne _ _ (by decide)).trans (ht13_105))))
  have ht14_106 := (congrFun ht14 106).trans ((p1_ne _ _ (by decide)).trans ((p1_ne _ _ (by decide)).trans ((p1_ne _ _ (by decide)).trans (ht13_106))))
  have ht14_107 := (congrFun ht14 107).trans ((p1_ne _ _ (by decide)).trans ((p1_ne _ _ (by decide)).trans ((p1_ne _ _ (by decide)).trans (ht13_107))))
  have ht14_108 := (congrFun ht14 108).trans ((p1_ne _ _ (by decide)).trans ((p1_ne _ _ (by decide)).trans ((p1_ne _ _ (by decide)).trans (ht13_108))))
  have ht14_109 := (congrFun ht14 109).trans ((p1_ne _ _ (by decide)).trans ((p1_ne _ _ (by decide)).trans ((p1_ne _ _ (by decide)).trans (ht13_109))))
  have ht14_110 := (congrFun ht14 110).trans ((p1_ne _ _ (by decide)).trans ((p1_ne _ _ (by decide)).trans ((p1_ne _ _ (by decide)).trans (ht13_110))))
  have ht14_111 := (congrFun ht14 111).trans ((p1_ne _ _ (by decide)).trans ((p1_ne _ _ (by decide)).trans ((p1_ne _ _ (by decide)).trans (ht13_111))))
  have ht14_112 := (congrFun ht14 112).trans ((p1_ne _ _ (by decide)).trans ((p1_ne _ _ (by decide)).trans ((p1_ne _ _ (by decide)).trans (ht13_112))))
  have ht14_113 : t14 113 = some (100, 10) := (by rw [ht14]; rfl)
  have ht14_114 : t14 114 = some (100, 90) := (by rw [ht14]; rfl)
  have ht14_115 : t14 115 = some (100, 16) := (by rw [ht14]; rfl)
  refine x_putPE d1_init_72 p1_41 ht14_100 (fun P15 hP15 => ?_)
  refine x_aload_n d1_init_75 rfl ?_
  refine x_newE d1_init_76 n1_44 (by decide) (by omega) (fun t16 I16 J16 P16 ht16 hI16 hJ16 hP16 => ?_)
  have ht16_100 := ((congrFun ht16 100).trans ((p1_ne _ _ (by decide)).trans ht14_100))
  have ht16_101 := ((congrFun ht16 101).trans ((p1_ne _ _ (by decide)).trans ht14_101))
  have ht16_102 := ((congrFun ht16 102).trans ((p1_ne _ _ (by decide)).trans ht14_102))
  have ht16_103 := ((congrFun ht16 103).trans ((p1_ne _ _ (by decide)).trans ht14_103))
  have ht16_104 := ((congrFun ht16 104).trans ((p1_ne _ _ (by decide)).trans ht14_104))
  have ht16_105 := ((congrFun ht16 105).trans ((p1_ne _ _ (by decide)).trans ht14_105))
  have ht16_106 := ((congrFun ht16 106).trans ((p1_ne _ _ (by decide)).trans ht14_106))
  have ht16_107 := ((congrFun ht16 107).trans ((p1_ne _ _ (by decide)).trans ht14_107))
  have ht16_108 := ((congrFun ht16 108).trans ((p1_ne _ _ (by decide)).trans ht14_108))
  have ht16_109 := ((congrFun ht16 109).trans ((p1_ne _ _ (by decide)).trans ht14_109))
  have ht16_110 := ((congrFun ht16 110).trans ((p1_ne _ _ (by decide)).trans ht14_110))
  have ht16_111 := ((congrFun ht16 111).trans ((p1_ne _ _ (by decide)).trans ht14_111))
  have ht16_112 := ((congrFun ht16 112).trans ((p1_ne _ _ (by decide)).trans ht14_112))
  have ht16_113 := ((congrFun ht16 113).trans ((p1_ne _ _ (by decide)).trans ht14_113))
  have ht16_114 := ((congrFun ht16 114).trans ((p1_ne _ _ (by decide)).trans ht14_114))
  have ht16_115 := ((congrFun ht16 115).trans ((p1_ne _ _ (by decide)).trans ht14_115))
  have ht16_116 : t16 116 = some (3, 0) := by rw [ht16]; exact p1_self _ _ _
  refine x_dup d1_init_79 rfl ?_
  refine x_invI 116 0 d1_init_80 (by decide) i1_46 (h_i3 _ ht16_116 (by decide) (by decide) (by omega)) (Cont.ev ?_) (hB := by show 117 ≤ 601124; decide) (hS := by show sl + 300 + 10 + 9 + 8 + 4 + 10 + 16 + 6 + 10 + 90 + 16 + 6 + 10 + 90 + 16 + 9 ≤ 7293033; omega)
  obtain ⟨t17, ht17⟩ : ∃ q, q = t16 := ⟨_, rfl⟩
  obtain ⟨I17, hI17⟩ : ∃ q, q = u2 I16 116 8 (-1) := ⟨_, rfl⟩
  obtain ⟨J17, hJ17⟩ : ∃ q, q = J16 := ⟨_, rfl⟩
  obtain ⟨P17, hP17⟩ : ∃ q, q = thP P16 116 := ⟨_, rfl⟩
  show RA _ _ _ _ _ _ (t16, u2 I16 116 8 (-1), J16, thP P16 116, 117, sl + 300 + 10 + 9 + 8 + 4 + 10 + 16 + 6 + 10 + 90 + 16 + 6 + 10 + 90 + 16 + 9) _
  rw [← ht17, ← hI17, ← hJ17, ← hP17]
  have ht17_100 := (congrFun ht17 100).trans ht16_100
  have ht17_101 := (congrFun ht17 101).trans ht16_101
  have ht17_102 := (congrFun ht17 102).trans ht16_102
  have ht17_103 := (congrFun ht17 103).trans ht16_103
  have ht17_104 := (congrFun ht17 104).trans ht16_104
  have ht17_105 := (congrFun ht17 105).trans ht16_105
  have ht17_106 := (congrFun ht17 106).trans ht16_106
  have ht17_107 := (congrFun ht17 107).trans ht16_107
  have ht17_108 := (congrFun ht17 108).trans ht16_108
  have ht17_109 := (congrFun ht17 109).trans ht16_109
  have ht17_110 := (congrFun ht17 110).trans ht16_110
  have ht17_111 := (congrFun ht17 111).trans ht16_111
  have ht17_112 := (congrFun ht17 112).trans ht16_112
  have ht17_113 := (congrFun ht17 113).trans ht16_113
  have ht17_114 := (congrFun ht17 114).trans ht16_114
  have ht17_115 := (congrFun ht17 115).trans ht16_115
  have ht17_116 := (congrFun ht17 116).trans ht16_116
  refine x_putPE d1_init_83 p1_47 ht17_100 (fun P18 hP18 => ?_)
  refine x_aload_n d1_init_86 rfl ?_
  refine x_iconst (v := -1) d1_init_87 (by decide) ?_
  refine x_putIE d1_init_88 p1_51 ht17_100 (fun I19 hI19 => ?_)
  refine x_aload_n d1_init_91 rfl ?_
  refine x_bipush (v := nI 90) d1_init_92 (by decide) ?_
  refine x_newarrE (k := 0) d1_init_94 (lw_g (lw_at lw_m1 150 rfl) rfl) rfl (by decide) (by decide) (by omega) (fun t20 I20 J20 P20 ht20 hI20 hJ20 hP20 => ?_)
  have ht20_100 := ((congrFun ht20 100).trans ((p1_ne _ _ (by decide)).trans ht17_100))
  have ht20_101 := ((congrFun ht20 101).trans ((p1_ne _ _ (by decide)).trans ht17_101))
  have ht20_102 := ((congrFun ht20 102).trans ((p1_ne _ _ (by decide)).trans ht17_102))
  have ht20_103 := ((congrFun ht20 103).trans ((p1_ne _ _ (by decide)).trans ht17_103))
  have ht20_104 := ((congrFun ht20 104).trans ((p1_ne _ _ (by decide)).trans ht17_104))
  have ht20_105 := ((congrFun ht20 105).trans ((p1_ne _ _ (by decide)).trans ht17_105))
  have ht20_106 := ((congrFun ht20 106).trans ((p1_ne _ _ (by decide)).trans ht17_106))
  have ht20_107 := ((congrFun ht20 107).trans ((p1_ne _ _ (by decide)).trans ht17_107))
  have ht20_108 := ((congrFun ht20 108).trans ((p1_ne _ _ (by decide)).trans ht17_108))
  have ht20_109 := ((congrFun ht20 109).trans ((p1_ne _ _ (by decide)).trans ht17_109))
  have ht20_110 := ((congrFun ht20 110).trans ((p1_ne _ _ (by decide)).trans ht17_110))
  have ht20_111 := ((congrFun ht20 111).trans ((p1_ne _ _ (by decide)).trans ht17_111))
  have ht20_112 := ((congrFun ht20 112).trans ((p1_ne _ _ (by decide)).trans ht17_112))
  have ht20_113 := ((congrFun ht20 113).trans ((p1_ne _ _ (by decide)).trans ht17_113))
  have ht20_114 := ((congrFun ht20 114).trans ((p1_ne _ _ (by decide)).trans ht17_114))
  have ht20_115 := ((congrFun ht20 115).trans ((p1_ne _ _ (by decide)).trans ht17_115))
  have ht20_116 := ((congrFun ht20 116).trans ((p1_ne _ _ (by decide)).trans ht17_116))
  have ht20_117 : t20 117 = some (100, 90) := by rw [ht20]; exact p1_self _ _ _
  refine x_putPE d1_init_96 p1_55 ht20_100 (fun P21 hP21 => ?_)
  refine x_aload_n d1_init_99 rfl ?_
  refine x_bipush (v := nI 92) d1_init_100 (by decide) ?_
  refine x_newarrE (k := 0) d1_init_102 (lw_g (lw_at lw_m1 150 rfl) rfl) rfl (by decide) (by decide) (by omega) (fun t22 I22 J22 P22 ht22 hI22 hJ22 hP22 => ?_)
  have ht22_100 := ((congrFun ht22 100).trans ((p1_ne _ _ (by decide)).trans ht20_100))
  have ht22_101 := ((congrFun ht22 101).trans ((p1_ne _ _ (by decide)).trans ht20_101))
  have ht22_102 := ((congrFun ht22 102).trans ((p1_ne _ _ (by decide)).trans ht20_102))
  have ht22_103 := ((congrFun ht22 103).trans ((p1_ne _ _ (by decide)).trans ht20_103))
  have ht22_104 := ((congrFun ht22 104).trans ((p1_ne _ _ (by decide)).trans ht20_104))
  have ht22_105 := ((congrFun ht22 105).trans ((p1_ne _ _ (by decide)).trans ht20_105))
  have ht22_106 := ((congrFun ht22 106).trans ((p1_ne _ _ (by decide)).trans ht20_106))
  have ht22_107 := ((congrFun ht22 107).trans ((p1_ne _ _ (by decide)).trans ht20_107))
  have ht22_108 := ((congrFun ht22 108).trans ((p1_ne _ _ (by decide)).trans ht20_108))
  have ht22_109 := ((congrFun ht22 109).trans ((p1_ne _ _ (by decide)).trans ht20_109))
  have ht22_110 := ((congrFun ht22 110).trans ((p1_ne _ _ (by decide)).trans ht20_110))
  have ht22_111 := ((congrFun ht22 111).trans ((p1_ne _ _ (by decide)).trans ht20_111))
  have ht22_112 := ((congrFun ht22 112).trans ((p1_ne _ _ (by decide)).trans ht20_112))
  have ht22_113 := ((congrFun ht22 113).trans ((p1_ne _ _ (by decide)).trans ht20_113))
  have ht22_114 := ((congrFun ht22 114).trans ((p1_ne _ _ (by decide)).trans ht20_114))
  have ht22_115 := ((congrFun ht22 115).trans ((p1_ne _ _ (by decide)).trans ht20_115))
  have ht22_116 := ((congrFun ht22 116).trans ((p1_ne _ _ (by decide)).trans ht20_116))
  have ht22_117 := ((congrFun ht22 117).trans ((p1_ne _ _ (by decide)).trans ht20_117))
  have ht22_118 : t22 118 = some (100, 92) := by rw [ht22]; exact p1_self _ _ _
  refine x_putPE d1_init_104 p1_58 ht22_100 (fun P23 hP23 => ?_)
  refine x_aload_n d1_init_107 rfl ?_
  refine x_bipush (v := nI 10) d1_init_108 (by decide) ?_
  refine x_newarrE (k := 0) d1_init_110 (lw_g (lw_at lw_m1 150 rfl) rfl) rfl (by decide) (by decide) (by omega) (fun t24 I24 J24 P24 ht24 hI24 hJ24 hP24 => ?_)
  have ht24_100 := ((congrFun ht24 100).trans ((p1_ne _ _ (by decide)).trans ht22_100))
  have ht24_101 := ((congrFun ht24 101).trans ((p1_ne _ _ (by decide)).trans ht22_101))
  have ht24_102 := ((congrFun ht24 102).trans ((p1_ne _ _ (by decide)).trans ht22_102))
  have ht24_103 := ((congrFun ht24 103).trans ((p1_ne _ _ (by decide)).trans ht22_103))
  have ht24_104 := ((congrFun ht24 104).trans ((p1_ne _ _ (by decide)).trans ht22_104))
  have ht24_105 := ((congrFun ht24 105).trans ((p1_ne _ _ (by decide)).trans ht22_105))
  have ht24_106 := ((congrFun ht24 106).trans ((p1_ne _ _ (by decide)).trans ht22_106))
  have ht24_107 := ((congrFun ht24 107).trans ((p1_ne _ _ (by decide)).trans ht22_107))
  have ht24_108 := ((congrFun ht24 108).trans ((p1_ne _ _ (by decide)).trans ht22_108))
  have ht24_109 := ((congrFun ht24 109).trans ((p1_ne _ _ (by decide)).trans ht22_109))
  have ht24_110 := ((congrFun ht24 110).trans ((p1_ne _ _ (by decide)).trans ht22_110))
  have ht24_111 := ((congrFun ht24 111).trans ((p1_ne _ _ (by decide)).trans ht22_111))
  have ht24_112 := ((congrFun ht24 112).trans ((p1_ne _ _ (by decide)).trans ht22_112))
  have ht24_113 := ((congrFun ht24 113).trans ((p1_ne _ _ (by decide)).trans ht22_113))
  have ht24_114 := ((congrFun ht24 114).trans ((p1_ne _ _ (by decide)).trans ht22_114))
  have ht24_115 := ((congrFun ht24 115).trans ((p1_ne _ _ (by decide)).trans ht22_115))
  have ht24_116 := ((congrFun ht24 116).trans ((p1_ne _ _ (by decide)).trans ht22_116))
  have ht24_117 := ((congrFun ht24 117).trans ((p1_ne _ _ (by decide)).trans ht22_117))
  have ht24_118 := ((congrFun ht24 118).trans ((p1_ne _ _ (by decide)).trans ht22_118))
  have ht24_119 : t24 119 = some (100, 10) := by rw [ht24]; exact p1_self _ _ _
  refine x_putPE d1_init_112 p1_61 ht24_100 (fun P25 hP25 => ?_)
  refine x_aload_n d1_init_115 rfl ?_
  refine x_bipush (v := nI 10) d1_init_116 (by decide) ?_
  refine x_newarrE (k := 0) d1_init_118 (lw_g (lw_at lw_m1 150 rfl) rfl) rfl (by decide) (by decide) (by omega) (fun t26 I26 J26 P26 ht26 hI26 hJ26 hP26 => ?_)
  have ht26_100 := ((congrFun ht26 100).trans ((p1_ne _ _ (by decide)).trans ht24_100))
  have ht26_101 := ((congrFun ht26 101).trans ((p1_ne _ _ (by decide)).trans ht24_101))
  have ht26_102 := ((congrFun ht26 102).trans ((p1_ne _ _ (by decide)).trans ht24_102))
  have ht26_103 := ((congrFun ht26 103).trans ((p1_ne _ _ (by decide)).trans ht24_103))
  have ht26_104 := ((congrFun ht26 104).trans ((p1_ne _ _ (by decide)).trans ht24_104))
  have ht26_105 := ((congrFun ht26 105).trans ((p1_ne _ _ (by decide)).trans ht24_105))
  have ht26_106 := ((congrFun ht26 106).trans ((p1_ne _ _ (by decide)).trans ht24_106))
  have ht26_107 := ((congrFun ht26 107).trans ((p1_ne _ _ (by decide)).trans ht24_107))
  have ht26_108 := ((congrFun ht26 108).trans ((p1_ne _ _ (by decide)).trans ht24_108))
  have ht26_109 := ((congrFun ht26 109).trans ((p1_ne _ _ (by decide)).trans ht24_109))
  have ht26_110 := ((congrFun ht26 110).trans ((p1_ne _ _ (by decide)).trans ht24_110))
  have ht26_111 := ((congrFun ht26 111).trans ((p1_ne _ _ (by decide)).trans ht24_111))
  have ht26_112 := ((congrFun ht26 112).trans ((p1_ne _ _ (by decide)).trans ht24_112))
  have ht26_113 := ((congrFun ht26 113).trans ((p1_ne _ _ (by decide)).trans ht24_113))
  have ht26_114 := ((congrFun ht26 114).trans ((p1_ne _ _ (by decide)).trans ht24_114))
  have ht26_115 := ((congrFun ht26 115).trans ((p1_ne _ _ (by decide)).trans ht24_115))
  have ht26_116 := ((congrFun ht26 116).trans ((p1_ne _ _ (by decide)).trans ht24_116))
  have ht26_117 := ((congrFun ht26 117).trans ((p1_ne _ _ (by decide)).trans ht24_117))
  have ht26_118 := ((congrFun ht26 118).trans ((p1_ne _ _ (by decide)).trans ht24_118))
  have ht26_119 := ((congrFun ht26 119).trans ((p1_ne _ _ (by decide)).trans ht24_119))
  have ht26_120 : t26 120 = some (100, 10) := by rw [ht26]; exact p1_self _ _ _
  refine x_putPE d1_init_120 p1_64 ht26_100 (fun P27 hP27 => ?_)
  refine x_aload_n d1_init_123 rfl ?_
  refine x_bipush (v := nI 10) d1_init_124 (by decide) ?_
  refine x_newarrE (k := 0) d1_init_126 (lw_g (lw_at lw_m1 150 rfl) rfl) rfl (by decide) (by decide) (by omega) (fun t28 I28 J28 P28 ht28 hI28 hJ28 hP28 => ?_)
  have ht28_100 := ((congrFun ht28 100).trans ((p1_ne _ _ (by decide)).trans ht26_100))
  have ht28_101 := ((congrFun ht28 101).trans ((p1_ne _ _ (by decide)).trans ht26_101))
  have ht28_102 := ((congrFun ht28 102).trans ((p1_ne _ _ (by decide)).trans ht26_102))
  have ht28_103 := ((congrFun ht28 103).trans ((p1_ne _ _ (by decide)).trans ht26_103))
  have ht28_104 := ((congrFun ht28 104).trans ((p1_ne _ _ (by decide)).trans ht26_104))
  have ht28_105 := ((congrFun ht28 105).trans ((p1_ne _ _ (by decide)).trans ht26_105))
  have ht28_106 := ((congrFun ht28 106).trans ((p1_ne _ _ (by decide)).trans ht26_106))
  have ht28_107 := ((congrFun ht28 107).trans ((p1_ne _ _ (by decide)).trans ht26_107))
  have ht28_108 := ((congrFun ht28 108).trans ((p1_ne _ _ (by decide)).trans ht26_108))
  have ht28_109 := ((congrFun ht28 109).trans ((p1_ne _ _ (by decide)).trans ht26_109))
  have ht28_110 := ((congrFun ht28 110).trans ((p1_ne _ _ (by decide)).trans ht26_110))
  have ht28_111 := ((congrFun ht28 111).trans ((p1_ne _ _ (by decide)).trans ht26_111))
  have ht28_112 := ((congrFun ht28 112).trans ((p1_ne _ _ (by decide)).trans ht26_112))
  have ht28_113 := ((congrFun ht28 113).trans ((p1_ne _ _ (by decide)).trans ht26_113))
  have ht28_114 := ((congrFun ht28 114).trans ((p1_ne _ _ (by decide)).trans ht26_114))
  have ht28_115 := ((congrFun ht28 115).trans ((p1_ne _ _ (by decide)).trans ht26_115))
  have ht28_116 := ((congrFun ht28 116).trans ((p1_ne _ _ (by decide)).trans ht26_116))
  have ht28_117 := ((congrFun ht28 117).trans ((p1_ne _ _ (by decide)).trans ht26_117))
  have ht28_118 := ((congrFun ht28 118).trans ((p1_ne _ _ (by decide)).trans ht26_118))
  have ht28_119 := ((congrFun ht28 119).trans ((p1_ne _ _ (by decide)).trans ht26_119))
  have ht28_120 := ((congrFun ht28 120).trans ((p1_ne _ _ (by decide)).trans ht26_120))
  have ht28_121 : t28 121 = some (100, 10) := by rw [ht28]; exact p1_self _ _ _
  refine x_putPE d1_init_128 p1_67 ht28_100 (fun P29 hP29 => ?_)
  refine x_return d1_init_131 ?_
  subst hP29
  subst ht28
  subst hJ28
  subst hI28
  subst hP28
  subst hP27
  subst ht26
  subst hJ26
  subst hI26
  subst hP26
  subst hP25
  subst ht24
  subst hJ24
  subst hI24
  subst hP24
  subst hP23
  subst ht22
  subst hJ22
  subst hI22
  subst hP22
  subst hP21
  subst ht20
  subst hJ20
  subst hI20
  subst hP20
  subst hI19
  subst hP18
  subst ht17
  subst hJ17
  subst hI17
  subst hP17
  subst ht16
  subst hJ16
  subst hI16
  subst hP16
  subst hP15
  subst ht14
  subst hJ14
  subst hI14
  subst hP14
  subst ht13
  subst hJ13
  subst hI13
  subst hP13
  subst hP12
  subst ht11
  subst hJ11
  subst hI11
  subst hP11
  subst ht10
  subst hJ10
  subst hI10
  subst hP10
  subst hP9
  subst ht8
  subst hJ8
  subst hI8
  subst hP8
  subst hP7
  subst ht6
  subst hJ6
  subst hI6
  subst hP6
  subst hP5
  subst ht4
  subst hJ4
  subst hI4
  subst hP4
  subst ht3
  subst hJ3
  subst hI3
  subst hP3
  subst hP2
  subst ht1
  subst hJ1
  subst hI1
  subst hP1
  refine ⟨rfl, _, _, _, _, rfl, ?_, ?_, ?_, ?_, ?_, ?_, ?_, ?_, ?_⟩
  · exact ⟨ht0, rfl, rfl, rfl, rfl, rfl, rfl, rfl, rfl, rfl, rfl, rfl, rfl, rfl, rfl, rfl, rfl, rfl, rfl, rfl, rfl, rfl⟩
  · exact ⟨rfl, rfl, rfl, rfl, rfl, rfl, rfl, rfl, rfl, rfl, rfl, rfl, rfl, rfl, rfl, rfl, rfl, rfl, rfl, rfl, rfl, rfl, rfl, rfl⟩
  · exact ⟨hI0 1, hI0 5, hI0 8, hI0 10, hI0 11, hI0 15, hI0 20⟩
  · exact ⟨fun _ => rfl, fun _ => rfl⟩
  · intro a ha; repeat rw [p1_ne _ _ (by omega)]
  · intro a ha; repeat (first | rw [u2_row _ _ _ (by omega)] | rw [r1_row _ _ (by omega)] | rw [thP_ne _ (by omega)])
  · intro a ha; repeat (first | rw [u2_row _ _ _ (by omega)] | rw [r1_row _ _ (by omega)] | rw [thP_ne _ (by omega)])
  · intro a ha; repeat (first | rw [u2_row _ _ _ (by omega)] | rw [r1_row _ _ (by omega)] | rw [thP_ne _ (by omega)])
  · exact (TyB.new (TyB.new (TyB.new (TyB.new (TyB.new (TyB.new (TyB.new (TyB.new (TyB.new (TyB.new (TyB.new (TyB.new (TyB.new (TyB.new (TyB.new (TyB.new (TyB.new (TyB.new (TyB.new (TyB.new (TyB.new hT rfl) rfl) rfl) rfl) rfl) rfl) rfl) rfl) rfl) rfl) rfl) rfl) rfl) rfl) rfl) rfl) rfl) rfl) rfl) rfl) rfl)
set_option maxHeartbeats 16000000 in
theorem h_i5 {G : GG} (d : Nat) {t : Nat → Option (Nat × Nat)} {J : Nat → Nat → Int64} {P : Nat → Nat → Value} {sl : Nat} {I : Nat → Nat → Int32} (ht0 : t 122 = some (5, 0)) (hI0 : ∀ k, I 122 k = 0) (hT : TyB t 123) (hSl : sl + 1816 ≤ 7293033) : CA G (d + 6) M5_init [.ref 122] (t, I, J, P, 123, sl) (fun o h' => o = .inl none ∧ ∃ t' I' J' P', h' = (t', I', J', P', 143, sl + 1816) ∧ (t' 122 = some (5, 0) ∧ t' 123 = some (100, 10) ∧ t' 124 = some (100, 11) ∧ t' 125 = some (100, 16) ∧ t' 126 = some (100, 132) ∧ t' 127 = some (100, 132) ∧ t' 128 = some (100, 132) ∧ t' 129 = some (100, 132) ∧ t' 130 = some (100, 528) ∧ t' 131 = some (6, 0) ∧ t' 132 = some (101, 300) ∧ t' 133 = some (100, 80) ∧ t' 134 = some (100, 80) ∧ t' 135 = some (100, 10) ∧ t' 136 = some (100, 16) ∧ t' 137 = some (103, 10) ∧ t' 138 = some (100, 91) ∧ t' 139 = some (100, 92) ∧ t' 140 = some (100, 10) ∧ t' 141 = some (100, 10) ∧ t' 142 = some (100, 16)) ∧ (P' 122 5 = .ref 123 ∧ P' 122 6 = .ref 124 ∧ P' 122 7 = .ref 125 ∧ P' 122 8 = .ref 126 ∧ P' 122 9 = .ref 127 ∧ P' 122 10 = .ref 128 ∧ P' 122 11 = .ref 129 ∧ P' 122 12 = .ref 130 ∧ P' 122 13 = .ref 131 ∧ P' 122 14 = .ref 132 ∧ P' 122 23 = .ref 133 ∧ P' 122 24 = .ref 134 ∧ P' 122 25 = .ref 135 ∧ P' 122 26 = .ref 136 ∧ P' 122 27 = .ref 137 ∧ P' 122 28 = .ref 138 ∧ P' 122 29 = .ref 139 ∧ P' 122 31 = .ref 140 ∧ P' 122 32 = .ref 141 ∧ P' 122 33 = .ref 142) ∧ (I' 122 0 = 0 ∧ I' 122 1 = 0 ∧ I' 122 3 = 0 ∧ I' 122 4 = 0 ∧ I' 122 15 = 0 ∧ I' 122 30 = 0 ∧ I' 122 34 = 0 ∧ I' 122 2 = -1) ∧ ((∀ k, I' 125 k = 0)) ∧ (∀ a, a < 122 → t' a = t a) ∧ (∀ a, a < 122 → I' a = I a) ∧ (∀ a, a < 122 → J' a = J a) ∧ (∀ a, a < 122 → P' a = P a) ∧ TyB t' 143) := by
  refine CA.w ?_
  show RA _ _ M5_init 0 [.ref 122] [] _ _
  refine x_aload_n d5_init_0 rfl ?_
  refine x_objInit d5_init_1 o5_3 (lw_g (lw_at lw_m1 31 rfl) rfl) (lw_g (lw_at lw_m1 32 rfl) rfl) (by decide) (by decide) ?_
  refine x_aload_n d5_init_4 rfl ?_
  refine x_iconst (v := -1) d5_init_5 (by decide) ?_
  refine x_putIE d5_init_6 p5_9 ht0 (fun I1 hI1 => ?_)
  refine x_aload_n d5_init_9 rfl ?_
  refine x_bipush (v := nI 10) d5_init_10 (by decide) ?_
  refine x_newarrE (k := 0) d5_init_12 (lw_g (lw_at lw_m1 150 rfl) rfl) rfl (by decide) (by decide) (by omega) (fun t2 I2 J2 P2 ht2 hI2 hJ2 hP2 => ?_)
  have ht2_122 := ((congrFun ht2 122).trans ((p1_ne _ _ (by decide)).trans ht0))
  have ht2_123 : t2 123 = some (100, 10) := by rw [ht2]; exact p1_self _ _ _
  refine x_putPE d5_init_14 p5_13 ht2_122 (fun P3 hP3 => ?_)
  refine x_aload_n d5_init_17 rfl ?_
  refine x_bipush (v := nI 11) d5_init_18 (by decide) ?_
  refine x_newarrE (k := 0) d5_init_20 (lw_g (lw_at lw_m1 150 rfl) rfl) rfl (by decide) (by decide) (by omega) (fun t4 I4 J4 P4 ht4 hI4 hJ4 hP4 => ?_)
  have ht4_122 := ((congrFun ht4 122).trans ((p1_ne _ _ (by decide)).trans ht2_122))
  have ht4_123 := ((congrFun ht4 123).trans ((p1_ne _ _ (by decide)).trans ht2_123))
  have ht4_124 : t4 124 = some (100, 11) := by rw [ht4]; exact p1_self _ _ _
  refine x_putPE d5_init_22 p5_17 ht4_122 (fun P5 hP5 => ?_)
  refine x_aload_n d5_init_25 rfl ?_
  refine x_bipush (v := nI 16) d5_init_26 (by decide) ?_
  refine x_newarrE (k := 0) d5_init_28 (lw_g (lw_at lw_m1 150 rfl) rfl) rfl (by decide) (by decide) (by omega) (fun t6 I6 J6 P6 ht6 hI6 hJ6 hP6 => ?_)
  have ht6_122 := ((congrFun ht6 122).trans ((p1_ne _ _ (by decide)).trans ht4_122))
  have ht6_123 := ((congrFun ht6 123).trans ((p1_ne _ _ (by decide)).trans ht4_123))
  have ht6_124 := ((congrFun ht6 124).trans ((p1_ne _ _ (by decide)).trans ht4_124))
  have ht6_125 : t6 125 = some (100, 16) := by rw [ht6]; exact p1_self _ _ _
  refine x_putPE d5_init_30 p5_20 ht6_122 (fun P7 hP7 => ?_)
  refine x_aload_n d5_init_33 rfl ?_
  refine x_sipush (v := nI 132) d5_init_34 (by decide) ?_
  refine x_newarrE (k := 0) d5_init_37 (lw_g (lw_at lw_m1 150 rfl) rfl) rfl (by decide) (by decide) (by omega) (fun t8 I8 J8 P8 ht8 hI8 hJ8 hP8 => ?_)
  have ht8_122 := ((congrFun ht8 122).trans ((p1_ne _ _ (by decide)).trans ht6_122))
  have ht8_123 := ((congrFun ht8 123).trans ((p1_ne _ _ (by decide)).trans ht6_123))
  have ht8_124 := ((congrFun ht8 124).trans ((p1_ne _ _ (by decide)).trans ht6_124))
  have ht8_125 := ((congrFun ht8 125).trans ((p1_ne _ _ (by decide)).trans ht6_125))
  have ht8_126 : t8 126 = some (100, 132) := by rw [ht8]; exact p1_self _ _ _
  refine x_putPE d5_init_39 p5_23 ht8_122 (fun P9 hP9 => ?_)
  refine x_aload_n d5_init_42 rfl ?_
  refine x_sipush (v := nI 132) d5_init_43 (by decide) ?_
  refine x_newarrE (k := 0) d5_init_46 (lw_g (lw_at lw_m1 150 rfl) rfl) rfl (by decide) (by decide) (by omega) (fun t10 I10 J10 P10 ht10 hI10 hJ10 hP10 => ?_)
  have ht10_122 := ((congrFun ht10 122).trans ((p1_ne _ _ (by decide)).trans ht8_122))
  have ht10_123 := ((congrFun ht10 123).trans ((p1_ne _ _ (by decide)).trans ht8_123))
  have ht10_124 := ((congrFun ht10 124).trans ((p1_ne _ _ (by decide)).trans ht8_124))
  have ht10_125 := ((congrFun ht10 125).trans ((p1_ne _ _ (by decide)).trans ht8_125))
  have ht10_126 := ((congrFun ht10 126).trans ((p1_ne _ _ (by decide)).trans ht8_126))
  have ht10_127 : t10 127 = some (100, 132) := by rw [ht10]; exact p1_self _ _ _
  refine x_putPE d5_init_48 p5_26 ht10_122 (fun P11 hP11 => ?_)
  refine x_aload_n d5_init_51 rfl ?_
  refine x_sipush (v := nI 132) d5_init_52 (by decide) ?_
  refine x_newarrE (k := 0) d5_init_55 (lw_g (lw_at lw_m1 150 rfl) rfl) rfl (by decide) (by decide) (by omega) (fun t12 I12 J12 P12 ht12 hI12 hJ12 hP12 => ?_)
  have ht12_122 := ((congrFun ht12 122).trans ((p1_ne _ _ (by decide)).trans ht10_122))
  have ht12_123 := ((congrFun ht12 123).trans ((p1_ne _ _ (by decide)).trans ht10_123))
  have ht12_124 := ((congrFun ht12 124).trans ((p1_ne _ _ (by decide)).trans ht10_124))
  have ht12_125 := ((congrFun ht12 125).trans ((p1_ne _ _ (by decide)).trans ht10_125))
  have ht12_126 := ((congrFun ht12 126).trans ((p1_ne _ _ (by decide)).trans ht10_126))
  have ht12_127 := ((congrFun ht12 127).trans ((p1_ne _ _ (by decide)).trans ht10_127))
  have ht12_128 : t12 128 = some (100, 132) := by rw [ht12]; exact p1_self _ _ _
  refine x_putPE d5_init_57 p5_29 ht12_122 (fun P13 hP13 => ?_)
  refine x_aload_n d5_init_60 rfl ?_
  refine x_sipush (v := nI 132) d5_init_61 (by decide) ?_
  refine x_newarrE (k := 0) d5_init_64 (lw_g (lw_at lw_m1 150 rfl) rfl) rfl (by decide) (by decide) (by omega) (fun t14 I14 J14 P14 ht14 hI14 hJ14 hP14 => ?_)
  have ht14_122 := ((congrFun ht14 122).trans ((p1_ne _ _ (by decide)).trans ht12_122))
  have ht14_123 := ((congrFun ht14 123).trans ((p1_ne _ _ (by decide)).trans ht12_123))
  have ht14_124 := ((congrFun ht14 124).trans ((p1_ne _ _ (by decide)).trans ht12_124))
  have ht14_125 := ((congrFun ht14 125).trans ((p1_ne _ _ (by decide)).trans ht12_125))
  have ht14_126 := ((congrFun ht14 126).trans ((p1_ne _ _ (by decide)).trans ht12_126))
  have ht14_127 := ((congrFun ht14 127).trans ((p1_ne _ _ (by decide)).trans ht12_127))
  have ht14_128 := ((congrFun ht14 128).trans ((p1_ne _ _ (by decide)).trans ht12_128))
  have ht14_129 : t14 129 = some (100, 132) := by rw [ht14]; exact p1_self _ _ _
  refine x_putPE d5_init_66 p5_32 ht14_122 (fun P15 hP15 => ?_)
  refine x_aload_n d5_init_69 rfl ?_
  refine x_sipush (v := nI 528) d5_init_70 (by decide) ?_
  refine x_newarrE (k := 0) d5_init_73 (lw_g (lw_at lw_m1 150 rfl) rfl) rfl (by decide) (by decide) (by omega) (fun t16 I16 J16 P16 ht16 hI16 hJ16 hP16 => ?_)
  have ht16_122 := ((congrFun ht16 122).trans ((p1_ne _ _ (by decide)).trans ht14_122))
  have ht16_123 := ((congrFun ht16 123).trans ((p1_ne _ _ (by decide)).trans ht14_123))
  have ht16_124 := ((congrFun ht16 124).trans ((p1_ne _ _ (by decide)).trans ht14_124))
  have ht16_125 := ((congrFun ht16 125).trans ((p1_ne _ _ (by decide)).trans ht14_125))
  have ht16_126 := ((congrFun ht16 126).trans ((p1_ne _ _ (by decide)).trans ht14_126))
  have ht16_127 := ((congrFun ht16 127).trans ((p1_ne _ _ (by decide)).trans ht14_127))
  have ht16_128 := ((congrFun ht16 128).trans ((p1_ne _ _ (by decide)).trans ht14_128))
  have ht16_129 := ((congrFun ht16 129).trans ((p1_ne _ _ (by decide)).trans ht14_129))
  have ht16_130 : t16 130 = some (100, 528) := by rw [ht16]; exact p1_self _ _ _
  refine x_putPE d5_init_75 p5_35 ht16_122 (fun P17 hP17 => ?_)
  refine x_aload_n d5_init_78 rfl ?_
  refine x_newE d5_init_79 n5_38 (by decide) (by omega) (fun t18 I18 J18 P18 ht18 hI18 hJ18 hP18 => ?_)
  have ht18_122 := ((congrFun ht18 122).trans ((p1_ne _ _ (by decide)).trans ht16_122))
  have ht18_123 := ((congrFun ht18 123).trans ((p1_ne _ _ (by decide)).trans ht16_123))
  have ht18_124 := ((congrFun ht18 124).trans ((p1_ne _ _ (by decide)).trans ht16_124))
  have ht18_125 := ((congrFun ht18 125).trans ((p1_ne _ _ (by decide)).trans ht16_125))
  have ht18_126 := ((congrFun ht18 126).trans ((p1_ne _ _ (by decide)).trans ht16_126))
  have ht18_127 := ((congrFun ht18 127).trans ((p1_ne _ _ (by decide)).trans ht16_127))
  have ht18_128 := ((congrFun ht18 128).trans ((p1_ne _ _ (by decide)).trans ht16_128))
  have ht18_129 := ((congrFun ht18 129).trans ((p1_ne _ _ (by decide)).trans ht16_129))
  have ht18_130 := ((congrFun ht18 130).trans ((p1_ne _ _ (by decide)).trans ht16_130))
  have ht18_131 : t18 131 = some (6, 0) := by rw [ht18]; exact p1_self _ _ _
  refine x_dup d5_init_82 rfl ?_
  refine x_invI 131 0 d5_init_83 (by decide) i5_40 (h_i6 _ ht18_131 (by decide) (by decide) (by omega)) (Cont.ev ?_) (hB := by show 132 ≤ 601124; decide) (hS := by show sl + 10 + 11 + 16 + 132 + 132 + 132 + 132 + 528 + 8 ≤ 7293033; omega)
  obtain ⟨t19, ht19⟩ : ∃ q, q = t18 := ⟨_, rfl⟩
  obtain ⟨I19, hI19⟩ : ∃ q, q = I18 := ⟨_, rfl⟩
  obtain ⟨J19, hJ19⟩ : ∃ q, q = J18 := ⟨_, rfl⟩
  obtain ⟨P19, hP19⟩ : ∃ q, q = thP P18 131 := ⟨_, rfl⟩
  show RA _ _ _ _ _ _ (t18, I18, J18, thP P18 131, 132, sl + 10 + 11 + 16 + 132 + 132 + 132 + 132 + 528 + 8) _
  rw [← ht19, ← hI19, ← hJ19, ← hP19]
  have ht19_122 := (congrFun ht19 122).trans ht18_122
  have ht19_123 := (congrFun ht19 123).trans ht18_123
  have ht19_124 := (congrFun ht19 124).trans ht18_124
  have ht19_125 := (congrFun ht19 125).trans ht18_125
  have ht19_126 := (congrFun ht19 126).trans ht18_126
  have ht19_127 := (congrFun ht19 127).trans ht18_127
  have ht19_128 := (congrFun ht19 128).trans ht18_128
  have ht19_129 := (congrFun ht19 129).trans ht18_129
  have ht19_130 := (congrFun ht19 130).trans ht18_130
  have ht19_131 := (congrFun ht19 131).trans ht18_131
  refine x_putPE d5_init_86 p5_41 ht19_122 (fun P20 hP20 => ?_)
  refine x_aload_n d5_init_89 rfl ?_
  refine x_sipush (v := nI 300) d5_init_90 (by decide) ?_
  refine x_newarrE (k := 1) d5_init_93 (lw_g (lw_at lw_m1 117 rfl) rfl) rfl (by decide) (by decide) (by omega) (fun t21 I21 J21 P21 ht21 hI21 hJ21 hP21 => ?_)
  have ht21_122 := ((congrFun ht21 122).trans ((p1_ne _ _ (by decide)).trans ht19_122))
  have ht21_123 := ((congrFun ht21 123).trans ((p1_ne _ _ (by decide)).trans ht19_123))
  have ht21_124 := ((congrFun ht21 124).trans ((p1_ne _ _ (by decide)).trans ht19_124))
  have ht21_125 := ((congrFun ht21 125).trans ((p1_ne _ _ (by decide)).trans ht19_125))
  have ht21_126 := ((congrFun ht21 126).trans ((p1_ne _ _ (by decide)).trans ht19_126))
  have ht21_127 := ((congrFun ht21 127).trans ((p1_ne _ _ (by decide)).trans ht19_127))
  have ht21_128 := ((congrFun ht21 128).trans ((p1_ne _ _ (by decide)).trans ht19_128))
  have ht21_129 := ((congrFun ht21 129).trans ((p1_ne _ _ (by decide)).trans ht19_129))
  have ht21_130 := ((congrFun ht21 130).trans ((p1_ne _ _ (by decide)).trans ht19_130))
  have ht21_131 := ((congrFun ht21 131).trans ((p1_ne _ _ (by decide)).trans ht19_131))
  have ht21_132 : t21 132 = some (101, 300) := by rw [ht21]; exact p1_self _ _ _
  refine x_putPE d5_init_95 p5_45 ht21_122 (fun P22 hP22 => ?_)
  refine x_aload_n d5_init_98 rfl ?_
  refine x_bipush (v := nI 80) d5_init_99 (by decide) ?_
  refine x_newarrE (k := 0) d5_init_101 (lw_g (lw_at lw_m1 150 rfl) rfl) rfl (by decide) (by decide) (by omega) (fun t23 I23 J23 P23 ht23 hI23 hJ23 hP23 => ?_)
  have ht23_122 := ((congrFun ht23 122).trans ((p1_ne _ _ (by decide)).trans ht21_122))
  have ht23_123 := ((congrFun ht23 123).trans ((p1_ne _ _ (by decide)).trans ht21_123))
  have ht23_124 := ((congrFun ht23 124).trans ((p1_ne _ _ (by decide)).trans ht21_124))
  have ht23_125 := ((congrFun ht23 125).trans ((p1_ne _ _ (by decide)).trans ht21_125))
  have ht23_126 := ((congrFun ht23 126).trans ((p1_ne _ _ (by decide)).trans ht21_126))
  have ht23_127 := ((congrFun ht23 127).trans ((p1_ne _ _ (by decide)).trans ht21_127))
  have ht23_128 := ((congrFun ht23 128).trans ((p1_ne _ _ (by decide)).trans ht21_128))
  have ht23_129 := ((congrFun ht23 129).trans ((p1_ne _ _ (by decide)).trans ht21_129))
  have ht23_130 := ((congrFun ht23 130).trans ((p1_ne _ _ (by decide)).trans ht21_130))
  have ht23_131 := ((congrFun ht23 131).trans ((p1_ne _ _ (by decide)).trans ht21_131))
  have ht23_132 := ((congrFun ht23 132).trans ((p1_ne _ _ (by decide)).trans ht21_132))
  have ht23_133 : t23 133 = some (100, 80) := by rw [ht23]; exact p1_self _ _ _
  refine x_putPE d5_init_103 p5_49 ht23_122 (fun P24 hP24 => ?_)
  refine x_aload_n d5_init_106 rfl ?_
  refine x_bipush (v := nI 80) d5_init_107 (by decide) ?_
  refine x_newarrE (k := 0) d5_init_109 (lw_g (lw_at lw_m1 150 rfl) rfl) rfl (by decide) (by decide) (by omega) (fun t25 I25 J25 P25 ht25 hI25 hJ25 hP25 => ?_)
  have ht25_122 := ((congrFun ht25 122).trans ((p1_ne _ _ (by decide)).trans ht23_122))
  have ht25_123 := ((congrFun ht25 123).trans ((p1_ne _ _ (by decide)).trans ht23_123))
  have ht25_124 := ((congrFun ht25 124).trans ((p1_ne _ _ (by decide)).trans ht23_124))
  have ht25_125 := ((congrFun ht25 125).trans ((p1_ne _ _ (by decide)).trans ht23_125))
  have ht25_126 := ((congrFun ht25 126).trans ((p1_ne _ _ (by decide)).trans ht23_126))
  have ht25_127 := ((congrFun ht25 127).trans ((p1_ne _ _ (by decide)).trans ht23_127))
  have ht25_128 := ((congrFun ht25 128).trans ((p1_ne _ _ (by decide)).trans ht23_128))
  have ht25_129 := ((congrFun ht25 129).trans ((p1_ne _ _ (by decide)).trans ht23_129))
  have ht25_130 := ((congrFun ht25 130).trans ((p1_ne _ _ (by decide)).trans ht23_130))
  have ht25_131 := ((congrFun ht25 131).trans ((p1_ne _ _ (by decide)).trans ht23_131))
  have ht25_132 := ((congrFun ht25 132).trans ((p1_ne _ _ (by decide)).trans ht23_132))
  have ht25_133 := ((congrFun ht25 133).trans ((p1_ne _ _ (by decide)).trans ht23_133))
  have ht25_134 : t25 134 = some (100, 80) := by rw [ht25]; exact p1_self _ _ _
  refine x_putPE d5_init_111 p5_52 ht25_122 (fun P26 hP26 => ?_)
  refine x_aload_n d5_init_114 rfl ?_
  refine x_bipush (v := nI 10) d5_init_115 (by decide) ?_
  refine x_newarrE (k := 0) d5_init_117 (lw_g (lw_at lw_m1 150 rfl) rfl) rfl (by decide) (by decide) (by omega) (fun t27 I27 J27 P27 ht27 hI27 hJ27 hP27 => ?_)
  have ht27_122 := ((congrFun ht27 122).trans ((p1_ne _ _ (by decide)).trans ht25_122))
  have ht27_123 := ((congrFun ht27 123).trans ((p1_ne _ _ (by decide)).trans ht25_123))
  have ht27_124 := ((congrFun ht27 124).trans ((p1_ne _ _ (by decide)).trans ht25_124))
  have ht27_125 := ((congrFun ht27 125).trans ((p1_ne _ _ (by decide)).trans ht25_125))
  have ht27_126 := ((congrFun ht27 126).trans ((p1_ne _ _ (by decide)).trans ht25_126))
  have ht27_127 := ((congrFun ht27 127).trans ((p1_ne _ _ (by decide)).trans ht25_127))
  have ht27_128 := ((congrFun ht27 128).trans ((p1_ne _ _ (by decide)).trans ht25_128))
  have ht27_129 := ((congrFun ht27 129).trans ((p1_ne _ _ (by decide)).trans ht25_129))
  have ht27_130 := ((congrFun ht27 130).trans ((p1_ne _ _ (by decide)).trans ht25_130))
  have ht27_131 := ((congrFun ht27 131).trans ((p1_ne _ _ (by decide)).trans ht25_131))
  have ht27_132 := ((congrFun ht27 132).trans ((p1_ne _ _ (by decide)).trans ht25_132))
  have ht27_133 := ((congrFun ht27 133).trans ((p1_ne _ _ (by decide)).trans ht25_133))
  have ht27_134 := ((congrFun ht27 134).trans ((p1_ne _ _ (by decide)).trans ht25_134))
  have ht27_135 : t27 135 = some (100, 10) := by rw [ht27]; exact p1_self _ _ _
  refine x_putPE d5_init_119 p5_55 ht27_122 (fun P28 hP28 => ?_)
  refine x_aload_n d5_init_122 rfl ?_
  refine x_bipush (v := nI 16) d5_init_123 (by decide) ?_
  refine x_newarrE (k := 0) d5_init_125 (lw_g (lw_at lw_m1 150 rfl) rfl) rfl (by decide) (by decide) (by omega) (fun t29 I29 J29 P29 ht29 hI29 hJ29 hP29 => ?_)
  have ht29_122 := ((congrFun ht29 122).trans ((p1_ne _ _ (by decide)).trans ht27_122))
  have ht29_123 := ((congrFun ht29 123).trans ((p1_ne _ _ (by decide)).trans ht27_123))
  have ht29_124 := ((congrFun ht29 124).trans ((p1_ne _ _ (by decide)).trans ht27_124))
  have ht29_125 := ((congrFun ht29 125).trans ((p1_ne _ _ (by decide)).trans ht27_125))
  have ht29_126 := ((congrFun ht29 126).trans ((p1_ne _ _ (by decide)).trans ht27_126))
  have ht29_127 := ((congrFun ht29 127).trans ((p1_ne _ _ (by decide)).trans ht27_127))
  have ht29_128 := ((congrFun ht29 128).trans ((p1_ne _ _ (by decide)).trans ht27_128))
  have ht29_129 := ((congrFun ht29 129).trans ((p1_ne _ _ (by decide)).trans ht27_129))
  have ht29_130 := ((congrFun ht29 130).trans ((p1_ne _ _ (by decide)).trans ht27_130))
  have ht29_131 := ((congrFun ht29 131).trans ((p1_ne _ _ (by decide)).trans ht27_131))
  have ht29_132 := ((congrFun ht29 132).trans ((p1_ne _ _ (by decide)).trans ht27_132))
  have ht29_133 := ((congrFun ht29 133).trans ((p1_ne _ _ (by decide)).trans ht27_133))
  have ht29_134 := ((congrFun ht29 134).trans ((p1_ne _ _ (by decide)).trans ht27_134))
  have ht29_135 := ((congrFun ht29 135).trans ((p1_ne _ _ (by decide)).trans ht27_135))
  have ht29_136 : t29 136 = some (100, 16) := by rw [ht29]; exact p1_self _ _ _
  refine x_putPE d5_init_127 p5_58 ht29_122 (fun P30 hP30 => ?_)
  refine x_aload_n d5_init_130 rfl ?_
  refine x_bipush (v := nI 10) d5_init_131 (by decide) ?_
  refine x_newarrE (k := 3) d5_init_133 (lw_g (lw_at lw_m5 132 rfl) rfl) rfl (by decide) (by decide) (by omega) (fun t31 I31 J31 P31 ht31 hI31 hJ31 hP31 => ?_)
  have ht31_122 := ((congrFun ht31 122).trans ((p1_ne _ _ (by decide)).trans ht29_122))
  have ht31_123 := ((congrFun ht31 123).trans ((p1_ne _ _ (by decide)).trans ht29_123))
  have ht31_124 := ((congrFun ht31 124).trans ((p1_ne _ _ (by decide)).trans ht29_124))
  have ht31_125 := ((congrFun ht31 125).trans ((p1_ne _ _ (by decide)).trans ht29_125))
  have ht31_126 := ((congrFun ht31 126).trans ((p1_ne _ _ (by decide)).trans ht29_126))
  have ht31_127 := ((congrFun ht31 127).trans ((p1_ne _ _ (by decide)).trans ht29_127))
  have ht31_128 := ((congrFun ht31 128).trans ((p1_ne _ _ (by decide)).trans ht29_128))
  have ht31_129 := ((congrFun ht31 129).trans ((p1_ne _ _ (by decide)).trans ht29_129))
  have ht31_130 := ((congrFun ht31 130).trans ((p1_ne _ _ (by decide)).trans ht29_130))
  have ht31_131 := ((congrFun ht31 131).trans ((p1_ne _ _ (by decide)).trans ht29_131))
  have ht31_132 := ((congrFun ht31 132).trans ((p1_ne _ _ (by decide)).trans ht29_132))
  have ht31_133 := ((congrFun ht31 133).trans ((p1_ne _ _ (by decide)).trans ht29_133))
  have ht31_134 := ((congrFun ht31 134).trans ((p1_ne _ _ (by decide)).trans ht29_134))
  have ht31_135 := ((congrFun ht31 135).trans ((p1_ne _ _ (by decide)).trans ht29_135))
  have ht31_136 := ((congrFun ht31 136).trans ((p1_ne _ _ (by decide)).trans ht29_136))
  have ht31_137 : t31 137 = some (103, 10) := by rw [ht31]; exact p1_self _ _ _
  refine x_putPE d5_init_135 p5_61 ht31_122 (fun P32 hP32 => ?_)
  refine x_aload_n d5_init_138 rfl ?_
  refine x_bipush (v := nI 91) d5_init_139 (by decide) ?_
  refine x_newarrE (k := 0) d5_init_141 (lw_g (lw_at lw_m1 150 rfl) rfl) rfl (by decide) (by decide) (by omega) (fun t33 I33 J33 P33 ht33 hI33 hJ33 hP33 => ?_)
  have ht33_122 := ((congrFun ht33 122).trans ((p1_ne _ _ (by decide)).trans ht31_122))
  have ht33_123 := ((congrFun ht33 123).trans ((p1_ne _ _ (by decide)).trans ht31_123))
  have ht33_124 := ((congrFun ht33 124).trans ((p1_ne _ _ (by decide)).trans ht31_124))
  have ht33_125 := ((congrFun ht33 125).trans ((p1_ne _ _ (by decide)).trans ht31_125))
  have ht33_126 := ((congrFun ht33 126).trans ((p1_ne _ _ (by decide)).trans ht31_126))
  have ht33_127 := ((congrFun ht33 127).trans ((p1_ne _ _ (by decide)).trans ht31_127))
  have ht33_128 := ((congrFun ht33 128).trans ((p1_ne _ _ (by decide)).trans ht31_128))
  have ht33_129 := ((congrFun ht33 129).trans ((p1_ne _ _ (by decide)).trans ht31_129))
  have ht33_130 := ((congrFun ht33 130).trans ((p1_ne _ _ (by decide)).trans ht31_130))
  have ht33_131 := ((congrFun ht33 131).trans ((p1_ne _ _ (by decide)).trans ht31_131))
  have ht33_132 := ((congrFun ht33 132).trans ((p1_ne _ _ (by decide)).trans ht31_132))
  have ht33_133 := ((congrFun ht33 133).trans ((p1_ne _ _ (by decide)).trans ht31_133))
  have ht33_134 := ((congrFun ht33 134).trans ((p1_ne _ _ (by decide)).trans ht31_134))
  have ht33_135 := ((congrFun ht33 135).trans ((p1_ne _ _ (by decide)).trans ht31_135))
  have ht33_136 := ((congrFun ht33 136).trans ((p1_ne _ _ (by decide)).trans ht31_136))
  have ht33_137 := ((congrFun ht33 137).trans ((p1_ne _ _ (by decide)).trans ht31_137))
  have ht33_138 : t33 138 = some (100, 91) := by rw [ht33]; exact p1_self _ _ _
  refine x_putPE d5_init_143 p5_65 ht33_122 (fun P34 hP34 => ?_)
  refine x_aload_n d5_init_146 rfl ?_
  refine x_bipush (v := nI 92) d5_init_147 (by decide) ?_
  refine x_newarrE (k := 0) d5_init_149 (lw_g (lw_at lw_m1 150 rfl) rfl) rfl (by decide) (by decide) (by omega) (fun t35 I35 J35 P35 ht35 hI35 hJ35 hP35 => ?_)
  have ht35_122 := ((congrFun ht35 122).trans ((p1_ne _ _ (by decide)).trans ht33_122))
  have ht35_123 := ((congrFun ht35 123).trans ((p1_ne _ _ (by decide)).trans ht33_123))
  have ht35_124 := ((congrFun ht35 124).trans ((p1_ne _ _ (by decide)).trans ht33_124))
  have ht35_125 := ((congrFun ht35 125).trans ((p1_ne _ _ (by decide)).trans ht33_125))
  have ht35_126 := ((congrFun ht35 126).trans ((p1_ne _ _ (by decide)).trans ht33_126))
  have ht35_127 := ((congrFun ht35 127).trans ((p1_ne _ _ (by decide)).trans ht33_127))
  have ht35_128 := ((congrFun ht35 128).trans ((p1_ne _ _ (by decide)).trans ht33_128))
  have ht35_129 := ((congrFun ht35 129).trans ((p1_ne _ _ (by decide)).trans ht33_129))
  have ht35_130 := ((congrFun ht35 130).trans ((p1_ne _ _ (by decide)).trans ht33_130))
  have ht35_131 := ((congrFun ht35 131).trans ((p1_ne _ _ (by decide)).trans ht33_131))
  have ht35_132 := ((congrFun ht35 132).trans ((p1_ne _ _ (by decide)).trans ht33_132))
  have ht35_133 := ((congrFun ht35 133).trans ((p1_ne _ _ (by decide)).trans ht33_133))
  have ht35_134 := ((congrFun ht35 134).trans ((p1_ne _ _ (by decide)).trans ht33_134))
  have ht35_135 := ((congrFun ht35 135).trans ((p1_ne _ _ (by decide)).trans ht33_135))
  have ht35_136 := ((congrFun ht35 136).trans ((p1_ne _ _ (by decide)).trans ht33_136))
  have ht35_137 := ((congrFun ht35 137).trans ((p1_ne _ _ (by decide)).trans ht33_137))
  have ht35_138 := ((congrFun ht35 138).trans ((p1_ne _ _ (by decide)).trans ht33_138))
  have ht35_139 : t35 139 = some (100, 92) := by rw [ht35]; exact p1_self _ _ _
  refine x_putPE d5_init_151 p5_68 ht35_122 (fun P36 hP36 => ?_)
  refine x_aload_n d5_init_154 rfl ?_
  refine x_bipush (v := nI 10) d5_init_155 (by decide) ?_
  refine x_newarrE (k := 0) d5_init_157 (lw_g (lw_at lw_m1 150 rfl) rfl) rfl (by decide) (by decide) (by omega) (fun t37 I37 J37 P37 ht37 hI37 hJ37 hP37 => ?_)
  have ht37_122 := ((congrFun ht37 122).trans ((p1_ne _ _ (by decide)).trans ht35_122))
  have ht37_123 := ((congrFun ht37 123).trans ((p1_ne _ _ (by decide)).trans ht35_123))
  have ht37_124 := ((congrFun ht37 124).trans ((p1_ne _ _ (by decide)).trans ht35_124))
  have ht37_125 := ((congrFun ht37 125).trans ((p1_ne _ _ (by decide)).trans ht35_125))
  have ht37_126 := ((congrFun ht37 126).trans ((p1_ne _ _ (by decide)).trans ht35_126))
  have ht37_127 := ((congrFun ht37 127).trans ((p1_ne _ _ (by decide)).trans ht35_127))
  have ht37_128 := ((congrFun ht37 128).trans ((p1_ne _ _ (by decide)).trans ht35_128))
  have ht37_129 := ((congrFun ht37 129).trans ((p1_ne _ _ (by decide)).trans ht35_129))
  have ht37_130 := ((congrFun ht37 130).trans ((p1_ne _ _ (by decide)).trans ht35_130))
  have ht37_131 := ((congrFun ht37 131).trans ((p1_ne _ _ (by decide)).trans ht35_131))
  have ht37_132 := ((congrFun ht37 132).trans ((p1_ne _ _ (by decide)).trans ht35_132))
  have ht37_133 := ((congrFun ht37 133).trans ((p1_ne _ _ (by decide)).trans ht35_133))
  have ht37_134 := ((congrFun ht37 134).trans ((p1_ne _ _ (by decide)).trans ht35_134))
  have ht37_135 := ((congrFun ht37 135).trans ((p1_ne _ _ (by decide)).trans ht35_135))
  have ht37_136 := ((congrFun ht37 136).trans ((p1_ne _ _ (by decide)).trans ht35_136))
  have ht37_137 := ((congrFun ht37 137).trans ((p1_ne _ _ (by decide)).trans ht35_137))
  have ht37_138 := ((congrFun ht37 138).trans ((p1_ne _ _ (by decide)).trans ht35_138))
  have ht37_139 := ((congrFun ht37 139).trans ((p1_ne _ _ (by decide)).trans ht35_139))
  have ht37_140 : t37 140 = some (100, 10) := by rw [ht37]; exact p1_self _ _ _
  refine x_putPE d5_init_159 p5_71 ht37_122 (fun P38 hP38 => ?_)
  refine x_aload_n d5_init_162 rfl ?_
  refine x_bipush (v := nI 10) d5_init_163 (by decide) ?_
  refine x_newarrE (k := 0) d5_init_165 (lw_g (lw_at lw_m1 150 rfl) rfl) rfl (by decide) (by decide) (by omega) (fun t39 I39 J39 P39 ht39 hI39 hJ39 hP39 => ?_)
  have ht39_122 := ((congrFun ht39 122).trans ((p1_ne _ _ (by decide)).trans ht37_122))
  have ht39_123 := ((congrFun ht39 123).trans ((p1_ne _ _ (by decide)).trans ht37_123))
  have ht39_124 := ((congrFun ht39 124).trans ((p1_ne _ _ (by decide)).trans ht37_124))
  have ht39_125 := ((congrFun ht39 125).trans ((p1_ne _ _ (by decide)).trans ht37_125))
  have ht39_126 := ((congrFun ht39 126).trans ((p1_ne _ _ (by decide)).trans ht37_126))
  have ht39_127 := ((congrFun ht39 127).trans ((p1_ne _ _ (by decide)).trans ht37_127))
  have ht39_128 := ((congrFun ht39 128).trans ((p1_ne _ _ (by decide)).trans ht37_128))
  have ht39_129 := ((congrFun ht39 129).trans ((p1_ne _ _ (by decide)).trans ht37_129))
  have ht39_130 := ((congrFun ht39 130).trans ((p1_ne _ _ (by decide)).trans ht37_130))
  have ht39_131 := ((congrFun ht39 131).trans ((p1_ne _ _ (by decide)).trans ht37_131))
  have ht39_132 := ((congrFun ht39 132).trans ((p1_ne _ _ (by decide)).trans ht37_132))
  have ht39_133 := ((congrFun ht39 133).trans ((p1_ne _ _ (by decide)).trans ht37_133))
  have ht39_134 := ((congrFun ht39 134).trans ((p1_ne _ _ (by decide)).trans ht37_134))
  have ht39_135 := ((congrFun ht39 135).trans ((p1_ne _ _ (by decide)).trans ht37_135))
  have ht39_136 := ((congrFun ht39 136).trans ((p1_ne _ _ (by decide)).trans ht37_136))
  have ht39_137 := ((congrFun ht39 137).trans ((p1_ne _ _ (by decide)).trans ht37_137))
  have ht39_138 := ((congrFun ht39 138).trans ((p1_ne _ _ (by decide)).trans ht37_138))
  have ht39_139 := ((congrFun ht39 139).trans ((p1_ne _ _ (by decide)).trans ht37_139))
  have ht39_140 := ((congrFun ht39 140).trans ((p1_ne _ _ (by decide)).trans ht37_140))
  have ht39_141 : t39 141 = some (100, 10) := by rw [ht39]; exact p1_self _ _ _
  refine x_putPE d5_init_167 p5_74 ht39_122 (fun P40 hP40 => ?_)
  refine x_aload_n d5_init_170 rfl ?_
  refine x_bipush (v := nI 16) d5_init_171 (by decide) ?_
  refine x_newarrE (k := 0) d5_init_173 (lw_g (lw_at lw_m1 150 rfl) rfl) rfl (by decide) (by decide) (by omega) (fun t41 I41 J41 P41 ht41 hI41 hJ41 hP41 => ?_)
  have ht41_122 := ((congrFun ht41 122).trans ((p1_ne _ _ (by decide)).trans ht39_122))
  have ht41_123 := ((congrFun ht41 123).trans ((p1_ne _ _ (by decide)).trans ht39_123))
  have ht41_124 := ((congrFun ht41 124).trans ((p1_ne _ _ (by decide)).trans ht39_124))
  have ht41_125 := ((congrFun ht41 125).trans ((p1_ne _ _ (by decide)).trans ht39_125))
  have ht41_126 := ((congrFun ht41 126).trans ((p1_ne _ _ (by decide)).trans ht39_126))
  have ht41_127 := ((congrFun ht41 127).trans ((p1_ne _ _ (by decide)).trans ht39_127))
  have ht41_128 := ((congrFun ht41 128).trans ((p1_ne _ _ (by decide)).trans ht39_128))
  have ht41_129 := ((congrFun ht41 129).trans ((p1_ne _ _ (by decide)).trans ht39_129))
  have ht41_130 := ((congrFun ht41 130).trans ((p1_ne _ _ (by decide)).trans ht39_130))
  have ht41_131 := ((congrFun ht41 131).trans ((p1_ne _ _ (by decide)).trans ht39_131))
  have ht41_132 := ((congrFun ht41 132).trans ((p1_ne _ _ (by decide)).trans ht39_132))
  have ht41_133 := ((congrFun ht41 133).trans ((p1_ne _ _ (by decide)).trans ht39_133))
  have ht41_134 := ((congrFun ht41 134).trans ((p1_ne _ _ (by decide)).trans ht39_134))
  have ht41_135 := ((congrFun ht41 135).trans ((p1_ne _ _ (by decide)).trans ht39_135))
  have ht41_136 := ((congrFun ht41 136).trans ((p1_ne _ _ (by decide)).trans ht39_136))
  have ht41_137 := ((congrFun ht41 137).trans ((p1_ne _ _ (by decide)).trans ht39_137))
  have ht41_138 := ((congrFun ht41 138).trans ((p1_ne _ _ (by decide)).trans ht39_138))
  have ht41_139 := ((congrFun ht41 139).trans ((p1_ne _ _ (by decide)).trans ht39_139))
  have ht41_140 := ((congrFun ht41 140).trans ((p1_ne _ _ (by decide)).trans ht39_140))
  have ht41_141 := ((congrFun ht41 141).trans ((p1_ne _ _ (by decide)).trans ht39_141))
  have ht41_142 : t41 142 = some (100, 16) := by rw [ht41]; exact p1_self _ _ _
  refine x_putPE d5_init_175 p5_77 ht41_122 (fun P42 hP42 => ?_)
  refine x_return d5_init_178 ?_
  subst hP42
  subst ht41
  subst hJ41
  subst hI41
  subst hP41
  subst hP40
  subst ht39
  subst hJ39
  subst hI39
  subst hP39
  subst hP38
  subst ht37
  subst hJ37
  subst hI37
  subst hP37
  subst hP36
  subst ht35
  subst hJ35
  subst hI35
  subst hP35
  subst hP34
  subst ht33
  subst hJ33
  subst hI33
  subst hP33
  subst hP32
  subst ht31
  subst hJ31
  subst hI31
  subst hP31
  subst hP30
  subst ht29
  subst hJ29
  subst hI29
  subst hP29
  subst hP28
  subst ht27
  subst hJ27
  subst hI27
  subst hP27
  subst hP26
  subst ht25
  subst hJ25
  subst hI25
  subst hP25
  subst hP24
  subst ht23
  subst hJ23
  subst hI23
  subst hP23
  subst hP22
  subst ht21
  subst hJ21
  subst hI21
  subst hP21
  subst hP20
  subst ht19
  subst hJ19
  subst hI19
  subst hP19
  subst ht18
  subst hJ18
  subst hI18
  subst hP18
  subst hP17
  subst ht16
  subst hJ16
  subst hI16
  subst hP16
  subst hP15
  subst ht14
  subst hJ14
  subst hI14
  subst hP14
  subst hP13
  subst ht12
  subst hJ12
  subst hI12
  subst hP12
  subst hP11
  subst ht10
  subst hJ10
  subst hI10
  subst hP10
  subst hP9
  subst ht8
  subst hJ8
  subst hI8
  subst hP8
  subst hP7
  subst ht6
  subst hJ6
  subst hI6
  subst hP6
  subst hP5
  subst ht4
  subst hJ4
  subst hI4
  subst hP4
  subst hP3
  subst ht2
  subst hJ2
  subst hI2
  subst hP2
  subst hI1
  refine ⟨rfl, _, _, _, _, rfl, ?_, ?_, ?_, ?_, ?_, ?_, ?_, ?_, ?_⟩
  · exact ⟨ht0, rfl, rfl, rfl, rfl, rfl, rfl, rfl, rfl, rfl, rfl, rfl, rfl, rfl, rfl, rfl, rfl, rfl, rfl, rfl, rfl⟩
  · exact ⟨rfl, rfl, rfl, rfl, rfl, rfl, rfl, rfl, rfl, rfl, rfl, rfl, rfl, rfl, rfl, rfl, rfl, rfl, rfl, rfl⟩
  · exact ⟨hI0 0, hI0 1, hI0 3, hI0 4, hI0 15, hI0 30, hI0 34, rfl⟩
  · exact fun _ => rfl
  · intro a ha; repeat rw [p1_ne _ _ (by omega)]
  · intro a ha; repeat (first | rw [u2_row _ _ _ (by omega)] | rw [r1_row _ _ (by omega)] | rw [thP_ne _ (by omega)])
  · intro a ha; repeat (first | rw [u2_row _ _ _ (by omega)] | rw [r1_row _ _ (by omega)] | rw [thP_ne _ (by omega)])
  · intro a ha; repeat (first | rw [u2_row _ _ _ (by omega)] | rw [r1_row _ _ (by omega)] | rw [thP_ne _ (by omega)])
  · exact (TyB.new (TyB.new (TyB.new (TyB.new (TyB.new (TyB.new (TyB.new (TyB.new (TyB.new (TyB.new (TyB.new (TyB.new (TyB.new (TyB.new (TyB.new (TyB.new (TyB.new (TyB.new (TyB.new (TyB.new hT rfl) rfl) rfl) rfl) rfl) rfl) rfl) rfl) rfl) rfl) rfl) rfl) rfl) rfl) rfl) rfl) rfl) rfl) rfl) rfl)
