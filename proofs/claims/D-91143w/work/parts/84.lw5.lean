/-! the law: its start -/
set_option maxRecDepth 100000
set_option maxHeartbeats 4000000 in
theorem sh_of {t : Nat → Option (Nat × Nat)} {P : Nat → Nat → Value} (hc : ∀ a c, a < 100 → T0 a = some c → t a = some c) (hcp : ∀ a k v, a < 100 → k < 100 → P0 (100 * a + k) = some v → P a k = v) (ht100 : t 100 = some (1, 0)) (ht101 : t 101 = some (101, 300)) (ht102 : t 102 = some (2, 0)) (ht103 : t 103 = some (3, 0)) (ht104 : t 104 = some (102, 8)) (ht105 : t 105 = some (100, 4)) (ht106 : t 106 = some (105, 10)) (ht107 : t 107 = some (100, 16)) (ht108 : t 108 = some (4, 0)) (ht109 : t 109 = some (100, 10)) (ht110 : t 110 = some (100, 90)) (ht111 : t 111 = some (100, 16)) (ht112 : t 112 = some (4, 0)) (ht113 : t 113 = some (100, 10)) (ht114 : t 114 = some (100, 90)) (ht115 : t 115 = some (100, 16)) (ht116 : t 116 = some (3, 0)) (ht117 : t 117 = some (100, 90)) (ht118 : t 118 = some (100, 92)) (ht119 : t 119 = some (100, 10)) (ht120 : t 120 = some (100, 10)) (ht121 : t 121 = some (100, 10)) (ht122 : t 122 = some (5, 0)) (ht123 : t 123 = some (100, 10)) (ht124 : t 124 = some (100, 11)) (ht125 : t 125 = some (100, 16)) (ht126 : t 126 = some (100, 132)) (ht127 : t 127 = some (100, 132)) (ht128 : t 128 = some (100, 132)) (ht129 : t 129 = some (100, 132)) (ht130 : t 130 = some (100, 528)) (ht131 : t 131 = some (6, 0)) (ht132 : t 132 = some (101, 300)) (ht133 : t 133 = some (100, 80)) (ht134 : t 134 = some (100, 80)) (ht135 : t 135 = some (100, 10)) (ht136 : t 136 = some (100, 16)) (ht137 : t 137 = some (103, 10)) (ht138 : t 138 = some (100, 91)) (ht139 : t 139 = some (100, 92)) (ht140 : t 140 = some (100, 10)) (ht141 : t 141 = some (100, 10)) (ht142 : t 142 = some (100, 16)) (ht143 : t 143 = some (104, 1)) (hp100_0 : P 100 0 = .ref 101) (hp100_2 : P 100 2 = .ref 102) (hp100_3 : P 100 3 = .ref 106) (hp100_4 : P 100 4 = .ref 107) (hp100_6 : P 100 6 = .ref 108) (hp100_7 : P 100 7 = .ref 112) (hp100_9 : P 100 9 = .ref 116) (hp100_13 : P 100 13 = .ref 117) (hp100_14 : P 100 14 = .ref 118) (hp100_16 : P 100 16 = .ref 119) (hp100_17 : P 100 17 = .ref 120) (hp100_18 : P 100 18 = .ref 121) (hp102_0 : P 102 0 = .ref 103) (hp102_1 : P 102 1 = .ref 101) (hp102_2 : P 102 2 = .ref 104) (hp102_3 : P 102 3 = .ref 105) (hp108_0 : P 108 0 = .ref 106) (hp108_1 : P 108 1 = .ref 109) (hp108_2 : P 108 2 = .ref 110) (hp108_3 : P 108 3 = .ref 111) (hp112_0 : P 112 0 = .ref 106) (hp112_1 : P 112 1 = .ref 113) (hp112_2 : P 112 2 = .ref 114) (hp112_3 : P 112 3 = .ref 115) (hp122_5 : P 122 5 = .ref 123) (hp122_6 : P 122 6 = .ref 124) (hp122_7 : P 122 7 = .ref 125) (hp122_8 : P 122 8 = .ref 126) (hp122_9 : P 122 9 = .ref 127) (hp122_10 : P 122 10 = .ref 128) (hp122_11 : P 122 11 = .ref 129) (hp122_12 : P 122 12 = .ref 130) (hp122_13 : P 122 13 = .ref 131) (hp122_14 : P 122 14 = .ref 132) (hp122_23 : P 122 23 = .ref 133) (hp122_24 : P 122 24 = .ref 134) (hp122_25 : P 122 25 = .ref 135) (hp122_26 : P 122 26 = .ref 136) (hp122_27 : P 122 27 = .ref 137) (hp122_28 : P 122 28 = .ref 138) (hp122_29 : P 122 29 = .ref 139) (hp122_31 : P 122 31 = .ref 140) (hp122_32 : P 122 32 = .ref 141) (hp122_33 : P 122 33 = .ref 142) : SH t P := by
  refine ⟨fun a c e => ?_, fun a k v hk e => ?_⟩
  · by_cases h : a < 100
    · exact hc a c h e
    · have hl := T0_lt e
      rcases (by omega : a = 100 ∨ a = 101 ∨ a = 102 ∨ a = 103 ∨ a = 104 ∨ a = 105 ∨ a = 106 ∨ a = 107 ∨ a = 108 ∨ a = 109 ∨ a = 110 ∨ a = 111 ∨ a = 112 ∨ a = 113 ∨ a = 114 ∨ a = 115 ∨ a = 116 ∨ a = 117 ∨ a = 118 ∨ a = 119 ∨ a = 120 ∨ a = 121 ∨ a = 122 ∨ a = 123 ∨ a = 124 ∨ a = 125 ∨ a = 126 ∨ a = 127 ∨ a = 128 ∨ a = 129 ∨ a = 130 ∨ a = 131 ∨ a = 132 ∨ a = 133 ∨ a = 134 ∨ a = 135 ∨ a = 136 ∨ a = 137 ∨ a = 138 ∨ a = 139 ∨ a = 140 ∨ a = 141 ∨ a = 142 ∨ a = 143) with rfl | rfl | rfl | rfl | rfl | rfl | rfl | rfl | rfl | rfl | rfl | rfl | rfl | rfl | rfl | rfl | rfl | rfl | rfl | rfl | rfl | rfl | rfl | rfl | rfl | rfl | rfl | rfl | rfl | rfl | rfl | rfl | rfl | rfl | rfl | rfl | rfl | rfl | rfl | rfl | rfl | rfl | rfl | rfl
      · rw [ht100, ← e]; rfl
      · rw [ht101, ← e]; rfl
      · rw [ht102, ← e]; rfl
      · rw [ht103, ← e]; rfl
      · rw [ht104, ← e]; rfl
      · rw [ht105, ← e]; rfl
      · rw [ht106, ← e]; rfl
      · rw [ht107, ← e]; rfl
      · rw [ht108, ← e]; rfl
      · rw [ht109, ← e]; rfl
      · rw [ht110, ← e]; rfl
      · rw [ht111, ← e]; rfl
      · rw [ht112, ← e]; rfl
      · rw [ht113, ← e]; rfl
      · rw [ht114, ← e]; rfl
      · rw [ht115, ← e]; rfl
      · rw [ht116, ← e]; rfl
      · rw [ht117, ← e]; rfl
      · rw [ht118, ← e]; rfl
      · rw [ht119, ← e]; rfl
      · rw [ht120, ← e]; rfl
      · rw [ht121, ← e]; rfl
      · rw [ht122, ← e]; rfl
      · rw [ht123, ← e]; rfl
      · rw [ht124, ← e]; rfl
      · rw [ht125, ← e]; rfl
      · rw [ht126, ← e]; rfl
      · rw [ht127, ← e]; rfl
      · rw [ht128, ← e]; rfl
      · rw [ht129, ← e]; rfl
      · rw [ht130, ← e]; rfl
      · rw [ht131, ← e]; rfl
      · rw [ht132, ← e]; rfl
      · rw [ht133, ← e]; rfl
      · rw [ht134, ← e]; rfl
      · rw [ht135, ← e]; rfl
      · rw [ht136, ← e]; rfl
      · rw [ht137, ← e]; rfl
      · rw [ht138, ← e]; rfl
      · rw [ht139, ← e]; rfl
      · rw [ht140, ← e]; rfl
      · rw [ht141, ← e]; rfl
      · rw [ht142, ← e]; rfl
      · rw [ht143, ← e]; rfl
  · by_cases h : a < 100
    · exact hcp a k v h hk e
    · have e0 := e
      unfold P0 at e
      have h1 := look_mem _ e
      simp only [List.mem_cons, Prod.mk.injEq, List.not_mem_nil, or_false] at h1
      rcases h1 with ⟨h2, rfl⟩ | ⟨h2, rfl⟩ | ⟨h2, rfl⟩ | ⟨h2, rfl⟩ | ⟨h2, rfl⟩ | ⟨h2, rfl⟩ | ⟨h2, rfl⟩ | ⟨h2, rfl⟩ | ⟨h2, rfl⟩ | ⟨h2, rfl⟩ | ⟨h2, rfl⟩ | ⟨h2, rfl⟩ | ⟨h2, rfl⟩ | ⟨h2, rfl⟩ | ⟨h2, rfl⟩ | ⟨h2, rfl⟩ | ⟨h2, rfl⟩ | ⟨h2, rfl⟩ | ⟨h2, rfl⟩ | ⟨h2, rfl⟩ | ⟨h2, rfl⟩ | ⟨h2, rfl⟩ | ⟨h2, rfl⟩ | ⟨h2, rfl⟩ | ⟨h2, rfl⟩ | ⟨h2, rfl⟩ | ⟨h2, rfl⟩ | ⟨h2, rfl⟩ | ⟨h2, rfl⟩ | ⟨h2, rfl⟩ | ⟨h2, rfl⟩ | ⟨h2, rfl⟩ | ⟨h2, rfl⟩ | ⟨h2, rfl⟩ | ⟨h2, rfl⟩ | ⟨h2, rfl⟩ | ⟨h2, rfl⟩ | ⟨h2, rfl⟩ | ⟨h2, rfl⟩ | ⟨h2, rfl⟩ | ⟨h2, rfl⟩ | ⟨h2, rfl⟩ | ⟨h2, rfl⟩ | ⟨h2, rfl⟩ | ⟨h2, rfl⟩ | ⟨h2, rfl⟩ | ⟨h2, rfl⟩ | ⟨h2, rfl⟩ | ⟨h2, rfl⟩ | ⟨h2, rfl⟩ | ⟨h2, rfl⟩ | ⟨h2, rfl⟩ | ⟨h2, rfl⟩ | ⟨h2, rfl⟩ | ⟨h2, rfl⟩ | ⟨h2, rfl⟩ | ⟨h2, rfl⟩ | ⟨h2, rfl⟩ | ⟨h2, rfl⟩ | ⟨h2, rfl⟩ | ⟨h2, rfl⟩ | ⟨h2, rfl⟩ | ⟨h2, rfl⟩ | ⟨h2, rfl⟩ | ⟨h2, rfl⟩ | ⟨h2, rfl⟩ | ⟨h2, rfl⟩ | ⟨h2, rfl⟩
      · omega
      · omega
      · omega
      · omega
      · omega
      · omega
      · omega
      · omega
      · omega
      · omega
      · omega
      · omega
      · omega
      · omega
      · omega
      · omega
      · omega
      · omega
      · omega
      · omega
      · omega
      · omega
      · omega
      · omega
      · obtain ⟨rfl, rfl⟩ : a = 100 ∧ k = 0 := by omega
        exact hp100_0
      · obtain ⟨rfl, rfl⟩ : a = 100 ∧ k = 2 := by omega
        exact hp100_2
      · obtain ⟨rfl, rfl⟩ : a = 100 ∧ k = 3 := by omega
        exact hp100_3
      · obtain ⟨rfl, rfl⟩ : a = 100 ∧ k = 4 := by omega
        exact hp100_4
      · obtain ⟨rfl, rfl⟩ : a = 100 ∧ k = 6 := by omega
        exact hp100_6
      · obtain ⟨rfl, rfl⟩ : a = 100 ∧ k = 7 := by omega
        exact hp100_7
      · obtain ⟨rfl, rfl⟩ : a = 100 ∧ k = 9 := by omega
        exact hp100_9
      · obtain ⟨rfl, rfl⟩ : a = 100 ∧ k = 13 := by omega
        exact hp100_13
      · obtain ⟨rfl, rfl⟩ : a = 100 ∧ k = 14 := by omega
        exact hp100_14
      · obtain ⟨rfl, rfl⟩ : a = 100 ∧ k = 16 := by omega
        exact hp100_16
      · obtain ⟨rfl, rfl⟩ : a = 100 ∧ k = 17 := by omega
        exact hp100_17
      · obtain ⟨rfl, rfl⟩ : a = 100 ∧ k = 18 := by omega
        exact hp100_18
      · obtain ⟨rfl, rfl⟩ : a = 102 ∧ k = 0 := by omega
        exact hp102_0
      · obtain ⟨rfl, rfl⟩ : a = 102 ∧ k = 1 := by omega
        exact hp102_1
      · obtain ⟨rfl, rfl⟩ : a = 102 ∧ k = 2 := by omega
        exact hp102_2
      · obtain ⟨rfl, rfl⟩ : a = 102 ∧ k = 3 := by omega
        exact hp102_3
      · obtain ⟨rfl, rfl⟩ : a = 108 ∧ k = 0 := by omega
        exact hp108_0
      · obtain ⟨rfl, rfl⟩ : a = 108 ∧ k = 1 := by omega
        exact hp108_1
      · obtain ⟨rfl, rfl⟩ : a = 108 ∧ k = 2 := by omega
        exact hp108_2
      · obtain ⟨rfl, rfl⟩ : a = 108 ∧ k = 3 := by omega
        exact hp108_3
      · obtain ⟨rfl, rfl⟩ : a = 112 ∧ k = 0 := by omega
        exact hp112_0
      · obtain ⟨rfl, rfl⟩ : a = 112 ∧ k = 1 := by omega
        exact hp112_1
      · obtain ⟨rfl, rfl⟩ : a = 112 ∧ k = 2 := by omega
        exact hp112_2
      · obtain ⟨rfl, rfl⟩ : a = 112 ∧ k = 3 := by omega
        exact hp112_3
      · obtain ⟨rfl, rfl⟩ : a = 122 ∧ k = 5 := by omega
        exact hp122_5
      · obtain ⟨rfl, rfl⟩ : a = 122 ∧ k = 6 := by omega
        exact hp122_6
      · obtain ⟨rfl, rfl⟩ : a = 122 ∧ k = 7 := by omega
        exact hp122_7
      · obtain ⟨rfl, rfl⟩ : a = 122 ∧ k = 8 := by omega
        exact hp122_8
      · obtain ⟨rfl, rfl⟩ : a = 122 ∧ k = 9 := by omega
        exact hp122_9
      · obtain ⟨rfl, rfl⟩ : a = 122 ∧ k = 10 := by omega
        exact hp122_10
      · obtain ⟨rfl, rfl⟩ : a = 122 ∧ k = 11 := by omega
        exact hp122_11
      · obtain ⟨rfl, rfl⟩ : a = 122 ∧ k = 12 := by omega
        exact hp122_12
      · obtain ⟨rfl, rfl⟩ : a = 122 ∧ k = 13 := by omega
        exact hp122_13
      · obtain ⟨rfl, rfl⟩ : a = 122 ∧ k = 14 := by omega
        exact hp122_14
      · obtain ⟨rfl, rfl⟩ : a = 122 ∧ k = 23 := by omega
        exact hp122_23
      · obtain ⟨rfl, rfl⟩ : a = 122 ∧ k = 24 := by omega
        exact hp122_24
      · obtain ⟨rfl, rfl⟩ : a = 122 ∧ k = 25 := by omega
        exact hp122_25
      · obtain ⟨rfl, rfl⟩ : a = 122 ∧ k = 26 := by omega
        exact hp122_26
      · obtain ⟨rfl, rfl⟩ : a = 122 ∧ k = 27 := by omega
        exact hp122_27
      · obtain ⟨rfl, rfl⟩ : a = 122 ∧ k = 28 := by omega
        exact hp122_28
      · obtain ⟨rfl, rfl⟩ : a = 122 ∧ k = 29 := by omega
        exact hp122_29
      · obtain ⟨rfl, rfl⟩ : a = 122 ∧ k = 31 := by omega
        exact hp122_31
      · obtain ⟨rfl, rfl⟩ : a = 122 ∧ k = 32 := by omega
        exact hp122_32
      · obtain ⟨rfl, rfl⟩ : a = 122 ∧ k = 33 := by omega
        exact hp122_33
