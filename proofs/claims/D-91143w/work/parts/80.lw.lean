/-! the law: its loop -/
set_option maxRecDepth 100000
theorem and31 (x : Int32) : ∃ k, k < 32 ∧ x &&& nI 31 = nI k := by
  have h0 : ¬ (x &&& nI 31) < 0 := by
    intro h
    have h1 := Int32.lt_iff_toInt_lt.mp h
    have h2 : (x &&& nI 31).toBitVec.msb = true := by
      rw [BitVec.msb_eq_toInt]
      exact decide_eq_true (show (x &&& nI 31).toBitVec.toInt < 0 from h1)
    have h3 : (x &&& nI 31).toBitVec = x.toBitVec &&& 31#32 := rfl
    rw [h3, BitVec.msb_and] at h2
    have h4 : (31#32 : BitVec 32).msb = false := by decide
    rw [h4, Bool.and_false] at h2
    cases h2
  obtain ⟨j, hj, e⟩ := nI_of h0
  refine ⟨j, ?_, e⟩
  have h5 : (x &&& nI 31).toBitVec.toNat ≤ 31 := by
    have h3 : (x &&& nI 31).toBitVec = x.toBitVec &&& 31#32 := rfl
    rw [h3, BitVec.toNat_and]
    exact Nat.and_le_right
  rw [e] at h5
  have h6 : (nI j).toBitVec.toNat = j := by
    show (BitVec.ofNat 32 j).toNat = j
    rw [BitVec.toNat_ofNat, Nat.mod_eq_of_lt (by omega)]
  omega
set_option maxHeartbeats 4000000 in
theorem lw_0 {G : GG} (d : Nat) {len j : Nat} {sc : Nat → Int32} (hlen : len ≤ 384) (hj : 6 * j + 6 ≤ len) (ih : j < 64 → ∀ (t : Nat → Option (Nat × Nat)) (I : Nat → Nat → Int32) (J : Nat → Nat → Int64) (P : Nat → Nat → Value) (n sl : Nat) (σ : Sg) (ρ : Rs), LwS len sc t I P n σ ρ σ ρ → 6 * (j + 1) ≤ len → n ≤ 144 + 370 * (j + 1) → sl ≤ 10000 + 2140 * (j + 1) → ∀ v5 v6, RA G (d + 21) ML_law 23 [.ref 63, .ref 100, .ref 122, .ref 143, .int (nI (6 * (j + 1))), v5, v6] [] (t, I, J, P, n, sl) (fun o h => o = .inl (some (.int (nI 1))) ∧ a_n h ≤ 601124 ∧ a_s h ≤ 7293033)) {t : Nat → Option (Nat × Nat)} {I : Nat → Nat → Int32} {J : Nat → Nat → Int64} {P : Nat → Nat → Value} {n sl : Nat} {σ : Sg} {ρ : Rs} (hL : LwS len sc t I P n σ ρ σ ρ) (hn1 : n ≤ 144 + 370 * j) (hs1 : sl ≤ 10000 + 2140 * j) (v5 v6 : Value) : RA G (d + 21) ML_law 40 [.ref 63, .ref 100, .ref 122, .ref 143, .int (nI (6 * j)), v5, v6] [.int (nI 0)] (t, I, J, P, n, sl) (fun o h => o = .inl (some (.int (nI 1))) ∧ a_n h ≤ 601124 ∧ a_s h ≤ 7293033) := by
    refine x_tableIn (off := 128) 168 dL_law_40 (by decide) (by decide) (by decide) (by decide) ?_
    refine x_aload_n dL_law_168 rfl ?_
    refine x_aload_n dL_law_169 rfl ?_
    refine x_iload dL_law_170 rfl ?_
    refine x_iconst (v := nI 1) dL_law_172 (by decide) ?_
    refine x_iaddN dL_law_173 ?_
    refine x_ialdN dL_law_174 hL.2.2.2.2.2.2.1 (by omega) ?_ (hl := by omega)
    refine x_top (congrArg Value.int (show I 63 ((6 * j) + 1) = sc ((6 * j) + 1) from (hL.2.2.2.2.2.2.2 _ (by omega)))) ?_
    refine x_invV 100 1 dL_law_175 (hL.1.T rfl) v0_19_1 ((h_part G (d + 18) (sc ((6 * j) + 1)) σ ρ) t I J P n sl hL.1 hL.2.2.1 hL.2.2.2.2.1 hL.2.2.2.2.2.1 (by omega) (by omega)) ?_ (hB := by show n ≤ 601124; omega) (hS := by show sl ≤ 7293033; omega)
    rintro o h' ⟨rfl, hc1⟩
    obtain ⟨t1, I1, J1, P1, n1, sl1, rfl, L1, hn1a, hn1b, hs1a, hs1b, hj1⟩ := hL.h hc1
    show RA _ _ _ _ _ [Value.int _] _ _
    refine x_aload_n dL_law_178 rfl ?_
    refine x_aload_n dL_law_179 rfl ?_
    refine x_iload dL_law_180 rfl ?_
    refine x_iconst (v := nI 1) dL_law_182 (by decide) ?_
    refine x_iaddN dL_law_183 ?_
    refine x_ialdN dL_law_184 L1.2.2.2.2.2.2.1 (by omega) ?_ (hl := by omega)
    refine x_top (congrArg Value.int (show I1 63 ((6 * j) + 1) = sc ((6 * j) + 1) from (L1.2.2.2.2.2.2.2 _ (by omega)))) ?_
    refine x_invV 122 1 dL_law_185 (L1.1.T rfl) v0_22_5 (m_part G (d + 19) (sc ((6 * j) + 1)) σ ρ t1 I1 J1 P1 n1 sl1 L1.1 L1.2.2.2.1 (by omega) (by omega)) ?_ (hB := by show n1 ≤ 601124; omega) (hS := by show sl1 ≤ 7293033; omega)
    rintro o h' ⟨rfl, I2, J2, rfl, hD2, hF2, hJ2, h02⟩
    have L2 := L1.m hD2 hF2
    refine x_icmp_eq 1003 dL_law_188 (by decide) (fun b188 => ?_) (fun b188 => absurd b188 (fun q => q rfl))
    refine x_iincN (c := 6) dL_law_1003 rfl (by decide) ?_
    refine x_goto 23 dL_law_1006 (by decide) ?_
    exact ih (by omega) t1 I2 J2 P1 n1 sl1 _ _ L2 (by omega) (by omega) (by omega) _ _
set_option maxHeartbeats 4000000 in
theorem lw_1 {G : GG} (d : Nat) {len j : Nat} {sc : Nat → Int32} (hlen : len ≤ 384) (hj : 6 * j + 6 ≤ len) (ih : j < 64 → ∀ (t : Nat → Option (Nat × Nat)) (I : Nat → Nat → Int32) (J : Nat → Nat → Int64) (P : Nat → Nat → Value) (n sl : Nat) (σ : Sg) (ρ : Rs), LwS len sc t I P n σ ρ σ ρ → 6 * (j + 1) ≤ len → n ≤ 144 + 370 * (j + 1) → sl ≤ 10000 + 2140 * (j + 1) → ∀ v5 v6, RA G (d + 21) ML_law 23 [.ref 63, .ref 100, .ref 122, .ref 143, .int (nI (6 * (j + 1))), v5, v6] [] (t, I, J, P, n, sl) (fun o h => o = .inl (some (.int (nI 1))) ∧ a_n h ≤ 601124 ∧ a_s h ≤ 7293033)) {t : Nat → Option (Nat × Nat)} {I : Nat → Nat → Int32} {J : Nat → Nat → Int64} {P : Nat → Nat → Value} {n sl : Nat} {σ : Sg} {ρ : Rs} (hL : LwS len sc t I P n σ ρ σ ρ) (hn1 : n ≤ 144 + 370 * j) (hs1 : sl ≤ 10000 + 2140 * j) (v5 v6 : Value) : RA G (d + 21) ML_law 40 [.ref 63, .ref 100, .ref 122, .ref 143, .int (nI (6 * j)), v5, v6] [.int (nI 1)] (t, I, J, P, n, sl) (fun o h => o = .inl (some (.int (nI 1))) ∧ a_n h ≤ 601124 ∧ a_s h ≤ 7293033) := by
    refine x_tableIn (off := 153) 193 dL_law_40 (by decide) (by decide) (by decide) (by decide) ?_
    refine x_aload_n dL_law_193 rfl ?_
    refine x_aload_n dL_law_194 rfl ?_
    refine x_iload dL_law_195 rfl ?_
    refine x_iconst (v := nI 1) dL_law_197 (by decide) ?_
    refine x_iaddN dL_law_198 ?_
    refine x_ialdN dL_law_199 hL.2.2.2.2.2.2.1 (by omega) ?_ (hl := by omega)
    refine x_top (congrArg Value.int (show I 63 ((6 * j) + 1) = sc ((6 * j) + 1) from (hL.2.2.2.2.2.2.2 _ (by omega)))) ?_
    refine x_aload_n dL_law_200 rfl ?_
    refine x_iload dL_law_201 rfl ?_
    refine x_iconst (v := nI 2) dL_law_203 (by decide) ?_
    refine x_iaddN dL_law_204 ?_
    refine x_ialdN dL_law_205 hL.2.2.2.2.2.2.1 (by omega) ?_ (hl := by omega)
    refine x_top (congrArg Value.int (show I 63 ((6 * j) + 2) = sc ((6 * j) + 2) from (hL.2.2.2.2.2.2.2 _ (by omega)))) ?_
    refine x_invV 100 2 dL_law_206 (hL.1.T rfl) v0_23_1 ((h_grant G (d + 18) (sc ((6 * j) + 1)) (sc ((6 * j) + 2)) σ ρ) t I J P n sl hL.1 hL.2.2.1 hL.2.2.2.2.1 hL.2.2.2.2.2.1 (by omega) (by omega)) ?_ (hB := by show n ≤ 601124; omega) (hS := by show sl ≤ 7293033; omega)
    rintro o h' ⟨rfl, hc1⟩
    obtain ⟨t1, I1, J1, P1, n1, sl1, rfl, L1, hn1a, hn1b, hs1a, hs1b, hj1⟩ := hL.h hc1
    show RA _ _ _ _ _ [Value.int _] _ _
    refine x_aload_n dL_law_209 rfl ?_
    refine x_aload_n dL_law_210 rfl ?_
    refine x_iload dL_law_211 rfl ?_
    refine x_iconst (v := nI 1) dL_law_213 (by decide) ?_
    refine x_iaddN dL_law_214 ?_
    refine x_ialdN dL_law_215 L1.2.2.2.2.2.2.1 (by omega) ?_ (hl := by omega)
    refine x_top (congrArg Value.int (show I1 63 ((6 * j) + 1) = sc ((6 * j) + 1) from (L1.2.2.2.2.2.2.2 _ (by omega)))) ?_
    refine x_aload_n dL_law_216 rfl ?_
    refine x_iload dL_law_217 rfl ?_
    refine x_iconst (v := nI 2) dL_law_219 (by decide) ?_
    refine x_iaddN dL_law_220 ?_
    refine x_ialdN dL_law_221 L1.2.2.2.2.2.2.1 (by omega) ?_ (hl := by omega)
    refine x_top (congrArg Value.int (show I1 63 ((6 * j) + 2) = sc ((6 * j) + 2) from (L1.2.2.2.2.2.2.2 _ (by omega)))) ?_
    refine x_invV 122 2 dL_law_222 (L1.1.T rfl) v0_27_5 (m_grant G (d + 19) (sc ((6 * j) + 1)) (sc ((6 * j) + 2)) σ ρ t1 I1 J1 P1 n1 sl1 L1.1 L1.2.2.2.1 (by omega) (by omega)) ?_ (hB := by show n1 ≤ 601124; omega) (hS := by show sl1 ≤ 7293033; omega)
    rintro o h' ⟨rfl, I2, J2, rfl, hD2, hF2, hJ2, h02⟩
    have L2 := L1.m hD2 hF2
    refine x_icmp_eq 1003 dL_law_225 (by decide) (fun b225 => ?_) (fun b225 => absurd b225 (fun q => q rfl))
    refine x_iincN (c := 6) dL_law_1003 rfl (by decide) ?_
    refine x_goto 23 dL_law_1006 (by decide) ?_
    exact ih (by omega) t1 I2 J2 P1 n1 sl1 _ _ L2 (by omega) (by omega) (by omega) _ _
set_option maxHeartbeats 4000000 in
theorem lw_2 {G : GG} (d : Nat) {len j : Nat} {sc : Nat → Int32} (hlen : len ≤ 384) (hj : 6 * j + 6 ≤ len) (ih : j < 64 → ∀ (t : Nat → Option (Nat × Nat)) (I : Nat → Nat → Int32) (J : Nat → Nat → Int64) (P : Nat → Nat → Value) (n sl : Nat) (σ : Sg) (ρ : Rs), LwS len sc t I P n σ ρ σ ρ → 6 * (j + 1) ≤ len → n ≤ 144 + 370 * (j + 1) → sl ≤ 10000 + 2140 * (j + 1) → ∀ v5 v6, RA G (d + 21) ML_law 23 [.ref 63, .ref 100, .ref 122, .ref 143, .int (nI (6 * (j + 1))), v5, v6] [] (t, I, J, P, n, sl) (fun o h => o = .inl (some (.int (nI 1))) ∧ a_n h ≤ 601124 ∧ a_s h ≤ 7293033)) {t : Nat → Option (Nat × Nat)} {I : Nat → Nat → Int32} {J : Nat → Nat → Int64} {P : Nat → Nat → Value} {n sl : Nat} {σ : Sg} {ρ : Rs} (hL : LwS len sc t I P n σ ρ σ ρ) (hn1 : n ≤ 144 + 370 * j) (hs1 : sl ≤ 10000 + 2140 * j) (v5 v6 : Value) : RA G (d + 21) ML_law 40 [.ref 63, .ref 100, .ref 122, .ref 143, .int (nI (6 * j)), v5, v6] [.int (nI 2)] (t, I, J, P, n, sl) (fun o h => o = .inl (some (.int (nI 1))) ∧ a_n h ≤ 601124 ∧ a_s h ≤ 7293033) := by
    refine x_tableIn (off := 190) 230 dL_law_40 (by decide) (by decide) (by decide) (by decide) ?_
    refine x_aload_n dL_law_230 rfl ?_
    refine x_aload_n dL_law_231 rfl ?_
    refine x_iload dL_law_232 rfl ?_
    refine x_iconst (v := nI 1) dL_law_234 (by decide) ?_
    refine x_iaddN dL_law_235 ?_
    refine x_ialdN dL_law_236 hL.2.2.2.2.2.2.1 (by omega) ?_ (hl := by omega)
    refine x_top (congrArg Value.int (show I 63 ((6 * j) + 1) = sc ((6 * j) + 1) from (hL.2.2.2.2.2.2.2 _ (by omega)))) ?_
    refine x_aload_n dL_law_237 rfl ?_
    refine x_iload dL_law_238 rfl ?_
    refine x_iconst (v := nI 2) dL_law_240 (by decide) ?_
    refine x_iaddN dL_law_241 ?_
    refine x_ialdN dL_law_242 hL.2.2.2.2.2.2.1 (by omega) ?_ (hl := by omega)
    refine x_top (congrArg Value.int (show I 63 ((6 * j) + 2) = sc ((6 * j) + 2) from (hL.2.2.2.2.2.2.2 _ (by omega)))) ?_
    refine x_aload_n dL_law_243 rfl ?_
    refine x_iload dL_law_244 rfl ?_
    refine x_iconst (v := nI 3) dL_law_246 (by decide) ?_
    refine x_iaddN dL_law_247 ?_
    refine x_ialdN dL_law_248 hL.2.2.2.2.2.2.1 (by omega) ?_ (hl := by omega)
    refine x_top (congrArg Value.int (show I 63 ((6 * j) + 3) = sc ((6 * j) + 3) from (hL.2.2.2.2.2.2.2 _ (by omega)))) ?_
    refine x_aload_n dL_law_249 rfl ?_
    refine x_iload dL_law_250 rfl ?_
    refine x_iconst (v := nI 4) dL_law_252 (by decide) ?_
    refine x_iaddN dL_law_253 ?_
    refine x_ialdN dL_law_254 hL.2.2.2.2.2.2.1 (by omega) ?_ (hl := by omega)
    refine x_top (congrArg Value.int (show I 63 ((6 * j) + 4) = sc ((6 * j) + 4) from (hL.2.2.2.2.2.2.2 _ (by omega)))) ?_
    refine x_aload_n dL_law_255 rfl ?_
    refine x_iload dL_law_256 rfl ?_
    refine x_iconst (v := nI 5) dL_law_258 (by decide) ?_
    refine x_iaddN dL_law_259 ?_
    refine x_ialdN dL_law_260 hL.2.2.2.2.2.2.1 (by omega) ?_ (hl := by omega)
    refine x_top (congrArg Value.int (show I 63 ((6 * j) + 5) = sc ((6 * j) + 5) from (hL.2.2.2.2.2.2.2 _ (by omega)))) ?_
    refine x_invV 100 5 dL_law_261 (hL.1.T rfl) v0_28_1 (((h_feed G (d + 19) (sc ((6 * j) + 1)) (sc ((6 * j) + 2)) (sc ((6 * j) + 3)) (sc ((6 * j) + 4)) (sc ((6 * j) + 5)) σ ρ).con 0 0) t I J P n sl hL.1 hL.2.2.1 hL.2.2.2.2.1 hL.2.2.2.2.2.1 (by omega) (by omega)) ?_ (hB := by show n ≤ 601124; omega) (hS := by show sl ≤ 7293033; omega)
    rintro o h' ⟨rfl, hc1⟩
    obtain ⟨t1, I1, J1, P1, n1, sl1, rfl, L1, hn1a, hn1b, hs1a, hs1b, hj1⟩ := hL.h hc1
    show RA _ _ _ _ _ [Value.int _] _ _
    refine x_aload_n dL_law_264 rfl ?_
    refine x_aload_n dL_law_265 rfl ?_
    refine x_iload dL_law_266 rfl ?_
    refine x_iconst (v := nI 1) dL_law_268 (by decide) ?_
    refine x_iaddN dL_law_269 ?_
    refine x_ialdN dL_law_270 L1.2.2.2.2.2.2.1 (by omega) ?_ (hl := by omega)
    refine x_top (congrArg Value.int (show I1 63 ((6 * j) + 1) = sc ((6 * j) + 1) from (L1.2.2.2.2.2.2.2 _ (by omega)))) ?_
    refine x_aload_n dL_law_271 rfl ?_
    refine x_iload dL_law_272 rfl ?_
    refine x_iconst (v := nI 2) dL_law_274 (by decide) ?_
    refine x_iaddN dL_law_275 ?_
    refine x_ialdN dL_law_276 L1.2.2.2.2.2.2.1 (by omega) ?_ (hl := by omega)
    refine x_top (congrArg Value.int (show I1 63 ((6 * j) + 2) = sc ((6 * j) + 2) from (L1.2.2.2.2.2.2.2 _ (by omega)))) ?_
    refine x_aload_n dL_law_277 rfl ?_
    refine x_iload dL_law_278 rfl ?_
    refine x_iconst (v := nI 3) dL_law_280 (by decide) ?_
    refine x_iaddN dL_law_281 ?_
    refine x_ialdN dL_law_282 L1.2.2.2.2.2.2.1 (by omega) ?_ (hl := by omega)
    refine x_top (congrArg Value.int (show I1 63 ((6 * j) + 3) = sc ((6 * j) + 3) from (L1.2.2.2.2.2.2.2 _ (by omega)))) ?_
    refine x_aload_n dL_law_283 rfl ?_
    refine x_iload dL_law_284 rfl ?_
    refine x_iconst (v := nI 4) dL_law_286 (by decide) ?_
    refine x_iaddN dL_law_287 ?_
    refine x_ialdN dL_law_288 L1.2.2.2.2.2.2.1 (by omega) ?_ (hl := by omega)
    refine x_top (congrArg Value.int (show I1 63 ((6 * j) + 4) = sc ((6 * j) + 4) from (L1.2.2.2.2.2.2.2 _ (by omega)))) ?_
    refine x_aload_n dL_law_289 rfl ?_
    refine x_iload dL_law_290 rfl ?_
    refine x_iconst (v := nI 5) dL_law_292 (by decide) ?_
    refine x_iaddN dL_law_293 ?_
    refine x_ialdN dL_law_294 L1.2.2.2.2.2.2.1 (by omega) ?_ (hl := by omega)
    refine x_top (congrArg Value.int (show I1 63 ((6 * j) + 5) = sc ((6 * j) + 5) from (L1.2.2.2.2.2.2.2 _ (by omega)))) ?_
    refine x_invV 122 5 dL_law_295 (L1.1.T rfl) v0_32_5 (m_feed G (d + 20) (sc ((6 * j) + 1)) (sc ((6 * j) + 2)) (sc ((6 * j) + 3)) (sc ((6 * j) + 4)) (sc ((6 * j) + 5)) σ ρ t1 I1 J1 P1 n1 sl1 L1.1 L1.2.2.2.1 (by omega) (by omega)) ?_ (hB := by show n1 ≤ 601124; omega) (hS := by show sl1 ≤ 7293033; omega)
    rintro o h' ⟨rfl, I2, J2, rfl, hD2, hF2, hJ2, h02⟩
    have L2 := L1.m hD2 hF2
    refine x_icmp_eq 1003 dL_law_298 (by decide) (fun b298 => ?_) (fun b298 => absurd b298 (fun q => q rfl))
    refine x_iincN (c := 6) dL_law_1003 rfl (by decide) ?_
    refine x_goto 23 dL_law_1006 (by decide) ?_
    exact ih (by omega) t1 I2 J2 P1 n1 sl1 _ _ L2 (by omega) (by omega) (by omega) _ _
set_option maxHeartbeats 4000000 in
theorem lw_4 {G : GG} (d : Nat) {len j : Nat} {sc : Nat → Int32} (hlen : len ≤ 384) (hj : 6 * j + 6 ≤ len) (ih : j < 64 → ∀ (t : Nat → Option (Nat × Nat)) (I : Nat → Nat → Int32) (J : Nat → Nat → Int64) (P : Nat → Nat → Value) (n sl : Nat) (σ : Sg) (ρ : Rs), LwS len sc t I P n σ ρ σ ρ → 6 * (j + 1) ≤ len → n ≤ 144 + 370 * (j + 1) → sl ≤ 10000 + 2140 * (j + 1) → ∀ v5 v6, RA G (d + 21) ML_law 23 [.ref 63, .ref 100, .ref 122, .ref 143, .int (nI (6 * (j + 1))), v5, v6] [] (t, I, J, P, n, sl) (fun o h => o = .inl (some (.int (nI 1))) ∧ a_n h ≤ 601124 ∧ a_s h ≤ 7293033)) {t : Nat → Option (Nat × Nat)} {I : Nat → Nat → Int32} {J : Nat → Nat → Int64} {P : Nat → Nat → Value} {n sl : Nat} {σ : Sg} {ρ : Rs} (hL : LwS len sc t I P n σ ρ σ ρ) (hn1 : n ≤ 144 + 370 * j) (hs1 : sl ≤ 10000 + 2140 * j) (v5 v6 : Value) : RA G (d + 21) ML_law 40 [.ref 63, .ref 100, .ref 122, .ref 143, .int (nI (6 * j)), v5, v6] [.int (nI 4)] (t, I, J, P, n, sl) (fun o h => o = .inl (some (.int (nI 1))) ∧ a_n h ≤ 601124 ∧ a_s h ≤ 7293033) := by
    refine x_tableIn (off := 300) 340 dL_law_40 (by decide) (by decide) (by decide) (by decide) ?_
    refine x_aload_n dL_law_340 rfl ?_
    refine x_invV 100 0 dL_law_341 (hL.1.T rfl) v0_38_1 (((h_fault G (d + 20)  σ ρ).con 0 0) t I J P n sl hL.1 hL.2.2.1 hL.2.2.2.2.1 hL.2.2.2.2.2.1 (by omega) (by omega)) ?_ (hB := by show n ≤ 601124; omega) (hS := by show sl ≤ 7293033; omega)
    rintro o h' ⟨rfl, hc1⟩
    obtain ⟨t1, I1, J1, P1, n1, sl1, rfl, L1, hn1a, hn1b, hs1a, hs1b, hj1⟩ := hL.h hc1
    show RA _ _ _ _ _ [Value.int _] _ _
    refine x_aload_n dL_law_344 rfl ?_
    refine x_invV 122 0 dL_law_345 (L1.1.T rfl) v0_42_5 (m_fault G (d + 20)  σ ρ t1 I1 J1 P1 n1 sl1 L1.1 L1.2.2.2.1 (by omega) (by omega)) ?_ (hB := by show n1 ≤ 601124; omega) (hS := by show sl1 ≤ 7293033; omega)
    rintro o h' ⟨rfl, I2, J2, rfl, hD2, hF2, hJ2, h02⟩
    have L2 := L1.m hD2 hF2
    refine x_icmp_eq 1003 dL_law_348 (by decide) (fun b348 => ?_) (fun b348 => absurd b348 (fun q => q rfl))
    refine x_iincN (c := 6) dL_law_1003 rfl (by decide) ?_
    refine x_goto 23 dL_law_1006 (by decide) ?_
    exact ih (by omega) t1 I2 J2 P1 n1 sl1 _ _ L2 (by omega) (by omega) (by omega) _ _
set_option maxHeartbeats 4000000 in
theorem lw_5 {G : GG} (d : Nat) {len j : Nat} {sc : Nat → Int32} (hlen : len ≤ 384) (hj : 6 * j + 6 ≤ len) (ih : j < 64 → ∀ (t : Nat → Option (Nat × Nat)) (I : Nat → Nat → Int32) (J : Nat → Nat → Int64) (P : Nat → Nat → Value) (n sl : Nat) (σ : Sg) (ρ : Rs), LwS len sc t I P n σ ρ σ ρ → 6 * (j + 1) ≤ len → n ≤ 144 + 370 * (j + 1) → sl ≤ 10000 + 2140 * (j + 1) → ∀ v5 v6, RA G (d + 21) ML_law 23 [.ref 63, .ref 100, .ref 122, .ref 143, .int (nI (6 * (j + 1))), v5, v6] [] (t, I, J, P, n, sl) (fun o h => o = .inl (some (.int (nI 1))) ∧ a_n h ≤ 601124 ∧ a_s h ≤ 7293033)) {t : Nat → Option (Nat × Nat)} {I : Nat → Nat → Int32} {J : Nat → Nat → Int64} {P : Nat → Nat → Value} {n sl : Nat} {σ : Sg} {ρ : Rs} (hL : LwS len sc t I P n σ ρ σ ρ) (hn1 : n ≤ 144 + 370 * j) (hs1 : sl ≤ 10000 + 2140 * j) (v5 v6 : Value) : RA G (d + 21) ML_law 40 [.ref 63, .ref 100, .ref 122, .ref 143, .int (nI (6 * j)), v5, v6] [.int (nI 5)] (t, I, J, P, n, sl) (fun o h => o = .inl (some (.int (nI 1))) ∧ a_n h ≤ 601124 ∧ a_s h ≤ 7293033) := by
    refine x_tableIn (off := 313) 353 dL_law_40 (by decide) (by decide) (by decide) (by decide) ?_
    refine x_aload_n dL_law_353 rfl ?_
    refine x_invV 100 0 dL_law_354 (hL.1.T rfl) v0_43_1 (((h_where G (d + 20)  σ ρ).con 0 0) t I J P n sl hL.1 hL.2.2.1 hL.2.2.2.2.1 hL.2.2.2.2.2.1 (by omega) (by omega)) ?_ (hB := by show n ≤ 601124; omega) (hS := by show sl ≤ 7293033; omega)
    rintro o h' ⟨rfl, hc1⟩
    obtain ⟨t1, I1, J1, P1, n1, sl1, rfl, L1, hn1a, hn1b, hs1a, hs1b, hj1⟩ := hL.h hc1
    show RA _ _ _ _ _ [Value.int _] _ _
    refine x_aload_n dL_law_357 rfl ?_
    refine x_invV 122 0 dL_law_358 (L1.1.T rfl) v0_46_5 (m_where G (d + 20)  σ ρ t1 I1 J1 P1 n1 sl1 L1.1 L1.2.2.2.1 (by omega) (by omega)) ?_ (hB := by show n1 ≤ 601124; omega) (hS := by show sl1 ≤ 7293033; omega)
    rintro o h' ⟨rfl, I2, J2, rfl, hD2, hF2, hJ2, h02⟩
    have L2 := L1.m hD2 hF2
    refine x_icmp_eq 1003 dL_law_361 (by decide) (fun b361 => ?_) (fun b361 => absurd b361 (fun q => q rfl))
    refine x_iincN (c := 6) dL_law_1003 rfl (by decide) ?_
    refine x_goto 23 dL_law_1006 (by decide) ?_
    exact ih (by omega) t1 I2 J2 P1 n1 sl1 _ _ L2 (by omega) (by omega) (by omega) _ _
set_option maxHeartbeats 4000000 in
theorem lw_6 {G : GG} (d : Nat) {len j : Nat} {sc : Nat → Int32} (hlen : len ≤ 384) (hj : 6 * j + 6 ≤ len) (ih : j < 64 → ∀ (t : Nat → Option (Nat × Nat)) (I : Nat → Nat → Int32) (J : Nat → Nat → Int64) (P : Nat → Nat → Value) (n sl : Nat) (σ : Sg) (ρ : Rs), LwS len sc t I P n σ ρ σ ρ → 6 * (j + 1) ≤ len → n ≤ 144 + 370 * (j + 1) → sl ≤ 10000 + 2140 * (j + 1) → ∀ v5 v6, RA G (d + 21) ML_law 23 [.ref 63, .ref 100, .ref 122, .ref 143, .int (nI (6 * (j + 1))), v5, v6] [] (t, I, J, P, n, sl) (fun o h => o = .inl (some (.int (nI 1))) ∧ a_n h ≤ 601124 ∧ a_s h ≤ 7293033)) {t : Nat → Option (Nat × Nat)} {I : Nat → Nat → Int32} {J : Nat → Nat → Int64} {P : Nat → Nat → Value} {n sl : Nat} {σ : Sg} {ρ : Rs} (hL : LwS len sc t I P n σ ρ σ ρ) (hn1 : n ≤ 144 + 370 * j) (hs1 : sl ≤ 10000 + 2140 * j) (v5 v6 : Value) : RA G (d + 21) ML_law 40 [.ref 63, .ref 100, .ref 122, .ref 143, .int (nI (6 * j)), v5, v6] [.int (nI 6)] (t, I, J, P, n, sl) (fun o h => o = .inl (some (.int (nI 1))) ∧ a_n h ≤ 601124 ∧ a_s h ≤ 7293033) := by
    refine x_tableIn (off := 326) 366 dL_law_40 (by decide) (by decide) (by decide) (by decide) ?_
    refine x_aload_n dL_law_366 rfl ?_
    refine x_aload_n dL_law_367 rfl ?_
    refine x_iload dL_law_368 rfl ?_
    refine x_iconst (v := nI 1) dL_law_370 (by decide) ?_
    refine x_iaddN dL_law_371 ?_
    refine x_ialdN dL_law_372 hL.2.2.2.2.2.2.1 (by omega) ?_ (hl := by omega)
    refine x_top (congrArg Value.int (show I 63 ((6 * j) + 1) = sc ((6 * j) + 1) from (hL.2.2.2.2.2.2.2 _ (by omega)))) ?_
    refine x_aload_n dL_law_373 rfl ?_
    refine x_iload dL_law_374 rfl ?_
    refine x_iconst (v := nI 2) dL_law_376 (by decide) ?_
    refine x_iaddN dL_law_377 ?_
    refine x_ialdN dL_law_378 hL.2.2.2.2.2.2.1 (by omega) ?_ (hl := by omega)
    refine x_top (congrArg Value.int (show I 63 ((6 * j) + 2) = sc ((6 * j) + 2) from (hL.2.2.2.2.2.2.2 _ (by omega)))) ?_
    refine x_aload_n dL_law_379 rfl ?_
    refine x_iload dL_law_380 rfl ?_
    refine x_iconst (v := nI 3) dL_law_382 (by decide) ?_
    refine x_iaddN dL_law_383 ?_
    refine x_ialdN dL_law_384 hL.2.2.2.2.2.2.1 (by omega) ?_ (hl := by omega)
    refine x_top (congrArg Value.int (show I 63 ((6 * j) + 3) = sc ((6 * j) + 3) from (hL.2.2.2.2.2.2.2 _ (by omega)))) ?_
    refine x_invV 100 3 dL_law_385 (hL.1.T rfl) v0_47_1 (((h_line G (d + 18) (sc ((6 * j) + 1)) (sc ((6 * j) + 2)) (sc ((6 * j) + 3)) σ ρ).con 0 0) t I J P n sl hL.1 hL.2.2.1 hL.2.2.2.2.1 hL.2.2.2.2.2.1 (by omega) (by omega)) ?_ (hB := by show n ≤ 601124; omega) (hS := by show sl ≤ 7293033; omega)
    rintro o h' ⟨rfl, hc1⟩
    obtain ⟨t1, I1, J1, P1, n1, sl1, rfl, L1, hn1a, hn1b, hs1a, hs1b, hj1⟩ := hL.h hc1
    show RA _ _ _ _ _ [Value.int _] _ _
    refine x_aload_n dL_law_388 rfl ?_
    refine x_aload_n dL_law_389 rfl ?_
    refine x_iload dL_law_390 rfl ?_
    refine x_iconst (v := nI 1) dL_law_392 (by decide) ?_
    refine x_iaddN dL_law_393 ?_
    refine x_ialdN dL_law_394 L1.2.2.2.2.2.2.1 (by omega) ?_ (hl := by omega)
    refine x_top (congrArg Value.int (show I1 63 ((6 * j) + 1) = sc ((6 * j) + 1) from (L1.2.2.2.2.2.2.2 _ (by omega)))) ?_
    refine x_aload_n dL_law_395 rfl ?_
    refine x_iload dL_law_396 rfl ?_
    refine x_iconst (v := nI 2) dL_law_398 (by decide) ?_
    refine x_iaddN dL_law_399 ?_
    refine x_ialdN dL_law_400 L1.2.2.2.2.2.2.1 (by omega) ?_ (hl := by omega)
    refine x_top (congrArg Value.int (show I1 63 ((6 * j) + 2) = sc ((6 * j) + 2) from (L1.2.2.2.2.2.2.2 _ (by omega)))) ?_
    refine x_aload_n dL_law_401 rfl ?_
    refine x_iload dL_law_402 rfl ?_
    refine x_iconst (v := nI 3) dL_law_404 (by decide) ?_
    refine x_iaddN dL_law_405 ?_
    refine x_ialdN dL_law_406 L1.2.2.2.2.2.2.1 (by omega) ?_ (hl := by omega)
    refine x_top (congrArg Value.int (show I1 63 ((6 * j) + 3) = sc ((6 * j) + 3) from (L1.2.2.2.2.2.2.2 _ (by omega)))) ?_
    refine x_invV 122 3 dL_law_407 (L1.1.T rfl) v0_51_5 (m_line G (d + 19) (sc ((6 * j) + 1)) (sc ((6 * j) + 2)) (sc ((6 * j) + 3)) σ ρ t1 I1 J1 P1 n1 sl1 L1.1 L1.2.2.2.1 (by omega) (by omega)) ?_ (hB := by show n1 ≤ 601124; omega) (hS := by show sl1 ≤ 7293033; omega)
    rintro o h' ⟨rfl, I2, J2, rfl, hD2, hF2, hJ2, h02⟩
    have L2 := L1.m hD2 hF2
    refine x_icmp_eq 1003 dL_law_410 (by decide) (fun b410 => ?_) (fun b410 => absurd b410 (fun q => q rfl))
    refine x_iincN (c := 6) dL_law_1003 rfl (by decide) ?_
    refine x_goto 23 dL_law_1006 (by decide) ?_
    exact ih (by omega) t1 I2 J2 P1 n1 sl1 _ _ L2 (by omega) (by omega) (by omega) _ _
set_option maxHeartbeats 4000000 in
theorem lw_8 {G : GG} (d : Nat) {len j : Nat} {sc : Nat → Int32} (hlen : len ≤ 384) (hj : 6 * j + 6 ≤ len) (ih : j < 64 → ∀ (t : Nat → Option (Nat × Nat)) (I : Nat → Nat → Int32) (J : Nat → Nat → Int64) (P : Nat → Nat → Value) (n sl : Nat) (σ : Sg) (ρ : Rs), LwS len sc t I P n σ ρ σ ρ → 6 * (j + 1) ≤ len → n ≤ 144 + 370 * (j + 1) → sl ≤ 10000 + 2140 * (j + 1) → ∀ v5 v6, RA G (d + 21) ML_law 23 [.ref 63, .ref 100, .ref 122, .ref 143, .int (nI (6 * (j + 1))), v5, v6] [] (t, I, J, P, n, sl) (fun o h => o = .inl (some (.int (nI 1))) ∧ a_n h ≤ 601124 ∧ a_s h ≤ 7293033)) {t : Nat → Option (Nat × Nat)} {I : Nat → Nat → Int32} {J : Nat → Nat → Int64} {P : Nat → Nat → Value} {n sl : Nat} {σ : Sg} {ρ : Rs} (hL : LwS len sc t I P n σ ρ σ ρ) (hn1 : n ≤ 144 + 370 * j) (hs1 : sl ≤ 10000 + 2140 * j) (v5 v6 : Value) : RA G (d + 21) ML_law 40 [.ref 63, .ref 100, .ref 122, .ref 143, .int (nI (6 * j)), v5, v6] [.int (nI 8)] (t, I, J, P, n, sl) (fun o h => o = .inl (some (.int (nI 1))) ∧ a_n h ≤ 601124 ∧ a_s h ≤ 7293033) := by
    refine x_tableIn (off := 440) 480 dL_law_40 (by decide) (by decide) (by decide) (by decide) ?_
    refine x_aload_n dL_law_480 rfl ?_
    refine x_aload_n dL_law_481 rfl ?_
    refine x_iload dL_law_482 rfl ?_
    refine x_iconst (v := nI 1) dL_law_484 (by decide) ?_
    refine x_iaddN dL_law_485 ?_
    refine x_ialdN dL_law_486 hL.2.2.2.2.2.2.1 (by omega) ?_ (hl := by omega)
    refine x_top (congrArg Value.int (show I 63 ((6 * j) + 1) = sc ((6 * j) + 1) from (hL.2.2.2.2.2.2.2 _ (by omega)))) ?_
    refine x_aload_n dL_law_487 rfl ?_
    refine x_iload dL_law_488 rfl ?_
    refine x_iconst (v := nI 2) dL_law_490 (by decide) ?_
    refine x_iaddN dL_law_491 ?_
    refine x_ialdN dL_law_492 hL.2.2.2.2.2.2.1 (by omega) ?_ (hl := by omega)
    refine x_top (congrArg Value.int (show I 63 ((6 * j) + 2) = sc ((6 * j) + 2) from (hL.2.2.2.2.2.2.2 _ (by omega)))) ?_
    refine x_invV 100 2 dL_law_493 (hL.1.T rfl) v0_57_1 (((h_holds G (d + 15) (sc ((6 * j) + 1)) (sc ((6 * j) + 2)) σ ρ).con 0 0) t I J P n sl hL.1 hL.2.2.1 hL.2.2.2.2.1 hL.2.2.2.2.2.1 (by omega) (by omega)) ?_ (hB := by show n ≤ 601124; omega) (hS := by show sl ≤ 7293033; omega)
    rintro o h' ⟨rfl, hc1⟩
    obtain ⟨t1, I1, J1, P1, n1, sl1, rfl, L1, hn1a, hn1b, hs1a, hs1b, hj1⟩ := hL.h hc1
    show RA _ _ _ _ _ [Value.int _] _ _
    refine x_aload_n dL_law_496 rfl ?_
    refine x_aload_n dL_law_497 rfl ?_
    refine x_iload dL_law_498 rfl ?_
    refine x_iconst (v := nI 1) dL_law_500 (by decide) ?_
    refine x_iaddN dL_law_501 ?_
    refine x_ialdN dL_law_502 L1.2.2.2.2.2.2.1 (by omega) ?_ (hl := by omega)
    refine x_top (congrArg Value.int (show I1 63 ((6 * j) + 1) = sc ((6 * j) + 1) from (L1.2.2.2.2.2.2.2 _ (by omega)))) ?_
    refine x_aload_n dL_law_503 rfl ?_
    refine x_iload dL_law_504 rfl ?_
    refine x_iconst (v := nI 2) dL_law_506 (by decide) ?_
    refine x_iaddN dL_law_507 ?_
    refine x_ialdN dL_law_508 L1.2.2.2.2.2.2.1 (by omega) ?_ (hl := by omega)
    refine x_top (congrArg Value.int (show I1 63 ((6 * j) + 2) = sc ((6 * j) + 2) from (L1.2.2.2.2.2.2.2 _ (by omega)))) ?_
    refine x_invV 122 2 dL_law_509 (L1.1.T rfl) v0_60_5 (m_holds G (d + 17) (sc ((6 * j) + 1)) (sc ((6 * j) + 2)) σ ρ t1 I1 J1 P1 n1 sl1 L1.1 L1.2.2.2.1 (by omega) (by omega)) ?_ (hB := by show n1 ≤ 601124; omega) (hS := by show sl1 ≤ 7293033; omega)
    rintro o h' ⟨rfl, I2, J2, rfl, hD2, hF2, hJ2, h02⟩
    have L2 := L1.m hD2 hF2
    refine x_icmp_eq 1003 dL_law_512 (by decide) (fun b512 => ?_) (fun b512 => absurd b512 (fun q => q rfl))
    refine x_iincN (c := 6) dL_law_1003 rfl (by decide) ?_
    refine x_goto 23 dL_law_1006 (by decide) ?_
    exact ih (by omega) t1 I2 J2 P1 n1 sl1 _ _ L2 (by omega) (by omega) (by omega) _ _
set_option maxHeartbeats 4000000 in
theorem lw_9 {G : GG} (d : Nat) {len j : Nat} {sc : Nat → Int32} (hlen : len ≤ 384) (hj : 6 * j + 6 ≤ len) (ih : j < 64 → ∀ (t : Nat → Option (Nat × Nat)) (I : Nat → Nat → Int32) (J : Nat → Nat → Int64) (P : Nat → Nat → Value) (n sl : Nat) (σ : Sg) (ρ : Rs), LwS len sc t I P n σ ρ σ ρ → 6 * (j + 1) ≤ len → n ≤ 144 + 370 * (j + 1) → sl ≤ 10000 + 2140 * (j + 1) → ∀ v5 v6, RA G (d + 21) ML_law 23 [.ref 63, .ref 100, .ref 122, .ref 143, .int (nI (6 * (j + 1))), v5, v6] [] (t, I, J, P, n, sl) (fun o h => o = .inl (some (.int (nI 1))) ∧ a_n h ≤ 601124 ∧ a_s h ≤ 7293033)) {t : Nat → Option (Nat × Nat)} {I : Nat → Nat → Int32} {J : Nat → Nat → Int64} {P : Nat → Nat → Value} {n sl : Nat} {σ : Sg} {ρ : Rs} (hL : LwS len sc t I P n σ ρ σ ρ) (hn1 : n ≤ 144 + 370 * j) (hs1 : sl ≤ 10000 + 2140 * j) (v5 v6 : Value) : RA G (d + 21) ML_law 40 [.ref 63, .ref 100, .ref 122, .ref 143, .int (nI (6 * j)), v5, v6] [.int (nI 9)] (t, I, J, P, n, sl) (fun o h => o = .inl (some (.int (nI 1))) ∧ a_n h ≤ 601124 ∧ a_s h ≤ 7293033) := by
    refine x_tableIn (off := 477) 517 dL_law_40 (by decide) (by decide) (by decide) (by decide) ?_
    refine x_aload_n dL_law_517 rfl ?_
    refine x_aload_n dL_law_518 rfl ?_
    refine x_iload dL_law_519 rfl ?_
    refine x_iconst (v := nI 1) dL_law_521 (by decide) ?_
    refine x_iaddN dL_law_522 ?_
    refine x_ialdN dL_law_523 hL.2.2.2.2.2.2.1 (by omega) ?_ (hl := by omega)
    refine x_top (congrArg Value.int (show I 63 ((6 * j) + 1) = sc ((6 * j) + 1) from (hL.2.2.2.2.2.2.2 _ (by omega)))) ?_
    refine x_invV 100 1 dL_law_524 (hL.1.T rfl) v0_61_1 (((h_result G (d + 11) (sc ((6 * j) + 1)) σ ρ).con 0 0) t I J P n sl hL.1 hL.2.2.1 hL.2.2.2.2.1 hL.2.2.2.2.2.1 (by omega) (by omega)) ?_ (hB := by show n ≤ 601124; omega) (hS := by show sl ≤ 7293033; omega)
    rintro o h' ⟨rfl, hc1⟩
    obtain ⟨t1, I1, J1, P1, n1, sl1, rfl, L1, hn1a, hn1b, hs1a, hs1b, hj1⟩ := hL.h hc1
    show RA _ _ _ _ _ [Value.int _] _ _
    refine x_aload_n dL_law_527 rfl ?_
    refine x_aload_n dL_law_528 rfl ?_
    refine x_iload dL_law_529 rfl ?_
    refine x_iconst (v := nI 1) dL_law_531 (by decide) ?_
    refine x_iaddN dL_law_532 ?_
    refine x_ialdN dL_law_533 L1.2.2.2.2.2.2.1 (by omega) ?_ (hl := by omega)
    refine x_top (congrArg Value.int (show I1 63 ((6 * j) + 1) = sc ((6 * j) + 1) from (L1.2.2.2.2.2.2.2 _ (by omega)))) ?_
    refine x_invV 122 1 dL_law_534 (L1.1.T rfl) v0_64_5 (m_result G (d + 17) (sc ((6 * j) + 1)) σ ρ t1 I1 J1 P1 n1 sl1 L1.1 L1.2.2.2.1 (by omega) (by omega)) ?_ (hB := by show n1 ≤ 601124; omega) (hS := by show sl1 ≤ 7293033; omega)
    rintro o h' ⟨rfl, I2, J2, rfl, hD2, hF2, hJ2, h02⟩
    have L2 := L1.m hD2 hF2
    refine x_icmp_eq 1003 dL_law_537 (by decide) (fun b537 => ?_) (fun b537 => absurd b537 (fun q => q rfl))
    refine x_iincN (c := 6) dL_law_1003 rfl (by decide) ?_
    refine x_goto 23 dL_law_1006 (by decide) ?_
    exact ih (by omega) t1 I2 J2 P1 n1 sl1 _ _ L2 (by omega) (by omega) (by omega) _ _
set_option maxHeartbeats 4000000 in
theorem lw_10 {G : GG} (d : Nat) {len j : Nat} {sc : Nat → Int32} (hlen : len ≤ 384) (hj : 6 * j + 6 ≤ len) (ih : j < 64 → ∀ (t : Nat → Option (Nat × Nat)) (I : Nat → Nat → Int32) (J : Nat → Nat → Int64) (P : Nat → Nat → Value) (n sl : Nat) (σ : Sg) (ρ : Rs), LwS len sc t I P n σ ρ σ ρ → 6 * (j + 1) ≤ len → n ≤ 144 + 370 * (j + 1) → sl ≤ 10000 + 2140 * (j + 1) → ∀ v5 v6, RA G (d + 21) ML_law 23 [.ref 63, .ref 100, .ref 122, .ref 143, .int (nI (6 * (j + 1))), v5, v6] [] (t, I, J, P, n, sl) (fun o h => o = .inl (some (.int (nI 1))) ∧ a_n h ≤ 601124 ∧ a_s h ≤ 7293033)) {t : Nat → Option (Nat × Nat)} {I : Nat → Nat → Int32} {J : Nat → Nat → Int64} {P : Nat → Nat → Value} {n sl : Nat} {σ : Sg} {ρ : Rs} (hL : LwS len sc t I P n σ ρ σ ρ) (hn1 : n ≤ 144 + 370 * j) (hs1 : sl ≤ 10000 + 2140 * j) (v5 v6 : Value) : RA G (d + 21) ML_law 40 [.ref 63, .ref 100, .ref 122, .ref 143, .int (nI (6 * j)), v5, v6] [.int (nI 10)] (t, I, J, P, n, sl) (fun o h => o = .inl (some (.int (nI 1))) ∧ a_n h ≤ 601124 ∧ a_s h ≤ 7293033) := by
    refine x_tableIn (off := 502) 542 dL_law_40 (by decide) (by decide) (by decide) (by decide) ?_
    refine x_aload_n dL_law_542 rfl ?_
    refine x_aload_n dL_law_543 rfl ?_
    refine x_iload dL_law_544 rfl ?_
    refine x_iconst (v := nI 1) dL_law_546 (by decide) ?_
    refine x_iaddN dL_law_547 ?_
    refine x_ialdN dL_law_548 hL.2.2.2.2.2.2.1 (by omega) ?_ (hl := by omega)
    refine x_top (congrArg Value.int (show I 63 ((6 * j) + 1) = sc ((6 * j) + 1) from (hL.2.2.2.2.2.2.2 _ (by omega)))) ?_
    refine x_invV 100 1 dL_law_549 (hL.1.T rfl) v0_65_1 (((h_asked G (d + 11) (sc ((6 * j) + 1)) σ ρ).con 0 0) t I J P n sl hL.1 hL.2.2.1 hL.2.2.2.2.1 hL.2.2.2.2.2.1 (by omega) (by omega)) ?_ (hB := by show n ≤ 601124; omega) (hS := by show sl ≤ 7293033; omega)
    rintro o h' ⟨rfl, hc1⟩
    obtain ⟨t1, I1, J1, P1, n1, sl1, rfl, L1, hn1a, hn1b, hs1a, hs1b, hj1⟩ := hL.h hc1
    show RA _ _ _ _ _ [Value.int _] _ _
    refine x_aload_n dL_law_552 rfl ?_
    refine x_aload_n dL_law_553 rfl ?_
    refine x_iload dL_law_554 rfl ?_
    refine x_iconst (v := nI 1) dL_law_556 (by decide) ?_
    refine x_iaddN dL_law_557 ?_
    refine x_ialdN dL_law_558 L1.2.2.2.2.2.2.1 (by omega) ?_ (hl := by omega)
    refine x_top (congrArg Value.int (show I1 63 ((6 * j) + 1) = sc ((6 * j) + 1) from (L1.2.2.2.2.2.2.2 _ (by omega)))) ?_
    refine x_invV 122 1 dL_law_559 (L1.1.T rfl) v0_68_5 (m_asked G (d + 17) (sc ((6 * j) + 1)) σ ρ t1 I1 J1 P1 n1 sl1 L1.1 L1.2.2.2.1 (by omega) (by omega)) ?_ (hB := by show n1 ≤ 601124; omega) (hS := by show sl1 ≤ 7293033; omega)
    rintro o h' ⟨rfl, I2, J2, rfl, hD2, hF2, hJ2, h02⟩
    have L2 := L1.m hD2 hF2
    refine x_icmp_eq 1003 dL_law_562 (by decide) (fun b562 => ?_) (fun b562 => absurd b562 (fun q => q rfl))
    refine x_iincN (c := 6) dL_law_1003 rfl (by decide) ?_
    refine x_goto 23 dL_law_1006 (by decide) ?_
    exact ih (by omega) t1 I2 J2 P1 n1 sl1 _ _ L2 (by omega) (by omega) (by omega) _ _
set_option maxHeartbeats 4000000 in
theorem lw_11 {G : GG} (d : Nat) {len j : Nat} {sc : Nat → Int32} (hlen : len ≤ 384) (hj : 6 * j + 6 ≤ len) (ih : j < 64 → ∀ (t : Nat → Option (Nat × Nat)) (I : Nat → Nat → Int32) (J : Nat → Nat → Int64) (P : Nat → Nat → Value) (n sl : Nat) (σ : Sg) (ρ : Rs), LwS len sc t I P n σ ρ σ ρ → 6 * (j + 1) ≤ len → n ≤ 144 + 370 * (j + 1) → sl ≤ 10000 + 2140 * (j + 1) → ∀ v5 v6, RA G (d + 21) ML_law 23 [.ref 63, .ref 100, .ref 122, .ref 143, .int (nI (6 * (j + 1))), v5, v6] [] (t, I, J, P, n, sl) (fun o h => o = .inl (some (.int (nI 1))) ∧ a_n h ≤ 601124 ∧ a_s h ≤ 7293033)) {t : Nat → Option (Nat × Nat)} {I : Nat → Nat → Int32} {J : Nat → Nat → Int64} {P : Nat → Nat → Value} {n sl : Nat} {σ : Sg} {ρ : Rs} (hL : LwS len sc t I P n σ ρ σ ρ) (hn1 : n ≤ 144 + 370 * j) (hs1 : sl ≤ 10000 + 2140 * j) (v5 v6 : Value) : RA G (d + 21) ML_law 40 [.ref 63, .ref 100, .ref 122, .ref 143, .int (nI (6 * j)), v5, v6] [.int (nI 11)] (t, I, J, P, n, sl) (fun o h => o = .inl (some (.int (nI 1))) ∧ a_n h ≤ 601124 ∧ a_s h ≤ 7293033) := by
    refine x_tableIn (off := 527) 567 dL_law_40 (by decide) (by decide) (by decide) (by decide) ?_
    refine x_aload_n dL_law_567 rfl ?_
    refine x_aload_n dL_law_568 rfl ?_
    refine x_iload dL_law_569 rfl ?_
    refine x_iconst (v := nI 1) dL_law_571 (by decide) ?_
    refine x_iaddN dL_law_572 ?_
    refine x_ialdN dL_law_573 hL.2.2.2.2.2.2.1 (by omega) ?_ (hl := by omega)
    refine x_top (congrArg Value.int (show I 63 ((6 * j) + 1) = sc ((6 * j) + 1) from (hL.2.2.2.2.2.2.2 _ (by omega)))) ?_
    refine x_invV 100 1 dL_law_574 (hL.1.T rfl) v0_69_1 (((h_door G (d + 15) (sc ((6 * j) + 1)) σ ρ).con 0 0) t I J P n sl hL.1 hL.2.2.1 hL.2.2.2.2.1 hL.2.2.2.2.2.1 (by omega) (by omega)) ?_ (hB := by show n ≤ 601124; omega) (hS := by show sl ≤ 7293033; omega)
    rintro o h' ⟨rfl, hc1⟩
    obtain ⟨t1, I1, J1, P1, n1, sl1, rfl, L1, hn1a, hn1b, hs1a, hs1b, hj1⟩ := hL.h hc1
    show RA _ _ _ _ _ [Value.int _] _ _
    refine x_aload_n dL_law_577 rfl ?_
    refine x_aload_n dL_law_578 rfl ?_
    refine x_iload dL_law_579 rfl ?_
    refine x_iconst (v := nI 1) dL_law_581 (by decide) ?_
    refine x_iaddN dL_law_582 ?_
    refine x_ialdN dL_law_583 L1.2.2.2.2.2.2.1 (by omega) ?_ (hl := by omega)
    refine x_top (congrArg Value.int (show I1 63 ((6 * j) + 1) = sc ((6 * j) + 1) from (L1.2.2.2.2.2.2.2 _ (by omega)))) ?_
    refine x_invV 122 1 dL_law_584 (L1.1.T rfl) v0_72_5 (m_door G (d + 17) (sc ((6 * j) + 1)) σ ρ t1 I1 J1 P1 n1 sl1 L1.1 L1.2.2.2.1 (by omega) (by omega)) ?_ (hB := by show n1 ≤ 601124; omega) (hS := by show sl1 ≤ 7293033; omega)
    rintro o h' ⟨rfl, I2, J2, rfl, hD2, hF2, hJ2, h02⟩
    have L2 := L1.m hD2 hF2
    refine x_icmp_eq 1003 dL_law_587 (by decide) (fun b587 => ?_) (fun b587 => absurd b587 (fun q => q rfl))
    refine x_iincN (c := 6) dL_law_1003 rfl (by decide) ?_
    refine x_goto 23 dL_law_1006 (by decide) ?_
    exact ih (by omega) t1 I2 J2 P1 n1 sl1 _ _ L2 (by omega) (by omega) (by omega) _ _
set_option maxHeartbeats 4000000 in
theorem lw_12 {G : GG} (d : Nat) {len j : Nat} {sc : Nat → Int32} (hlen : len ≤ 384) (hj : 6 * j + 6 ≤ len) (ih : j < 64 → ∀ (t : Nat → Option (Nat × Nat)) (I : Nat → Nat → Int32) (J : Nat → Nat → Int64) (P : Nat → Nat → Value) (n sl : Nat) (σ : Sg) (ρ : Rs), LwS len sc t I P n σ ρ σ ρ → 6 * (j + 1) ≤ len → n ≤ 144 + 370 * (j + 1) → sl ≤ 10000 + 2140 * (j + 1) → ∀ v5 v6, RA G (d + 21) ML_law 23 [.ref 63, .ref 100, .ref 122, .ref 143, .int (nI (6 * (j + 1))), v5, v6] [] (t, I, J, P, n, sl) (fun o h => o = .inl (some (.int (nI 1))) ∧ a_n h ≤ 601124 ∧ a_s h ≤ 7293033)) {t : Nat → Option (Nat × Nat)} {I : Nat → Nat → Int32} {J : Nat → Nat → Int64} {P : Nat → Nat → Value} {n sl : Nat} {σ : Sg} {ρ : Rs} (hL : LwS len sc t I P n σ ρ σ ρ) (hn1 : n ≤ 144 + 370 * j) (hs1 : sl ≤ 10000 + 2140 * j) (v5 v6 : Value) : RA G (d + 21) ML_law 40 [.ref 63, .ref 100, .ref 122, .ref 143, .int (nI (6 * j)), v5, v6] [.int (nI 12)] (t, I, J, P, n, sl) (fun o h => o = .inl (some (.int (nI 1))) ∧ a_n h ≤ 601124 ∧ a_s h ≤ 7293033) := by
    refine x_tableIn (off := 552) 592 dL_law_40 (by decide) (by decide) (by decide) (by decide) ?_
    refine x_aload_n dL_law_592 rfl ?_
    refine x_invV 100 0 dL_law_593 (hL.1.T rfl) v0_73_1 (((h_leaks G (d + 15)  σ ρ).con 0 0) t I J P n sl hL.1 hL.2.2.1 hL.2.2.2.2.1 hL.2.2.2.2.2.1 (by omega) (by omega)) ?_ (hB := by show n ≤ 601124; omega) (hS := by show sl ≤ 7293033; omega)
    rintro o h' ⟨rfl, hc1⟩
    obtain ⟨t1, I1, J1, P1, n1, sl1, rfl, L1, hn1a, hn1b, hs1a, hs1b, hj1⟩ := hL.h hc1
    show RA _ _ _ _ _ [Value.int _] _ _
    refine x_aload_n dL_law_596 rfl ?_
    refine x_invV 122 0 dL_law_597 (L1.1.T rfl) v0_76_5 (m_leaks G (d + 17)  σ ρ t1 I1 J1 P1 n1 sl1 L1.1 L1.2.2.2.1 (by omega) (by omega)) ?_ (hB := by show n1 ≤ 601124; omega) (hS := by show sl1 ≤ 7293033; omega)
    rintro o h' ⟨rfl, I2, J2, rfl, hD2, hF2, hJ2, h02⟩
    have L2 := L1.m hD2 hF2
    refine x_icmp_eq 1003 dL_law_600 (by decide) (fun b600 => ?_) (fun b600 => absurd b600 (fun q => q rfl))
    refine x_iincN (c := 6) dL_law_1003 rfl (by decide) ?_
    refine x_goto 23 dL_law_1006 (by decide) ?_
    exact ih (by omega) t1 I2 J2 P1 n1 sl1 _ _ L2 (by omega) (by omega) (by omega) _ _
set_option maxHeartbeats 4000000 in
theorem lw_14 {G : GG} (d : Nat) {len j : Nat} {sc : Nat → Int32} (hlen : len ≤ 384) (hj : 6 * j + 6 ≤ len) (ih : j < 64 → ∀ (t : Nat → Option (Nat × Nat)) (I : Nat → Nat → Int32) (J : Nat → Nat → Int64) (P : Nat → Nat → Value) (n sl : Nat) (σ : Sg) (ρ : Rs), LwS len sc t I P n σ ρ σ ρ → 6 * (j + 1) ≤ len → n ≤ 144 + 370 * (j + 1) → sl ≤ 10000 + 2140 * (j + 1) → ∀ v5 v6, RA G (d + 21) ML_law 23 [.ref 63, .ref 100, .ref 122, .ref 143, .int (nI (6 * (j + 1))), v5, v6] [] (t, I, J, P, n, sl) (fun o h => o = .inl (some (.int (nI 1))) ∧ a_n h ≤ 601124 ∧ a_s h ≤ 7293033)) {t : Nat → Option (Nat × Nat)} {I : Nat → Nat → Int32} {J : Nat → Nat → Int64} {P : Nat → Nat → Value} {n sl : Nat} {σ : Sg} {ρ : Rs} (hL : LwS len sc t I P n σ ρ σ ρ) (hn1 : n ≤ 144 + 370 * j) (hs1 : sl ≤ 10000 + 2140 * j) (v5 v6 : Value) : RA G (d + 21) ML_law 40 [.ref 63, .ref 100, .ref 122, .ref 143, .int (nI (6 * j)), v5, v6] [.int (nI 14)] (t, I, J, P, n, sl) (fun o h => o = .inl (some (.int (nI 1))) ∧ a_n h ≤ 601124 ∧ a_s h ≤ 7293033) := by
    refine x_tableIn (off := 606) 646 dL_law_40 (by decide) (by decide) (by decide) (by decide) ?_
    refine x_aload_n dL_law_646 rfl ?_
    refine x_aload_n dL_law_647 rfl ?_
    refine x_iload dL_law_648 rfl ?_
    refine x_iconst (v := nI 1) dL_law_650 (by decide) ?_
    refine x_iaddN dL_law_651 ?_
    refine x_ialdN dL_law_652 hL.2.2.2.2.2.2.1 (by omega) ?_ (hl := by omega)
    refine x_top (congrArg Value.int (show I 63 ((6 * j) + 1) = sc ((6 * j) + 1) from (hL.2.2.2.2.2.2.2 _ (by omega)))) ?_
    refine x_invV 100 1 dL_law_653 (hL.1.T rfl) v0_82_1 (((h_wrong G (d + 15) (sc ((6 * j) + 1)) σ ρ).con 0 0) t I J P n sl hL.1 hL.2.2.1 hL.2.2.2.2.1 hL.2.2.2.2.2.1 (by omega) (by omega)) ?_ (hB := by show n ≤ 601124; omega) (hS := by show sl ≤ 7293033; omega)
    rintro o h' ⟨rfl, hc1⟩
    obtain ⟨t1, I1, J1, P1, n1, sl1, rfl, L1, hn1a, hn1b, hs1a, hs1b, hj1⟩ := hL.h hc1
    show RA _ _ _ _ _ [Value.int _] _ _
    refine x_aload_n dL_law_656 rfl ?_
    refine x_aload_n dL_law_657 rfl ?_
    refine x_iload dL_law_658 rfl ?_
    refine x_iconst (v := nI 1) dL_law_660 (by decide) ?_
    refine x_iaddN dL_law_661 ?_
    refine x_ialdN dL_law_662 L1.2.2.2.2.2.2.1 (by omega) ?_ (hl := by omega)
    refine x_top (congrArg Value.int (show I1 63 ((6 * j) + 1) = sc ((6 * j) + 1) from (L1.2.2.2.2.2.2.2 _ (by omega)))) ?_
    refine x_invV 122 1 dL_law_663 (L1.1.T rfl) v0_85_5 (m_wrong G (d + 17) (sc ((6 * j) + 1)) σ ρ t1 I1 J1 P1 n1 sl1 L1.1 L1.2.2.2.1 (by omega) (by omega)) ?_ (hB := by show n1 ≤ 601124; omega) (hS := by show sl1 ≤ 7293033; omega)
    rintro o h' ⟨rfl, I2, J2, rfl, hD2, hF2, hJ2, h02⟩
    have L2 := L1.m hD2 hF2
    refine x_icmp_eq 1003 dL_law_666 (by decide) (fun b666 => ?_) (fun b666 => absurd b666 (fun q => q rfl))
    refine x_iincN (c := 6) dL_law_1003 rfl (by decide) ?_
    refine x_goto 23 dL_law_1006 (by decide) ?_
    exact ih (by omega) t1 I2 J2 P1 n1 sl1 _ _ L2 (by omega) (by omega) (by omega) _ _
set_option maxHeartbeats 4000000 in
theorem lw_15 {G : GG} (d : Nat) {len j : Nat} {sc : Nat → Int32} (hlen : len ≤ 384) (hj : 6 * j + 6 ≤ len) (ih : j < 64 → ∀ (t : Nat → Option (Nat × Nat)) (I : Nat → Nat → Int32) (J : Nat → Nat → Int64) (P : Nat → Nat → Value) (n sl : Nat) (σ : Sg) (ρ : Rs), LwS len sc t I P n σ ρ σ ρ → 6 * (j + 1) ≤ len → n ≤ 144 + 370 * (j + 1) → sl ≤ 10000 + 2140 * (j + 1) → ∀ v5 v6, RA G (d + 21) ML_law 23 [.ref 63, .ref 100, .ref 122, .ref 143, .int (nI (6 * (j + 1))), v5, v6] [] (t, I, J, P, n, sl) (fun o h => o = .inl (some (.int (nI 1))) ∧ a_n h ≤ 601124 ∧ a_s h ≤ 7293033)) {t : Nat → Option (Nat × Nat)} {I : Nat → Nat → Int32} {J : Nat → Nat → Int64} {P : Nat → Nat → Value} {n sl : Nat} {σ : Sg} {ρ : Rs} (hL : LwS len sc t I P n σ ρ σ ρ) (hn1 : n ≤ 144 + 370 * j) (hs1 : sl ≤ 10000 + 2140 * j) (v5 v6 : Value) : RA G (d + 21) ML_law 40 [.ref 63, .ref 100, .ref 122, .ref 143, .int (nI (6 * j)), v5, v6] [.int (nI 15)] (t, I, J, P, n, sl) (fun o h => o = .inl (some (.int (nI 1))) ∧ a_n h ≤ 601124 ∧ a_s h ≤ 7293033) := by
    refine x_tableIn (off := 631) 671 dL_law_40 (by decide) (by decide) (by decide) (by decide) ?_
    refine x_aload_n dL_law_671 rfl ?_
    refine x_aload_n dL_law_672 rfl ?_
    refine x_iload dL_law_673 rfl ?_
    refine x_iconst (v := nI 1) dL_law_675 (by decide) ?_
    refine x_iaddN dL_law_676 ?_
    refine x_ialdN dL_law_677 hL.2.2.2.2.2.2.1 (by omega) ?_ (hl := by omega)
    refine x_top (congrArg Value.int (show I 63 ((6 * j) + 1) = sc ((6 * j) + 1) from (hL.2.2.2.2.2.2.2 _ (by omega)))) ?_
    refine x_aload_n dL_law_678 rfl ?_
    refine x_iload dL_law_679 rfl ?_
    refine x_iconst (v := nI 2) dL_law_681 (by decide) ?_
    refine x_iaddN dL_law_682 ?_
    refine x_ialdN dL_law_683 hL.2.2.2.2.2.2.1 (by omega) ?_ (hl := by omega)
    refine x_top (congrArg Value.int (show I 63 ((6 * j) + 2) = sc ((6 * j) + 2) from (hL.2.2.2.2.2.2.2 _ (by omega)))) ?_
    refine x_invV 100 2 dL_law_684 (hL.1.T rfl) v0_86_1 (((h_way G (d + 15) (sc ((6 * j) + 1)) (sc ((6 * j) + 2)) σ ρ).con 0 0) t I J P n sl hL.1 hL.2.2.1 hL.2.2.2.2.1 hL.2.2.2.2.2.1 (by omega) (by omega)) ?_ (hB := by show n ≤ 601124; omega) (hS := by show sl ≤ 7293033; omega)
    rintro o h' ⟨rfl, hc1⟩
    obtain ⟨t1, I1, J1, P1, n1, sl1, rfl, L1, hn1a, hn1b, hs1a, hs1b, hj1⟩ := hL.h hc1
    show RA _ _ _ _ _ [Value.int _] _ _
    refine x_aload_n dL_law_687 rfl ?_
    refine x_aload_n dL_law_688 rfl ?_
    refine x_iload dL_law_689 rfl ?_
    refine x_iconst (v := nI 1) dL_law_691 (by decide) ?_
    refine x_iaddN dL_law_692 ?_
    refine x_ialdN dL_law_693 L1.2.2.2.2.2.2.1 (by omega) ?_ (hl := by omega)
    refine x_top (congrArg Value.int (show I1 63 ((6 * j) + 1) = sc ((6 * j) + 1) from (L1.2.2.2.2.2.2.2 _ (by omega)))) ?_
    refine x_aload_n dL_law_694 rfl ?_
    refine x_iload dL_law_695 rfl ?_
    refine x_iconst (v := nI 2) dL_law_697 (by decide) ?_
    refine x_iaddN dL_law_698 ?_
    refine x_ialdN dL_law_699 L1.2.2.2.2.2.2.1 (by omega) ?_ (hl := by omega)
    refine x_top (congrArg Value.int (show I1 63 ((6 * j) + 2) = sc ((6 * j) + 2) from (L1.2.2.2.2.2.2.2 _ (by omega)))) ?_
    refine x_invV 122 2 dL_law_700 (L1.1.T rfl) v0_89_5 (m_way G (d + 17) (sc ((6 * j) + 1)) (sc ((6 * j) + 2)) σ ρ t1 I1 J1 P1 n1 sl1 L1.1 L1.2.2.2.1 (by omega) (by omega)) ?_ (hB := by show n1 ≤ 601124; omega) (hS := by show sl1 ≤ 7293033; omega)
    rintro o h' ⟨rfl, I2, J2, rfl, hD2, hF2, hJ2, h02⟩
    have L2 := L1.m hD2 hF2
    refine x_icmp_eq 1003 dL_law_703 (by decide) (fun b703 => ?_) (fun b703 => absurd b703 (fun q => q rfl))
    refine x_iincN (c := 6) dL_law_1003 rfl (by decide) ?_
    refine x_goto 23 dL_law_1006 (by decide) ?_
    exact ih (by omega) t1 I2 J2 P1 n1 sl1 _ _ L2 (by omega) (by omega) (by omega) _ _
set_option maxHeartbeats 4000000 in
theorem lw_17 {G : GG} (d : Nat) {len j : Nat} {sc : Nat → Int32} (hlen : len ≤ 384) (hj : 6 * j + 6 ≤ len) (ih : j < 64 → ∀ (t : Nat → Option (Nat × Nat)) (I : Nat → Nat → Int32) (J : Nat → Nat → Int64) (P : Nat → Nat → Value) (n sl : Nat) (σ : Sg) (ρ : Rs), LwS len sc t I P n σ ρ σ ρ → 6 * (j + 1) ≤ len → n ≤ 144 + 370 * (j + 1) → sl ≤ 10000 + 2140 * (j + 1) → ∀ v5 v6, RA G (d + 21) ML_law 23 [.ref 63, .ref 100, .ref 122, .ref 143, .int (nI (6 * (j + 1))), v5, v6] [] (t, I, J, P, n, sl) (fun o h => o = .inl (some (.int (nI 1))) ∧ a_n h ≤ 601124 ∧ a_s h ≤ 7293033)) {t : Nat → Option (Nat × Nat)} {I : Nat → Nat → Int32} {J : Nat → Nat → Int64} {P : Nat → Nat → Value} {n sl : Nat} {σ : Sg} {ρ : Rs} (hL : LwS len sc t I P n σ ρ σ ρ) (hn1 : n ≤ 144 + 370 * j) (hs1 : sl ≤ 10000 + 2140 * j) (v5 v6 : Value) : RA G (d + 21) ML_law 40 [.ref 63, .ref 100, .ref 122, .ref 143, .int (nI (6 * j)), v5, v6] [.int (nI 17)] (t, I, J, P, n, sl) (fun o h => o = .inl (some (.int (nI 1))) ∧ a_n h ≤ 601124 ∧ a_s h ≤ 7293033) := by
    refine x_tableIn (off := 724) 764 dL_law_40 (by decide) (by decide) (by decide) (by decide) ?_
    refine x_aload_n dL_law_764 rfl ?_
    refine x_aload_n dL_law_765 rfl ?_
    refine x_iload dL_law_766 rfl ?_
    refine x_iconst (v := nI 1) dL_law_768 (by decide) ?_
    refine x_iaddN dL_law_769 ?_
    refine x_ialdN dL_law_770 hL.2.2.2.2.2.2.1 (by omega) ?_ (hl := by omega)
    refine x_top (congrArg Value.int (show I 63 ((6 * j) + 1) = sc ((6 * j) + 1) from (hL.2.2.2.2.2.2.2 _ (by omega)))) ?_
    refine x_invV 100 1 dL_law_771 (hL.1.T rfl) v0_99_1 (((h_needed G (d + 13) (sc ((6 * j) + 1)) σ ρ).con 0 0) t I J P n sl hL.1 hL.2.2.1 hL.2.2.2.2.1 hL.2.2.2.2.2.1 (by omega) (by omega)) ?_ (hB := by show n ≤ 601124; omega) (hS := by show sl ≤ 7293033; omega)
    rintro o h' ⟨rfl, hc1⟩
    obtain ⟨t1, I1, J1, P1, n1, sl1, rfl, L1, hn1a, hn1b, hs1a, hs1b, hj1⟩ := hL.h hc1
    show RA _ _ _ _ _ [Value.int _] _ _
    refine x_aload_n dL_law_774 rfl ?_
    refine x_aload_n dL_law_775 rfl ?_
    refine x_iload dL_law_776 rfl ?_
    refine x_iconst (v := nI 1) dL_law_778 (by decide) ?_
    refine x_iaddN dL_law_779 ?_
    refine x_ialdN dL_law_780 L1.2.2.2.2.2.2.1 (by omega) ?_ (hl := by omega)
    refine x_top (congrArg Value.int (show I1 63 ((6 * j) + 1) = sc ((6 * j) + 1) from (L1.2.2.2.2.2.2.2 _ (by omega)))) ?_
    refine x_invV 122 1 dL_law_781 (L1.1.T rfl) v0_102_5 (m_needed G (d + 19) (sc ((6 * j) + 1)) σ ρ t1 I1 J1 P1 n1 sl1 L1.1 L1.2.2.2.1 (by omega) (by omega)) ?_ (hB := by show n1 ≤ 601124; omega) (hS := by show sl1 ≤ 7293033; omega)
    rintro o h' ⟨rfl, I2, J2, rfl, hD2, hF2, hJ2, h02⟩
    have L2 := L1.m hD2 hF2
    refine x_icmp_eq 1003 dL_law_784 (by decide) (fun b784 => ?_) (fun b784 => absurd b784 (fun q => q rfl))
    refine x_iincN (c := 6) dL_law_1003 rfl (by decide) ?_
    refine x_goto 23 dL_law_1006 (by decide) ?_
    exact ih (by omega) t1 I2 J2 P1 n1 sl1 _ _ L2 (by omega) (by omega) (by omega) _ _
set_option maxHeartbeats 4000000 in
theorem lw_18 {G : GG} (d : Nat) {len j : Nat} {sc : Nat → Int32} (hlen : len ≤ 384) (hj : 6 * j + 6 ≤ len) (ih : j < 64 → ∀ (t : Nat → Option (Nat × Nat)) (I : Nat → Nat → Int32) (J : Nat → Nat → Int64) (P : Nat → Nat → Value) (n sl : Nat) (σ : Sg) (ρ : Rs), LwS len sc t I P n σ ρ σ ρ → 6 * (j + 1) ≤ len → n ≤ 144 + 370 * (j + 1) → sl ≤ 10000 + 2140 * (j + 1) → ∀ v5 v6, RA G (d + 21) ML_law 23 [.ref 63, .ref 100, .ref 122, .ref 143, .int (nI (6 * (j + 1))), v5, v6] [] (t, I, J, P, n, sl) (fun o h => o = .inl (some (.int (nI 1))) ∧ a_n h ≤ 601124 ∧ a_s h ≤ 7293033)) {t : Nat → Option (Nat × Nat)} {I : Nat → Nat → Int32} {J : Nat → Nat → Int64} {P : Nat → Nat → Value} {n sl : Nat} {σ : Sg} {ρ : Rs} (hL : LwS len sc t I P n σ ρ σ ρ) (hn1 : n ≤ 144 + 370 * j) (hs1 : sl ≤ 10000 + 2140 * j) (v5 v6 : Value) : RA G (d + 21) ML_law 40 [.ref 63, .ref 100, .ref 122, .ref 143, .int (nI (6 * j)), v5, v6] [.int (nI 18)] (t, I, J, P, n, sl) (fun o h => o = .inl (some (.int (nI 1))) ∧ a_n h ≤ 601124 ∧ a_s h ≤ 7293033) := by
    refine x_tableIn (off := 749) 789 dL_law_40 (by decide) (by decide) (by decide) (by decide) ?_
    refine x_aload_n dL_law_789 rfl ?_
    refine x_aload_n dL_law_790 rfl ?_
    refine x_iload dL_law_791 rfl ?_
    refine x_iconst (v := nI 1) dL_law_793 (by decide) ?_
    refine x_iaddN dL_law_794 ?_
    refine x_ialdN dL_law_795 hL.2.2.2.2.2.2.1 (by omega) ?_ (hl := by omega)
    refine x_top (congrArg Value.int (show I 63 ((6 * j) + 1) = sc ((6 * j) + 1) from (hL.2.2.2.2.2.2.2 _ (by omega)))) ?_
    refine x_invV 100 1 dL_law_796 (hL.1.T rfl) v0_103_1 (((h_idle G (d + 13) (sc ((6 * j) + 1)) σ ρ).con 0 0) t I J P n sl hL.1 hL.2.2.1 hL.2.2.2.2.1 hL.2.2.2.2.2.1 (by omega) (by omega)) ?_ (hB := by show n ≤ 601124; omega) (hS := by show sl ≤ 7293033; omega)
    rintro o h' ⟨rfl, hc1⟩
    obtain ⟨t1, I1, J1, P1, n1, sl1, rfl, L1, hn1a, hn1b, hs1a, hs1b, hj1⟩ := hL.h hc1
    show RA _ _ _ _ _ [Value.int _] _ _
    refine x_aload_n dL_law_799 rfl ?_
    refine x_aload_n dL_law_800 rfl ?_
    refine x_iload dL_law_801 rfl ?_
    refine x_iconst (v := nI 1) dL_law_803 (by decide) ?_
    refine x_iaddN dL_law_804 ?_
    refine x_ialdN dL_law_805 L1.2.2.2.2.2.2.1 (by omega) ?_ (hl := by omega)
    refine x_top (congrArg Value.int (show I1 63 ((6 * j) + 1) = sc ((6 * j) + 1) from (L1.2.2.2.2.2.2.2 _ (by omega)))) ?_
    refine x_invV 122 1 dL_law_806 (L1.1.T rfl) v0_106_5 (m_idle G (d + 19) (sc ((6 * j) + 1)) σ ρ t1 I1 J1 P1 n1 sl1 L1.1 L1.2.2.2.1 (by omega) (by omega)) ?_ (hB := by show n1 ≤ 601124; omega) (hS := by show sl1 ≤ 7293033; omega)
    rintro o h' ⟨rfl, I2, J2, rfl, hD2, hF2, hJ2, h02⟩
    have L2 := L1.m hD2 hF2
    refine x_icmp_eq 1003 dL_law_809 (by decide) (fun b809 => ?_) (fun b809 => absurd b809 (fun q => q rfl))
    refine x_iincN (c := 6) dL_law_1003 rfl (by decide) ?_
    refine x_goto 23 dL_law_1006 (by decide) ?_
    exact ih (by omega) t1 I2 J2 P1 n1 sl1 _ _ L2 (by omega) (by omega) (by omega) _ _
set_option maxHeartbeats 4000000 in
theorem lw_19 {G : GG} (d : Nat) {len j : Nat} {sc : Nat → Int32} (hlen : len ≤ 384) (hj : 6 * j + 6 ≤ len) (ih : j < 64 → ∀ (t : Nat → Option (Nat × Nat)) (I : Nat → Nat → Int32) (J : Nat → Nat → Int64) (P : Nat → Nat → Value) (n sl : Nat) (σ : Sg) (ρ : Rs), LwS len sc t I P n σ ρ σ ρ → 6 * (j + 1) ≤ len → n ≤ 144 + 370 * (j + 1) → sl ≤ 10000 + 2140 * (j + 1) → ∀ v5 v6, RA G (d + 21) ML_law 23 [.ref 63, .ref 100, .ref 122, .ref 143, .int (nI (6 * (j + 1))), v5, v6] [] (t, I, J, P, n, sl) (fun o h => o = .inl (some (.int (nI 1))) ∧ a_n h ≤ 601124 ∧ a_s h ≤ 7293033)) {t : Nat → Option (Nat × Nat)} {I : Nat → Nat → Int32} {J : Nat → Nat → Int64} {P : Nat → Nat → Value} {n sl : Nat} {σ : Sg} {ρ : Rs} (hL : LwS len sc t I P n σ ρ σ ρ) (hn1 : n ≤ 144 + 370 * j) (hs1 : sl ≤ 10000 + 2140 * j) (v5 v6 : Value) : RA G (d + 21) ML_law 40 [.ref 63, .ref 100, .ref 122, .ref 143, .int (nI (6 * j)), v5, v6] [.int (nI 19)] (t, I, J, P, n, sl) (fun o h => o = .inl (some (.int (nI 1))) ∧ a_n h ≤ 601124 ∧ a_s h ≤ 7293033) := by
    refine x_tableIn (off := 774) 814 dL_law_40 (by decide) (by decide) (by decide) (by decide) ?_
    refine x_aload_n dL_law_814 rfl ?_
    refine x_aload_n dL_law_815 rfl ?_
    refine x_iload dL_law_816 rfl ?_
    refine x_iconst (v := nI 1) dL_law_818 (by decide) ?_
    refine x_iaddN dL_law_819 ?_
    refine x_ialdN dL_law_820 hL.2.2.2.2.2.2.1 (by omega) ?_ (hl := by omega)
    refine x_top (congrArg Value.int (show I 63 ((6 * j) + 1) = sc ((6 * j) + 1) from (hL.2.2.2.2.2.2.2 _ (by omega)))) ?_
    refine x_invV 100 1 dL_law_821 (hL.1.T rfl) v0_107_1 (((h_lacking G (d + 13) (sc ((6 * j) + 1)) σ ρ).con 0 0) t I J P n sl hL.1 hL.2.2.1 hL.2.2.2.2.1 hL.2.2.2.2.2.1 (by omega) (by omega)) ?_ (hB := by show n ≤ 601124; omega) (hS := by show sl ≤ 7293033; omega)
    rintro o h' ⟨rfl, hc1⟩
    obtain ⟨t1, I1, J1, P1, n1, sl1, rfl, L1, hn1a, hn1b, hs1a, hs1b, hj1⟩ := hL.h hc1
    show RA _ _ _ _ _ [Value.int _] _ _
    refine x_aload_n dL_law_824 rfl ?_
    refine x_aload_n dL_law_825 rfl ?_
    refine x_iload dL_law_826 rfl ?_
    refine x_iconst (v := nI 1) dL_law_828 (by decide) ?_
    refine x_iaddN dL_law_829 ?_
    refine x_ialdN dL_law_830 L1.2.2.2.2.2.2.1 (by omega) ?_ (hl := by omega)
    refine x_top (congrArg Value.int (show I1 63 ((6 * j) + 1) = sc ((6 * j) + 1) from (L1.2.2.2.2.2.2.2 _ (by omega)))) ?_
    refine x_invV 122 1 dL_law_831 (L1.1.T rfl) v0_110_5 (m_lacking G (d + 19) (sc ((6 * j) + 1)) σ ρ t1 I1 J1 P1 n1 sl1 L1.1 L1.2.2.2.1 (by omega) (by omega)) ?_ (hB := by show n1 ≤ 601124; omega) (hS := by show sl1 ≤ 7293033; omega)
    rintro o h' ⟨rfl, I2, J2, rfl, hD2, hF2, hJ2, h02⟩
    have L2 := L1.m hD2 hF2
    refine x_icmp_eq 1003 dL_law_834 (by decide) (fun b834 => ?_) (fun b834 => absurd b834 (fun q => q rfl))
    refine x_iincN (c := 6) dL_law_1003 rfl (by decide) ?_
    refine x_goto 23 dL_law_1006 (by decide) ?_
    exact ih (by omega) t1 I2 J2 P1 n1 sl1 _ _ L2 (by omega) (by omega) (by omega) _ _
set_option maxHeartbeats 4000000 in
theorem lw_20 {G : GG} (d : Nat) {len j : Nat} {sc : Nat → Int32} (hlen : len ≤ 384) (hj : 6 * j + 6 ≤ len) (ih : j < 64 → ∀ (t : Nat → Option (Nat × Nat)) (I : Nat → Nat → Int32) (J : Nat → Nat → Int64) (P : Nat → Nat → Value) (n sl : Nat) (σ : Sg) (ρ : Rs), LwS len sc t I P n σ ρ σ ρ → 6 * (j + 1) ≤ len → n ≤ 144 + 370 * (j + 1) → sl ≤ 10000 + 2140 * (j + 1) → ∀ v5 v6, RA G (d + 21) ML_law 23 [.ref 63, .ref 100, .ref 122, .ref 143, .int (nI (6 * (j + 1))), v5, v6] [] (t, I, J, P, n, sl) (fun o h => o = .inl (some (.int (nI 1))) ∧ a_n h ≤ 601124 ∧ a_s h ≤ 7293033)) {t : Nat → Option (Nat × Nat)} {I : Nat → Nat → Int32} {J : Nat → Nat → Int64} {P : Nat → Nat → Value} {n sl : Nat} {σ : Sg} {ρ : Rs} (hL : LwS len sc t I P n σ ρ σ ρ) (hn1 : n ≤ 144 + 370 * j) (hs1 : sl ≤ 10000 + 2140 * j) (v5 v6 : Value) : RA G (d + 21) ML_law 40 [.ref 63, .ref 100, .ref 122, .ref 143, .int (nI (6 * j)), v5, v6] [.int (nI 20)] (t, I, J, P, n, sl) (fun o h => o = .inl (some (.int (nI 1))) ∧ a_n h ≤ 601124 ∧ a_s h ≤ 7293033) := by
    refine x_tableIn (off := 799) 839 dL_law_40 (by decide) (by decide) (by decide) (by decide) ?_
    refine x_aload_n dL_law_839 rfl ?_
    refine x_aload_n dL_law_840 rfl ?_
    refine x_iload dL_law_841 rfl ?_
    refine x_iconst (v := nI 1) dL_law_843 (by decide) ?_
    refine x_iaddN dL_law_844 ?_
    refine x_ialdN dL_law_845 hL.2.2.2.2.2.2.1 (by omega) ?_ (hl := by omega)
    refine x_top (congrArg Value.int (show I 63 ((6 * j) + 1) = sc ((6 * j) + 1) from (hL.2.2.2.2.2.2.2 _ (by omega)))) ?_
    refine x_invV 100 1 dL_law_846 (hL.1.T rfl) v0_111_1 (((h_helped G (d + 13) (sc ((6 * j) + 1)) σ ρ).con 0 0) t I J P n sl hL.1 hL.2.2.1 hL.2.2.2.2.1 hL.2.2.2.2.2.1 (by omega) (by omega)) ?_ (hB := by show n ≤ 601124; omega) (hS := by show sl ≤ 7293033; omega)
    rintro o h' ⟨rfl, hc1⟩
    obtain ⟨t1, I1, J1, P1, n1, sl1, rfl, L1, hn1a, hn1b, hs1a, hs1b, hj1⟩ := hL.h hc1
    show RA _ _ _ _ _ [Value.int _] _ _
    refine x_aload_n dL_law_849 rfl ?_
    refine x_aload_n dL_law_850 rfl ?_
    refine x_iload dL_law_851 rfl ?_
    refine x_iconst (v := nI 1) dL_law_853 (by decide) ?_
    refine x_iaddN dL_law_854 ?_
    refine x_ialdN dL_law_855 L1.2.2.2.2.2.2.1 (by omega) ?_ (hl := by omega)
    refine x_top (congrArg Value.int (show I1 63 ((6 * j) + 1) = sc ((6 * j) + 1) from (L1.2.2.2.2.2.2.2 _ (by omega)))) ?_
    refine x_invV 122 1 dL_law_856 (L1.1.T rfl) v0_114_5 (m_helped G (d + 19) (sc ((6 * j) + 1)) σ ρ t1 I1 J1 P1 n1 sl1 L1.1 L1.2.2.2.1 (by omega) (by omega)) ?_ (hB := by show n1 ≤ 601124; omega) (hS := by show sl1 ≤ 7293033; omega)
    rintro o h' ⟨rfl, I2, J2, rfl, hD2, hF2, hJ2, h02⟩
    have L2 := L1.m hD2 hF2
    refine x_icmp_eq 1003 dL_law_859 (by decide) (fun b859 => ?_) (fun b859 => absurd b859 (fun q => q rfl))
    refine x_iincN (c := 6) dL_law_1003 rfl (by decide) ?_
    refine x_goto 23 dL_law_1006 (by decide) ?_
    exact ih (by omega) t1 I2 J2 P1 n1 sl1 _ _ L2 (by omega) (by omega) (by omega) _ _
set_option maxHeartbeats 4000000 in
theorem lw_21 {G : GG} (d : Nat) {len j : Nat} {sc : Nat → Int32} (hlen : len ≤ 384) (hj : 6 * j + 6 ≤ len) (ih : j < 64 → ∀ (t : Nat → Option (Nat × Nat)) (I : Nat → Nat → Int32) (J : Nat → Nat → Int64) (P : Nat → Nat → Value) (n sl : Nat) (σ : Sg) (ρ : Rs), LwS len sc t I P n σ ρ σ ρ → 6 * (j + 1) ≤ len → n ≤ 144 + 370 * (j + 1) → sl ≤ 10000 + 2140 * (j + 1) → ∀ v5 v6, RA G (d + 21) ML_law 23 [.ref 63, .ref 100, .ref 122, .ref 143, .int (nI (6 * (j + 1))), v5, v6] [] (t, I, J, P, n, sl) (fun o h => o = .inl (some (.int (nI 1))) ∧ a_n h ≤ 601124 ∧ a_s h ≤ 7293033)) {t : Nat → Option (Nat × Nat)} {I : Nat → Nat → Int32} {J : Nat → Nat → Int64} {P : Nat → Nat → Value} {n sl : Nat} {σ : Sg} {ρ : Rs} (hL : LwS len sc t I P n σ ρ σ ρ) (hn1 : n ≤ 144 + 370 * j) (hs1 : sl ≤ 10000 + 2140 * j) (v5 v6 : Value) : RA G (d + 21) ML_law 40 [.ref 63, .ref 100, .ref 122, .ref 143, .int (nI (6 * j)), v5, v6] [.int (nI 21)] (t, I, J, P, n, sl) (fun o h => o = .inl (some (.int (nI 1))) ∧ a_n h ≤ 601124 ∧ a_s h ≤ 7293033) := by
    refine x_tableIn (off := 824) 864 dL_law_40 (by decide) (by decide) (by decide) (by decide) ?_
    refine x_aload_n dL_law_864 rfl ?_
    refine x_invV 100 0 dL_law_865 (hL.1.T rfl) v0_115_1 ((h_trim G (d + 12)  σ ρ) t I J P n sl hL.1 hL.2.2.1 hL.2.2.2.2.1 hL.2.2.2.2.2.1 (by omega) (by omega)) ?_ (hB := by show n ≤ 601124; omega) (hS := by show sl ≤ 7293033; omega)
    rintro o h' ⟨rfl, hc1⟩
    obtain ⟨t1, I1, J1, P1, n1, sl1, rfl, L1, hn1a, hn1b, hs1a, hs1b, hj1⟩ := hL.h hc1
    show RA _ _ _ _ _ [Value.int _] _ _
    refine x_aload_n dL_law_868 rfl ?_
    refine x_invV 122 0 dL_law_869 (L1.1.T rfl) v0_118_5 (m_trim G (d + 19)  σ ρ t1 I1 J1 P1 n1 sl1 L1.1 L1.2.2.2.1 (by omega) (by omega)) ?_ (hB := by show n1 ≤ 601124; omega) (hS := by show sl1 ≤ 7293033; omega)
    rintro o h' ⟨rfl, I2, J2, rfl, hD2, hF2, hJ2, h02⟩
    have L2 := L1.m hD2 hF2
    refine x_icmp_eq 1003 dL_law_872 (by decide) (fun b872 => ?_) (fun b872 => absurd b872 (fun q => q rfl))
    refine x_iincN (c := 6) dL_law_1003 rfl (by decide) ?_
    refine x_goto 23 dL_law_1006 (by decide) ?_
    exact ih (by omega) t1 I2 J2 P1 n1 sl1 _ _ L2 (by omega) (by omega) (by omega) _ _
set_option maxHeartbeats 4000000 in
theorem lw_22 {G : GG} (d : Nat) {len j : Nat} {sc : Nat → Int32} (hlen : len ≤ 384) (hj : 6 * j + 6 ≤ len) (ih : j < 64 → ∀ (t : Nat → Option (Nat × Nat)) (I : Nat → Nat → Int32) (J : Nat → Nat → Int64) (P : Nat → Nat → Value) (n sl : Nat) (σ : Sg) (ρ : Rs), LwS len sc t I P n σ ρ σ ρ → 6 * (j + 1) ≤ len → n ≤ 144 + 370 * (j + 1) → sl ≤ 10000 + 2140 * (j + 1) → ∀ v5 v6, RA G (d + 21) ML_law 23 [.ref 63, .ref 100, .ref 122, .ref 143, .int (nI (6 * (j + 1))), v5, v6] [] (t, I, J, P, n, sl) (fun o h => o = .inl (some (.int (nI 1))) ∧ a_n h ≤ 601124 ∧ a_s h ≤ 7293033)) {t : Nat → Option (Nat × Nat)} {I : Nat → Nat → Int32} {J : Nat → Nat → Int64} {P : Nat → Nat → Value} {n sl : Nat} {σ : Sg} {ρ : Rs} (hL : LwS len sc t I P n σ ρ σ ρ) (hn1 : n ≤ 144 + 370 * j) (hs1 : sl ≤ 10000 + 2140 * j) (v5 v6 : Value) : RA G (d + 21) ML_law 40 [.ref 63, .ref 100, .ref 122, .ref 143, .int (nI (6 * j)), v5, v6] [.int (nI 22)] (t, I, J, P, n, sl) (fun o h => o = .inl (some (.int (nI 1))) ∧ a_n h ≤ 601124 ∧ a_s h ≤ 7293033) := by
    refine x_tableIn (off := 837) 877 dL_law_40 (by decide) (by decide) (by decide) (by decide) ?_
    refine x_aload_n dL_law_877 rfl ?_
    refine x_invV 100 0 dL_law_878 (hL.1.T rfl) v0_119_1 (((h_cure G (d + 4)  σ ρ).con 0 0) t I J P n sl hL.1 hL.2.2.1 hL.2.2.2.2.1 hL.2.2.2.2.2.1 (by omega) (by omega)) ?_ (hB := by show n ≤ 601124; omega) (hS := by show sl ≤ 7293033; omega)
    rintro o h' ⟨rfl, hc1⟩
    obtain ⟨t1, I1, J1, P1, n1, sl1, rfl, L1, hn1a, hn1b, hs1a, hs1b, hj1⟩ := hL.h hc1
    show RA _ _ _ _ _ [Value.int _] _ _
    refine x_aload_n dL_law_881 rfl ?_
    refine x_invV 122 0 dL_law_882 (L1.1.T rfl) v0_122_5 (m_cure G (d + 16)  σ ρ t1 I1 J1 P1 n1 sl1 L1.1 L1.2.2.2.1 (by omega) (by omega)) ?_ (hB := by show n1 ≤ 601124; omega) (hS := by show sl1 ≤ 7293033; omega)
    rintro o h' ⟨rfl, I2, J2, rfl, hD2, hF2, hJ2, h02⟩
    have L2 := L1.m hD2 hF2
    refine x_icmp_eq 1003 dL_law_885 (by decide) (fun b885 => ?_) (fun b885 => absurd b885 (fun q => q rfl))
    refine x_iincN (c := 6) dL_law_1003 rfl (by decide) ?_
    refine x_goto 23 dL_law_1006 (by decide) ?_
    exact ih (by omega) t1 I2 J2 P1 n1 sl1 _ _ L2 (by omega) (by omega) (by omega) _ _
set_option maxHeartbeats 4000000 in
theorem lw_23 {G : GG} (d : Nat) {len j : Nat} {sc : Nat → Int32} (hlen : len ≤ 384) (hj : 6 * j + 6 ≤ len) (ih : j < 64 → ∀ (t : Nat → Option (Nat × Nat)) (I : Nat → Nat → Int32) (J : Nat → Nat → Int64) (P : Nat → Nat → Value) (n sl : Nat) (σ : Sg) (ρ : Rs), LwS len sc t I P n σ ρ σ ρ → 6 * (j + 1) ≤ len → n ≤ 144 + 370 * (j + 1) → sl ≤ 10000 + 2140 * (j + 1) → ∀ v5 v6, RA G (d + 21) ML_law 23 [.ref 63, .ref 100, .ref 122, .ref 143, .int (nI (6 * (j + 1))), v5, v6] [] (t, I, J, P, n, sl) (fun o h => o = .inl (some (.int (nI 1))) ∧ a_n h ≤ 601124 ∧ a_s h ≤ 7293033)) {t : Nat → Option (Nat × Nat)} {I : Nat → Nat → Int32} {J : Nat → Nat → Int64} {P : Nat → Nat → Value} {n sl : Nat} {σ : Sg} {ρ : Rs} (hL : LwS len sc t I P n σ ρ σ ρ) (hn1 : n ≤ 144 + 370 * j) (hs1 : sl ≤ 10000 + 2140 * j) (v5 v6 : Value) : RA G (d + 21) ML_law 40 [.ref 63, .ref 100, .ref 122, .ref 143, .int (nI (6 * j)), v5, v6] [.int (nI 23)] (t, I, J, P, n, sl) (fun o h => o = .inl (some (.int (nI 1))) ∧ a_n h ≤ 601124 ∧ a_s h ≤ 7293033) := by
    refine x_tableIn (off := 850) 890 dL_law_40 (by decide) (by decide) (by decide) (by decide) ?_
    refine x_aload_n dL_law_890 rfl ?_
    refine x_aload_n dL_law_891 rfl ?_
    refine x_iload dL_law_892 rfl ?_
    refine x_iconst (v := nI 1) dL_law_894 (by decide) ?_
    refine x_iaddN dL_law_895 ?_
    refine x_ialdN dL_law_896 hL.2.2.2.2.2.2.1 (by omega) ?_ (hl := by omega)
    refine x_top (congrArg Value.int (show I 63 ((6 * j) + 1) = sc ((6 * j) + 1) from (hL.2.2.2.2.2.2.2 _ (by omega)))) ?_
    refine x_invV 100 1 dL_law_897 (hL.1.T rfl) v0_123_1 (((h_cured G (d + 19) (sc ((6 * j) + 1)) σ ρ).con 0 0) t I J P n sl hL.1 hL.2.2.1 hL.2.2.2.2.1 hL.2.2.2.2.2.1 (by omega) (by omega)) ?_ (hB := by show n ≤ 601124; omega) (hS := by show sl ≤ 7293033; omega)
    rintro o h' ⟨rfl, hc1⟩
    obtain ⟨t1, I1, J1, P1, n1, sl1, rfl, L1, hn1a, hn1b, hs1a, hs1b, hj1⟩ := hL.h hc1
    show RA _ _ _ _ _ [Value.int _] _ _
    refine x_aload_n dL_law_900 rfl ?_
    refine x_aload_n dL_law_901 rfl ?_
    refine x_iload dL_law_902 rfl ?_
    refine x_iconst (v := nI 1) dL_law_904 (by decide) ?_
    refine x_iaddN dL_law_905 ?_
    refine x_ialdN dL_law_906 L1.2.2.2.2.2.2.1 (by omega) ?_ (hl := by omega)
    refine x_top (congrArg Value.int (show I1 63 ((6 * j) + 1) = sc ((6 * j) + 1) from (L1.2.2.2.2.2.2.2 _ (by omega)))) ?_
    refine x_invV 122 1 dL_law_907 (L1.1.T rfl) v0_126_5 (m_cured G (d + 20) (sc ((6 * j) + 1)) σ ρ t1 I1 J1 P1 n1 sl1 L1.1 L1.2.2.2.1 (by omega) (by omega)) ?_ (hB := by show n1 ≤ 601124; omega) (hS := by show sl1 ≤ 7293033; omega)
    rintro o h' ⟨rfl, I2, J2, rfl, hD2, hF2, hJ2, h02⟩
    have L2 := L1.m hD2 hF2
    refine x_icmp_eq 1003 dL_law_910 (by decide) (fun b910 => ?_) (fun b910 => absurd b910 (fun q => q rfl))
    refine x_iincN (c := 6) dL_law_1003 rfl (by decide) ?_
    refine x_goto 23 dL_law_1006 (by decide) ?_
    exact ih (by omega) t1 I2 J2 P1 n1 sl1 _ _ L2 (by omega) (by omega) (by omega) _ _
set_option maxHeartbeats 4000000 in
theorem lw_24 {G : GG} (d : Nat) {len j : Nat} {sc : Nat → Int32} (hlen : len ≤ 384) (hj : 6 * j + 6 ≤ len) (ih : j < 64 → ∀ (t : Nat → Option (Nat × Nat)) (I : Nat → Nat → Int32) (J : Nat → Nat → Int64) (P : Nat → Nat → Value) (n sl : Nat) (σ : Sg) (ρ : Rs), LwS len sc t I P n σ ρ σ ρ → 6 * (j + 1) ≤ len → n ≤ 144 + 370 * (j + 1) → sl ≤ 10000 + 2140 * (j + 1) → ∀ v5 v6, RA G (d + 21) ML_law 23 [.ref 63, .ref 100, .ref 122, .ref 143, .int (nI (6 * (j + 1))), v5, v6] [] (t, I, J, P, n, sl) (fun o h => o = .inl (some (.int (nI 1))) ∧ a_n h ≤ 601124 ∧ a_s h ≤ 7293033)) {t : Nat → Option (Nat × Nat)} {I : Nat → Nat → Int32} {J : Nat → Nat → Int64} {P : Nat → Nat → Value} {n sl : Nat} {σ : Sg} {ρ : Rs} (hL : LwS len sc t I P n σ ρ σ ρ) (hn1 : n ≤ 144 + 370 * j) (hs1 : sl ≤ 10000 + 2140 * j) (v5 v6 : Value) : RA G (d + 21) ML_law 40 [.ref 63, .ref 100, .ref 122, .ref 143, .int (nI (6 * j)), v5, v6] [.int (nI 24)] (t, I, J, P, n, sl) (fun o h => o = .inl (some (.int (nI 1))) ∧ a_n h ≤ 601124 ∧ a_s h ≤ 7293033) := by
    refine x_tableIn (off := 875) 915 dL_law_40 (by decide) (by decide) (by decide) (by decide) ?_
    refine x_aload_n dL_law_915 rfl ?_
    refine x_aload_n dL_law_916 rfl ?_
    refine x_iload dL_law_917 rfl ?_
    refine x_iconst (v := nI 1) dL_law_919 (by decide) ?_
    refine x_iaddN dL_law_920 ?_
    refine x_ialdN dL_law_921 hL.2.2.2.2.2.2.1 (by omega) ?_ (hl := by omega)
    refine x_top (congrArg Value.int (show I 63 ((6 * j) + 1) = sc ((6 * j) + 1) from (hL.2.2.2.2.2.2.2 _ (by omega)))) ?_
    refine x_aload_n dL_law_922 rfl ?_
    refine x_iload dL_law_923 rfl ?_
    refine x_iconst (v := nI 2) dL_law_925 (by decide) ?_
    refine x_iaddN dL_law_926 ?_
    refine x_ialdN dL_law_927 hL.2.2.2.2.2.2.1 (by omega) ?_ (hl := by omega)
    refine x_top (congrArg Value.int (show I 63 ((6 * j) + 2) = sc ((6 * j) + 2) from (hL.2.2.2.2.2.2.2 _ (by omega)))) ?_
    refine x_invV 100 2 dL_law_928 (hL.1.T rfl) v0_127_1 (((h_without G (d + 15) (sc ((6 * j) + 1)) (sc ((6 * j) + 2)) σ ρ).con 0 0) t I J P n sl hL.1 hL.2.2.1 hL.2.2.2.2.1 hL.2.2.2.2.2.1 (by omega) (by omega)) ?_ (hB := by show n ≤ 601124; omega) (hS := by show sl ≤ 7293033; omega)
    rintro o h' ⟨rfl, hc1⟩
    obtain ⟨t1, I1, J1, P1, n1, sl1, rfl, L1, hn1a, hn1b, hs1a, hs1b, hj1⟩ := hL.h hc1
    show RA _ _ _ _ _ [Value.int _] _ _
    refine x_aload_n dL_law_931 rfl ?_
    refine x_aload_n dL_law_932 rfl ?_
    refine x_iload dL_law_933 rfl ?_
    refine x_iconst (v := nI 1) dL_law_935 (by decide) ?_
    refine x_iaddN dL_law_936 ?_
    refine x_ialdN dL_law_937 L1.2.2.2.2.2.2.1 (by omega) ?_ (hl := by omega)
    refine x_top (congrArg Value.int (show I1 63 ((6 * j) + 1) = sc ((6 * j) + 1) from (L1.2.2.2.2.2.2.2 _ (by omega)))) ?_
    refine x_aload_n dL_law_938 rfl ?_
    refine x_iload dL_law_939 rfl ?_
    refine x_iconst (v := nI 2) dL_law_941 (by decide) ?_
    refine x_iaddN dL_law_942 ?_
    refine x_ialdN dL_law_943 L1.2.2.2.2.2.2.1 (by omega) ?_ (hl := by omega)
    refine x_top (congrArg Value.int (show I1 63 ((6 * j) + 2) = sc ((6 * j) + 2) from (L1.2.2.2.2.2.2.2 _ (by omega)))) ?_
    refine x_invV 122 2 dL_law_944 (L1.1.T rfl) v0_130_5 (m_without G (d + 17) (sc ((6 * j) + 1)) (sc ((6 * j) + 2)) σ ρ t1 I1 J1 P1 n1 sl1 L1.1 L1.2.2.2.1 (by omega) (by omega)) ?_ (hB := by show n1 ≤ 601124; omega) (hS := by show sl1 ≤ 7293033; omega)
    rintro o h' ⟨rfl, I2, J2, rfl, hD2, hF2, hJ2, h02⟩
    have L2 := L1.m hD2 hF2
    refine x_icmp_eq 1003 dL_law_947 (by decide) (fun b947 => ?_) (fun b947 => absurd b947 (fun q => q rfl))
    refine x_iincN (c := 6) dL_law_1003 rfl (by decide) ?_
    refine x_goto 23 dL_law_1006 (by decide) ?_
    exact ih (by omega) t1 I2 J2 P1 n1 sl1 _ _ L2 (by omega) (by omega) (by omega) _ _
set_option maxHeartbeats 4000000 in
theorem lw_25 {G : GG} (d : Nat) {len j : Nat} {sc : Nat → Int32} (hlen : len ≤ 384) (hj : 6 * j + 6 ≤ len) (ih : j < 64 → ∀ (t : Nat → Option (Nat × Nat)) (I : Nat → Nat → Int32) (J : Nat → Nat → Int64) (P : Nat → Nat → Value) (n sl : Nat) (σ : Sg) (ρ : Rs), LwS len sc t I P n σ ρ σ ρ → 6 * (j + 1) ≤ len → n ≤ 144 + 370 * (j + 1) → sl ≤ 10000 + 2140 * (j + 1) → ∀ v5 v6, RA G (d + 21) ML_law 23 [.ref 63, .ref 100, .ref 122, .ref 143, .int (nI (6 * (j + 1))), v5, v6] [] (t, I, J, P, n, sl) (fun o h => o = .inl (some (.int (nI 1))) ∧ a_n h ≤ 601124 ∧ a_s h ≤ 7293033)) {t : Nat → Option (Nat × Nat)} {I : Nat → Nat → Int32} {J : Nat → Nat → Int64} {P : Nat → Nat → Value} {n sl : Nat} {σ : Sg} {ρ : Rs} (hL : LwS len sc t I P n σ ρ σ ρ) (hn1 : n ≤ 144 + 370 * j) (hs1 : sl ≤ 10000 + 2140 * j) (v5 v6 : Value) : RA G (d + 21) ML_law 40 [.ref 63, .ref 100, .ref 122, .ref 143, .int (nI (6 * j)), v5, v6] [.int (nI 25)] (t, I, J, P, n, sl) (fun o h => o = .inl (some (.int (nI 1))) ∧ a_n h ≤ 601124 ∧ a_s h ≤ 7293033) := by
    refine x_tableIn (off := 912) 952 dL_law_40 (by decide) (by decide) (by decide) (by decide) ?_
    refine x_aload_n dL_law_952 rfl ?_
    refine x_invV 100 0 dL_law_953 (hL.1.T rfl) v0_131_1 (((h_key G (d + 15)  σ ρ).con 0 0) t I J P n sl hL.1 hL.2.2.1 hL.2.2.2.2.1 hL.2.2.2.2.2.1 (by omega) (by omega)) ?_ (hB := by show n ≤ 601124; omega) (hS := by show sl ≤ 7293033; omega)
    rintro o h' ⟨rfl, hc1⟩
    obtain ⟨t1, I1, J1, P1, n1, sl1, rfl, L1, hn1a, hn1b, hs1a, hs1b, hj1⟩ := hL.h hc1
    show RA _ _ _ _ _ [Value.int _] _ _
    refine x_aload_n dL_law_956 rfl ?_
    refine x_invV 122 0 dL_law_957 (L1.1.T rfl) v0_134_5 (m_key G (d + 17)  σ ρ t1 I1 J1 P1 n1 sl1 L1.1 L1.2.2.2.1 (by omega) (by omega)) ?_ (hB := by show n1 ≤ 601124; omega) (hS := by show sl1 ≤ 7293033; omega)
    rintro o h' ⟨rfl, I2, J2, rfl, hD2, hF2, hJ2, h02⟩
    have L2 := L1.m hD2 hF2
    refine x_icmp_eq 1003 dL_law_960 (by decide) (fun b960 => ?_) (fun b960 => absurd b960 (fun q => q rfl))
    refine x_iincN (c := 6) dL_law_1003 rfl (by decide) ?_
    refine x_goto 23 dL_law_1006 (by decide) ?_
    exact ih (by omega) t1 I2 J2 P1 n1 sl1 _ _ L2 (by omega) (by omega) (by omega) _ _
set_option maxHeartbeats 4000000 in
theorem lw_26 {G : GG} (d : Nat) {len j : Nat} {sc : Nat → Int32} (hlen : len ≤ 384) (hj : 6 * j + 6 ≤ len) (ih : j < 64 → ∀ (t : Nat → Option (Nat × Nat)) (I : Nat → Nat → Int32) (J : Nat → Nat → Int64) (P : Nat → Nat → Value) (n sl : Nat) (σ : Sg) (ρ : Rs), LwS len sc t I P n σ ρ σ ρ → 6 * (j + 1) ≤ len → n ≤ 144 + 370 * (j + 1) → sl ≤ 10000 + 2140 * (j + 1) → ∀ v5 v6, RA G (d + 21) ML_law 23 [.ref 63, .ref 100, .ref 122, .ref 143, .int (nI (6 * (j + 1))), v5, v6] [] (t, I, J, P, n, sl) (fun o h => o = .inl (some (.int (nI 1))) ∧ a_n h ≤ 601124 ∧ a_s h ≤ 7293033)) {t : Nat → Option (Nat × Nat)} {I : Nat → Nat → Int32} {J : Nat → Nat → Int64} {P : Nat → Nat → Value} {n sl : Nat} {σ : Sg} {ρ : Rs} (hL : LwS len sc t I P n σ ρ σ ρ) (hn1 : n ≤ 144 + 370 * j) (hs1 : sl ≤ 10000 + 2140 * j) (v5 v6 : Value) : RA G (d + 21) ML_law 40 [.ref 63, .ref 100, .ref 122, .ref 143, .int (nI (6 * j)), v5, v6] [.int (nI 26)] (t, I, J, P, n, sl) (fun o h => o = .inl (some (.int (nI 1))) ∧ a_n h ≤ 601124 ∧ a_s h ≤ 7293033) := by
    refine x_tableIn (off := 925) 965 dL_law_40 (by decide) (by decide) (by decide) (by decide) ?_
    refine x_aload_n dL_law_965 rfl ?_
    refine x_aload_n dL_law_966 rfl ?_
    refine x_iload dL_law_967 rfl ?_
    refine x_iconst (v := nI 1) dL_law_969 (by decide) ?_
    refine x_iaddN dL_law_970 ?_
    refine x_ialdN dL_law_971 hL.2.2.2.2.2.2.1 (by omega) ?_ (hl := by omega)
    refine x_top (congrArg Value.int (show I 63 ((6 * j) + 1) = sc ((6 * j) + 1) from (hL.2.2.2.2.2.2.2 _ (by omega)))) ?_
    refine x_invV 100 1 dL_law_972 (hL.1.T rfl) v0_135_1 (((h_count G (d + 19) (sc ((6 * j) + 1)) σ ρ).con 0 0) t I J P n sl hL.1 hL.2.2.1 hL.2.2.2.2.1 hL.2.2.2.2.2.1 (by omega) (by omega)) ?_ (hB := by show n ≤ 601124; omega) (hS := by show sl ≤ 7293033; omega)
    rintro o h' ⟨rfl, hc1⟩
    obtain ⟨t1, I1, J1, P1, n1, sl1, rfl, L1, hn1a, hn1b, hs1a, hs1b, hj1⟩ := hL.h hc1
    show RA _ _ _ _ _ [Value.int _] _ _
    refine x_aload_n dL_law_975 rfl ?_
    refine x_aload_n dL_law_976 rfl ?_
    refine x_iload dL_law_977 rfl ?_
    refine x_iconst (v := nI 1) dL_law_979 (by decide) ?_
    refine x_iaddN dL_law_980 ?_
    refine x_ialdN dL_law_981 L1.2.2.2.2.2.2.1 (by omega) ?_ (hl := by omega)
    refine x_top (congrArg Value.int (show I1 63 ((6 * j) + 1) = sc ((6 * j) + 1) from (L1.2.2.2.2.2.2.2 _ (by omega)))) ?_
    refine x_invV 122 1 dL_law_982 (L1.1.T rfl) v0_138_5 (m_count G (d + 19) (sc ((6 * j) + 1)) σ ρ t1 I1 J1 P1 n1 sl1 L1.1 L1.2.2.2.1 (by omega) (by omega)) ?_ (hB := by show n1 ≤ 601124; omega) (hS := by show sl1 ≤ 7293033; omega)
    rintro o h' ⟨rfl, I2, J2, rfl, hD2, hF2, hJ2, h02⟩
    have L2 := L1.m hD2 hF2
    refine x_icmp_eq 1003 dL_law_985 (by decide) (fun b985 => ?_) (fun b985 => absurd b985 (fun q => q rfl))
    refine x_iincN (c := 6) dL_law_1003 rfl (by decide) ?_
    refine x_goto 23 dL_law_1006 (by decide) ?_
    exact ih (by omega) t1 I2 J2 P1 n1 sl1 _ _ L2 (by omega) (by omega) (by omega) _ _
set_option maxHeartbeats 4000000 in
theorem lw_27 {G : GG} (d : Nat) {len j : Nat} {sc : Nat → Int32} (hlen : len ≤ 384) (hj : 6 * j + 6 ≤ len) (ih : j < 64 → ∀ (t : Nat → Option (Nat × Nat)) (I : Nat → Nat → Int32) (J : Nat → Nat → Int64) (P : Nat → Nat → Value) (n sl : Nat) (σ : Sg) (ρ : Rs), LwS len sc t I P n σ ρ σ ρ → 6 * (j + 1) ≤ len → n ≤ 144 + 370 * (j + 1) → sl ≤ 10000 + 2140 * (j + 1) → ∀ v5 v6, RA G (d + 21) ML_law 23 [.ref 63, .ref 100, .ref 122, .ref 143, .int (nI (6 * (j + 1))), v5, v6] [] (t, I, J, P, n, sl) (fun o h => o = .inl (some (.int (nI 1))) ∧ a_n h ≤ 601124 ∧ a_s h ≤ 7293033)) {t : Nat → Option (Nat × Nat)} {I : Nat → Nat → Int32} {J : Nat → Nat → Int64} {P : Nat → Nat → Value} {n sl : Nat} {σ : Sg} {ρ : Rs} (hL : LwS len sc t I P n σ ρ σ ρ) (hn1 : n ≤ 144 + 370 * j) (hs1 : sl ≤ 10000 + 2140 * j) (v5 v6 : Value) : RA G (d + 21) ML_law 40 [.ref 63, .ref 100, .ref 122, .ref 143, .int (nI (6 * j)), v5, v6] [.int (nI 27)] (t, I, J, P, n, sl) (fun o h => o = .inl (some (.int (nI 1))) ∧ a_n h ≤ 601124 ∧ a_s h ≤ 7293033) := by
    refine x_tableIn (off := 950) 990 dL_law_40 (by decide) (by decide) (by decide) (by decide) ?_
    refine x_aload_n dL_law_990 rfl ?_
    refine x_invV 100 0 dL_law_991 (hL.1.T rfl) v0_139_1 (((h_trouble G (d + 20)  σ ρ).con 0 0) t I J P n sl hL.1 hL.2.2.1 hL.2.2.2.2.1 hL.2.2.2.2.2.1 (by omega) (by omega)) ?_ (hB := by show n ≤ 601124; omega) (hS := by show sl ≤ 7293033; omega)
    rintro o h' ⟨rfl, hc1⟩
    obtain ⟨t1, I1, J1, P1, n1, sl1, rfl, L1, hn1a, hn1b, hs1a, hs1b, hj1⟩ := hL.h hc1
    show RA _ _ _ _ _ [Value.int _] _ _
    refine x_aload_n dL_law_994 rfl ?_
    refine x_invV 122 0 dL_law_995 (L1.1.T rfl) v0_142_5 (m_trouble G (d + 20)  σ ρ t1 I1 J1 P1 n1 sl1 L1.1 L1.2.2.2.1 (by omega) (by omega)) ?_ (hB := by show n1 ≤ 601124; omega) (hS := by show sl1 ≤ 7293033; omega)
    rintro o h' ⟨rfl, I2, J2, rfl, hD2, hF2, hJ2, h02⟩
    have L2 := L1.m hD2 hF2
    refine x_icmp_eq 1003 dL_law_998 (by decide) (fun b998 => ?_) (fun b998 => absurd b998 (fun q => q rfl))
    refine x_iincN (c := 6) dL_law_1003 rfl (by decide) ?_
    refine x_goto 23 dL_law_1006 (by decide) ?_
    exact ih (by omega) t1 I2 J2 P1 n1 sl1 _ _ L2 (by omega) (by omega) (by omega) _ _
