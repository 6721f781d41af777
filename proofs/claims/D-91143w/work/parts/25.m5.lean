/-! the reference: works -/
set_option maxRecDepth 100000
def WK (σ : Sg) (I0 I' : Nat → Nat → Int32) : Prop := (∀ b, b ∉ [133, 134, 135, 136, 137] → I' b = I0 b) ∧ (∀ p, p < 10 → I' 137 p = nI (bP (Asked σ p))) ∧ (∀ q, q < 80 → I' 133 q = nI (mk16 (Held σ q))) ∧ (∀ p, p < 10 → I' 135 p = nI (mk16 (Held σ (80 + p)))) ∧
  (∃ w : Nat → Nat, (∀ q, q < 80 → I' 134 q = nI (w q) ∧ w q < 65536) ∧ WI σ w) ∧ ∀ s, s < 16 → I' 136 s = nI (mk16 (fun d => Door σ d s))
theorem upN_fill {dl g : Nat → Nat} {j v : Nat} (n1 : ∀ s, s < j → dl s = g s) (hv : v = g j) : ∀ s, s < j + 1 → upN dl j v s = g s := by
  intro s hs
  by_cases e : s = j
  · rw [e, upN_self]; exact hv
  · rw [upN_ne _ _ e]; exact n1 s (by omega)
theorem zero_row {I I' : Nat → Nat → Int32} {r p : Nat} (hr : ∀ j, j < p → I r j = nI 0) (hI : I' = u2 I r p (nI 0)) : ∀ j, j < p + 1 → I' r j = nI 0 := by
  intro j hj
  rw [hI, u2_at]
  split
  · rfl
  · exact hr j (by omega)
theorem MP.fr5 {I0 I : Nat → Nat → Int32} {σ : Sg} (hM : MP I0 σ) (hF : ∀ b, b ∉ [133, 134, 135, 136, 137] → I b = I0 b) : MP I σ := by
  unfold MP
  rw [hF 122 (by decide), hF 123 (by decide), hF 124 (by decide), hF 126 (by decide), hF 127 (by decide), hF 128 (by decide), hF 129 (by decide), hF 130 (by decide)]
  exact hM
set_option maxHeartbeats 8000000 in
theorem m_works {G : GG} (d : Nat) {t : Nat → Option (Nat × Nat)} {J : Nat → Nat → Int64} {P : Nat → Nat → Value} {n sl : Nat} {I0 : Nat → Nat → Int32} {σ : Sg} (hS : SH t P) (hσ : SgOK σ) (hM : MP I0 σ) (hB : n ≤ 601124) (hSl : sl ≤ 7293033) : CA G (d + 2) M5_works [.ref 122] (t, I0, J, P, n, sl) (fun o h' => o = .inl none ∧ ∃ I', h' = (t, I', J, P, n, sl) ∧ WK σ I0 I') := by
  refine CA.w ?_
  show RA _ _ M5_works 0 [.ref 122, U0, U0, U0, U0] [] _ _
  have hnp := hσ.1
  have h5 : ∀ w : Nat → Nat, (∀ q, q < 80 → w q < 65536) → WI σ w → ∀ I, (∀ b, b ∉ [133, 134, 135, 136, 137] → I b = I0 b) → (∀ p, p < 10 → I 137 p = nI (bP (Asked σ p))) → (∀ q, q < 80 → I 134 q = nI (w q)) → (∀ q, q < 80 → I 133 q = nI (mk16 (Held σ q))) → (∀ p, p < 10 → I 135 p = nI (mk16 (Held σ (80 + p)))) → ∀ v2 v3 v4, RA G (d + 2) M5_works 269 [.ref 122, .int (nI 0), v2, v3, v4] [] (t, I, J, P, n, sl) (fun o h' => o = .inl none ∧ ∃ I', h' = (t, I', J, P, n, sl) ∧ WK σ I0 I') := by
    intro w hwb hWI I hF hak hw hH hR v2 v3 v4
    have h6 : ∀ p, p ≤ s_np σ → ∀ (dl : Nat → Nat) I, (∀ b, b ∉ [133, 134, 135, 136, 137] → I b = I0 b) → (∀ p, p < 10 → I 137 p = nI (bP (Asked σ p))) → (∀ q, q < 80 → I 134 q = nI (w q)) → (∀ q, q < 80 → I 133 q = nI (mk16 (Held σ q))) → (∀ p, p < 10 → I 135 p = nI (mk16 (Held σ (80 + p)))) → (∀ s, s < 16 → I 136 s = nI (dl s)) → DLk σ dl (p) 0 → ∀ v3 v4, RA G (d + 2) M5_works 292 [.ref 122, .int (nI 0), .int (nI (p)), v3, v4] [] (t, I, J, P, n, sl) (fun o h' => o = .inl none ∧ ∃ I', h' = (t, I', J, P, n, sl) ∧ WK σ I0 I') := by
      clear hF hak hw hH hR I
      refine up_ind ?_
      intro p hple ih dl I hF hak hw hH hR hd hL v3 v4
      have h6s : ∀ p k, p < s_np σ → k < s_ln σ p → Asked σ p → s_kk σ (12 * p + k) = 3 → (s_gr σ p).testBit (s_nu σ (12 * p + k)) = true → ∀ dl0 : Nat → Nat, DLk σ dl0 p k → (k < s_ln σ p → ∀ (dl : Nat → Nat) I, (∀ b, b ∉ [133, 134, 135, 136, 137] → I b = I0 b) → (∀ p, p < 10 → I 137 p = nI (bP (Asked σ p))) → (∀ q, q < 80 → I 134 q = nI (w q)) → (∀ q, q < 80 → I 133 q = nI (mk16 (Held σ q))) → (∀ p, p < 10 → I 135 p = nI (mk16 (Held σ (80 + p)))) → (∀ s, s < 16 → I 136 s = nI (dl s)) → DLk σ dl p (k + 1) → ∀ v4, RA G (d + 2) M5_works 305 [.ref 122, .int (nI 0), .int (nI p), .int (nI (12 * p + (k + 1))), v4] [] (t, I, J, P, n, sl) (fun o h' => o = .inl none ∧ ∃ I', h' = (t, I', J, P, n, sl) ∧ WK σ I0 I')) →
          ∀ j, j ≤ 16 → ∀ (dl : Nat → Nat) I, (∀ b, b ∉ [133, 134, 135, 136, 137] → I b = I0 b) → (∀ p, p < 10 → I 137 p = nI (bP (Asked σ p))) → (∀ q, q < 80 → I 134 q = nI (w q)) → (∀ q, q < 80 → I 133 q = nI (mk16 (Held σ q))) → (∀ p, p < 10 → I 135 p = nI (mk16 (Held σ (80 + p)))) → (∀ s, s < 16 → I 136 s = nI (dl s)) → (∀ s, s < j → dl s = dl0 s ||| tb (mk16 (Held σ (8 * p + s_fs σ (12 * p + k)))) s * 2 ^ s_nu σ (12 * p + k)) → (∀ s, j ≤ s → s < 16 → dl s = dl0 s) → RA G (d + 2) M5_works 363 [.ref 122, .int (nI 0), .int (nI p), .int (nI (12 * p + k)), .int (nI j)] [] (t, I, J, P, n, sl) (fun o h' => o = .inl none ∧ ∃ I', h' = (t, I', J, P, n, sl) ∧ WK σ I0 I') := by
        clear ih hF hak hw hH hR hd hL I dl
        intro p k hp hk hA h3 hg dl0 hL ihk
        have hln := hσ.ln hp
        refine up_ind ?_
        intro j hj ih dl I hF hak hw hH hR hd n1 n2
        refine x_iload d5_works_363 rfl ?_
        refine x_bipush (v := nI 16) d5_works_365 (by decide) ?_
        refine x_icmp_geN 414 d5_works_367 (by decide) (by omega) (by omega) (fun b367 => ?_) (fun b367 => ?_)
        · refine x_iincN (c := 1) d5_works_414 rfl (by decide) ?_
          refine x_goto 305 d5_works_417 (by decide) ?_
          exact ihk hk dl I hF hak hw hH hR hd (hL.line hσ hp hA hk h3 hg (fun s hs => by rw [mk16_bit]; simp [hs]) (fun s hs => n1 s (by omega))) _
        · have hrow := hσ.row hp hk
          have hnu16 := hrow.2.1
          refine x_aload_n d5_works_370 rfl ?_
          refine x_getP d5_works_371 f5_58 (hS.T rfl) (hS.P rfl) ?_
          refine x_iload d5_works_374 rfl ?_
          refine x_dup2 d5_works_376 rfl rfl ?_
          refine x_ialdN d5_works_377 (hS.T rfl) (by omega) ?_
          refine x_top (congrArg Value.int (hd _ (by omega))) ?_
          refine x_aload_n d5_works_378 rfl ?_
          refine x_getP d5_works_379 f5_49 (hS.T rfl) (hS.P rfl) ?_
          refine x_bipush (v := nI 8) d5_works_382 (by decide) ?_
          refine x_iload_n d5_works_384 rfl ?_
          refine x_imulN d5_works_385 ?_
          refine x_aload_n d5_works_386 rfl ?_
          refine x_getP d5_works_387 f5_29 (hS.T rfl) (hS.P rfl) ?_
          refine x_iload_n d5_works_390 rfl ?_
          refine x_ialdN d5_works_391 (hS.T rfl) (by omega) ?_
          refine x_top (congrArg Value.int ((congrFun (hF 128 (by decide)) _).trans (hM.fs hp hk))) ?_
          have hfs_ := (hσ.row hp hk).2.2.1
          refine x_iaddN d5_works_392 ?_
          refine x_ialdN d5_works_393 (hS.T rfl) (by omega) ?_
          refine x_top (congrArg Value.int (hH _ (by omega))) ?_
          have hmk_ := mk16_lt (Held σ (8 * p + s_fs σ (12 * p + k)))
          refine x_iload d5_works_394 rfl ?_
          refine x_ishrN d5_works_396 (by omega) (by omega) ?_
          refine x_iconst (v := nI 1) d5_works_397 (by decide) ?_
          refine x_tbN d5_works_398 ?_
          have htb_ := tb_lt (mk16 (Held σ (8 * p + s_fs σ (12 * p + k)))) j
          refine x_aload_n d5_works_399 rfl ?_
          refine x_getP d5_works_400 f5_26 (hS.T rfl) (hS.P rfl) ?_
          refine x_iload_n d5_works_403 rfl ?_
          refine x_ialdN d5_works_404 (hS.T rfl) (by omega) ?_
          refine x_top (congrArg Value.int ((congrFun (hF 127 (by decide)) _).trans (hM.nu hp hk))) ?_
          have hnu_ := (hσ.row hp hk).2.1
          refine x_shlbN d5_works_405 (tb_lt _ _) (by omega) ?_
          refine x_iorN d5_works_406 ?_
          refine x_iastN d5_works_407 (hS.T rfl) (by omega) (fun I1 hI1 => ?_)
          have hFI1 : ∀ b, b ∉ [133, 134, 135, 136, 137] → I1 b = I0 b := fun b hb => by rw [hI1, u2_row _ _ _ (fun e => hb (by rw [e]; decide))]; exact hF b hb
          refine x_iincN (c := 1) d5_works_408 rfl (by decide) ?_
          refine x_goto 363 d5_works_411 (by decide) ?_
          exact ih (by omega) _ I1 hFI1 (fun p hp => by rw [hI1, u2_row _ _ _ (by decide)]; exact hak p hp) (fun q hq => by rw [hI1, u2_row _ _ _ (by decide)]; exact hw q hq) (fun q hq => by rw [hI1, u2_row _ _ _ (by decide)]; exact hH q hq) (fun q hq => by rw [hI1, u2_row _ _ _ (by decide)]; exact hR q hq) (row_set hd hI1 rfl) (upN_fill n1 (by rw [n2 j (Nat.le_refl _) b367])) (fun s h1 h2 => by rw [upN_ne _ _ (by omega)]; exact n2 s (by omega) h2)
      have h6l : ∀ p, p < s_np σ → (p < s_np σ → ∀ (dl : Nat → Nat) I, (∀ b, b ∉ [133, 134, 135, 136, 137] → I b = I0 b) → (∀ p, p < 10 → I 137 p = nI (bP (Asked σ p))) → (∀ q, q < 80 → I 134 q = nI (w q)) → (∀ q, q < 80 → I 133 q = nI (mk16 (Held σ q))) → (∀ p, p < 10 → I 135 p = nI (mk16 (Held σ (80 + p)))) → (∀ s, s < 16 → I 136 s = nI (dl s)) → DLk σ dl (p + 1) 0 → ∀ v3 v4, RA G (d + 2) M5_works 292 [.ref 122, .int (nI 0), .int (nI (p + 1)), v3, v4] [] (t, I, J, P, n, sl) (fun o h' => o = .inl none ∧ ∃ I', h' = (t, I', J, P, n, sl) ∧ WK σ I0 I')) → ∀ k, k ≤ s_ln σ p → ∀ (dl : Nat → Nat) I, (∀ b, b ∉ [133, 134, 135, 136, 137] → I b = I0 b) → (∀ p, p < 10 → I 137 p = nI (bP (Asked σ p))) → (∀ q, q < 80 → I 134 q = nI (w q)) → (∀ q, q < 80 → I 133 q = nI (mk16 (Held σ q))) → (∀ p, p < 10 → I 135 p = nI (mk16 (Held σ (80 + p)))) → (∀ s, s < 16 → I 136 s = nI (dl s)) → DLk σ dl p k → ∀ v4, RA G (d + 2) M5_works 305 [.ref 122, .int (nI 0), .int (nI p), .int (nI (12 * p + k)), v4] [] (t, I, J, P, n, sl) (fun o h' => o = .inl none ∧ ∃ I', h' = (t, I', J, P, n, sl) ∧ WK σ I0 I') := by
        clear ih hF hak hw hH hR hd hL I dl
        intro p hp ihp
        have hln := hσ.ln hp
        refine up_ind ?_
        intro k hk ih dl I hF hak hw hH hR hd hL v4
        refine x_iload_n d5_works_305 rfl ?_
        refine x_bipush (v := nI 12) d5_works_306 (by decide) ?_
        refine x_iload_n d5_works_308 rfl ?_
        refine x_imulN d5_works_309 ?_
        refine x_aload_n d5_works_310 rfl ?_
        refine x_getP d5_works_311 f5_17 (hS.T rfl) (hS.P rfl) ?_
        refine x_iload_n d5_works_314 rfl ?_
        refine x_ialdN d5_works_315 (hS.T rfl) (by omega) ?_
        refine x_top (congrArg Value.int ((congrFun (hF 124 (by decide)) _).trans (hM.ln hp))) ?_
        have hln_ := hσ.ln hp
        refine x_iaddN d5_works_316 ?_
        refine x_icmp_geN 420 d5_works_317 (by decide) (by omega) (by omega) (fun b317 => ?_) (fun b317 => ?_)
        · refine x_iincN (c := 1) d5_works_420 rfl (by decide) ?_
          refine x_goto 292 d5_works_423 (by decide) ?_
          exact ihp hp dl I hF hak hw hH hR hd (hL.next (fun _ => by omega)) _ _
        · have b317k : k < s_ln σ p := by omega
          have hrow := hσ.row hp b317k
          have hnu16 := hrow.2.1
          refine x_aload_n d5_works_320 rfl ?_
          refine x_getP d5_works_321 f5_61 (hS.T rfl) (hS.P rfl) ?_
          refine x_iload_n d5_works_324 rfl ?_
          refine x_zaldN d5_works_325 (hS.T rfl) (by omega) ?_
          refine x_top (congrArg Value.int (hak _ (by omega))) ?_
          have hbp_ := bP_lt (Asked σ p)
          refine x_if_eqN 420 d5_works_326 (by decide) (by omega) (fun b326 => ?_) (fun b326 => ?_)
          · refine x_iincN (c := 1) d5_works_420 rfl (by decide) ?_
            refine x_goto 292 d5_works_423 (by decide) ?_
            exact ihp hp dl I hF hak hw hH hR hd (hL.next (fun z => absurd b326 (by rw [bP_t z]; decide))) _ _
          · have hA : Asked σ p := Classical.byContradiction (fun z => b326 (bP_f z))
            refine x_aload_n d5_works_329 rfl ?_
            refine x_getP d5_works_330 f5_23 (hS.T rfl) (hS.P rfl) ?_
            refine x_iload_n d5_works_333 rfl ?_
            refine x_ialdN d5_works_334 (hS.T rfl) (by omega) ?_
            refine x_top (congrArg Value.int ((congrFun (hF 126 (by decide)) _).trans (hM.kk hp b317k))) ?_
            have hkk_ := (hσ.row hp b317k).1
            refine x_iconst (v := nI 3) d5_works_335 (by decide) ?_
            refine x_icmp_neN 414 d5_works_336 (by decide) (by omega) (by omega) (fun b336 => ?_) (fun b336 => ?_)
            · refine x_iincN (c := 1) d5_works_414 rfl (by decide) ?_
              refine x_goto 305 d5_works_417 (by decide) ?_
              exact ih b317k dl I hF hak hw hH hR hd (hL.skip (fun z => b336 z.1)) _
            · refine x_aload_n d5_works_339 rfl ?_
              refine x_getP d5_works_340 f5_13 (hS.T rfl) (hS.P rfl) ?_
              refine x_iload_n d5_works_343 rfl ?_
              refine x_ialdN d5_works_344 (hS.T rfl) (by omega) ?_
              refine x_top (congrArg Value.int ((congrFun (hF 123 (by decide)) _).trans (hM.gr hp))) ?_
              have hgr_ := hσ.gr hp
              refine x_aload_n d5_works_345 rfl ?_
              refine x_getP d5_works_346 f5_26 (hS.T rfl) (hS.P rfl) ?_
              refine x_iload_n d5_works_349 rfl ?_
              refine x_ialdN d5_works_350 (hS.T rfl) (by omega) ?_
              refine x_top (congrArg Value.int ((congrFun (hF 127 (by decide)) _).trans (hM.nu hp b317k))) ?_
              have hnu_ := (hσ.row hp b317k).2.1
              refine x_ishrN d5_works_351 (by omega) (by omega) ?_
              refine x_iconst (v := nI 1) d5_works_352 (by decide) ?_
              refine x_tbN d5_works_353 ?_
              have htb_ := tb_lt (s_gr σ p) (s_nu σ (12 * p + k))
              refine x_if_neN 360 d5_works_354 (by decide) (by omega) (fun b354 => ?_) (fun b354 => ?_)
              · refine x_iconst (v := nI 0) d5_works_360 (by decide) ?_
                refine x_istore d5_works_361 ?_
                exact h6s p k hp b317k hA b336 (tb_ne0.mp b354) dl hL ih 0 (Nat.zero_le _) dl I hF hak hw hH hR hd (fun s hs => absurd hs (Nat.not_lt_zero _)) (fun _ _ _ => rfl)
              · refine x_goto 414 d5_works_357 (by decide) ?_
                refine x_iincN (c := 1) d5_works_414 rfl (by decide) ?_
                refine x_goto 305 d5_works_417 (by decide) ?_
                exact ih b317k dl I hF hak hw hH hR hd (hL.skip (fun z => by have := tb0.mp b354; rw [z.2] at this; cases this)) _
      refine x_iload_n d5_works_292 rfl ?_
      refine x_aload_n d5_works_293 rfl ?_
      refine x_getI d5_works_294 f5_86 (hS.T rfl) ?_
      refine x_top (congrArg Value.int ((congrFun (hF 122 (by decide)) _).trans hM.np)) ?_
      refine x_icmp_geN 426 d5_works_297 (by decide) (by omega) (by omega) (fun b297 => ?_) (fun b297 => ?_)
      · have hpe : p = s_np σ := by omega
        subst hpe
        exact x_return d5_works_426 ⟨rfl, I, rfl, hF, hak, hH, hR, ⟨w, fun q hq => ⟨hw q hq, hwb q hq⟩, hWI⟩, fun s hs => by rw [hd s hs, hL.fin hs]⟩
      · refine x_bipush (v := nI 12) d5_works_300 (by decide) ?_
        refine x_iload_n d5_works_302 rfl ?_
        refine x_imulN d5_works_303 ?_
        refine x_istore_n d5_works_304 ?_
        exact h6l p b297 ih 0 (Nat.zero_le _) dl I hF hak hw hH hR hd hL _
    have h5l : ∀ k, k ≤ 16 → ∀ I, (∀ b, b ∉ [133, 134, 135, 136, 137] → I b = I0 b) → (∀ p, p < 10 → I 137 p = nI (bP (Asked σ p))) → (∀ q, q < 80 → I 134 q = nI (w q)) → (∀ q, q < 80 → I 133 q = nI (mk16 (Held σ q))) → (∀ p, p < 10 → I 135 p = nI (mk16 (Held σ (80 + p)))) → (∀ q, q < k → I 136 q = nI 0) → RA G (d + 2) M5_works 271 [.ref 122, .int (nI 0), .int (nI k), v3, v4] [] (t, I, J, P, n, sl) (fun o h' => o = .inl none ∧ ∃ I', h' = (t, I', J, P, n, sl) ∧ WK σ I0 I') := by
      clear hF hak hw hH hR I
      refine up_ind ?_
      intro k hk ih I hF hak hw hH hR z1
      refine x_iload_n d5_works_271 rfl ?_
      refine x_bipush (v := nI 16) d5_works_272 (by decide) ?_
      refine x_icmp_geN 290 d5_works_274 (by decide) (by omega) (by omega) (fun b274 => ?_) (fun b274 => ?_)
      · refine x_iconst (v := nI 0) d5_works_290 (by decide) ?_
        refine x_istore_n d5_works_291 ?_
        exact h6 0 (Nat.zero_le _) (fun _ => 0) I hF hak hw hH hR (fun s hs => z1 s (by omega)) (DLk.init σ (fun _ _ => rfl)) _ _
      · refine x_aload_n d5_works_277 rfl ?_
        refine x_getP d5_works_278 f5_58 (hS.T rfl) (hS.P rfl) ?_
        refine x_iload_n d5_works_281 rfl ?_
        refine x_iconst (v := nI 0) d5_works_282 (by decide) ?_
        refine x_iastN d5_works_283 (hS.T rfl) (by omega) (fun I1 hI1 => ?_)
        have hFI1 : ∀ b, b ∉ [133, 134, 135, 136, 137] → I1 b = I0 b := fun b hb => by rw [hI1, u2_row _ _ _ (fun e => hb (by rw [e]; decide))]; exact hF b hb
        refine x_iincN (c := 1) d5_works_284 rfl (by decide) ?_
        refine x_goto 271 d5_works_287 (by decide) ?_
        exact ih (by omega) I1 hFI1 (fun p hp => by rw [hI1, u2_row _ _ _ (by decide)]; exact hak p hp) (fun q hq => by rw [hI1, u2_row _ _ _ (by decide)]; exact hw q hq) (fun q hq => by rw [hI1, u2_row _ _ _ (by decide)]; exact hH q hq) (fun q hq => by rw [hI1, u2_row _ _ _ (by decide)]; exact hR q hq) (zero_row z1 hI1)
    refine x_iconst (v := nI 0) d5_works_269 (by decide) ?_
    refine x_istore_n d5_works_270 ?_
    exact h5l 0 (Nat.zero_le _) I hF hak hw hH hR (fun q hq => absurd hq (Nat.not_lt_zero _))
  have h4 : ∀ w : Nat → Nat, (∀ q, q < 80 → w q < 65536) → WI σ w → ∀ (h : Nat → Nat) I, (∀ b, b ∉ [133, 134, 135, 136, 137] → I b = I0 b) → (∀ p, p < 10 → I 137 p = nI (bP (Asked σ p))) → (∀ q, q < 80 → I 134 q = nI (w q)) → RHm I h → HI σ h → G0 σ h → ∀ v2 v3 v4, RA G (d + 2) M5_works 186 [.ref 122, .int (nI 1), v2, v3, v4] [] (t, I, J, P, n, sl) (fun o h' => o = .inl none ∧ ∃ I', h' = (t, I', J, P, n, sl) ∧ WK σ I0 I') := by
    intro w hwb hWI
    have h4p : ∀ h0 : Nat → Nat, (∀ z, mu90 z < mu90 h0 → ∀ I, (∀ b, b ∉ [133, 134, 135, 136, 137] → I b = I0 b) → (∀ p, p < 10 → I 137 p = nI (bP (Asked σ p))) → (∀ q, q < 80 → I 134 q = nI (w q)) → RHm I z → HI σ z → G0 σ z → ∀ v2 v3 v4, RA G (d + 2) M5_works 186 [.ref 122, .int (nI 1), v2, v3, v4] [] (t, I, J, P, n, sl) (fun o h' => o = .inl none ∧ ∃ I', h' = (t, I', J, P, n, sl) ∧ WK σ I0 I')) → ∀ p, p ≤ s_np σ → ∀ (h : Nat → Nat) I m, (∀ b, b ∉ [133, 134, 135, 136, 137] → I b = I0 b) → (∀ p, p < 10 → I 137 p = nI (bP (Asked σ p))) → (∀ q, q < 80 → I 134 q = nI (w q)) → RHm I h → HL2 σ h0 h m (p) 0 → ∀ v3 v4, RA G (d + 2) M5_works 194 [.ref 122, .int (nI m), .int (nI (p)), v3, v4] [] (t, I, J, P, n, sl) (fun o h' => o = .inl none ∧ ∃ I', h' = (t, I', J, P, n, sl) ∧ WK σ I0 I') := by
      intro h0 hnext
      refine up_ind ?_
      intro p hple ih h I m hF hak hw hr hL v3 v4
      have h4l : ∀ p, p < s_np σ → (p < s_np σ → ∀ (h : Nat → Nat) I m, (∀ b, b ∉ [133, 134, 135, 136, 137] → I b = I0 b) → (∀ p, p < 10 → I 137 p = nI (bP (Asked σ p))) → (∀ q, q < 80 → I 134 q = nI (w q)) → RHm I h → HL2 σ h0 h m (p + 1) 0 → ∀ v3 v4, RA G (d + 2) M5_works 194 [.ref 122, .int (nI m), .int (nI (p + 1)), v3, v4] [] (t, I, J, P, n, sl) (fun o h' => o = .inl none ∧ ∃ I', h' = (t, I', J, P, n, sl) ∧ WK σ I0 I')) → ∀ k, k ≤ s_ln σ p → ∀ (h : Nat → Nat) I m, (∀ b, b ∉ [133, 134, 135, 136, 137] → I b = I0 b) → (∀ p, p < 10 → I 137 p = nI (bP (Asked σ p))) → (∀ q, q < 80 → I 134 q = nI (w q)) → RHm I h → HL2 σ h0 h m p k → ∀ v4, RA G (d + 2) M5_works 207 [.ref 122, .int (nI m), .int (nI p), .int (nI (12 * p + k)), v4] [] (t, I, J, P, n, sl) (fun o h' => o = .inl none ∧ ∃ I', h' = (t, I', J, P, n, sl) ∧ WK σ I0 I') := by
        clear ih hF hak hw hr hL I h m
        intro p hp ihp
        have hln := hσ.ln hp
        refine up_ind ?_
        intro k hk ih h I m hF hak hw hr hL v4
        have hm1 := hL.1
        refine x_iload_n d5_works_207 rfl ?_
        refine x_bipush (v := nI 12) d5_works_208 (by decide) ?_
        refine x_iload_n d5_works_210 rfl ?_
        refine x_imulN d5_works_211 ?_
        refine x_aload_n d5_works_212 rfl ?_
        refine x_getP d5_works_213 f5_17 (hS.T rfl) (hS.P rfl) ?_
        refine x_iload_n d5_works_216 rfl ?_
        refine x_ialdN d5_works_217 (hS.T rfl) (by omega) ?_
        refine x_top (congrArg Value.int ((congrFun (hF 124 (by decide)) _).trans (hM.ln hp))) ?_
        have hln_ := hσ.ln hp
        refine x_iaddN d5_works_218 ?_
        refine x_icmp_geN 260 d5_works_219 (by decide) (by omega) (by omega) (fun b219 => ?_) (fun b219 => ?_)
        · refine x_iincN (c := 1) d5_works_260 rfl (by decide) ?_
          refine x_goto 194 d5_works_263 (by decide) ?_
          exact ihp hp h I m hF hak hw hr (hL.next (fun _ => by omega)) _ _
        · have b219k : k < s_ln σ p := by omega
          refine x_aload_n d5_works_222 rfl ?_
          refine x_getP d5_works_223 f5_61 (hS.T rfl) (hS.P rfl) ?_
          refine x_iload_n d5_works_226 rfl ?_
          refine x_zaldN d5_works_227 (hS.T rfl) (by omega) ?_
          refine x_top (congrArg Value.int (hak _ (by omega))) ?_
          have hbp_ := bP_lt (Asked σ p)
          refine x_if_eqN 260 d5_works_228 (by decide) (by omega) (fun b228 => ?_) (fun b228 => ?_)
          · refine x_iincN (c := 1) d5_works_260 rfl (by decide) ?_
            refine x_goto 194 d5_works_263 (by decide) ?_
            exact ihp hp h I m hF hak hw hr (hL.next (fun z => absurd b228 (by rw [bP_t z]; decide))) _ _
          · refine x_aload_n d5_works_231 rfl ?_
            refine x_iload_n d5_works_232 rfl ?_
            refine x_iload_n d5_works_233 rfl ?_
            have hA : Asked σ p := Classical.byContradiction (fun z => b228 (bP_f z))
            have hMI : MP I σ := hM.fr5 hF
            refine x_invV 122 2 d5_works_234 (hS.T rfl) v5_234_5 (m_goes d hS hσ hMI hr hw hL.2.1.1 hp b219k hB hSl) ?_ (hB := hB) (hS := hSl)
            rintro o h' ⟨I1, c, rfl, rfl, hF9, hr1, hG⟩
            have hF1 : ∀ b, b ∉ [133, 134, 135, 136, 137] → I1 b = I0 b := fun b hb => (hF9 b (fun e => hb (by simp only [List.mem_cons, List.not_mem_nil, or_false] at e ⊢; omega))).trans (hF b hb)
            have hak1 : ∀ p, p < 10 → I1 137 p = nI (bP (Asked σ p)) := fun p hp => by rw [hF9 137 (by decide)]; exact hak p hp
            have hw1 : ∀ q, q < 80 → I1 134 q = nI (w q) := fun q hq => by rw [hF9 134 (by decide)]; exact hw q hq
            have hc1 := hG.1
            have hst := hL.step hσ hWI hp hA b219k hG rfl
            refine x_istore d5_works_237 ?_
            refine x_iload_n d5_works_239 rfl ?_
            refine x_if_neN 248 d5_works_240 (by decide) (by omega) (fun b240 => ?_) (fun b240 => ?_)
            · refine x_iconst (v := nI 1) d5_works_248 (by decide) ?_
              refine x_goto 253 d5_works_249 (by decide) ?_
              refine x_istore_n d5_works_253 ?_
              refine x_iincN (c := 1) d5_works_254 rfl (by decide) ?_
              refine x_goto 207 d5_works_257 (by decide) ?_
              rw [if_neg (by omega)] at hst
              exact ih b219k _ I1 1 hF1 hak1 hw1 hr1 hst _
            · refine x_iload d5_works_243 rfl ?_
              refine x_if_eqN 252 d5_works_245 (by decide) (by omega) (fun b245 => ?_) (fun b245 => ?_)
              · refine x_iconst (v := nI 0) d5_works_252 (by decide) ?_
                refine x_istore_n d5_works_253 ?_
                refine x_iincN (c := 1) d5_works_254 rfl (by decide) ?_
                refine x_goto 207 d5_works_257 (by decide) ?_
                rw [if_pos ⟨b240, b245⟩] at hst
                exact ih b219k _ I1 0 hF1 hak1 hw1 hr1 hst _
              · refine x_iconst (v := nI 1) d5_works_248 (by decide) ?_
                refine x_goto 253 d5_works_249 (by decide) ?_
                refine x_istore_n d5_works_253 ?_
                refine x_iincN (c := 1) d5_works_254 rfl (by decide) ?_
                refine x_goto 207 d5_works_257 (by decide) ?_
                rw [if_neg (by omega)] at hst
                exact ih b219k _ I1 1 hF1 hak1 hw1 hr1 hst _
      have hm1 := hL.1
      refine x_iload_n d5_works_194 rfl ?_
      refine x_aload_n d5_works_195 rfl ?_
      refine x_getI d5_works_196 f5_86 (hS.T rfl) ?_
      refine x_top (congrArg Value.int ((congrFun (hF 122 (by decide)) _).trans hM.np)) ?_
      refine x_icmp_geN 266 d5_works_199 (by decide) (by omega) (by omega) (fun b199 => ?_) (fun b199 => ?_)
      · refine x_goto 186 d5_works_266 (by decide) ?_
        have hpe : p = s_np σ := by omega
        subst hpe
        rcases (by have := hL.1; omega : m = 0 ∨ m = 1) with rfl | rfl
        · refine x_iload_n d5_works_186 rfl ?_
          refine x_if_eqN 269 d5_works_187 (by decide) (by decide) (fun _ => ?_) (fun h => absurd rfl h)
          exact h5 w hwb hWI I hF hak hw (fun q hq => by rw [hr.1 q hq, hL.fin (by omega)]) (fun p hp => by rw [hr.2 p hp, hL.fin (by omega)]) _ _ _
        · exact hnext h (hL.2.2.2.2 rfl) I hF hak hw hr hL.2.1 hL.2.2.1 _ _ _
      · refine x_bipush (v := nI 12) d5_works_202 (by decide) ?_
        refine x_iload_n d5_works_204 rfl ?_
        refine x_imulN d5_works_205 ?_
        refine x_istore_n d5_works_206 ?_
        exact h4l p b199 ih 0 (Nat.zero_le _) h I m hF hak hw hr hL _
    refine wh_ind mu90 ?_
    intro h ih I hF hak hw hr hHI hG0 v2 v3 v4
    refine x_iload_n d5_works_186 rfl ?_
    refine x_if_eqN 269 d5_works_187 (by decide) (by omega) (fun b187 => absurd b187 (by decide)) (fun b187 => ?_)
    refine x_iconst (v := nI 0) d5_works_190 (by decide) ?_
    refine x_istore_n d5_works_191 ?_
    refine x_iconst (v := nI 0) d5_works_192 (by decide) ?_
    refine x_istore_n d5_works_193 ?_
    exact h4p h (fun z hz => ih z hz) 0 (Nat.zero_le _) h I 0 hF hak hw hr (HL2.init hHI hG0) _ _
  have h3 : ∀ p, p ≤ s_np σ → ∀ (w h : Nat → Nat) I, (∀ b, b ∉ [133, 134, 135, 136, 137] → I b = I0 b) → (∀ p, p < 10 → I 137 p = nI (bP (Asked σ p))) → (∀ q, q < 80 → I 134 q = nI (w q)) → RHm I h → WL σ w h (p) 0 → ∀ v2, RA G (d + 2) M5_works 55 [.ref 122, .int (nI (p)), v2, U0, U0] [] (t, I, J, P, n, sl) (fun o h' => o = .inl none ∧ ∃ I', h' = (t, I', J, P, n, sl) ∧ WK σ I0 I') := by
    refine up_ind ?_
    intro p hple ih w h I hF hak hw hr hL v2
    have h3l : ∀ p, p < s_np σ → (p < s_np σ → ∀ (w h : Nat → Nat) I, (∀ b, b ∉ [133, 134, 135, 136, 137] → I b = I0 b) → (∀ p, p < 10 → I 137 p = nI (bP (Asked σ p))) → (∀ q, q < 80 → I 134 q = nI (w q)) → RHm I h → WL σ w h (p + 1) 0 → ∀ v2, RA G (d + 2) M5_works 55 [.ref 122, .int (nI (p + 1)), v2, U0, U0] [] (t, I, J, P, n, sl) (fun o h' => o = .inl none ∧ ∃ I', h' = (t, I', J, P, n, sl) ∧ WK σ I0 I')) → ∀ k, k ≤ s_ln σ p → ∀ (w h : Nat → Nat) I, (∀ b, b ∉ [133, 134, 135, 136, 137] → I b = I0 b) → (∀ p, p < 10 → I 137 p = nI (bP (Asked σ p))) → (∀ q, q < 80 → I 134 q = nI (w q)) → RHm I h → WL σ w h p k → RA G (d + 2) M5_works 68 [.ref 122, .int (nI p), .int (nI (12 * p + k)), U0, U0] [] (t, I, J, P, n, sl) (fun o h' => o = .inl none ∧ ∃ I', h' = (t, I', J, P, n, sl) ∧ WK σ I0 I') := by
      clear ih hF hak hw hr hL I h w
      intro p hp ihp
      have hln := hσ.ln hp
      refine up_ind ?_
      intro k hk ih w h I hF hak hw hr hL
      refine x_iload_n d5_works_68 rfl ?_
      refine x_bipush (v := nI 12) d5_works_69 (by decide) ?_
      refine x_iload_n d5_works_71 rfl ?_
      refine x_imulN d5_works_72 ?_
      refine x_aload_n d5_works_73 rfl ?_
      refine x_getP d5_works_74 f5_17 (hS.T rfl) (hS.P rfl) ?_
      refine x_iload_n d5_works_77 rfl ?_
      refine x_ialdN d5_works_78 (hS.T rfl) (by omega) ?_
      refine x_top (congrArg Value.int ((congrFun (hF 124 (by decide)) _).trans (hM.ln hp))) ?_
      have hln_ := hσ.ln hp
      refine x_iaddN d5_works_79 ?_
      refine x_icmp_geN 178 d5_works_80 (by decide) (by omega) (by omega) (fun b80 => ?_) (fun b80 => ?_)
      · refine x_iincN (c := 1) d5_works_178 rfl (by decide) ?_
        refine x_goto 55 d5_works_181 (by decide) ?_
        exact ihp hp w h I hF hak hw hr (hL.next (fun _ => by omega)) _
      · have b80k : k < s_ln σ p := by omega
        have hrow := hσ.row hp b80k
        refine x_aload_n d5_works_83 rfl ?_
        refine x_getP d5_works_84 f5_61 (hS.T rfl) (hS.P rfl) ?_
        refine x_iload_n d5_works_87 rfl ?_
        refine x_zaldN d5_works_88 (hS.T rfl) (by omega) ?_
        refine x_top (congrArg Value.int (hak _ (by omega))) ?_
        have hbp_ := bP_lt (Asked σ p)
        refine x_if_eqN 178 d5_works_89 (by decide) (by omega) (fun b89 => ?_) (fun b89 => ?_)
        · refine x_iincN (c := 1) d5_works_178 rfl (by decide) ?_
          refine x_goto 55 d5_works_181 (by decide) ?_
          exact ihp hp w h I hF hak hw hr (hL.next (fun z => absurd b89 (by rw [bP_t z]; decide))) _
        · have hA : Asked σ p := Classical.byContradiction (fun z => b89 (bP_f z))
          have hline := hL.line hσ hp hA b80k
          refine x_aload_n d5_works_92 rfl ?_
          refine x_getP d5_works_93 f5_23 (hS.T rfl) (hS.P rfl) ?_
          refine x_iload_n d5_works_96 rfl ?_
          refine x_ialdN d5_works_97 (hS.T rfl) (by omega) ?_
          refine x_top (congrArg Value.int ((congrFun (hF 126 (by decide)) _).trans (hM.kk hp b80k))) ?_
          have hkk_ := (hσ.row hp b80k).1
          refine x_iconst (v := nI 4) d5_works_98 (by decide) ?_
          refine x_icmp_neN 129 d5_works_99 (by decide) (by omega) (by omega) (fun b99 => ?_) (fun b99 => ?_)
          · refine x_aload_n d5_works_129 rfl ?_
            refine x_getP d5_works_130 f5_23 (hS.T rfl) (hS.P rfl) ?_
            refine x_iload_n d5_works_133 rfl ?_
            refine x_ialdN d5_works_134 (hS.T rfl) (by omega) ?_
            refine x_top (congrArg Value.int ((congrFun (hF 126 (by decide)) _).trans (hM.kk hp b80k))) ?_
            have hkk_ := (hσ.row hp b80k).1
            refine x_if_neN 172 d5_works_135 (by decide) (by omega) (fun b135 => ?_) (fun b135 => ?_)
            · refine x_iincN (c := 1) d5_works_172 rfl (by decide) ?_
              refine x_goto 68 d5_works_175 (by decide) ?_
              rw [if_neg b99, if_neg b135] at hline
              exact ih b80k w h I hF hak hw hr hline
            · refine x_aload_n d5_works_138 rfl ?_
              refine x_getP d5_works_139 f5_49 (hS.T rfl) (hS.P rfl) ?_
              refine x_bipush (v := nI 8) d5_works_142 (by decide) ?_
              refine x_iload_n d5_works_144 rfl ?_
              refine x_imulN d5_works_145 ?_
              refine x_aload_n d5_works_146 rfl ?_
              refine x_getP d5_works_147 f5_29 (hS.T rfl) (hS.P rfl) ?_
              refine x_iload_n d5_works_150 rfl ?_
              refine x_ialdN d5_works_151 (hS.T rfl) (by omega) ?_
              refine x_top (congrArg Value.int ((congrFun (hF 128 (by decide)) _).trans (hM.fs hp b80k))) ?_
              have hfs_ := (hσ.row hp b80k).2.2.1
              refine x_iaddN d5_works_152 ?_
              refine x_dup2 d5_works_153 rfl rfl ?_
              refine x_ialdN d5_works_154 (hS.T rfl) (by omega) ?_
              refine x_top (congrArg Value.int (hr.1 _ (by omega))) ?_
              refine x_aload_n d5_works_155 rfl ?_
              refine x_getP d5_works_156 f5_13 (hS.T rfl) (hS.P rfl) ?_
              refine x_iload_n d5_works_159 rfl ?_
              refine x_ialdN d5_works_160 (hS.T rfl) (by omega) ?_
              refine x_top (congrArg Value.int ((congrFun (hF 123 (by decide)) _).trans (hM.gr hp))) ?_
              have hgr_ := hσ.gr hp
              refine x_iconst (v := nI 1) d5_works_161 (by decide) ?_
              refine x_aload_n d5_works_162 rfl ?_
              refine x_getP d5_works_163 f5_26 (hS.T rfl) (hS.P rfl) ?_
              refine x_iload_n d5_works_166 rfl ?_
              refine x_ialdN d5_works_167 (hS.T rfl) (by omega) ?_
              refine x_top (congrArg Value.int ((congrFun (hF 127 (by decide)) _).trans (hM.nu hp b80k))) ?_
              have hnu_ := (hσ.row hp b80k).2.1
              refine x_1shlN d5_works_168 (by omega) ?_
              refine x_iandN d5_works_169 ?_
              refine x_iorN d5_works_170 ?_
              refine x_iastN d5_works_171 (hS.T rfl) (by omega) (fun I1 hI1 => ?_)
              have hFI1 : ∀ b, b ∉ [133, 134, 135, 136, 137] → I1 b = I0 b := fun b hb => by rw [hI1, u2_row _ _ _ (fun e => hb (by rw [e]; decide))]; exact hF b hb
              refine x_iincN (c := 1) d5_works_172 rfl (by decide) ?_
              refine x_goto 68 d5_works_175 (by decide) ?_
              rw [if_neg b99, if_pos b135] at hline
              exact ih b80k _ _ I1 hFI1 (fun p hp => by rw [hI1, u2_row _ _ _ (by decide)]; exact hak p hp) (fun q hq => by rw [hI1, u2_row _ _ _ (by decide)]; exact hw q hq) (hr.set hI1 (by omega)) hline
          · refine x_aload_n d5_works_102 rfl ?_
            refine x_getP d5_works_103 f5_52 (hS.T rfl) (hS.P rfl) ?_
            refine x_bipush (v := nI 8) d5_works_106 (by decide) ?_
            refine x_iload_n d5_works_108 rfl ?_
            refine x_imulN d5_works_109 ?_
            refine x_aload_n d5_works_110 rfl ?_
            refine x_getP d5_works_111 f5_29 (hS.T rfl) (hS.P rfl) ?_
            refine x_iload_n d5_works_114 rfl ?_
            refine x_ialdN d5_works_115 (hS.T rfl) (by omega) ?_
            refine x_top (congrArg Value.int ((congrFun (hF 128 (by decide)) _).trans (hM.fs hp b80k))) ?_
            have hfs_ := (hσ.row hp b80k).2.2.1
            refine x_iaddN d5_works_116 ?_
            refine x_dup2 d5_works_117 rfl rfl ?_
            refine x_ialdN d5_works_118 (hS.T rfl) (by omega) ?_
            refine x_top (congrArg Value.int (hw _ (by omega))) ?_
            refine x_iconst (v := nI 1) d5_works_119 (by decide) ?_
            refine x_aload_n d5_works_120 rfl ?_
            refine x_getP d5_works_121 f5_26 (hS.T rfl) (hS.P rfl) ?_
            refine x_iload_n d5_works_124 rfl ?_
            refine x_ialdN d5_works_125 (hS.T rfl) (by omega) ?_
            refine x_top (congrArg Value.int ((congrFun (hF 127 (by decide)) _).trans (hM.nu hp b80k))) ?_
            have hnu_ := (hσ.row hp b80k).2.1
            refine x_1shlN d5_works_126 (by omega) ?_
            refine x_iorN d5_works_127 ?_
            refine x_iastN d5_works_128 (hS.T rfl) (by omega) (fun I2 hI2 => ?_)
            have hFI2 : ∀ b, b ∉ [133, 134, 135, 136, 137] → I2 b = I0 b := fun b hb => by rw [hI2, u2_row _ _ _ (fun e => hb (by rw [e]; decide))]; exact hF b hb
            have hr1 : RHm I2 h := ⟨fun q hq => by rw [hI2, u2_row _ _ _ (by decide)]; exact hr.1 q hq, fun q hq => by rw [hI2, u2_row _ _ _ (by decide)]; exact hr.2 q hq⟩
            refine x_aload_n d5_works_129 rfl ?_
            refine x_getP d5_works_130 f5_23 (hS.T rfl) (hS.P rfl) ?_
            refine x_iload_n d5_works_133 rfl ?_
            refine x_ialdN d5_works_134 (hS.T rfl) (by omega) ?_
            refine x_top (congrArg Value.int ((congrFun (hFI2 126 (by decide)) _).trans (hM.kk hp b80k))) ?_
            have hkk_ := (hσ.row hp b80k).1
            refine x_if_neN 172 d5_works_135 (by decide) (by omega) (fun b135 => ?_) (fun b135 => absurd b135 (by omega))
            refine x_iincN (c := 1) d5_works_172 rfl (by decide) ?_
            refine x_goto 68 d5_works_175 (by decide) ?_
            rw [if_pos b99, if_neg (by omega)] at hline
            exact ih b80k _ _ I2 hFI2 (fun p hp => by rw [hI2, u2_row _ _ _ (by decide)]; exact hak p hp) (row_set hw hI2 rfl) hr1 hline
    refine x_iload_n d5_works_55 rfl ?_
    refine x_aload_n d5_works_56 rfl ?_
    refine x_getI d5_works_57 f5_86 (hS.T rfl) ?_
    refine x_top (congrArg Value.int ((congrFun (hF 122 (by decide)) _).trans hM.np)) ?_
    refine x_icmp_geN 184 d5_works_60 (by decide) (by omega) (by omega) (fun b60 => ?_) (fun b60 => ?_)
    · refine x_iconst (v := nI 1) d5_works_184 (by decide) ?_
      refine x_istore_n d5_works_185 ?_
      have hpe : p = s_np σ := by omega
      subst hpe
      obtain ⟨hWI, hHI, hG0⟩ := hL.fin hσ
      exact h4 w (fun q hq => hL.1 q hq) hWI h I hF hak hw hr hHI hG0 _ _ _
    · refine x_bipush (v := nI 12) d5_works_63 (by decide) ?_
      refine x_iload_n d5_works_65 rfl ?_
      refine x_imulN d5_works_66 ?_
      refine x_istore_n d5_works_67 ?_
      exact h3l p b60 ih 0 (Nat.zero_le _) w h I hF hak hw hr hL
  have h2 : ∀ I00 : Nat → Nat → Int32, (∀ b, b ∉ [133, 134, 135, 136, 137] → I00 b = I0 b) → (∀ p, p < 10 → I00 137 p = nI (bP (Asked σ p))) → (∀ q, q < 80 → I00 133 q = nI 0) → (∀ q, q < 80 → I00 134 q = nI 0) → ∀ k, k ≤ 10 → ∀ I, (∀ b, b ∉ [133, 134, 135, 136, 137] → I b = I0 b) → (∀ p, p < 10 → I 137 p = nI (bP (Asked σ p))) → (∀ q, q < 80 → I 133 q = I00 133 q) → (∀ q, q < 80 → I 134 q = I00 134 q) → (∀ q, q < k → I 135 q = nI 0) → RA G (d + 2) M5_works 34 [.ref 122, .int (nI k), U0, U0, U0] [] (t, I, J, P, n, sl) (fun o h' => o = .inl none ∧ ∃ I', h' = (t, I', J, P, n, sl) ∧ WK σ I0 I') := by
    intro I00 _ _ z1 z2
    refine up_ind ?_
    intro k hk ih I hF hak e1 e2 z3
    refine x_iload_n d5_works_34 rfl ?_
    refine x_bipush (v := nI 10) d5_works_35 (by decide) ?_
    refine x_icmp_geN 53 d5_works_37 (by decide) (by omega) (by omega) (fun b37 => ?_) (fun b37 => ?_)
    · refine x_iconst (v := nI 0) d5_works_53 (by decide) ?_
      refine x_istore_n d5_works_54 ?_
      exact h3 0 (Nat.zero_le _) (fun _ => 0) (fun _ => 0) I hF hak (fun q hq => (e2 q hq).trans (z2 q hq)) ⟨fun q hq => (e1 q hq).trans (z1 q hq), fun p hp => z3 p (by omega)⟩ (WL.init σ (fun _ _ => rfl) (fun _ _ => rfl) hσ) _
    · refine x_aload_n d5_works_40 rfl ?_
      refine x_getP d5_works_41 f5_55 (hS.T rfl) (hS.P rfl) ?_
      refine x_iload_n d5_works_44 rfl ?_
      refine x_iconst (v := nI 0) d5_works_45 (by decide) ?_
      refine x_iastN d5_works_46 (hS.T rfl) (by omega) (fun I1 hI1 => ?_)
      have hFI1 : ∀ b, b ∉ [133, 134, 135, 136, 137] → I1 b = I0 b := fun b hb => by rw [hI1, u2_row _ _ _ (fun e => hb (by rw [e]; decide))]; exact hF b hb
      refine x_iincN (c := 1) d5_works_47 rfl (by decide) ?_
      refine x_goto 34 d5_works_50 (by decide) ?_
      exact ih (by omega) I1 hFI1 (fun p hp => by rw [hI1, u2_row _ _ _ (by decide)]; exact hak p hp) (fun q hq => by rw [hI1, u2_row _ _ _ (by decide)]; exact e1 q hq) (fun q hq => by rw [hI1, u2_row _ _ _ (by decide)]; exact e2 q hq) (zero_row z3 hI1)
  have h1 : ∀ k, k ≤ 80 → ∀ I, (∀ b, b ∉ [133, 134, 135, 136, 137] → I b = I0 b) → (∀ p, p < 10 → I 137 p = nI (bP (Asked σ p))) → (∀ q, q < k → I 133 q = nI 0) → (∀ q, q < k → I 134 q = nI 0) → RA G (d + 2) M5_works 6 [.ref 122, .int (nI k), U0, U0, U0] [] (t, I, J, P, n, sl) (fun o h' => o = .inl none ∧ ∃ I', h' = (t, I', J, P, n, sl) ∧ WK σ I0 I') := by
    refine up_ind ?_
    intro k hk ih I hF hak z1 z2
    refine x_iload_n d5_works_6 rfl ?_
    refine x_bipush (v := nI 80) d5_works_7 (by decide) ?_
    refine x_icmp_geN 32 d5_works_9 (by decide) (by omega) (by omega) (fun b9 => ?_) (fun b9 => ?_)
    · refine x_iconst (v := nI 0) d5_works_32 (by decide) ?_
      refine x_istore_n d5_works_33 ?_
      exact h2 I hF hak (fun q hq => z1 q (by omega)) (fun q hq => z2 q (by omega)) 0 (Nat.zero_le _) I hF hak (fun _ _ => rfl) (fun _ _ => rfl) (fun q hq => absurd hq (Nat.not_lt_zero _))
    · refine x_aload_n d5_works_12 rfl ?_
      refine x_getP d5_works_13 f5_49 (hS.T rfl) (hS.P rfl) ?_
      refine x_iload_n d5_works_16 rfl ?_
      refine x_iconst (v := nI 0) d5_works_17 (by decide) ?_
      refine x_iastN d5_works_18 (hS.T rfl) (by omega) (fun I1 hI1 => ?_)
      have hFI1 : ∀ b, b ∉ [133, 134, 135, 136, 137] → I1 b = I0 b := fun b hb => by rw [hI1, u2_row _ _ _ (fun e => hb (by rw [e]; decide))]; exact hF b hb
      refine x_aload_n d5_works_19 rfl ?_
      refine x_getP d5_works_20 f5_52 (hS.T rfl) (hS.P rfl) ?_
      refine x_iload_n d5_works_23 rfl ?_
      refine x_iconst (v := nI 0) d5_works_24 (by decide) ?_
      refine x_iastN d5_works_25 (hS.T rfl) (by omega) (fun I2 hI2 => ?_)
      have hFI2 : ∀ b, b ∉ [133, 134, 135, 136, 137] → I2 b = I0 b := fun b hb => by rw [hI2, u2_row _ _ _ (fun e => hb (by rw [e]; decide))]; exact hFI1 b hb
      refine x_iincN (c := 1) d5_works_26 rfl (by decide) ?_
      refine x_goto 6 d5_works_29 (by decide) ?_
      have q1 : ∀ q, q < k + 1 → I2 133 q = nI 0 := by
        rw [hI2, u2_row _ _ _ (by decide)]; exact zero_row z1 hI1
      have q2 : ∀ q, q < k + 1 → I2 134 q = nI 0 := zero_row (by rw [hI1, u2_row _ _ _ (by decide)]; exact z2) hI2
      exact ih (by omega) I2 hFI2 (fun p hp => by rw [hI2, u2_row _ _ _ (by decide), hI1, u2_row _ _ _ (by decide)]; exact hak p hp) q1 q2
  refine x_aload_n d5_works_0 rfl ?_
  refine x_invV 122 0 d5_works_1 (hS.T rfl) v5_231_5 (m_asks (d + 1) hS hσ hM) ?_ (hB := hB) (hS := hSl)
  rintro o h' ⟨rfl, I, rfl, hF1, hak⟩
  have hF : ∀ b, b ∉ [133, 134, 135, 136, 137] → I b = I0 b := fun b hb => hF1 b (fun e => hb (by rw [List.mem_singleton.mp e]; decide))
  refine x_iconst (v := nI 0) d5_works_4 (by decide) ?_
  refine x_istore_n d5_works_5 ?_
  exact h1 0 (Nat.zero_le _) I hF hak (fun q hq => absurd hq (Nat.not_lt_zero _)) (fun q hq => absurd hq (Nat.not_lt_zero _))
