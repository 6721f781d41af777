/-! ===== System.arraycopy between int[4] ===== -/
set_option maxRecDepth 100000
theorem sp_cell : ∀ (xs : List Value) (i : Nat) (c : Cell), (c.storePairs 0 (xs.zipIdx i)).vm = c.vm ∧ (c.storePairs 0 (xs.zipIdx i)).cls = c.cls ∧ (c.storePairs 0 (xs.zipIdx i)).slots.size = c.slots.size ∧ ∀ j, j < c.slots.size → (c.storePairs 0 (xs.zipIdx i)).slots[j]? = if i ≤ j ∧ j < i + xs.length then xs[j - i]? else c.slots[j]?
  | [], i, c => ⟨rfl, rfl, rfl, fun j _ => by rw [if_neg (by simp only [List.length_nil]; omega)]; rfl⟩
  | x :: xs, i, c => by
    rw [List.zipIdx_cons]
    have ih := sp_cell xs (i + 1) (c.setSlot (0 + i) x)
    have hs : (c.setSlot (0 + i) x).slots.size = c.slots.size := by simp [Cell.setSlot]
    refine ⟨ih.1, ih.2.1, ih.2.2.1.trans hs, fun j hj => ?_⟩
    have h1 := ih.2.2.2 j (by rw [hs]; exact hj)
    refine Eq.trans (show _ = ((c.setSlot (0 + i) x).storePairs 0 (xs.zipIdx (i + 1))).slots[j]? from rfl) (h1.trans ?_)
    by_cases hji : j = i
    · subst hji
      rw [if_neg (by omega), if_pos (by simp only [List.length_cons]; omega), Nat.sub_self]
      simp [Cell.setSlot, hj]
    · by_cases h : i + 1 ≤ j ∧ j < i + 1 + xs.length
      · rw [if_pos h, if_pos (by simp only [List.length_cons]; omega)]
        have e : j - i = (j - (i + 1)) + 1 := by omega
        rw [e, List.getElem?_cons_succ]
      · rw [if_neg h, if_neg (by simp only [List.length_cons]; omega)]
        have : ¬ i = j := fun z => hji z.symm
        simp [Cell.setSlot, this]
def cpI (I : Nat → Nat → Int32) (a b k : Nat) : Nat → Nat → Int32 := fun c j => if c = a ∧ j < k then I b j else I c j
set_option maxHeartbeats 4000000 in
theorem x_copyI {G : GG} {d : Nat} {ls : List Value} {t : Nat → Option (Nat × Nat)} {I : Nat → Nat → Int32} {J : Nat → Nat → Int64} {P : Nat → Nat → Value} {n sl : Nat} {Q : AO → AH → Prop} {a b k : Nat} (ha : 100 ≤ a) (hta : t a = some (100, 4)) (htb : t b = some (100, 4)) (hk : k ≤ 4)
    (k0 : ∀ I' : Nat → Nat → Int32, I' = cpI I a b k → RA G (d + 1) M10_init 25 ls [] (t, I', J, P, n, sl) Q) : RA G (d + 1) M10_init 22 ls [.int (nI k), .int (nI 0), .ref a, .int (nI 0), .ref b] (t, I, J, P, n, sl) Q :=
  fun p e R s m args below meth c hs M hm H locs lc hR hL hl => by
    obtain ⟨ad, cd, had, hcd, -, hnw, ⟨-, kd0, hkd, cm, hkk⟩, -, hval⟩ := hR.arr (k := 0) M hta
    obtain ⟨hvm, hcls, hsz⟩ := hnw ha
    obtain ⟨ab, cs, hab, hcs, hvmb, -, ⟨hstb, ks0, hks, cmb, hkkb⟩, hszb, hvalb⟩ := hR.arr (k := 0) M htb
    obtain ⟨q1, q2, -⟩ := M.room
    show W p (g_l G) e R s m args below meth c H locs _ _ _ (F0 m 22 lc [.int (nI k), .int (nI 0), g_r G a, .int (nI 0), g_r G b])
    rw [had, hab]
    intro T hT X
    subst hT
    have hkc : (nI k).toNatClampNeg = k := nI_clamp (by omega)
    have h0c : (nI 0).toNatClampNeg = 0 := nI_clamp (by decide)
    have hnn : ∀ x, x ≤ 4 → ¬ nI x < 0 := fun x hx h => by rw [Int32.lt_iff_toInt_lt, nI_toInt (by omega)] at h; have : (0 : Int32).toInt = 0 := rfl; omega
    have hnf : nativeFrameWords "java/lang/System" "arraycopy" 5 ≤ 40 := by decide
    have hroom : 2 * 0 + 0 + (nativeFrameWords "java/lang/System" "arraycopy" 5 + 11) ≤ R.locals := by omega
    have hk31 : (nI k).toInt = (k : Int) := nI_toInt (by omega)
    have h031 : (nI 0).toInt = ((0 : Nat) : Int) := nI_toInt (by decide)
    obtain ⟨vm', X', step⟩ := X.arraycopy M.hx M.own (M.hts _ (lw_g (lw_at lw_m3 124 rfl) rfl)) (M.hts _ (lw_g (lw_at lw_m3 126 rfl) rfl)) (M.hts _ (lw_g (lw_at lw_m3 125 rfl) rfl)) (M.hts _ (lw_g (lw_at lw_m1 19 rfl) rfl)) (src := ab) (dst := ad) (cs := cs) (cd := cd) (srcPos := nI 0) (destPos := nI 0) (n := nI k) hcs hcd
      (fun q h => hstb q h) (fun _ h => by rw [hvm] at h; cases h) hvmb (fun h => by rw [hvm] at h; cases h) hks hkd hkkb hkk (by rfl) (hnn 0 (by decide)) (hnn 0 (by decide)) (hnn k hk)
      (by rw [hk31, h031]; have := hszb.1; omega) (by rw [hk31, h031, hsz]; omega)
      (fun vm₁ _ i hi => by
        rw [hkc] at hi
        have e : cs.slots.getD ((nI 0).toNatClampNeg + i) .null = .int (I b i) := by
          rw [h0c, Nat.zero_add, Array.getD_eq_getD_getElem?, hvalb i (by omega)]; rfl
        rw [e]; exact ⟨rfl, trivial⟩)
      (g := F0 m 22 lc [.int (nI k), .int (nI 0), .ref ad, .int (nI 0), .ref ab]) rfl (hl.2.1.trans M.ml.symm) (rest := []) rfl (by rw [M.hb]; exact d10_init_22) (by omega) hroom
    have hst : cs.stretch (nI 0).toNatClampNeg (nI k).toNatClampNeg = (List.range k).map (fun i => Value.int (I b i)) := by
      rw [hkc, h0c]
      unfold Cell.stretch
      apply List.map_congr_left
      intro i hi
      have hi := List.mem_range.mp hi
      rw [Nat.zero_add, Array.getD_eq_getD_getElem?, hvalb i (by omega)]; rfl
    have hcp : copied cs cd (nI 0) (nI 0) (nI k) = cd.storePairs 0 (((List.range k).map (fun i => Value.int (I b i))).zipIdx 0) := by
      show cd.storeRun (nI 0).toNatClampNeg (cs.stretch (nI 0).toNatClampNeg (nI k).toNatClampNeg) = _
      rw [hst, h0c]; rfl
    obtain ⟨w1, w2, w3, w4⟩ := sp_cell ((List.range k).map (fun i => Value.int (I b i))) 0 cd
    rw [hcp] at X' step
    generalize hcc : cd.storePairs 0 (((List.range k).map (fun i => Value.int (I b i))).zipIdx 0) = c' at X' step w1 w2 w3 w4
    have hlt : ad < T.heap.size := (Array.getElem?_eq_some_iff.mp hcd).1
    have hR2 : RepH G (t, cpI I a b k, J, P, n, sl) ((T.setVm vm').setCell ad c').heap := by
      refine RepH.write (a := a) (ad := ad) (tg := (100, 4)) M.gok hR ha had hta (heapAt_setCell_self (s := T.setVm vm') _ hlt) (by show (T.heap.setIfInBounds _ _).size = _; simp) (fun q hq => heapAt_setCell_ne (s := T.setVm vm') _ (fun z => hq z.symm)) ?_ rfl rfl (fun x hx => by show cpI I a b k x = I x; funext j; unfold cpI; rw [if_neg (fun z => hx z.1)]) (fun _ _ => rfl) (fun _ _ => rfl)
      refine ⟨vm3 (w1.trans hvm), Or.inl (w2.trans hcls), ?_⟩
      rw [if_neg (by decide)]
      refine ⟨by decide, sz3 (w3.trans hsz), fun j hj => ?_⟩
      have hj : j < 4 := hj
      rw [w4 j (by rw [hsz]; exact hj), List.length_map, List.length_range, Nat.zero_add]
      show _ = some (Value.int (cpI I a b k a j))
      unfold cpI
      by_cases hjk : j < k
      · rw [if_pos ⟨Nat.zero_le _, hjk⟩, if_pos ⟨rfl, hjk⟩, Nat.sub_zero, List.getElem?_map, List.getElem?_range hjk]; rfl
      · rw [if_neg (fun z => hjk z.2), if_neg (fun z => hjk z.2)]; exact hval j hj
    obtain ⟨tf, hsteps, hq⟩ := k0 _ rfl p e R s m args below meth c hs M hm _ _ lc hR2 (fun q hq => by
      rcases List.mem_append.mp hq with w | w
      · exact hL q w
      · obtain ⟨z, -, hz⟩ := List.mem_map.mp w
        rw [← hz]
        show g_z G ≤ ad
        rw [g_r, if_neg (by omega)] at had
        exact Value.ref.inj had ▸ Nat.le_add_right _ _) hl _ rfl X'
    exact ⟨tf, step _ hsteps, hq⟩
