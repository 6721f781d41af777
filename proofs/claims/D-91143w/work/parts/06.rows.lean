/-! ===== rows: fields, arrays, new ===== -/
theorem u2_off {α : Type} {f : Nat → Nat → α} {a k b i : Nat} {v : α} (h : ¬ (b = a ∧ i = k)) : u2 f a k v b i = f b i := by
  unfold u2
  by_cases h1 : b = a
  · rw [if_pos h1, if_neg (fun h2 => h ⟨h1, h2⟩)]
  · rw [if_neg h1]
section Rows
variable {G : GG} {d : Nat} {y : Mk} {pc : Nat} {ls st : List Value} {Q : AO → AH → Prop} {t : Nat → Option (Nat × Nat)} {I : Nat → Nat → Int32} {J : Nat → Nat → Int64} {P : Nat → Nat → Value} {n sl : Nat}
theorem x_getI {idx k a : Nat} {ty : FieldType} {cs : List Nat} {tg : Nat × Nat} (hd : decode (mk_c y) pc = .ok (.getfield idx, 3)) (hf : FR (mk_n y).cls idx k ty cs) (ht : t a = some tg) (k0 : RA G d y (pc + 3) ls (.int (I a k) :: st) (t, I, J, P, n, sl) Q) (hk : kd ty = 0 := by rfl) (hc : tg.1 ∈ cs := by decide) : RA G d y pc ls (.ref a :: st) (t, I, J, P, n, sl) Q :=
  fun p e R s m args below meth c hs M hm H locs lc hR hL hl => hf.get M hc hR ht hd (by
    rw [hk]; exact k0 p e R s m args below meth c hs M hm H locs lc hR hL hl)
theorem x_getJ {idx k a : Nat} {ty : FieldType} {cs : List Nat} {tg : Nat × Nat} (hd : decode (mk_c y) pc = .ok (.getfield idx, 3)) (hf : FR (mk_n y).cls idx k ty cs) (ht : t a = some tg) (k0 : RA G d y (pc + 3) ls (.long (J a k) :: st) (t, I, J, P, n, sl) Q) (hk : kd ty = 1 := by rfl) (hc : tg.1 ∈ cs := by decide) : RA G d y pc ls (.ref a :: st) (t, I, J, P, n, sl) Q :=
  fun p e R s m args below meth c hs M hm H locs lc hR hL hl => hf.get M hc hR ht hd (by
    rw [hk]; exact k0 p e R s m args below meth c hs M hm H locs lc hR hL hl)
theorem x_getP {idx k a : Nat} {ty : FieldType} {cs : List Nat} {tg : Nat × Nat} {v : Value} (hd : decode (mk_c y) pc = .ok (.getfield idx, 3)) (hf : FR (mk_n y).cls idx k ty cs) (ht : t a = some tg) (hv : P a k = v) (k0 : RA G d y (pc + 3) ls (v :: st) (t, I, J, P, n, sl) Q) (hk : kd ty = 2 := by rfl) (hc : tg.1 ∈ cs := by decide) : RA G d y pc ls (.ref a :: st) (t, I, J, P, n, sl) Q :=
  fun p e R s m args below meth c hs M hm H locs lc hR hL hl => hf.get M hc hR ht hd (by
    rw [hk]; show W p (g_l G) e R s m args below meth c H locs _ _ _ (F0 m (pc + 3) lc (cv G (P a k) :: st.map (cv G)))
    rw [hv]; exact k0 p e R s m args below meth c hs M hm H locs lc hR hL hl)
theorem x_putI {idx k a : Nat} {ty : FieldType} {fin : Bool} {cs : List Nat} {tg : Nat × Nat} {v : Int32} (hd : decode (mk_c y) pc = .ok (.putfield idx, 3)) (hf : FL (mk_n y).cls idx k ty fin cs) (ht : t a = some tg) (k0 : RA G d y (pc + 3) ls st (t, u2 I a k v, J, P, n, sl) Q) (ha : 100 ≤ a := by decide) (hk : kd ty = 0 := by rfl) (hc : tg.1 ∈ cs := by decide) (hn : narrow ty (.int v) = .int v := by rfl) (hfit : fits ty (.int v) = true := by rfl) (hfin : fin = true → (mk_n y).name = "<init>" := by decide) : RA G d y pc ls (.int v :: .ref a :: st) (t, I, J, P, n, sl) Q :=
  fun p e R s m args below meth c hs M hm H locs lc hR hL hl => hf.put (h' := (t, u2 I a k v, J, P, n, sl)) M hfin hc hR ha ht hL hn hfit hd rfl rfl
    (fun b i hb => u2_off hb)
    (fun _ _ _ => rfl) (fun _ _ _ => rfl) (by rw [hk]; show Value.int (u2 I a k v a k) = _; rw [u2_self])
    (fun H' locs' hR' hL' => k0 p e R s m args below meth c hs M hm H' locs' lc hR' hL' hl)
theorem x_putJ {idx k a : Nat} {ty : FieldType} {fin : Bool} {cs : List Nat} {tg : Nat × Nat} {v : Int64} (hd : decode (mk_c y) pc = .ok (.putfield idx, 3)) (hf : FL (mk_n y).cls idx k ty fin cs) (ht : t a = some tg) (k0 : RA G d y (pc + 3) ls st (t, I, u2 J a k v, P, n, sl) Q) (ha : 100 ≤ a := by decide) (hk : kd ty = 1 := by rfl) (hc : tg.1 ∈ cs := by decide) (hn : narrow ty (.long v) = .long v := by rfl) (hfit : fits ty (.long v) = true := by rfl) (hfin : fin = true → (mk_n y).name = "<init>" := by decide) : RA G d y pc ls (.long v :: .ref a :: st) (t, I, J, P, n, sl) Q :=
  fun p e R s m args below meth c hs M hm H locs lc hR hL hl => hf.put (h' := (t, I, u2 J a k v, P, n, sl)) M hfin hc hR ha ht hL hn hfit hd rfl rfl
    (fun _ _ _ => rfl)
    (fun b i hb => u2_off hb)
    (fun _ _ _ => rfl) (by rw [hk]; show Value.long (u2 J a k v a k) = _; rw [u2_self])
    (fun H' locs' hR' hL' => k0 p e R s m args below meth c hs M hm H' locs' lc hR' hL' hl)
/-- a reference fits a field of a reference type -/
def rfTy (ty : FieldType) : Bool := match ty with
  | .object _ => true
  | .array _ => true
  | _ => false
theorem rf_fits {ty : FieldType} (h : rfTy ty = true) {v : Value} (hv : v = .null ∨ ∃ ad, v = .ref ad) : narrow ty v = v ∧ fits ty v = true ∧ kd ty = 2 := by
  cases ty with
  | object n => rcases hv with rfl | ⟨ad, rfl⟩ <;> exact ⟨rfl, rfl, rfl⟩
  | array n => rcases hv with rfl | ⟨ad, rfl⟩ <;> exact ⟨rfl, rfl, rfl⟩
  | _ => cases h
theorem x_putP {idx k a : Nat} {ty : FieldType} {fin : Bool} {cs : List Nat} {tg : Nat × Nat} {v : Value} (hd : decode (mk_c y) pc = .ok (.putfield idx, 3)) (hf : FL (mk_n y).cls idx k ty fin cs) (ht : t a = some tg) (k0 : RA G d y (pc + 3) ls st (t, I, J, u2 P a k v, n, sl) Q) (ha : 100 ≤ a := by decide) (hk : rfTy ty = true := by rfl) (hc : tg.1 ∈ cs := by decide) (hv : isR v = true := by rfl) (hfin : fin = true → (mk_n y).name = "<init>" := by decide) : RA G d y pc ls (v :: .ref a :: st) (t, I, J, P, n, sl) Q :=
  fun p e R s m args below meth c hs M hm H locs lc hR hL hl => by
    obtain ⟨z1, z2, z3⟩ := rf_fits hk (cv_R M.gok hv)
    exact hf.put (h' := (t, I, J, u2 P a k v, n, sl)) M hfin hc hR ha ht hL z1 z2 hd rfl rfl
      (fun _ _ _ => rfl) (fun _ _ _ => rfl)
      (fun b i hb => u2_off hb)
      (by rw [z3]; show cv G (u2 P a k v a k) = _; rw [u2_self])
      (fun H' locs' hR' hL' => k0 p e R s m args below meth c hs M hm H' locs' lc hR' hL' hl)
/-- an array's cell -/
theorem RepH.arr {h : AH} {H : Heap} {hs : AH} {p : Program} {e : Env} {R : Room} {s : State} {m : MethodId} {args : Array Value} {below : List Frame} {meth : Method} {c : Code} (M : MC G d y hs p e R s m args below meth c) (hR : RepH G h H) {a k len : Nat} (ht : a_t h a = some (100 + k, len)) :
    ∃ (ad : Nat) (cell : Cell), g_r G a = .ref ad ∧ H[ad]? = some cell ∧ cell.vm ≠ .unknown ∧ (100 ≤ a → cell.vm = .none ∧ cell.cls = g_C G (100 + k) ∧ cell.slots.size = len) ∧ s.isArrayOf cell (a_ety k) ∧ (len ≤ cell.slots.size ∧ Int32.ofNat cell.slots.size = Int32.ofNat len) ∧ ∀ j, j < len → cell.slots[j]? = some (a_v G h a (kd (a_ety k)) j) := by
  obtain ⟨ad, cell, had, hcell, hvm, hcls, hrest⟩ := hR.cell ht
  rw [if_neg (by omega)] at hrest
  obtain ⟨z1, z2, z3⟩ := hrest
  have e1 : 100 + k - 100 = k := by omega
  dsimp only at z1 z2 z3 hcls
  rw [e1] at z3
  have hA := arrOfT_moved M.warm.alike (M.gok.2.2.1 k (by omega)).1 0 (fun _ => .null)
  refine ⟨ad, cell, had, hcell, hvm.2.1, fun ha => ⟨hvm.1.resolve_right (by omega), hcls.resolve_right (fun z => absurd z.1 (by omega)), z2.2.2.resolve_right (by omega)⟩, ⟨fun q z => (by have h3 := hvm.2.2; rw [z] at h3; cases h3), ?_⟩, ⟨z2.1, z2.2.1⟩, z3⟩
  obtain ⟨-, kk, h1, h2⟩ := hA
  rcases hcls with hcls | ⟨-, -, k9, h9, comp, hk9⟩
  · exact ⟨kk, by rw [hcls]; exact h1, h2⟩
  · obtain ⟨k', hk', he⟩ := M.warm.alike.2.2 _ _ h9
    exact ⟨k', hk', comp, by rw [he]; rw [e1] at hk9; exact hk9⟩
theorem in_le {j : Int32} {len x : Nat} (h : vp_in j len) (hx : len ≤ x) : vp_in j x := fun q => h (q.imp id (fun z => Nat.le_trans hx z))
theorem RepH.arrSet {h h' : AH} {H H' : Heap} (hG : GOK G) (hR : RepH G h H) {a ad k len j : Nat} {cell : Cell} {v : Value} (ha : 100 ≤ a) (had : g_r G a = .ref ad) (ht : a_t h a = some (100 + k, len)) (hcell : H[ad]? = some cell) (hj : j < len) (e1 : H'[ad]? = some (cell.setSlot j v)) (e2 : H'.size = H.size) (e3 : ∀ q, q ≠ ad → H'[q]? = H[q]?)
    (h1 : a_t h' = a_t h) (h2 : a_n h' = a_n h) (hI : ∀ b i, ¬ (b = a ∧ i = j) → a_I h' b i = a_I h b i) (hJ : ∀ b i, ¬ (b = a ∧ i = j) → a_J h' b i = a_J h b i) (hP : ∀ b i, ¬ (b = a ∧ i = j) → a_P h' b i = a_P h b i) (hv : a_v G h' a (kd (a_ety k)) j = v) : RepH G h' H' := by
  obtain ⟨ad', cell', had', hcell', hvm, hcls, hrest⟩ := hR.cell ht
  have : ad = ad' := Value.ref.inj (had.symm.trans had')
  subst this
  cases hcell.symm.trans hcell'
  refine hR.write hG ha had ht e1 e2 e3 ?_ h1 h2 (fun b hb => funext fun i => hI b i (fun z => hb z.1)) (fun b hb => funext fun i => hJ b i (fun z => hb z.1)) (fun b hb => funext fun i => hP b i (fun z => hb z.1))
  refine ⟨hvm, hcls, ?_⟩
  rw [if_neg (by omega)] at hrest ⊢
  obtain ⟨z1, z2, z3⟩ := hrest
  have ek : 100 + k - 100 = k := by omega
  dsimp only at z1 z2 z3 ⊢
  rw [ek] at z3 ⊢
  refine ⟨z1, by rw [k2_slotsz]; exact z2, fun i hi => ?_⟩
  by_cases hij : i = j
  · subst hij
    rw [hv]
    have z4 : i < cell.slots.size := Nat.lt_of_lt_of_le hj z2.1
    simp [Cell.setSlot, z4]
  · rw [slot_ne cell v (fun z => hij z.symm), z3 i hi]
    unfold a_v
    rw [hI a i (fun z => hij z.2), hJ a i (fun z => hij z.2), hP a i (fun z => hij z.2)]
theorem in_lt {j : Int32} {len : Nat} (h : vp_in j len) : j.toNatClampNeg < len := Nat.not_le.mp fun q => h (Or.inr q)
theorem x_alen {a k len : Nat} {v : Int32} (hd : decode (mk_c y) pc = .ok (.arraylength, 1)) (ht : t a = some (100 + k, len)) (hv : nI len = v) (k0 : RA G d y (pc + 1) ls (.int v :: st) (t, I, J, P, n, sl) Q) : RA G d y pc ls (.ref a :: st) (t, I, J, P, n, sl) Q :=
  fun p e R s m args below meth c hs M hm H locs lc hR hL hl => by
    obtain ⟨ad, cell, had, hcell, hvm, hcls, harr, hsz, hval⟩ := hR.arr M ht
    show W p (g_l G) e R s m args below meth c H locs _ _ _ (F0 m pc lc (g_r G a :: st.map (cv G)))
    rw [had]
    exact W.alen M.hx M.hb hcell harr (hsz.2.trans hv) rfl rfl hd (k0 p e R s m args below meth c hs M hm H locs lc hR hL hl)
theorem x_iald {a len : Nat} {j : Int32} (hd : decode (mk_c y) pc = .ok (.iaload, 1)) (ht : t a = some (100, len)) (hj : vp_in j len) (k0 : RA G d y (pc + 1) ls (.int (I a j.toNatClampNeg) :: st) (t, I, J, P, n, sl) Q) : RA G d y pc ls (.int j :: .ref a :: st) (t, I, J, P, n, sl) Q :=
  fun p e R s m args below meth c hs M hm H locs lc hR hL hl => by
    obtain ⟨ad, cell, had, hcell, hvm, hcls, harr, hsz, hval⟩ := hR.arr (k := 0) M ht
    show W p (g_l G) e R s m args below meth c H locs _ _ _ (F0 m pc lc (.int j :: g_r G a :: st.map (cv G)))
    rw [had]
    exact W.iald M.hx M.hb hcell harr hvm (in_le hj hsz.1) (hval _ (in_lt hj)) rfl rfl hd (k0 p e R s m args below meth c hs M hm H locs lc hR hL hl)
theorem x_bald {a len : Nat} {j : Int32} (hd : decode (mk_c y) pc = .ok (.baload, 1)) (ht : t a = some (101, len)) (hj : vp_in j len) (k0 : RA G d y (pc + 1) ls (.int (I a j.toNatClampNeg) :: st) (t, I, J, P, n, sl) Q) : RA G d y pc ls (.int j :: .ref a :: st) (t, I, J, P, n, sl) Q :=
  fun p e R s m args below meth c hs M hm H locs lc hR hL hl => by
    obtain ⟨ad, cell, had, hcell, hvm, hcls, harr, hsz, hval⟩ := hR.arr (k := 1) M ht
    show W p (g_l G) e R s m args below meth c H locs _ _ _ (F0 m pc lc (.int j :: g_r G a :: st.map (cv G)))
    rw [had]
    exact W.bald M.hx M.hb hcell harr hvm (in_le hj hsz.1) (hval _ (in_lt hj)) rfl rfl hd (k0 p e R s m args below meth c hs M hm H locs lc hR hL hl)
theorem x_cald {a len : Nat} {j : Int32} (hd : decode (mk_c y) pc = .ok (.caload, 1)) (ht : t a = some (102, len)) (hj : vp_in j len) (k0 : RA G d y (pc + 1) ls (.int (I a j.toNatClampNeg) :: st) (t, I, J, P, n, sl) Q) : RA G d y pc ls (.int j :: .ref a :: st) (t, I, J, P, n, sl) Q :=
  fun p e R s m args below meth c hs M hm H locs lc hR hL hl => by
    obtain ⟨ad, cell, had, hcell, hvm, hcls, harr, hsz, hval⟩ := hR.arr (k := 2) M ht
    show W p (g_l G) e R s m args below meth c H locs _ _ _ (F0 m pc lc (.int j :: g_r G a :: st.map (cv G)))
    rw [had]
    exact W.cald M.hx M.hb hcell harr hvm (in_le hj hsz.1) (hval _ (in_lt hj)) rfl rfl hd (k0 p e R s m args below meth c hs M hm H locs lc hR hL hl)
theorem x_zald {a len : Nat} {j : Int32} (hd : decode (mk_c y) pc = .ok (.baload, 1)) (ht : t a = some (103, len)) (hj : vp_in j len) (k0 : RA G d y (pc + 1) ls (.int (I a j.toNatClampNeg) :: st) (t, I, J, P, n, sl) Q) : RA G d y pc ls (.int j :: .ref a :: st) (t, I, J, P, n, sl) Q :=
  fun p e R s m args below meth c hs M hm H locs lc hR hL hl => by
    obtain ⟨ad, cell, had, hcell, hvm, hcls, harr, hsz, hval⟩ := hR.arr (k := 3) M ht
    show W p (g_l G) e R s m args below meth c H locs _ _ _ (F0 m pc lc (.int j :: g_r G a :: st.map (cv G)))
    rw [had]
    exact W.zald M.hx M.hb hcell harr hvm (in_le hj hsz.1) (hval _ (in_lt hj)) rfl rfl hd (k0 p e R s m args below meth c hs M hm H locs lc hR hL hl)
theorem x_lald {a len : Nat} {j : Int32} (hd : decode (mk_c y) pc = .ok (.laload, 1)) (ht : t a = some (104, len)) (hj : vp_in j len) (k0 : RA G d y (pc + 1) ls (.long (J a j.toNatClampNeg) :: st) (t, I, J, P, n, sl) Q) : RA G d y pc ls (.int j :: .ref a :: st) (t, I, J, P, n, sl) Q :=
  fun p e R s m args below meth c hs M hm H locs lc hR hL hl => by
    obtain ⟨ad, cell, had, hcell, hvm, hcls, harr, hsz, hval⟩ := hR.arr (k := 4) M ht
    show W p (g_l G) e R s m args below meth c H locs _ _ _ (F0 m pc lc (.int j :: g_r G a :: st.map (cv G)))
    rw [had]
    exact W.lald M.hx M.hb hcell harr hvm (in_le hj hsz.1) (hval _ (in_lt hj)) rfl rfl hd (k0 p e R s m args below meth c hs M hm H locs lc hR hL hl)
theorem x_aald5 {a len : Nat} {j : Int32} {v : Value} (hd : decode (mk_c y) pc = .ok (.aaload, 1)) (ht : t a = some (105, len)) (hj : vp_in j len) (hv : P a j.toNatClampNeg = v) (k0 : RA G d y (pc + 1) ls (v :: st) (t, I, J, P, n, sl) Q) : RA G d y pc ls (.int j :: .ref a :: st) (t, I, J, P, n, sl) Q :=
  fun p e R s m args below meth c hs M hm H locs lc hR hL hl => by
    obtain ⟨ad, cell, had, hcell, hvm, hcls, harr, hsz, hval⟩ := hR.arr (k := 5) M ht
    show W p (g_l G) e R s m args below meth c H locs _ _ _ (F0 m pc lc (.int j :: g_r G a :: st.map (cv G)))
    rw [had]
    have hz := hval _ (in_lt hj)
    have hz' : cell.slots[j.toNatClampNeg]? = some (cv G (P a j.toNatClampNeg)) := hz
    rw [hv] at hz'
    exact W.aald M.hx M.hb hcell harr rfl hvm (in_le hj hsz.1) hz' rfl rfl hd (k0 p e R s m args below meth c hs M hm H locs lc hR hL hl)
theorem x_aald6 {a len : Nat} {j : Int32} {v : Value} (hd : decode (mk_c y) pc = .ok (.aaload, 1)) (ht : t a = some (106, len)) (hj : vp_in j len) (hv : P a j.toNatClampNeg = v) (k0 : RA G d y (pc + 1) ls (v :: st) (t, I, J, P, n, sl) Q) : RA G d y pc ls (.int j :: .ref a :: st) (t, I, J, P, n, sl) Q :=
  fun p e R s m args below meth c hs M hm H locs lc hR hL hl => by
    obtain ⟨ad, cell, had, hcell, hvm, hcls, harr, hsz, hval⟩ := hR.arr (k := 6) M ht
    show W p (g_l G) e R s m args below meth c H locs _ _ _ (F0 m pc lc (.int j :: g_r G a :: st.map (cv G)))
    rw [had]
    have hz := hval _ (in_lt hj)
    have hz' : cell.slots[j.toNatClampNeg]? = some (cv G (P a j.toNatClampNeg)) := hz
    rw [hv] at hz'
    exact W.aald M.hx M.hb hcell harr rfl hvm (in_le hj hsz.1) hz' rfl rfl hd (k0 p e R s m args below meth c hs M hm H locs lc hR hL hl)
theorem x_iast {a len : Nat} {j : Int32} {v : Int32} (hd : decode (mk_c y) pc = .ok (.iastore, 1)) (ht : t a = some (100, len)) (hj : vp_in j len) (k0 : RA G d y (pc + 1) ls st (t, u2 I a j.toNatClampNeg (v), J, P, n, sl) Q) (ha : 100 ≤ a := by decide) : RA G d y pc ls (.int v :: .int j :: .ref a :: st) (t, I, J, P, n, sl) Q :=
  fun p e R s m args below meth c hs M hm H locs lc hR hL hl => by
    obtain ⟨ad, cell, had, hcell, hvm, hcls, harr, hsz, hval⟩ := hR.arr (k := 0) M ht
    show W p (g_l G) e R s m args below meth c H locs _ _ _ (F0 m pc lc (.int v :: .int j :: g_r G a :: st.map (cv G)))
    have hz : g_z G ≤ ad := by
      rw [g_r, if_neg (by omega)] at had
      have : g_z G + (a - 100) = ad := Value.ref.inj had
      omega
    rw [had]
    refine W.iast M.hx M.hb hcell harr hvm (in_le hj hsz.1) rfl rfl hd (fun H' e1 e2 e3 => ?_)
    refine k0 p e R s m args below meth c hs M hm H' _ lc (hR.arrSet (h' := (t, u2 I a j.toNatClampNeg (v), J, P, n, sl)) (k := 0) (v := .int (v)) M.gok ha had ht hcell (in_lt hj) e1 e2 e3 rfl rfl (fun b i hb => u2_off hb) (fun _ _ _ => rfl) (fun _ _ _ => rfl) ?_) ?_ hl
    · show Value.int (u2 I a _ _ a _) = _
      rw [u2_self]
    · intro q hq
      rcases List.mem_append.mp hq with z | z
      · exact hL q z
      · rw [List.mem_singleton.mp z]; exact hz
theorem x_bast {a len : Nat} {j : Int32} {v : Int32} (hd : decode (mk_c y) pc = .ok (.bastore, 1)) (ht : t a = some (101, len)) (hj : vp_in j len) (k0 : RA G d y (pc + 1) ls st (t, u2 I a j.toNatClampNeg (v.toInt8.toInt32), J, P, n, sl) Q) (ha : 100 ≤ a := by decide) : RA G d y pc ls (.int v :: .int j :: .ref a :: st) (t, I, J, P, n, sl) Q :=
  fun p e R s m args below meth c hs M hm H locs lc hR hL hl => by
    obtain ⟨ad, cell, had, hcell, hvm, hcls, harr, hsz, hval⟩ := hR.arr (k := 1) M ht
    show W p (g_l G) e R s m args below meth c H locs _ _ _ (F0 m pc lc (.int v :: .int j :: g_r G a :: st.map (cv G)))
    have hz : g_z G ≤ ad := by
      rw [g_r, if_neg (by omega)] at had
      have : g_z G + (a - 100) = ad := Value.ref.inj had
      omega
    rw [had]
    refine W.bast M.hx M.hb hcell harr hvm (in_le hj hsz.1) rfl rfl hd (fun H' e1 e2 e3 => ?_)
    refine k0 p e R s m args below meth c hs M hm H' _ lc (hR.arrSet (h' := (t, u2 I a j.toNatClampNeg (v.toInt8.toInt32), J, P, n, sl)) (k := 1) (v := .int (v.toInt8.toInt32)) M.gok ha had ht hcell (in_lt hj) e1 e2 e3 rfl rfl (fun b i hb => u2_off hb) (fun _ _ _ => rfl) (fun _ _ _ => rfl) ?_) ?_ hl
    · show Value.int (u2 I a _ _ a _) = _
      rw [u2_self]
    · intro q hq
      rcases List.mem_append.mp hq with z | z
      · exact hL q z
      · rw [List.mem_singleton.mp z]; exact hz
theorem x_cast {a len : Nat} {j : Int32} {v : Int32} (hd : decode (mk_c y) pc = .ok (.castore, 1)) (ht : t a = some (102, len)) (hj : vp_in j len) (k0 : RA G d y (pc + 1) ls st (t, u2 I a j.toNatClampNeg (v.toUInt32.toUInt16.toUInt32.toInt32), J, P, n, sl) Q) (ha : 100 ≤ a := by decide) : RA G d y pc ls (.int v :: .int j :: .ref a :: st) (t, I, J, P, n, sl) Q :=
  fun p e R s m args below meth c hs M hm H locs lc hR hL hl => by
    obtain ⟨ad, cell, had, hcell, hvm, hcls, harr, hsz, hval⟩ := hR.arr (k := 2) M ht
    show W p (g_l G) e R s m args below meth c H locs _ _ _ (F0 m pc lc (.int v :: .int j :: g_r G a :: st.map (cv G)))
    have hz : g_z G ≤ ad := by
      rw [g_r, if_neg (by omega)] at had
      have : g_z G + (a - 100) = ad := Value.ref.inj had
      omega
    rw [had]
    refine W.cast M.hx M.hb hcell harr hvm (in_le hj hsz.1) rfl rfl hd (fun H' e1 e2 e3 => ?_)
    refine k0 p e R s m args below meth c hs M hm H' _ lc (hR.arrSet (h' := (t, u2 I a j.toNatClampNeg (v.toUInt32.toUInt16.toUInt32.toInt32), J, P, n, sl)) (k := 2) (v := .int (v.toUInt32.toUInt16.toUInt32.toInt32)) M.gok ha had ht hcell (in_lt hj) e1 e2 e3 rfl rfl (fun b i hb => u2_off hb) (fun _ _ _ => rfl) (fun _ _ _ => rfl) ?_) ?_ hl
    · show Value.int (u2 I a _ _ a _) = _
      rw [u2_self]
    · intro q hq
      rcases List.mem_append.mp hq with z | z
      · exact hL q z
      · rw [List.mem_singleton.mp z]; exact hz
theorem x_zast {a len : Nat} {j : Int32} {v : Int32} (hd : decode (mk_c y) pc = .ok (.bastore, 1)) (ht : t a = some (103, len)) (hj : vp_in j len) (k0 : RA G d y (pc + 1) ls st (t, u2 I a j.toNatClampNeg ((v &&& 1)), J, P, n, sl) Q) (ha : 100 ≤ a := by decide) : RA G d y pc ls (.int v :: .int j :: .ref a :: st) (t, I, J, P, n, sl) Q :=
  fun p e R s m args below meth c hs M hm H locs lc hR hL hl => by
    obtain ⟨ad, cell, had, hcell, hvm, hcls, harr, hsz, hval⟩ := hR.arr (k := 3) M ht
    show W p (g_l G) e R s m args below meth c H locs _ _ _ (F0 m pc lc (.int v :: .int j :: g_r G a :: st.map (cv G)))
    have hz : g_z G ≤ ad := by
      rw [g_r, if_neg (by omega)] at had
      have : g_z G + (a - 100) = ad := Value.ref.inj had
      omega
    rw [had]
    refine W.zast M.hx M.hb hcell harr hvm (in_le hj hsz.1) rfl rfl hd (fun H' e1 e2 e3 => ?_)
    refine k0 p e R s m args below meth c hs M hm H' _ lc (hR.arrSet (h' := (t, u2 I a j.toNatClampNeg ((v &&& 1)), J, P, n, sl)) (k := 3) (v := .int ((v &&& 1))) M.gok ha had ht hcell (in_lt hj) e1 e2 e3 rfl rfl (fun b i hb => u2_off hb) (fun _ _ _ => rfl) (fun _ _ _ => rfl) ?_) ?_ hl
    · show Value.int (u2 I a _ _ a _) = _
      rw [u2_self]
    · intro q hq
      rcases List.mem_append.mp hq with z | z
      · exact hL q z
      · rw [List.mem_singleton.mp z]; exact hz
theorem x_last {a len : Nat} {j : Int32} {v : Int64} (hd : decode (mk_c y) pc = .ok (.lastore, 1)) (ht : t a = some (104, len)) (hj : vp_in j len) (k0 : RA G d y (pc + 1) ls st (t, I, u2 J a j.toNatClampNeg (v), P, n, sl) Q) (ha : 100 ≤ a := by decide) : RA G d y pc ls (.long v :: .int j :: .ref a :: st) (t, I, J, P, n, sl) Q :=
  fun p e R s m args below meth c hs M hm H locs lc hR hL hl => by
    obtain ⟨ad, cell, had, hcell, hvm, hcls, harr, hsz, hval⟩ := hR.arr (k := 4) M ht
    show W p (g_l G) e R s m args below meth c H locs _ _ _ (F0 m pc lc (.long v :: .int j :: g_r G a :: st.map (cv G)))
    have hz : g_z G ≤ ad := by
      rw [g_r, if_neg (by omega)] at had
      have : g_z G + (a - 100) = ad := Value.ref.inj had
      omega
    rw [had]
    refine W.last M.hx M.hb hcell harr hvm (in_le hj hsz.1) rfl rfl hd (fun H' e1 e2 e3 => ?_)
    refine k0 p e R s m args below meth c hs M hm H' _ lc (hR.arrSet (h' := (t, I, u2 J a j.toNatClampNeg (v), P, n, sl)) (k := 4) (v := .long (v)) M.gok ha had ht hcell (in_lt hj) e1 e2 e3 rfl rfl (fun _ _ _ => rfl) (fun b i hb => u2_off hb) (fun _ _ _ => rfl) ?_) ?_ hl
    · show Value.long (u2 J a _ _ a _) = _
      rw [u2_self]
    · intro q hq
      rcases List.mem_append.mp hq with z | z
      · exact hL q z
      · rw [List.mem_singleton.mp z]; exact hz
end Rows
