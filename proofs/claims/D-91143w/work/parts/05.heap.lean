/-! ===== fields ===== -/
/-- the entry idx of own's pool names the field at place k of the classes cs (of type ty, final or not) -/
def FL (own : String) (idx k : Nat) (ty : FieldType) (fin : Bool) (cs : List Nat) : Prop :=
  ∃ ref name desc owner : String, (Cond.fieldLink own idx ref name desc ∈ lw_all ∨ ∃ host, Cond.fieldLinkNest own idx ref name desc host ∈ lw_tbl) ∧
    (ref = owner ∨ Cond.sameField ref owner name desc ∈ lw_all) ∧ (fin = true → owner = own) ∧
    ∀ c ∈ cs, ∃ q, clsT[c]? = some q ∧ k < q.2.2.1 ∧ q.2.1 k = (owner, name, desc, fin) ∧ q.2.2.2 k = ty
/-- the same, for reading alone -/
def FR (own : String) (idx k : Nat) (ty : FieldType) (cs : List Nat) : Prop :=
  ∃ (ref name desc owner : String) (fin : Bool), (Cond.fieldLink own idx ref name desc ∈ lw_all ∨ ∃ host, Cond.fieldLinkNest own idx ref name desc host ∈ lw_tbl) ∧
    (ref = owner ∨ Cond.sameField ref owner name desc ∈ lw_all) ∧
    ∀ c ∈ cs, ∃ q, clsT[c]? = some q ∧ k < q.2.2.1 ∧ q.2.1 k = (owner, name, desc, fin) ∧ q.2.2.2 k = ty
def u2 {α : Type} (f : Nat → Nat → α) (a k : Nat) (v : α) : Nat → Nat → α := fun b j => if b = a then (if j = k then v else f b j) else f b j
theorem u2_self {α : Type} (f : Nat → Nat → α) (a k : Nat) (v : α) : u2 f a k v a k = v := by simp [u2]
theorem u2_row {α : Type} (f : Nat → Nat → α) {a b : Nat} (k : Nat) (v : α) (h : b ≠ a) : u2 f a k v b = f b := by funext j; simp [u2, h]
theorem u2_ne {α : Type} (f : Nat → Nat → α) {a b k j : Nat} (v : α) (h : j ≠ k) : u2 f a k v b j = f b j := by simp [u2, h]
theorem clsT_lt {c : Nat} {q : String × u_T × Nat × (Nat → FieldType)} (h : clsT[c]? = some q) : c < 100 := by
  have h1 := (List.getElem?_eq_some_iff.mp h).1
  have h2 : clsT.length = 17 := rfl
  omega
section Heap0
variable {G : GG} {d : Nat} {y : Mk} {hs : AH} {p : Program} {e : Env} {R : Room} {s : State} {m : MethodId} {args : Array Value} {below : List Frame} {meth : Method} {c : Code}
theorem MC.hx (M : MC G d y hs p e R s m args below meth c) : p.tables.exec = Jvm.exec := M.1
theorem MC.hb (M : MC G d y hs p e R s m args below meth c) : c.code = mk_c y := M.2.1
theorem MC.ml (M : MC G d y hs p e R s m args below meth c) : c.maxLocals = mk_l y := M.2.2.1
theorem MC.ret (M : MC G d y hs p e R s m args below meth c) : meth.sig.returnType = mk_r y := M.2.2.2.1
theorem MC.locks (M : MC G d y hs p e R s m args below meth c) : meth.locks = false := M.2.2.2.2.1
theorem MC.own (M : MC G d y hs p e R s m args below meth c) : s.vm.findClass (mk_n y).cls = some m.cls := M.2.2.2.2.2.1
theorem MC.nm (M : MC G d y hs p e R s m args below meth c) : meth.name = (mk_n y).name := M.2.2.2.2.2.2.1
theorem MC.warm (M : MC G d y hs p e R s m args below meth c) : (g_s G).WarmedH s.vm := M.2.2.2.2.2.2.2.1
theorem MC.gok (M : MC G d y hs p e R s m args below meth c) : GOK G := M.2.2.2.2.2.2.2.2.1
theorem MC.room (M : MC G d y hs p e R s m args below meth c) : RoomOK R d hs := M.2.2.2.2.2.2.2.2.2.1
theorem MC.tab (M : MC G d y hs p e R s m args below meth c) : c.exceptionTable.toList.map (fun h => (h.startPc, h.endPc, h.handlerPc, h.catchType)) = mk_h y := M.2.2.2.2.2.2.2.2.2.2
/-- the tables' words hold in every state whose tables are warmer than the start's -/
theorem GOK.wd (hG : GOK G) {U : State} (hW : (g_s G).WarmedH U.vm) (a' : Array Value) : ∀ w ∈ lw_all, w.before a' U = true :=
  fun w hw => word_at hW (good_of_word (List.mem_filter.mp hw).2) (hG.1 w (lw_all_tbl hw))
theorem MC.hts (M : MC G d y hs p e R s m args below meth c) : ∀ w ∈ lw_all, w.before args s = true := M.gok.wd M.warm args
theorem MC.kn (M : MC G d y hs p e R s m args below meth c) {k : Nat} {q : String × u_T × Nat × (Nat → FieldType)} (hq : clsT[k]? = some q) (h0 : 0 < q.2.2.1) : u_Kn s q.1 q.2.1 q.2.2.1 (g_C G k) (g_i G k) :=
  u_Kn_moved M.warm.alike (M.gok.2.1 k q hq h0)
theorem MC.nestF (M : MC G d y hs p e R s m args below meth c) {a : String} {i : Nat} {b n dd h : String} (hw : Cond.fieldLinkNest a i b n dd h ∈ lw_tbl) : (Cond.fieldLinkNest a i b n dd h).before args s = true :=
  va_Nw.use rfl (va_Nw.warmF M.warm (va_Nw.of rfl (M.gok.1 _ hw)))
/-- the cell of a typed address -/
theorem RepH.cell {h : AH} {H : Heap} (hR : RepH G h H) {a : Nat} {tg : Nat × Nat} (ht : a_t h a = some tg) : ∃ (ad : Nat) (cell : Cell), g_r G a = .ref ad ∧ H[ad]? = some cell ∧ CellOK G h a tg cell := (hR.2.2.2 a tg ht).2
/-- a write into one new cell -/
theorem RepH.write {h h' : AH} {H H' : Heap} (hG : GOK G) (hR : RepH G h H) {a ad : Nat} {tg : Nat × Nat} {cell' : Cell} (ha : 100 ≤ a) (had : g_r G a = .ref ad) (ht : a_t h a = some tg) (e1 : H'[ad]? = some cell') (e2 : H'.size = H.size) (e3 : ∀ q, q ≠ ad → H'[q]? = H[q]?)
    (hc : CellOK G h' a tg cell') (h1 : a_t h' = a_t h) (h2 : a_n h' = a_n h) (hI : ∀ b, b ≠ a → a_I h' b = a_I h b) (hJ : ∀ b, b ≠ a → a_J h' b = a_J h b) (hP : ∀ b, b ≠ a → a_P h' b = a_P h b) : RepH G h' H' := by
  have had' : ad = g_z G + (a - 100) := by
    rw [g_r, if_neg (by omega)] at had
    exact (Value.ref.inj had).symm
  refine ⟨by rw [h2]; exact hR.1, by rw [e2, h2]; exact hR.2.1, fun q hq => ?_, fun b tb hb => ?_⟩
  · rw [e3 q (by omega)]
    exact hR.2.2.1 q hq
  · rw [h1] at hb
    obtain ⟨hlt, adb, cb, q1, q2, q3⟩ := hR.2.2.2 b tb hb
    refine ⟨⟨by rw [h2]; exact hlt.1, hlt.2⟩, ?_⟩
    by_cases hba : b = a
    · subst hba
      rw [ht] at hb
      cases hb
      exact ⟨ad, cell', had, e1, hc⟩
    · have hne : adb ≠ ad := by
        intro q
        by_cases hb1 : b < 100
        · have z3 := hlt.2 adb hb1 q1
          omega
        · rw [g_r, if_neg hb1] at q1
          have z3 : g_z G + (b - 100) = adb := Value.ref.inj q1
          omega
      refine ⟨adb, cb, q1, by rw [e3 adb hne]; exact q2, q3.1, q3.2.1, ?_⟩
      have hv : ∀ k i, a_v G h' b k i = a_v G h b k i := by
        intro k i
        unfold a_v
        rw [hI b hba, hJ b hba, hP b hba]
      have q4 := q3.2.2
      by_cases hc : tb.1 < 100
      · rw [if_pos hc] at q4 ⊢
        obtain ⟨q, z1, z2⟩ := q4
        exact ⟨q, z1, fun k hk => by rw [hv]; exact z2 k hk⟩
      · rw [if_neg hc] at q4 ⊢
        exact ⟨q4.1, q4.2.1, fun j hj => by rw [hv]; exact q4.2.2 j hj⟩
theorem FR.get (M : MC G d y hs p e R s m args below meth c) {idx k : Nat} {ty : FieldType} {cs : List Nat} (hf : FR (mk_n y).cls idx k ty cs) {t : Nat × Nat} (hc : t.1 ∈ cs) {h : AH} {H : Heap} {locs : List Loc} {cells slots : Nat} {Q : State → Prop} (hR : RepH G h H) {a : Nat} (ht : a_t h a = some t)
    {pc : Nat} {lc : Array Slot} {st : List Value} (hd : decode (mk_c y) pc = .ok (.getfield idx, 3)) (kk : W p (g_l G) e R s m args below meth c H locs cells slots Q (F0 m (pc + 3) lc (a_v G h a (kd ty) k :: st))) : W p (g_l G) e R s m args below meth c H locs cells slots Q (F0 m pc lc (cv G (.ref a) :: st)) := by
  obtain ⟨ref, name, desc, owner, fin, hw, hsame, hcs⟩ := hf
  obtain ⟨q, hq, hk, hT, hty⟩ := hcs _ hc
  obtain ⟨ad, cell, had, hcell, hvm, hcls, hrest⟩ := hR.cell ht
  rw [if_pos (clsT_lt hq)] at hrest
  obtain ⟨q', hq', hfl⟩ := hrest
  cases hq.symm.trans hq'
  have hslot := hfl k hk
  rw [hty] at hslot
  obtain ⟨hS, hfc, kC, hkC, hkind⟩ := M.kn hq (by omega)
  obtain ⟨cf, kf, fi, f, hi, hsl⟩ := hS k hk
  have hst := (u_facts hfc hkC (u_lays M.hts (clsT_ok _ q hq).1 hk) hi).1
  rw [hT] at hi
  have hi' : s.fieldFound? ref name desc = some (cf, kf, fi, f) := by
    rcases hsame with z | z
    · rw [z]; exact hi
    · exact u_same (M.hts _ z) _ hi
  show W p (g_l G) e R s m args below meth c H locs cells slots Q (F0 m pc lc (g_r G a :: st))
  rw [had]
  rcases hw with z | ⟨host, z⟩
  · exact W.getf M.hx M.hb M.own (M.hts _ z) hi' hst hcell hvm.2.1 (by rw [hsl]; exact hslot) rfl rfl hd kk
  · exact va_Wgetf M.hx M.hb M.own (M.nestF z) hi' hst hcell hvm.2.1 (by rw [hsl]; exact hslot) rfl rfl hd kk
theorem FL.put (M : MC G d y hs p e R s m args below meth c) {idx k : Nat} {ty : FieldType} {fin : Bool} {cs : List Nat} (hf : FL (mk_n y).cls idx k ty fin cs) (hfin : fin = true → (mk_n y).name = "<init>") {t : Nat × Nat} (hc : t.1 ∈ cs) {h h' : AH} {H : Heap} {locs : List Loc} {cells slots : Nat} {Q : State → Prop} (hR : RepH G h H) {a : Nat} (ha : 100 ≤ a) (ht : a_t h a = some t)
    (hL : ∀ q ∈ locs, g_z G ≤ q.base) {v : Value} (hn : narrow ty v = v) (hfit : fits ty v = true) {pc : Nat} {lc : Array Slot} {st : List Value} (hd : decode (mk_c y) pc = .ok (.putfield idx, 3))
    (h1 : a_t h' = a_t h) (h2 : a_n h' = a_n h) (hI : ∀ b j, ¬ (b = a ∧ j = k) → a_I h' b j = a_I h b j) (hJ : ∀ b j, ¬ (b = a ∧ j = k) → a_J h' b j = a_J h b j) (hP : ∀ b j, ¬ (b = a ∧ j = k) → a_P h' b j = a_P h b j) (hv : a_v G h' a (kd ty) k = v)
    (kk : ∀ (H' : Heap) (locs' : List Loc), RepH G h' H' → (∀ q ∈ locs', g_z G ≤ q.base) → W p (g_l G) e R s m args below meth c H' locs' cells slots Q (F0 m (pc + 3) lc st)) : W p (g_l G) e R s m args below meth c H locs cells slots Q (F0 m pc lc (v :: cv G (.ref a) :: st)) := by
  obtain ⟨ref, name, desc, owner, hw, hsame, hfo, hcs⟩ := hf
  obtain ⟨q, hq, hk, hT, hty⟩ := hcs _ hc
  obtain ⟨ad, cell, had, hcell, hvm0, hcls0, hrest⟩ := hR.cell ht
  have hvm : cell.vm = .none := hvm0.1.resolve_right (by omega)
  have hcls : cell.cls = g_C G t.1 := hcls0.resolve_right (fun z => absurd z.1 (by omega))
  rw [if_pos (clsT_lt hq)] at hrest
  obtain ⟨q', hq', hfl⟩ := hrest
  cases hq.symm.trans hq'
  obtain ⟨hin, hnm, htyo⟩ := clsT_ok _ q hq
  obtain ⟨hS, hfc, kC, hkC, hkind⟩ := M.kn hq (by omega)
  obtain ⟨cf, kf, fi, f, hi, hsl⟩ := hS k hk
  have hlays := u_lays M.hts hin hk
  have hst := (u_facts hfc hkC hlays hi).1
  have hd0 := htyo k hk
  rw [hty] at hd0
  have hFit := u_fits hfc hkC hkind hlays hi hd0 hn hfit
  have hfin' : hasFlag f.accessFlags Acc.final = false ∨ (m.cls = cf ∧ meth.name = "<init>") := by
    have hlay := M.hts _ (hin _ (u_in_lay hk))
    unfold u_lay at hlay
    rw [hT] at hlay
    cases fin with
    | false =>
      left
      rw [if_neg (by simp)] at hlay
      have h6 := u_store hfc hkC hkind (O := owner) (f := name) (d := desc) hlay (by rw [hT] at hi; exact hi) (by rw [hT] at hd0; exact hd0) hn hfit
      exact h6.1
    | true =>
      right
      rw [if_pos rfl] at hlay
      refine ⟨?_, M.nm.trans (hfin rfl)⟩
      obtain ⟨_, _, c', _, _, _, -, -, hf', -, -, -, hown2, -⟩ := Cond.laysFinal_spec hlay
      rw [hT] at hi
      have e1 : c' = cf := by have := hi.symm.trans hf'; simp at this; exact this.1.symm
      rw [hfo rfl] at hown2
      rw [← e1]; exact Option.some.inj (M.own.symm.trans hown2)
  have hslot := hfl k hk
  have hlt : f.slot < cell.slots.size := by rw [hsl]; exact k2_hasslot hslot
  have hi' : s.fieldFound? ref name desc = some (cf, kf, fi, f) := by
    rw [hT] at hi
    rcases hsame with z | z
    · rw [z]; exact hi
    · exact u_same (M.hts _ z) _ hi
  have hz : g_z G ≤ ad := by
    rw [g_r, if_neg (by omega)] at had
    have : g_z G + (a - 100) = ad := Value.ref.inj had
    omega
  have hap : ∀ j, j < q.2.2.1 → j ≠ k → g_i G t.1 j ≠ g_i G t.1 k := by
    intro j hj hne
    obtain ⟨_, _, _, fa, hia, ea⟩ := hS j hj
    rw [← ea, ← hsl]
    refine u_apart (u_lays M.hts hin hj) hlays hia hi ?_
    rw [(State.fieldFound?_type hia (htyo j hj)).1, (State.fieldFound?_type hi (htyo k hk)).1]
    exact hnm j hj k hk hne
  have had2 : ad < H.size := (Array.getElem?_eq_some_iff.mp hcell).1
  have hrep : RepH G h' (H.setIfInBounds ad (cell.setSlot f.slot v)) := by
    refine hR.write M.gok ha had ht (cell' := cell.setSlot f.slot v) (by simp [Array.getElem?_setIfInBounds, had2]) (by simp) (fun q hq => by simp [Array.getElem?_setIfInBounds, Ne.symm hq]) ?_ h1 h2 (fun b hb => funext fun j => hI b j (fun z => hb z.1)) (fun b hb => funext fun j => hJ b j (fun z => hb z.1)) (fun b hb => funext fun j => hP b j (fun z => hb z.1))
    refine ⟨hvm0, hcls0, ?_⟩
    rw [if_pos (clsT_lt hq)]
    refine ⟨q, hq, fun j hj => ?_⟩
    by_cases hjk : j = k
    · subst hjk
      rw [← hsl, hty, hv]
      simp [Cell.setSlot, hlt]
    · have hne := hap j hj hjk
      rw [slot_ne cell v (by rw [hsl]; exact fun z => hne z.symm), hfl j hj]
      unfold a_v
      rw [hI a j (fun z => hjk z.2), hJ a j (fun z => hjk z.2), hP a j (fun z => hjk z.2)]
  have hL' : ∀ q ∈ locs ++ [⟨ad, f.slot⟩], g_z G ≤ q.base := by
    intro q hq
    rcases List.mem_append.mp hq with z | z
    · exact hL q z
    · rw [List.mem_singleton.mp z]; exact hz
  have kk' := kk _ _ hrep hL'
  show W p (g_l G) e R s m args below meth c H locs cells slots Q (F0 m pc lc (v :: g_r G a :: st))
  rw [had]
  rcases hw with z | ⟨host, z⟩
  · exact W.putf M.hx M.hb M.own (M.hts _ z) hi' hst hfin' hcell (by rw [hvm]; exact fun h => by cases h) hlt hFit.1 (by rw [hvm, hcls]; exact hFit.2) rfl rfl hd kk'
  · exact va_Wputf M.hx M.hb M.own (M.nestF z) hi' hst hfin' hcell (by rw [hvm]; exact fun h => by cases h) hlt hFit.1 (by rw [hvm, hcls]; exact hFit.2) rfl rfl hd kk'
end Heap0
