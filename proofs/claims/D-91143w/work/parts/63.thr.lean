/-! ===== throw new NoSuchElementException() ===== -/
set_option maxRecDepth 100000
theorem MC.decl {G : GG} {d : Nat} {y : Mk} {hs : AH} {p : Program} {e : Env} {R : Room} {s : State} {m : MethodId} {args : Array Value} {below : List Frame} {meth : Method} {c : Code} (M : MC G d y hs p e R s m args below meth c) {x : MethodName} (hw : Cond.declares x ∈ lw_tbl) : (Cond.declares x).before args s = true :=
  Cond.before_shiftedFace (args := g_a G) (State.Shifted.of_warmed M.warm) (Cond.declares x) rfl (M.gok.1 _ hw)
theorem MC.lst {G : GG} {d : Nat} {y : Mk} {hs : AH} {p : Program} {e : Env} {R : Room} {s : State} {m : MethodId} {args : Array Value} {below : List Frame} {meth : Method} {c : Code} (M : MC G d y hs p e R s m args below meth c) {h : AH} {T : State} {locs : List Loc} {slots : Nat} (X : Stand p (g_l G) e R s m args below meth c T locs (a_n h - a_n hs) slots) (hR : RepH G h T.heap) (hm : a_n hs ≤ a_n h) {o n dd : String} (hw : Cond.laysStatic o n dd ∈ lw_tbl) : (Cond.laysStatic o n dd).before args s = true := by
  have h1 := Cond.before_shiftedFace (args := g_a G) (State.Shifted.of_warmed M.warm) (Cond.laysStatic o n dd) rfl (M.gok.1 _ hw)
  obtain ⟨c0, k, i, f, a, cell, q1, q2, q3, q4, q5, q6, q7, q8, q9⟩ := Cond.laysStatic_spec h1
  have q1 : s.vm.findClass o = some c0 := q1
  have q2 : s.fieldFound? o n dd = some (c0, k, i, f) := q2
  have q5 : (g_s G).heap[a]? = some cell := q5
  have ha : a < g_z G := (Array.getElem?_eq_some_iff.mp q5).1
  have hTc : T.heap[a]? = some cell := (hR.2.2.1 a ha).trans q5
  have z1 : T.heap.size ≤ s.heap.size + (a_n h - a_n hs) := X.same.2.2.1
  have z2 : T.heap.size = g_z G + (a_n h - 100) := hR.2.1
  have z3 : 100 ≤ a_n hs := M.room.2.2.2.2
  have key : ∀ (ts ss gz nh nhs x : Nat), ts ≤ ss + (nh - nhs) → ts = gz + (nh - 100) → 100 ≤ nhs → nhs ≤ nh → x < gz → x < ss := by intros; omega
  have hsz : a < s.heap.size := key _ _ _ _ _ _ z1 z2 z3 hm ha
  obtain ⟨c2, r1, r2, r3, -⟩ := X.same.2.2.2.2.2 a _ (Array.getElem?_eq_getElem hsz)
  have r1 : T.heap[a]? = some c2 := r1
  have e2 : c2 = cell := Option.some.inj (r1.symm.trans hTc)
  subst e2
  have v1 : (s.heap[a]'hsz).vm = c2.vm := by rw [r2]
  have v2 : (s.heap[a]'hsz).cls = c2.cls := by rw [r2]
  show (Cond.laysStatic o n dd).holds args s none s [] = true
  simp [Cond.holds, Cond.value, q1, q2, q3, q4, hsz, v1, v2, q6, q7, q9, ← r3, q8]
set_option maxHeartbeats 4000000 in
theorem x_thrNew {G : GG} (hst : (g_l G).stackTraces = false) {d : Nat} {ls : List Value} {t : Nat → Option (Nat × Nat)} {I : Nat → Nat → Int32} {J : Nat → Nat → Int64} {P : Nat → Nat → Value} {n sl : Nat} {Q : AO → AH → Prop} (hn : 100 ≤ n) (hB : n + 1 ≤ 601124) (hSl : sl + 6 ≤ 7293033)
    (k0 : ∀ (t' : Nat → Option (Nat × Nat)) (I' : Nat → Nat → Int32) (J' : Nat → Nat → Int64) (P' : Nat → Nat → Value), t' = p1 t n (some (16, 0)) → I' = r1 I n 0 → J' = r1 J n 0 → P' = u2 (u2 (u2 (r1 P n .null) n 0 (.ref n)) n 1 (.ref 60)) n 2 (.ref 61) → RA G (d + 6) M1_step 21 ls [.ref n] (t', I', J', P', n + 1, sl + 6) Q) : RA G (d + 6) M1_step 14 ls [] (t, I, J, P, n, sl) Q :=
  fun p e R s m args below meth cc hs M hm H locs lc hR hL hl => by
    have hKn := M.kn (k := 16) rfl (by decide)
    obtain ⟨hin, -, htyo⟩ := clsT_ok 16 _ rfl
    have hm1 : a_n hs ≤ n := hm.1
    have hm2 : a_s hs ≤ sl := hm.2
    obtain ⟨q1, q2, r3, r4, r5⟩ := M.room
    have hnz : H.size = g_z G + (n - 100) := hR.2.1
    refine W.newcK (n := 6) M.hx M.hb M.own (M.hts _ (lw_g (lw_at lw_m4 218 rfl) rfl)) (M.hts _ (lw_g (lw_at lw_m4 219 rfl) rfl)) (M.hts _ (lw_g (lw_at lw_m1 24 rfl) rfl)) rfl d1_step_14 (by show n - a_n hs + 1 ≤ R.cells; omega) (by show sl - a_s hs + 6 ≤ R.slots; omega) hKn.2.1 rfl (fun H1 kC hkC e1 e2 e3 => ?_)
    refine lv_dup M.hx M.hb d1_step_17 rfl ?_
    intro T hT X
    have hborn := u_born tyJ8 M.hts hin hKn hkC e1 htyo
    obtain ⟨cell0, g1, g2, g3, g4⟩ := hborn
    have ecell : cell0 = blank (g_C G 16) kC := by rw [e1] at g1; exact (Option.some.inj g1).symm
    subst ecell
    have hR1 : RepH G (p1 t n (some (16, 0)), r1 I n 0, r1 J n 0, r1 P n .null, n + 1, sl + 6) H1 := by
      refine hR.push (cell := blank (g_C G 16) kC) e1 e2 e3 ⟨vm3 rfl, Or.inl rfl, ?_⟩
      rw [if_pos (by decide)]
      refine ⟨_, rfl, fun k hk => ?_⟩
      rw [g4 k hk]
      exact congrArg some (dflt_v _ n k (clsT_nofl 16 _ rfl k hk))
    subst hT
    have e4 : n - a_n hs + 1 = (n + 1) - a_n hs := by omega
    have e5 : sl - a_s hs + 6 = (sl + 6) - a_s hs := by omega
    have X : Stand p (g_l G) e R s m args below meth cc T locs (a_n ((p1 t n (some (16, 0)), r1 I n 0, r1 J n 0, r1 P n .null, n + 1, sl + 6) : AH) - a_n hs) (sl + 6 - a_s hs) := by
      show Stand p (g_l G) e R s m args below meth cc T locs (n + 1 - a_n hs) (sl + 6 - a_s hs)
      rw [← e4, ← e5]; exact X
    have hm3 : a_n hs ≤ a_n ((p1 t n (some (16, 0)), r1 I n 0, r1 J n 0, r1 P n .null, n + 1, sl + 6) : AH) := by show a_n hs ≤ n + 1; omega
    have howns : e.platform.frameOwnsMonitors = true := by rw [X.admits.platform]
    have hfin : e.platform.finalization = false := by rw [X.admits.platform]
    have hpl : e.platform.magicAccessors = ({} : Platform).magicAccessors := by rw [X.admits.platform]
    have htr : e.platform.stackTraces = false := by rw [X.admits.platform]; exact hst
    obtain ⟨Tt, Z, L, LZ, Y⟩ := ThrowableC.of_atoms (args := args) (s := s) howns hfin hpl (by
      intro c hc
      simp only [Bundle.throwableAtoms, List.mem_cons, List.not_mem_nil, or_false] at hc
      rcases hc with rfl | rfl | rfl | rfl | rfl | rfl | rfl | rfl | rfl | rfl | rfl | rfl | rfl | rfl | rfl | rfl | rfl | rfl | rfl | rfl | rfl | rfl | rfl | rfl
      · exact M.hts _ (lw_g (lw_at lw_m1 3 rfl) rfl)
      · exact M.hts _ (lw_g (lw_at lw_m1 61 rfl) rfl)
      · exact M.hts _ (lw_g (lw_at lw_m1 70 rfl) rfl)
      · exact M.hts _ (lw_g (lw_at lw_m1 74 rfl) rfl)
      · exact M.hts _ (lw_g (lw_at lw_m1 77 rfl) rfl)
      · exact M.hts _ (lw_g (lw_at lw_m1 79 rfl) rfl)
      · exact M.hts _ (lw_g (lw_at lw_m1 62 rfl) rfl)
      · exact M.hts _ (lw_g (lw_at lw_m1 63 rfl) rfl)
      · exact M.hts _ (lw_g (lw_at lw_m1 31 rfl) rfl)
      · exact M.hts _ (lw_g (lw_at lw_m1 32 rfl) rfl)
      · exact M.hts _ (lw_g (lw_at lw_m1 64 rfl) rfl)
      · exact M.hts _ (lw_g (lw_at lw_m1 69 rfl) rfl)
      · exact M.hts _ (lw_g (lw_at lw_m1 75 rfl) rfl)
      · exact M.hts _ (lw_g (lw_at lw_m1 100 rfl) rfl)
      · exact M.hts _ (lw_g (lw_at lw_m1 51 rfl) rfl)
      · exact M.hts _ (lw_g (lw_at lw_m1 101 rfl) rfl)
      · exact M.hts _ (lw_g (lw_at lw_m1 53 rfl) rfl)
      · exact M.hts _ (lw_g (lw_at lw_m1 102 rfl) rfl)
      · exact M.hts _ (lw_g (lw_at lw_m1 55 rfl) rfl)
      · exact M.hts _ (lw_g (lw_at lw_m1 65 rfl) rfl)
      · exact M.lst X hR1 hm3 (lw_at lw_m1 66 rfl)
      · exact M.hts _ (lw_g (lw_at lw_m1 67 rfl) rfl)
      · exact M.lst X hR1 hm3 (lw_at lw_m1 68 rfl)
      · exact M.hts _ (lw_g (lw_at lw_m1 57 rfl) rfl))
    obtain ⟨P1, Ps, hlen, L1, hL1, hP1m, hlink1, hlink⟩ := Bundle.chain0 (args := args) (s := s) hpl Y.init0 ["java/lang/RuntimeException", "java/lang/Exception"] "java/util/NoSuchElementException" (by decide) (by decide) (by
      intro c hc
      simp only [Bundle.chain0Atoms, Bundle.passAtoms, List.mem_cons, List.mem_append, List.not_mem_nil, or_false] at hc
      rcases hc with (rfl | rfl | rfl | rfl | rfl) | (rfl | rfl | rfl | rfl | rfl) | (rfl | rfl | rfl | rfl | rfl)
      · exact M.hts _ (lw_g (lw_at lw_m4 228 rfl) rfl)
      · exact M.hts _ (lw_g (lw_at lw_m4 229 rfl) rfl)
      · exact M.hts _ (lw_g (lw_at lw_m4 230 rfl) rfl)
      · exact M.hts _ (lw_g (lw_at lw_m4 231 rfl) rfl)
      · exact M.decl (lw_at lw_m1 42 rfl)
      · exact M.hts _ (lw_g (lw_at lw_m4 231 rfl) rfl)
      · exact M.hts _ (lw_g (lw_at lw_m4 232 rfl) rfl)
      · exact M.hts _ (lw_g (lw_at lw_m4 233 rfl) rfl)
      · exact M.hts _ (lw_g (lw_at lw_m4 234 rfl) rfl)
      · exact M.decl (lw_at lw_m1 44 rfl)
      · exact M.hts _ (lw_g (lw_at lw_m4 234 rfl) rfl)
      · exact M.hts _ (lw_g (lw_at lw_m4 235 rfl) rfl)
      · exact M.hts _ (lw_g (lw_at lw_m4 236 rfl) rfl)
      · exact M.hts _ (lw_g (lw_at lw_m1 62 rfl) rfl)
      · exact M.decl (lw_at lw_m1 46 rfl))
    have hfound : s.vm.findClass "java/util/NoSuchElementException" = some P1.m.cls := findClass_of_methodNamed hP1m
    have eC : P1.m.cls = g_C G 16 := Option.some.inj (hfound.symm.trans hKn.2.1)
    have hkP : s.vm.classes[P1.m.cls]? = some kC := by rw [eC]; exact hkC
    have hord : kC.kind = .ordinary := by
      obtain ⟨kC', w1, w2⟩ := hKn.2.2
      rw [hkC] at w1; cases w1; exact w2
    have hsel0 : selectMethod e.platform s.vm P1.m.cls Tt.fill0 = .method Tt.fill0 := by
      obtain ⟨c2, r2, m2, w1, w2, w3, w4, -⟩ := Cond.selects_spec (M.hts _ (lw_g (lw_at lw_m4 221 rfl) rfl))
      cases Option.some.inj (w1.symm.trans hfound)
      cases Option.some.inj (w2.symm.trans (State.methodFound?_of_named Y.fill0 (by decide)))
      cases Option.some.inj (w3.symm.trans Y.fill0)
      rw [Launch.admits_selectMethod X.admits]; exact w4
    have hselF : selectMethod e.platform s.vm P1.m.cls Tt.fill = .method Tt.fill := by
      obtain ⟨c2, r2, m2, w1, w2, w3, w4, -⟩ := Cond.selects_spec (M.hts _ (lw_g (lw_at lw_m1 73 rfl) rfl))
      cases Option.some.inj (w1.symm.trans hfound)
      cases Option.some.inj (w2.symm.trans (State.methodFound?_of_named Y.fill (by decide)))
      cases Option.some.inj (w3.symm.trans Y.fill)
      rw [Launch.admits_selectMethod X.admits]; exact w4
    have hstat : ∀ nm dd k v, ("java/lang/Throwable", nm, dd, Value.ref v) ∈ stTbl → v < 100 → ∀ i f, s.fieldFound? "java/lang/Throwable" nm dd = some (Tt.cT, Tt.kT, i, f) → k = f.slot → ∃ cell, T.heap[Tt.aS]? = some cell ∧ cell.vm.isStatics = true ∧ Tt.aS < g_z G ∧ cell.slots[k]? = some (g_o G v) := by
      intro nm dd k v hmem hv i f hf hk
      obtain ⟨cf, kf, fi, f', a, cell, w1, w2, w3, w4, w5, w6, w7, -⟩ := (M.gok.2.2.2.2.2 _ hmem).moved M.warm.alike
      have w1 := w1.symm.trans hf
      injection w1 with w1
      injection w1 with w1a w1b
      injection w1b with w1b w1c
      injection w1c with w1c w1d
      subst w1b; subst w1d
      have w4' := w4.symm.trans L.statics
      injection w4' with w4'
      subst w4'
      have hlt : Tt.aS < g_z G := (Array.getElem?_eq_some_iff.mp w5).1
      refine ⟨cell, (hR1.2.2.1 _ hlt).trans w5, w6, hlt, ?_⟩
      rw [hk]
      have : cv G (.ref v) = g_o G v := by show g_r G v = _; rw [g_r, if_pos hv]
      rw [← this]; exact w7
    obtain ⟨cellS, hcellS, hiss, hltS, hvU⟩ := hstat "UNASSIGNED_STACK" _ _ 60 (List.mem_of_getElem? (i := 0) rfl) (by decide) _ _ Y.unassigned rfl
    obtain ⟨cellS', hcellS', -, -, hvP⟩ := hstat "SUPPRESSED_SENTINEL" _ _ 61 (List.mem_of_getElem? (i := 1) rfl) (by decide) _ _ Y.sentinel rfl
    have eS : cellS' = cellS := Option.some.inj (hcellS'.symm.trans hcellS)
    subst eS
    have hrefo : ∀ v, v < 100 → (g_o G v).isRef = true := fun v hv => by rcases M.gok.old v hv with w | ⟨ad, w⟩ <;> rw [w] <;> rfl
    have hknownS : cellS'.vm ≠ .unknown := fun w => by rw [w] at hiss; cases hiss
    have hneS : Tt.aS ≠ H.size := Nat.ne_of_lt (Nat.lt_of_lt_of_le hltS (by rw [hnz]; exact Nat.le_add_right _ _))
    have slot : ∀ k, k < 6 → ∀ cf kf fi fd, s.fieldFound? (TJ8 k).1 (TJ8 k).2.1 (TJ8 k).2.2.1 = some (cf, kf, fi, fd) → fd.slot = g_i G 16 k := fun k hk cf kf fi fd w => by
      obtain ⟨cf', kf', fi', fd', w1, w2⟩ := hKn.1 k hk
      rw [w] at w1; cases w1; exact w2
    have ty : ∀ k, k < 6 → ∀ cf kf fi fd, s.fieldFound? (TJ8 k).1 (TJ8 k).2.1 (TJ8 k).2.2.1 = some (cf, kf, fi, fd) → kC.instanceTypes[fd.slot]? = some fd.type := fun k hk cf kf fi fd w => (u_facts hKn.2.1 hkC (u_lays M.hts hin hk) w).2.2
    have apart : ∀ a b, a < 6 → b < 6 → a ≠ b → g_i G 16 a ≠ g_i G 16 b := fun a b ha hb hab => by
      obtain ⟨_, _, _, fd, w1, w2⟩ := hKn.1 a ha
      obtain ⟨_, _, _, fd', w1', w2'⟩ := hKn.1 b hb
      rw [← w2, ← w2']
      exact u_apart (u_lays M.hts hin ha) (u_lays M.hts hin hb) w1 w1' (by rw [(State.fieldFound?_type w1 (tyJ8_ok a ha)).1, (State.fieldFound?_type w1' (tyJ8_ok b hb)).1]; exact nmJ8 a ha b hb hab)
    have sC : Tt.fCause.slot = g_i G 16 0 := slot 0 (by decide) _ _ _ _ Y.cause
    have sS : Tt.fStack.slot = g_i G 16 1 := slot 1 (by decide) _ _ _ _ Y.stack
    have sP : Tt.fSupp.slot = g_i G 16 2 := slot 2 (by decide) _ _ _ _ Y.supp
    obtain ⟨ci198, i198, fB, hk198, hg198, ha198, hsB, -, hnB, htB, hffB⟩ := Cond.ownField (t := .object "java/lang/Object") Y.found L.cls (by decide +kernel) (M.hts _ (lw_g (lw_at lw_m1 60 rfl) rfl)) (M.hts _ (lw_g (lw_at lw_m1 59 rfl) rfl)) e.platform hpl
    have sB : fB.slot = g_i G 16 4 := slot 4 (by decide) _ _ _ _ hffB
    obtain ⟨u0, hu0⟩ : ∃ u : RefV, u.v = g_o G 60 := ⟨⟨g_o G 60, hrefo 60 (by decide)⟩, rfl⟩
    obtain ⟨sen, hsen⟩ : ∃ u : RefV, u.v = g_o G 61 := ⟨⟨g_o G 61, hrefo 61 (by decide)⟩, rfl⟩
    have hlt : ∀ k, k < 6 → g_i G 16 k < kC.instanceTypes.size := fun k hk => by
      obtain ⟨_, _, _, fd, w1, w2⟩ := hKn.1 k hk
      rw [← w2]; exact (Array.getElem?_eq_some_iff.mp (ty k hk _ _ _ _ w1)).1
    have hbl : ∀ k, k < 6 → (kC.instanceTypes.map defaultValue)[g_i G 16 k]? = some (defaultValue (tyJ8 k)) := fun k hk => g4 k hk
    have htC : Takes s (freshCell P1.m.cls kC) Tt.fCause (.ref H.size) := Takes.of_laid hkP hord (ty 0 (by decide) _ _ _ _ Y.cause) (by rw [Y.causeType]; rfl)
    have htS : Takes s (freshCell P1.m.cls kC) Tt.fStack u0.v := Takes.of_laid hkP hord (ty 1 (by decide) _ _ _ _ Y.stack) (by rw [Y.stackType]; exact fits_refV_array _ u0)
    have htP : Takes s (freshCell P1.m.cls kC) Tt.fSupp sen.v := Takes.of_laid hkP hord (ty 2 (by decide) _ _ _ _ Y.supp) (by rw [Y.suppType]; exact fits_refV_object _ sen)
    have a40 := apart 4 0 (by decide) (by decide) (by decide)
    have a41 := apart 4 1 (by decide) (by decide) (by decide)
    have a42 := apart 4 2 (by decide) (by decide) (by decide)
    have hnull : ((((kC.instanceTypes.map defaultValue).setIfInBounds (g_i G 16 0) (.ref H.size)).setIfInBounds (g_i G 16 1) u0.v).setIfInBounds (g_i G 16 2) sen.v)[g_i G 16 4]? = some .null := by
      rw [Array.getElem?_setIfInBounds_ne (fun z => a42 z.symm), Array.getElem?_setIfInBounds_ne (fun z => a41 z.symm), Array.getElem?_setIfInBounds_ne (fun z => a40 z.symm)]
      exact hbl 4 (by decide)
    have hcell : T.heap[H.size]? = some (freshCell P1.m.cls kC) := by rw [eC]; exact e1
    obtain ⟨tm, methC, cdC, kC', vm₁, hnC, -, -, -, -, -, -, -, hW₁, st1⟩ := Steps.initCold (tb := p.tables) (e := e) (below := below) (s := s) (U := T) X.here M.hx X.warmed hpl M.own (t := Bundle.init0 "java/util/NoSuchElementException") rfl rfl (by decide) (M.hts _ (lw_g (lw_at lw_m4 227 rfl) rfl)) (M.hts _ (lw_g (lw_at lw_m4 228 rfl) rfl)) (bytes := Bundle.five) (maxL := 1) (M.hts _ (lw_g (lw_at lw_m4 229 rfl) rfl)) (f := F0 m 18 lc [.ref H.size, .ref H.size]) rfl (a := H.size) (rest := [.ref H.size]) rfl (by rw [M.hb]; exact d1_step_18)
    cases Option.some.inj (hnC.symm.trans hP1m)
    have X₁ := X.noted hW₁
    obtain ⟨vm₂, X₂, st2⟩ := X₁.ctorPlainOffV M.hx (g := F0 m 18 lc [.ref H.size]) rfl (hl.2.1.trans M.ml.symm) Tt L Z LZ (P1 :: Ps)
      (fun Px hPx => by rcases List.mem_cons.mp hPx with rfl | hPx; exact L1; exact hL1 Px hPx) ⟨hlink1, hlink⟩ (u0 := u0) (sen := sen) (self := H.size) (cell := freshCell P1.m.cls kC) (cellS := cellS')
      hcell (fun _ => by simp) (by simp) rfl rfl hsel0 hselF hcellS hneS hknownS (by rw [hu0]; exact hvU) (by rw [hsen]; exact hvP) htC htS htP Y.objLocals
      ⟨{ ci198 := ci198, i198 := i198, fBack := fB }, ⟨hk198, hg198, ha198, hsB⟩, by
        show ((((kC.instanceTypes.map defaultValue).setIfInBounds Tt.fCause.slot (.ref H.size)).setIfInBounds Tt.fStack.slot u0.v).setIfInBounds Tt.fSupp.slot sen.v)[fB.slot]? = some .null
        rw [sC, sS, sP, sB]; exact hnull, fun _ _ => rfl⟩ htr [] (show decode cc.code 18 = .ok (.invokespecial 216, 3) by rw [M.hb]; exact d1_step_18)
      (by simp only [List.length_cons, hlen, List.length_nil]; omega) (by simp only [List.length_cons, hlen, List.length_nil]; show 2 * 0 + 1 + (13 * 3 + 41) ≤ R.locals; omega)
    have hTs : H.size < T.heap.size := (Array.getElem?_eq_some_iff.mp hcell).1
    have a01 := apart 0 1 (by decide) (by decide) (by decide)
    have a02 := apart 0 2 (by decide) (by decide) (by decide)
    have a12 := apart 1 2 (by decide) (by decide) (by decide)
    have had : g_r G n = .ref H.size := by rw [g_r, if_neg (by omega), hnz]
    have hR2 : RepH G (p1 t n (some (16, 0)), r1 I n 0, r1 J n 0, u2 (u2 (u2 (r1 P n .null) n 0 (.ref n)) n 1 (.ref 60)) n 2 (.ref 61), n + 1, sl + 6) (((T.setVm vm₁).setVm vm₂).setCell H.size ((preparedCellV Tt.toThrowableT (freshCell P1.m.cls kC) H.size u0 sen).setSlot Tt.fStack.slot u0.v)).heap := by
      refine RepH.write (a := n) (ad := H.size) (tg := (16, 0)) M.gok hR1 hn had (p1_self _ _ _) (heapAt_setCell_self (s := (T.setVm vm₁).setVm vm₂) _ hTs) (by show (T.heap.setIfInBounds _ _).size = _; simp) (fun q hq => heapAt_setCell_ne (s := (T.setVm vm₁).setVm vm₂) _ (fun z => hq z.symm)) ?_ rfl rfl (fun _ _ => rfl) (fun _ _ => rfl) (fun b hb => by show u2 (u2 (u2 (r1 P n .null) n 0 _) n 1 _) n 2 _ b = r1 P n .null b; rw [u2_row _ _ _ hb, u2_row _ _ _ hb, u2_row _ _ _ hb])
      refine ⟨vm3 rfl, Or.inl eC, ?_⟩
      rw [if_pos (by decide)]
      refine ⟨_, rfl, fun k hk => ?_⟩
      show (((((kC.instanceTypes.map defaultValue).setIfInBounds Tt.fCause.slot (.ref H.size)).setIfInBounds Tt.fStack.slot u0.v).setIfInBounds Tt.fSupp.slot sen.v).setIfInBounds Tt.fStack.slot u0.v)[g_i G 16 k]? = _
      rw [sC, sS, sP]
      have hk : k < 6 := hk
      have hz : ∀ j, j < 6 → g_i G 16 j < (kC.instanceTypes.map defaultValue).size := fun j hj => by rw [Array.size_map]; exact hlt j hj
      rcases (by omega : k = 0 ∨ k = 1 ∨ k = 2 ∨ (3 ≤ k ∧ k < 6)) with rfl | rfl | rfl | ⟨hk3, hk6⟩
      · rw [Array.getElem?_setIfInBounds_ne (fun z => a01 z.symm), Array.getElem?_setIfInBounds_ne (fun z => a02 z.symm), Array.getElem?_setIfInBounds_ne (fun z => a01 z.symm), Array.getElem?_setIfInBounds_self_of_lt (hz 0 hk)]
        show some (Value.ref H.size) = some (cv G (u2 (u2 (u2 (r1 P n .null) n 0 (.ref n)) n 1 (.ref 60)) n 2 (.ref 61) n 0))
        rw [u2_ne _ _ (by decide), u2_ne _ _ (by decide), u2_self]
        exact congrArg some had.symm
      · rw [Array.getElem?_setIfInBounds_self_of_lt (by simpa using hlt 1 hk), hu0]
        show some (g_o G 60) = some (cv G (u2 (u2 (u2 (r1 P n .null) n 0 (.ref n)) n 1 (.ref 60)) n 2 (.ref 61) n 1))
        rw [u2_ne _ _ (by decide), u2_self]
        show some (g_o G 60) = some (g_r G 60)
        rw [g_r, if_pos (by decide)]
      · rw [Array.getElem?_setIfInBounds_ne a12, Array.getElem?_setIfInBounds_self_of_lt (by simpa using hlt 2 hk), hsen]
        show some (g_o G 61) = some (cv G (u2 (u2 (u2 (r1 P n .null) n 0 (.ref n)) n 1 (.ref 60)) n 2 (.ref 61) n 2))
        rw [u2_self]
        show some (g_o G 61) = some (g_r G 61)
        rw [g_r, if_pos (by decide)]
      · rw [Array.getElem?_setIfInBounds_ne (apart 1 k (by decide) hk (by omega)), Array.getElem?_setIfInBounds_ne (apart 2 k (by decide) hk (by omega)), Array.getElem?_setIfInBounds_ne (apart 1 k (by decide) hk (by omega)), Array.getElem?_setIfInBounds_ne (apart 0 k (by decide) hk (by omega)), hbl k hk]
        have hd := dflt_v (G := G) (I := I) (J := J) (P := P) (n := n + 1) (sl := sl + 6) (tt := p1 t n (some (16, 0))) (tyJ8 k) n k (clsT_nofl 16 _ rfl k hk)
        refine congrArg some (hd.trans ?_)
        unfold a_v
        show (match kd (tyJ8 k) with | 0 => Value.int (r1 I n 0 n k) | 1 => Value.long (r1 J n 0 n k) | _ => cv G (r1 P n .null n k)) = (match kd (tyJ8 k) with | 0 => Value.int (r1 I n 0 n k) | 1 => Value.long (r1 J n 0 n k) | _ => cv G (u2 (u2 (u2 (r1 P n .null) n 0 (.ref n)) n 1 (.ref 60)) n 2 (.ref 61) n k))
        rw [u2_ne _ _ (by omega), u2_ne _ _ (by omega), u2_ne _ _ (by omega)]
    have hL2 : ∀ q ∈ locs ++ [(⟨H.size, Tt.fCause.slot⟩ : Loc), ⟨H.size, Tt.fStack.slot⟩, ⟨H.size, Tt.fSupp.slot⟩, ⟨H.size, Tt.fStack.slot⟩], g_z G ≤ q.base := fun q hq => by
      rcases List.mem_append.mp hq with w | w
      · exact hL q w
      · simp only [List.mem_cons, List.not_mem_nil, or_false] at w
        have : q.base = H.size := by rcases w with rfl | rfl | rfl | rfl <;> rfl
        rw [this, hnz]; exact Nat.le_add_right _ _
    obtain ⟨tf, hsteps, hq⟩ := k0 _ _ _ _ rfl rfl rfl rfl p e R s m args below meth cc hs M ⟨by show a_n hs ≤ n + 1; omega, by show a_s hs ≤ sl + 6; omega⟩ _ _ lc hR2 hL2 hl _ rfl X₂
    refine ⟨tf, st1 _ (fun acts => ?_), hq⟩
    rw [doInvoke_state]
    have hsteps : Steps p.tables e below ((((T.setVm vm₁).setVm vm₂).setCell H.size ((preparedCellV Tt.toThrowableT (freshCell P1.m.cls kC) H.size u0 sen).setSlot Tt.fStack.slot u0.v)).setTop (F0 m 21 lc [g_r G n])) tf := hsteps
    rw [had] at hsteps
    exact st2 _ hsteps
