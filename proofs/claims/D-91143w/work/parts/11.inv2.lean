/-! ===== athrow; invokestatic, invokevirtual, invokespecial of constructors ===== -/
section Inv
variable {G : GG} {d : Nat} {y : Mk} {pc : Nat} {ls st stk : List Value} {h : AH} {Q : AO → AH → Prop}
theorem x_athrow {b : Nat} (hd : decode (mk_c y) pc = .ok (.athrow, 1)) (hT : Thr G d y pc ls b h Q) : RA G d y pc ls (.ref b :: st) h Q :=
  fun p e R s m args below meth c hs M hm H locs lc hR hL hl => by
    intro T hT2 X
    subst hT2
    obtain ⟨t, k1, k2⟩ := hT.go (st := st.map (cv G)) M hm hR hL hl X
    refine ⟨t, ?_, k2⟩
    have hexec := M.hx
    have hdg : decode c.code pc = .ok (.athrow, 1) := by rw [M.hb]; exact hd
    have hstack : (F0 m pc lc (.ref (g_z G + (b - 100)) :: st.map (cv G))).stack = .ref (g_z G + (b - 100)) :: st.map (cv G) := rfl
    show Steps p.tables e below (T.setTop (F0 m pc lc (cv G (.ref b) :: st.map (cv G)))) t
    rw [cv_new hT.1]
    jvm_step X.here [hexec, hdg, athrow.wp_sem, hstack]
    exact k1
/-- what goes on behind a call -/
def Cont (G : GG) (d : Nat) (y : Mk) (pc : Nat) (ls st : List Value) (Q : AO → AH → Prop) (o : AO) (h' : AH) : Prop := match o with
  | .inl v => RA G d y (pc + 3) ls (v.toList ++ st) h' Q
  | .inr b => Thr G d y pc ls b h' Q
theorem Cont.i {Q1 : Int32 → AH → Prop} (k : ∀ r h', Q1 r h' → RA G d y (pc + 3) ls (.int r :: st) h' Q) : ∀ o h', (∃ r, o = .inl (some (.int r)) ∧ Q1 r h') → Cont G d y pc ls st Q o h' := by
  rintro o h' ⟨r, rfl, hq⟩
  exact k r h' hq
theorem Cont.j {Q1 : Int64 → AH → Prop} (k : ∀ r h', Q1 r h' → RA G d y (pc + 3) ls (.long r :: st) h' Q) : ∀ o h', (∃ r, o = .inl (some (.long r)) ∧ Q1 r h') → Cont G d y pc ls st Q o h' := by
  rintro o h' ⟨r, rfl, hq⟩
  exact k r h' hq
theorem Cont.r {Q1 : Value → AH → Prop} (k : ∀ r h', Q1 r h' → RA G d y (pc + 3) ls (r :: st) h' Q) : ∀ o h', (∃ r, o = .inl (some r) ∧ Q1 r h') → Cont G d y pc ls st Q o h' := by
  rintro o h' ⟨r, rfl, hq⟩
  exact k r h' hq
theorem Cont.v {Q1 : AH → Prop} (k : ∀ h', Q1 h' → RA G d y (pc + 3) ls st h' Q) : ∀ o h', (o = .inl none ∧ Q1 h') → Cont G d y pc ls st Q o h' := by
  rintro o h' ⟨rfl, hq⟩
  exact k h' hq
/-- the end of every call: the callee's contract, and what goes on -/
theorem call_fin {hs : AH} {p : Program} {e : Env} {R : Room} {s : State} {m : MethodId} {args : Array Value} {below : List Frame} {meth : Method} {c : Code} (M : MC G (d + 1) y hs p e R s m args below meth c) (hm : a_n hs ≤ a_n h ∧ a_s hs ≤ a_s h) {T T₁ : State} {locs : List Loc} {lc : Array Slot} (hR : RepH G h T₁.heap) (hL : ∀ q ∈ locs, g_z G ≤ q.base) (hl : LocOK G (mk_l y) ls lc) {stk' : List Value}
    (X₁ : Stand p (g_l G) e R s m args below meth c T₁ locs (a_n h - a_n hs) (a_s h - a_s hs)) {ig : Instr} (hd : decode (mk_c y) pc = .ok (ig, 3)) {z : Mk} (hz : MW z) {av : List Value} {Q1 : AO → AH → Prop} (hC : CA G d z av h Q1) {mk : MethodId} (hn : T₁.methodNamed? (mk_n z) = some mk) (hst : (st.map fun v => v.category).sum ≤ 16)
    (hstep : ∀ target, (∀ acts, Steps p.tables e below (doInvoke e (T₁.setTop (F0 m pc lc (st.map (cv G)))) acts mk (av.map (cv G)).toArray).1 target) → Steps p.tables e below (T.setTop (F0 m pc lc stk')) target)
    (hB : a_n h ≤ 601124) (hS : a_s h ≤ 7293033) (kk : ∀ o h', Q1 o h' → Cont G (d + 1) y pc ls st Q o h') : ∃ t, Steps p.tables e below (T.setTop (F0 m pc lc stk')) t ∧ EndQ G below s hs Q t := by
  obtain ⟨r1, r2, r3, r4, r5⟩ := M.room
  have hm1 := hm.1
  have hm2 := hm.2
  have hn100 : 100 ≤ a_n h := hR.1
  obtain ⟨o, h', T', L, q1, q2, q3, q4, q5, q6, q7⟩ := callEnd X₁ M.gok M.warm (g := F0 m pc lc (st.map (cv G))) rfl (hl.2.1.trans M.ml.symm) (by rw [M.hb]; exact hd) hz hC hR r1 r2 (by omega) (by omega) (by show 2 * 0 + ((st.map (cv G)).map fun v => v.category).sum ≤ 16; rw [cat_map M.gok]; omega) hn
  have hL' : ∀ q ∈ locs ++ L, g_z G ≤ q.base := by
    intro q hq
    rcases List.mem_append.mp hq with z | z
    · exact hL q z
    · exact q5 q z
  have hm' : a_n hs ≤ a_n h' ∧ a_s hs ≤ a_s h' := ⟨Nat.le_trans hm.1 q3.1, Nat.le_trans hm.2 q3.2⟩
  have e1 : a_n h - a_n hs + (a_n h' - a_n h) = a_n h' - a_n hs := by have := q3.1; omega
  have e2 : a_s h - a_s hs + (a_s h' - a_s h) = a_s h' - a_s hs := by have := q3.2; omega
  rw [e1, e2] at q4
  cases o with
  | inl v =>
    have k1 : RA G (d + 1) y (pc + 3) ls (v.toList ++ st) h' Q := kk _ _ q1
    obtain ⟨t, k2, k3⟩ := k1 p e R s m args below meth c hs M hm' T'.heap _ lc q2 hL' hl T' rfl q4
    refine ⟨t, hstep t (fun acts => ?_), k3⟩
    rw [doInvoke_state]
    refine (q6 v rfl).trans ?_
    have e3 : (v.map (cv G)).toList ++ st.map (cv G) = (v.toList ++ st).map (cv G) := by cases v <;> simp
    show Steps p.tables e below (T'.setTop (F0 m (pc + 3) lc ((v.map (cv G)).toList ++ st.map (cv G)))) t
    rw [e3]
    exact k2
  | inr b =>
    have k1 : Thr G (d + 1) y pc ls b h' Q := kk _ _ q1
    obtain ⟨t, k2, k3⟩ := k1.go (st := st.map (cv G)) M hm' q2 hL' hl q4
    refine ⟨t, hstep t (fun acts => ?_), k3⟩
    rw [doInvoke_state]
    exact (q7 b rfl).trans k2
/-- a static method's link: own's entry idx names z -/
def LSt (own : String) (idx : Nat) (z : Mk) : Prop := MW z ∧ (Cond.methodLink own idx (mk_n z) ∈ lw_all ∨ ∃ host, Cond.methodLinkNest own idx (mk_n z) host ∈ lw_tbl) ∧ Cond.static (mk_n z) ∈ lw_all
theorem MC.nestM {hs : AH} {p : Program} {e : Env} {R : Room} {s : State} {m : MethodId} {args : Array Value} {below : List Frame} {meth : Method} {c : Code} (M : MC G d y hs p e R s m args below meth c) {a : String} {i : Nat} {x : MethodName} {h : String} (hw : Cond.methodLinkNest a i x h ∈ lw_tbl) : (Cond.methodLinkNest a i x h).before args s = true :=
  va_Nw.use rfl (va_Nw.warmM M.warm (va_Nw.of rfl (M.gok.1 _ hw)))
theorem cwd_named {z : Mk} {args : Array Value} {s : State} (h : (cwd z).before args s = true) : ∃ mk, s.methodNamed? (mk_n z) = some mk := by
  unfold cwd at h
  split at h
  · exact Cond.code_named h
  · obtain ⟨m', _, _, h0, _⟩ := Cond.codeWith_spec h
    exact ⟨m', h0⟩
theorem x_invS {idx : Nat} (na : Nat) {z : Mk} {av : List Value} {Q1 : AO → AH → Prop} (hd : decode (mk_c y) pc = .ok (.invokestatic idx, 3)) (hl0 : LSt (mk_n y).cls idx z) (hC : CA G d z av h Q1) (kk : ∀ o h', Q1 o h' → Cont G (d + 1) y pc ls st Q o h')
    (hstk : stk = av.reverse ++ st := by rfl) (hna : av.length = na := by rfl) (hav0 : (parseMethodDescriptor (mk_n z).desc).map (fun d => d.parameters.length) = some na := by decide +kernel) (hB : a_n h ≤ 601124 := by omega) (hS : a_s h ≤ 7293033 := by omega) (hst : (st.map fun v => v.category).sum ≤ 16 := by exact Nat.le_of_ble_eq_true rfl) : RA G (d + 1) y pc ls stk h Q :=
  fun p e R s m args below meth c hs M hm H locs lc hR hL hl => by
    intro T hT X
    subst hT
    subst hstk
    have hav : ∀ sig, parseMethodDescriptor (mk_n z).desc = some sig → av.length = sig.parameters.length := fun sig h => by
      rw [h] at hav0
      exact hna.trans (Option.some.inj hav0).symm
    obtain ⟨hz, hlink, hstat⟩ := hl0
    have hcw : (cwd z).before args s = true := M.hts _ hz.1
    obtain ⟨mk, hnamed⟩ := cwd_named hcw
    obtain ⟨methM, cM, hmethM, -, -, -, -, -, -, hsigM⟩ := cwd_spec hnamed hcw
    have hstatic : methM.isStatic = true := Cond.static_spec hnamed hmethM (M.hts _ hstat)
    obtain ⟨kP, hkP, -⟩ := className_of_methodNamed hnamed
    have hinitP : kP.init = .initialized := Cond.initialized_spec (findClass_of_methodNamed hnamed) hkP (M.hts _ hz.2.2.1)
    have hdg : decode c.code pc = .ok (.invokestatic idx, 3) := by rw [M.hb]; exact hd
    have hstack : (F0 m pc lc ((av.reverse ++ st).map (cv G))).stack = (av.map (cv G)).reverse ++ st.map (cv G) := by simp
    have hlen : (av.map (cv G)).length = methM.sig.parameters.length := by rw [List.length_map]; exact hav _ hsigM
    obtain ⟨vm₁, X₁, hstep₁⟩ : ∃ vm₁, Stand p (g_l G) e R s m args below meth c (T.setVm vm₁) locs (a_n h - a_n hs) (a_s h - a_s hs) ∧ ∀ target, (∀ acts, Steps p.tables e below (doInvoke e ((T.setVm vm₁).setTop (F0 m pc lc (st.map (cv G)))) acts mk (av.map (cv G)).toArray).1 target) → Steps p.tables e below (T.setTop (F0 m pc lc ((av.reverse ++ st).map (cv G)))) target := by
      rcases hlink with w | ⟨host, w⟩
      · exact X.invokestatic M.hx M.own (M.hts _ w) hnamed hmethM hstatic hkP hinitP hz.2.2.2.2 (g := F0 m pc lc ((av.reverse ++ st).map (cv G))) rfl hlen hstack hdg
      · exact X.invokestaticNest M.hx M.own (M.nestM w) hnamed hmethM hstatic hkP hinitP hz.2.2.2.2 (g := F0 m pc lc ((av.reverse ++ st).map (cv G))) rfl hlen hstack hdg
    exact call_fin (T := T) (T₁ := T.setVm vm₁) M hm hR hL hl X₁ hd hz hC (X₁.named hnamed) hst hstep₁ hB hS kk
/-- a virtual (or private) method's link: own's entry idx names x; for a receiver of tag c it is z -/
def LV (own : String) (idx c : Nat) (x z : Mk) : Prop := MW z ∧ MW x ∧ (Cond.methodLink own idx (mk_n x) ∈ lw_all ∨ ∃ host, Cond.methodLinkNest own idx (mk_n x) host ∈ lw_tbl) ∧ Cond.instanceMethod (mk_n x) ∈ lw_all ∧ Cond.instanceMethod (mk_n z) ∈ lw_all ∧
  (x = z ∨ Cond.sameMethod (mk_n x).cls (mk_n x).cls (mk_n x).name (mk_n x).desc ∈ lw_all) ∧ ∃ q, clsT[c]? = some q ∧ 0 < q.2.2.1 ∧ Cond.selects q.1 (mk_n x) (mk_n z) ∈ lw_all
theorem x_invV {idx c0 z0 : Nat} (a na : Nat) {x z : Mk} {av : List Value} {Q1 : AO → AH → Prop} (hd : decode (mk_c y) pc = .ok (.invokevirtual idx, 3)) (ht : a_t h a = some (c0, z0)) (hl0 : LV (mk_n y).cls idx c0 x z) (hC : CA G d z (.ref a :: av) h Q1) (kk : ∀ o h', Q1 o h' → Cont G (d + 1) y pc ls st Q o h')
    (hstk : stk = av.reverse ++ .ref a :: st := by rfl) (hna : av.length = na := by rfl) (hav0 : (parseMethodDescriptor (mk_n x).desc).map (fun d => d.parameters.length) = some na := by decide +kernel) (hB : a_n h ≤ 601124 := by omega) (hS : a_s h ≤ 7293033 := by omega) (hst : (st.map fun v => v.category).sum ≤ 16 := by exact Nat.le_of_ble_eq_true rfl) : RA G (d + 1) y pc ls stk h Q :=
  fun p e R s m args below meth c hs M hm H locs lc hR hL hl => by
    intro T hT X
    subst hT
    subst hstk
    have hav : ∀ sig, parseMethodDescriptor (mk_n x).desc = some sig → av.length = sig.parameters.length := fun sig h => by
      rw [h] at hav0
      exact hna.trans (Option.some.inj hav0).symm
    obtain ⟨hz, hxw, hlink, hi1, hi2, hsm, q, hq, hq0, hsel⟩ := hl0
    obtain ⟨ad, cellB, had, hcell, hobj, hvm, hcls⟩ := hR.recv M ht hq hq0
    obtain ⟨r0, rm, hn0, hrm, hstR, -⟩ := Cond.instanceMethod_spec (M.hts _ hi1)
    obtain ⟨mk, methM, hnamed, hmethM, -, habM⟩ := Cond.instanceMethod_spec (M.hts _ hi2)
    obtain ⟨rm', _, hrm', -, -, -, -, -, -, hsigR⟩ := cwd_spec hn0 (M.hts _ hxw.1)
    cases hrm.symm.trans hrm'
    obtain ⟨c2, r2, m2, q1, q2, q3, q4, kP, hkP, hkPi⟩ := Cond.selects_spec (M.hts _ hsel)
    cases hcls.symm.trans q1
    cases (State.methodFound?_of_named hn0 hxw.2.2.2.2).symm.trans q2
    cases hnamed.symm.trans q3
    have hselP : selectMethod e.platform s.vm cellB.cls r0 = .method mk := by rw [Launch.admits_selectMethod X.admits]; exact q4
    obtain ⟨kr, hkr, hni⟩ : ∃ kr, s.vm.classes[r0.cls]? = some kr ∧ kr.isInterface = false := by
      rcases hsm with rfl | hw
      · cases hn0.symm.trans hnamed
        exact ⟨kP, hkP, hkPi⟩
      · obtain ⟨cn, ck, r1, hcn, hck, hni, -, -⟩ := Cond.sameMethod_found (M.hts _ hw)
        have : cn = r0.cls := Option.some.inj (hcn.symm.trans (findClass_of_methodNamed hn0))
        subst this
        exact ⟨ck, hck, hni⟩
    have hdg : decode c.code pc = .ok (.invokevirtual idx, 3) := by rw [M.hb]; exact hd
    have hstack : (F0 m pc lc ((av.reverse ++ .ref a :: st).map (cv G))).stack = (av.map (cv G)).reverse ++ .ref ad :: st.map (cv G) := by
      show (av.reverse ++ .ref a :: st).map (cv G) = _
      rw [List.map_append, List.map_cons, List.map_reverse, show cv G (.ref a) = .ref ad from had]
    have hlen : (av.map (cv G)).length = rm.sig.parameters.length := by rw [List.length_map]; exact hav _ hsigR
    have hargs : ((Value.ref a :: av).map (cv G)).toArray = (Value.ref ad :: av.map (cv G)).toArray := by rw [List.map_cons, show cv G (.ref a) = .ref ad from had]
    obtain ⟨vm₁, X₁, hstep₁⟩ : ∃ vm₁, Stand p (g_l G) e R s m args below meth c (T.setVm vm₁) locs (a_n h - a_n hs) (a_s h - a_s hs) ∧ ∀ target, (∀ acts, Steps p.tables e below (doInvoke e ((T.setVm vm₁).setTop (F0 m pc lc (st.map (cv G)))) acts mk ((Value.ref a :: av).map (cv G)).toArray).1 target) → Steps p.tables e below (T.setTop (F0 m pc lc ((av.reverse ++ .ref a :: st).map (cv G)))) target := by
      rw [hargs]
      rcases hlink with w | ⟨host, w⟩
      · exact X.invokevirtual M.hx M.own (M.hts _ w) hn0 hrm hstR hkr hni hxw.2.2.2.2 (a := ad) (cell := cellB) hcell (fun z h => by rw [h] at hobj; cases hobj) hselP hmethM habM hkP hkPi (g := F0 m pc lc ((av.reverse ++ .ref a :: st).map (cv G))) rfl hlen hstack hdg
      · exact X.invokevirtualNest M.hx M.own (M.nestM w) hn0 hrm hstR hkr hni hxw.2.2.2.2 (a := ad) (cell := cellB) hcell (fun z h => by rw [h] at hobj; cases hobj) hselP hmethM habM hkP hkPi (g := F0 m pc lc ((av.reverse ++ .ref a :: st).map (cv G))) rfl hlen hstack hdg
    exact call_fin (T := T) (T₁ := T.setVm vm₁) M hm hR hL hl X₁ hd hz hC (X₁.named hnamed) hst hstep₁ hB hS kk
/-- a constructor's link -/
def LI (own : String) (idx : Nat) (z : Mk) : Prop := MW z ∧ mk_h z = [] ∧ mk_r z = none ∧ (mk_n z).name = "<init>" ∧ (Cond.methodLink own idx (mk_n z) ∈ lw_all ∨ ∃ host, Cond.methodLinkNest own idx (mk_n z) host ∈ lw_tbl) ∧ Cond.instanceMethod (mk_n z) ∈ lw_all
theorem x_invI {idx : Nat} (a na : Nat) {z : Mk} {av : List Value} {Q1 : AO → AH → Prop} (hd : decode (mk_c y) pc = .ok (.invokespecial idx, 3)) (ha : 100 ≤ a) (hl0 : LI (mk_n y).cls idx z) (hC : CA G d z (.ref a :: av) h Q1) (kk : ∀ o h', Q1 o h' → Cont G (d + 1) y pc ls st Q o h')
    (hstk : stk = av.reverse ++ .ref a :: st := by rfl) (hna : av.length = na := by rfl) (hav0 : (parseMethodDescriptor (mk_n z).desc).map (fun d => d.parameters.length) = some na := by decide +kernel) (hB : a_n h ≤ 601124 := by omega) (hS : a_s h ≤ 7293033 := by omega) (hst : (st.map fun v => v.category).sum ≤ 16 := by exact Nat.le_of_ble_eq_true rfl) : RA G (d + 1) y pc ls stk h Q :=
  fun p e R s m args below meth c hs M hm H locs lc hR hL hl => by
    intro T hT X
    subst hT
    subst hstk
    have hav : ∀ sig, parseMethodDescriptor (mk_n z).desc = some sig → av.length = sig.parameters.length := fun sig h => by
      rw [h] at hav0
      exact hna.trans (Option.some.inj hav0).symm
    obtain ⟨hz, hh, hret, hnm, hlink, hi1⟩ := hl0
    have had := cv_new (G := G) ha
    have hcode : (Cond.code (mk_n z) (mk_c z) (mk_l z) none).before args s = true := by
      have h1 := M.hts _ hz.1
      unfold cwd at h1
      rw [hh, hret] at h1
      exact h1
    have hdg : decode c.code pc = .ok (.invokespecial idx, 3) := by rw [M.hb]; exact hd
    have hstack : (F0 m pc lc ((av.reverse ++ .ref a :: st).map (cv G))).stack = (av.map (cv G)).reverse ++ .ref (g_z G + (a - 100)) :: st.map (cv G) := by
      show (av.reverse ++ .ref a :: st).map (cv G) = _
      rw [List.map_append, List.map_cons, List.map_reverse, had]
    have hargs : ((Value.ref a :: av).map (cv G)).toArray = (Value.ref (g_z G + (a - 100)) :: av.map (cv G)).toArray := by rw [List.map_cons, had]
    have hpl : e.platform.magicAccessors = ({} : Platform).magicAccessors := by rw [X.admits.platform]
    have hlen : ∀ sig, parseMethodDescriptor (mk_n z).desc = some sig → (av.map (cv G)).length = sig.parameters.length := fun sig h => by rw [List.length_map]; exact hav sig h
    obtain ⟨mk, vm₁, hnamed, X₁, hstep₁⟩ : ∃ mk vm₁, s.methodNamed? (mk_n z) = some mk ∧ Stand p (g_l G) e R s m args below meth c (T.setVm vm₁) locs (a_n h - a_n hs) (a_s h - a_s hs) ∧ ∀ target, (∀ acts, Steps p.tables e below (doInvoke e ((T.setVm vm₁).setTop (F0 m pc lc (st.map (cv G)))) acts mk ((Value.ref a :: av).map (cv G)).toArray).1 target) → Steps p.tables e below (T.setTop (F0 m pc lc ((av.reverse ++ .ref a :: st).map (cv G)))) target := by
      rw [hargs]
      rcases hlink with w | ⟨host, w⟩
      · obtain ⟨mk, methM, cM, kP, vm₁, hnamed, hmethM, hcodeM, -, hlocalsM, -, hkP, -, hW₁, hstep₁⟩ := Steps.initColdArgs (e := e) X.here M.hx X.warmed hpl M.own hnm hz.2.2.2.2 (M.hts _ w) (M.hts _ hi1) hcode (f := F0 m pc lc ((av.reverse ++ .ref a :: st).map (cv G))) rfl hlen hstack hdg
        exact ⟨mk, vm₁, hnamed, X.noted hW₁, hstep₁⟩
      · obtain ⟨mk, methM, cM, kP, vm₁, hnamed, hmethM, hcodeM, -, hlocalsM, -, hkP, -, hW₁, hstep₁⟩ := Steps.initColdArgsNest (e := e) X.here M.hx X.warmed hpl M.own hnm hz.2.2.2.2 (M.nestM w) (M.hts _ hi1) hcode (f := F0 m pc lc ((av.reverse ++ .ref a :: st).map (cv G))) rfl hlen hstack hdg
        exact ⟨mk, vm₁, hnamed, X.noted hW₁, hstep₁⟩
    exact call_fin (T := T) (T₁ := T.setVm vm₁) M hm hR hL hl X₁ hd hz hC (X₁.named hnamed) hst hstep₁ hB hS kk
end Inv
