/-! ===== contracts and calls ===== -/
def cwd (y : Mk) : Cond := match mk_h y with
  | [] => .code (mk_n y) (mk_c y) (mk_l y) (mk_r y)
  | q :: r => .codeWith (mk_n y) (mk_c y) (mk_l y) (mk_r y) (q :: r)
theorem cwd_spec {y : Mk} {args : Array Value} {s : State} {m : MethodId} (hn : s.methodNamed? (mk_n y) = some m) (h : (cwd y).before args s = true) :
    ∃ meth c, s.vm.method? m = some meth ∧ meth.code = some c ∧ c.code = mk_c y ∧ c.maxLocals = mk_l y ∧ meth.sig.returnType = mk_r y ∧ meth.locks = false ∧
      c.exceptionTable.toList.map (fun h => (h.startPc, h.endPc, h.handlerPc, h.catchType)) = mk_h y ∧ parseMethodDescriptor (mk_n y).desc = some meth.sig := by
  unfold cwd at h
  split at h
  next e =>
    obtain ⟨meth, c, h1, h2, h3, h4, h5, h6, h7, h8⟩ := Cond.code_spec hn h
    refine ⟨meth, c, h1, h2, h3, h4, h5, h6, ?_, h8⟩
    rw [e]
    have : c.exceptionTable.toList = [] := by simpa using h7
    rw [this]; rfl
  next q r e =>
    obtain ⟨m', meth, c, h0, h1, h2, h3, h4, h5, h6, h7, h8⟩ := Cond.codeWith_spec h
    cases hn.symm.trans h0
    exact ⟨meth, c, h1, h2, h3, h4, h6, h7, by rw [e]; exact h5, h8⟩
/-- what is known of a method of the tables -/
def MW (y : Mk) : Prop := cwd y ∈ lw_all ∧ plainName (mk_n y).cls = true ∧ Cond.initialized (mk_n y).cls ∈ lw_all ∧ mk_l y ≤ 32 ∧ ((mk_n y).cls ≠ "java/lang/invoke/MethodHandle" ∧ (mk_n y).cls ≠ "java/lang/invoke/VarHandle")
def rmA (d : Nat) (h : AH) : Room := { frames := d, cells := 601024 - (a_n h - 100), slots := 7293033 - a_s h, locals := 64 * d }
/-- the contract: called with these arguments over this heap, the method ends with Q -/
def CA (G : GG) (d : Nat) (y : Mk) (av : List Value) (h : AH) (Q : AO → AH → Prop) : Prop :=
  GOK G → MetFree (g_l G) (mk_n y) (headSpec [cwd y] (rmA d h)) (fun args s => args = (av.map (cv G)).toArray ∧ (g_s G).WarmedH s.vm ∧ RepH G h s.heap) (fun _ _ _ _ _ => True)
    (fun _ st o t => ∃ o' h', Q o' h' ∧ o = cO G o' ∧ RepH G h' t.heap ∧ (a_n h ≤ a_n h' ∧ a_s h ≤ a_s h') ∧ ∃ L, st.WarmedH t.vm ∧ st.sameButNew ({ t with vm := st.vm } : State) L (a_n h' - a_n h) (a_s h' - a_s h) ∧ ∀ q ∈ L, g_z G ≤ q.base)
theorem CA.mono {G : GG} {d : Nat} {y : Mk} {av : List Value} {h : AH} {Q Q' : AO → AH → Prop} (k : CA G d y av h Q') (hq : ∀ o h', Q' o h' → Q o h') : CA G d y av h Q := by
  intro hG p e ha hc hk s m args below hf happ hP hK
  obtain ⟨n, o, a, b, c, o', h', q, r⟩ := k hG p e ha hc hk s m args below hf happ hP hK
  exact ⟨n, o, a, b, c, o', h', hq o' h' q, r⟩
def entL (av : List Value) (n : Nat) : List Value := av ++ List.replicate (n - av.length) U0
theorem lv_args_mem : ∀ (vs : List Value) (k i : Nat) (v : Value), (∀ w ∈ vs, w.category = 1) → vs[i]? = some v → (k + i, v) ∈ lv_args k vs := by
  intro vs
  induction vs with
  | nil => intro k i v _ h; simp at h
  | cons w vs ih =>
    intro k i v hc h
    have hw : ¬ w.category = 2 := by rw [hc w List.mem_cons_self]; decide
    simp only [lv_args, hw, if_false]
    cases i with
    | zero => simp at h; subst h; exact List.mem_cons_self
    | succ i =>
      have := ih (k + 1) i v (fun w hw => hc w (List.mem_cons_of_mem _ hw)) (by simpa using h)
      rw [show k + 1 + i = k + (i + 1) by omega] at this
      exact List.mem_cons_of_mem _ this
theorem entry_ok {G : GG} (hG : GOK G) {av : List Value} {n : Nat} (hc : ∀ v ∈ av, cat1 v = true) (hn : av.length ≤ n) (m : MethodId) : ∃ lc : Array Slot, LocOK G n (entL av n) lc ∧ entryFrame m (av.map (cv G)).toArray n = F0 m 0 lc [] := by
  have hcat : ∀ w ∈ av.map (cv G), w.category = 1 := by
    intro w hw
    obtain ⟨v, hv, rfl⟩ := List.mem_map.mp hw
    exact cv_cat hG (hc v hv)
  have hlen : (lg_sl (av.map (cv G))).length = av.length := by
    have : ∀ l : List Value, (∀ w ∈ l, w.category = 1) → (lg_sl l).length = l.length := by
      intro l
      induction l with
      | nil => intro _; rfl
      | cons w l ih =>
        intro hw
        have h1 : ¬ w.category = 2 := by rw [hw w List.mem_cons_self]; decide
        have e1 : lg_sl (w :: l) = [.val w] ++ lg_sl l := by simp [lg_sl, h1]
        rw [e1, List.length_append, ih (fun z hz => hw z (List.mem_cons_of_mem _ hz))]
        simp; omega
    rw [this _ hcat, List.length_map]
  have hl := lv_entry (av.map (cv G)) (n := n) (by rw [hlen]; exact hn)
  refine ⟨_, ?_, lg_entry_eq m _ n⟩
  refine ⟨by simp [entL]; omega, hl.1, hl.2.1, fun i v hi hv => ?_⟩
  have hi2 : av[i]? = some v := by
    unfold entL at hi
    by_cases h1 : i < av.length
    · rw [List.getElem?_append_left h1] at hi; exact hi
    · rw [List.getElem?_append_right (by omega)] at hi
      exact absurd (List.eq_of_mem_replicate (List.mem_of_getElem? hi)) hv
  have := hl.2.2 _ (lv_args_mem (av.map (cv G)) 0 i (cv G v) hcat (by rw [List.getElem?_map, hi2]; rfl))
  simpa using this
/-- a contract out of the walk of the body -/
theorem CA.of {G : GG} {d : Nat} {y : Mk} {av : List Value} {h : AH} {Q : AO → AH → Prop} (hc : ∀ v ∈ av, cat1 v = true) (hn : av.length ≤ mk_l y) (hp : plainName (mk_n y).cls = true) (k : RA G d y 0 (entL av (mk_l y)) [] h Q) : CA G d y av h Q := by
  intro hG
  refine MetFree.of_bodyS (code := mk_c y) (maxLocals := mk_l y) (ret := mk_r y) hp ?_ ?_
  · intro args s m hpre hnm
    have hw : (cwd y).before args s = true := atoms_spec (ws := [cwd y]) hpre _ List.mem_cons_self
    obtain ⟨meth, c, h1, h2, h3, h4, h5, h6, -, -⟩ := cwd_spec hnm hw
    exact ⟨meth, c, h1, h2, h3, h4, h5, h6⟩
  · intro p e s m args below meth c s₁ B hml hP _
    obtain ⟨rfl, hW, hR⟩ := hP
    have hh0 : s₁.heap = s.heap := by rw [B.state]; rfl
    have hw : (cwd y).before (av.map (cv G)).toArray s = true := atoms_spec (ws := [cwd y]) B.pre _ List.mem_cons_self
    obtain ⟨meth', c', h1, h2, h3, h4, h5, h6, h7, -⟩ := cwd_spec B.named hw
    cases B.method.symm.trans h1
    have X := Stand.of_body B
    cases X.code.symm.trans h2
    have M : MC G d y h p e (rmA d h) s m (av.map (cv G)).toArray below meth c :=
      ⟨B.exec, B.bytes, hml, B.returns, B.notSynchronized, findClass_of_methodNamed B.named, (name_of_methodNamed B.named B.method).1, hW, hG, ⟨Nat.le_refl _, Nat.le_refl _, Nat.le_refl _, Nat.le_refl _, hR.1⟩, h7⟩
    obtain ⟨lc, hl, he⟩ := entry_ok hG hc hn m
    obtain ⟨t, a1, o, h', q1, q2, q3, q4, q5, L, q6, q7, q8⟩ := k p e (rmA d h) s m _ below meth c h M ⟨Nat.le_refl _, Nat.le_refl _⟩ s.heap [] lc hR (fun q hq => by cases hq) hl s₁ hh0 (by
      rw [Nat.sub_self, Nat.sub_self]; exact X)
    refine ⟨t, cO G o, by rw [he]; exact a1, q2, q3, o, h', q1, rfl, q4, q5, L, q6, q7, q8⟩
theorem cat_map {G : GG} (hG : GOK G) (st : List Value) : ((st.map (cv G)).map fun v => v.category).sum = (st.map fun v => v.category).sum := by
  rw [List.map_map]
  congr 1
  refine List.map_congr_left (fun v _ => ?_)
  cases v with
  | ref a =>
    show (g_r G a).category = 1
    rcases g_r_ref hG a with e | ⟨ad, e⟩ <;> rw [e] <;> rfl
  | _ => rfl
section CallEnd
variable {G : GG} {d : Nat} {p : Program} {e : Env} {R : Room} {s : State} {m : MethodId} {args : Array Value} {below : List Frame} {meth : Method} {c : Code} {T : State} {locs : List Loc} {cells slots : Nat}
theorem callEnd (X : Stand p (g_l G) e R s m args below meth c T locs cells slots) (hG : GOK G) (hW0 : (g_s G).WarmedH s.vm) {g : JFrame} (hg : g.method = m) (hsize : g.locals.size = c.maxLocals) {ig : Instr} {len : Nat} (hdg : decode c.code g.pc = .ok (ig, len))
    {z : Mk} (hz : MW z) {av : List Value} {h : AH} {Q : AO → AH → Prop} (hC : CA G d z av h Q) (hR : RepH G h T.heap) (hf1 : d + 1 ≤ R.frames) (hf2 : 64 * (d + 1) ≤ R.locals) (hf3 : cells + (601024 - (a_n h - 100)) ≤ R.cells) (hf4 : slots + (7293033 - a_s h) ≤ R.slots)
    (hst : 2 * g.monitorRoom + (g.stack.map fun v => v.category).sum ≤ 16) {mk : MethodId} (hn : T.methodNamed? (mk_n z) = some mk) :
    ∃ (o : AO) (h' : AH) (T' : State) (L : List Loc), Q o h' ∧ RepH G h' T'.heap ∧ (a_n h ≤ a_n h' ∧ a_s h ≤ a_s h') ∧ Stand p (g_l G) e R s m args below meth c T' (locs ++ L) (cells + (a_n h' - a_n h)) (slots + (a_s h' - a_s h)) ∧ (∀ q ∈ L, g_z G ≤ q.base) ∧
      (∀ v, o = .inl v → Steps p.tables e below (doInvoke e (T.setTop g) [] mk (av.map (cv G)).toArray).1 (T'.setTop { g with pc := g.pc + len, stack := (v.map (cv G)).toList ++ g.stack })) ∧
      (∀ b, o = .inr b → Steps p.tables e below (doInvoke e (T.setTop g) [] mk (av.map (cv G)).toArray).1 ((T'.setTop g).pushFrame (.throwing (g_z G + (b - 100))))) := by
  have hWT : (g_s G).WarmedH T.vm := State.WarmedH.trans hW0 X.warmed
  obtain ⟨w1, w2, w3, w4, w5⟩ := hz
  have hcw : (cwd z).before (av.map (cv G)).toArray T = true := hG.wd hWT _ _ w1
  have hini : (Cond.initialized (mk_n z).cls).before (av.map (cv G)).toArray T = true := hG.wd hWT _ _ w3
  obtain ⟨methY, cY, hmY, hcY, -, hlY, -, -, -, -⟩ := cwd_spec hn hcw
  obtain ⟨kY, hkY, -⟩ := className_of_methodNamed hn
  have hinitY : kY.init = .initialized := Cond.initialized_spec (findClass_of_methodNamed hn) hkY hini
  have hAt : At T g.method c below := by rw [hg]; exact X.here
  have happ : (headSpec [cwd z] (rmA d h)).appliesLoose (mk_n z) e.platform (T.calling g mk (av.map (cv G)).toArray) = true :=
    Spec.appliesLoose_calling (g := g) hAt hdg hn hkY hinitY
      (X.room_calling (g := g) (R' := (headSpec [cwd z] (rmA d h)).room) hsize hmY hcY (by show d + 1 ≤ R.frames; exact hf1) (by show _ + 64 * d ≤ R.locals; rw [hlY]; omega) hf3 hf4)
      (atoms_intro (ws := [cwd z]) (fun w hw => by rw [List.mem_singleton.mp hw]; exact hcw))
  obtain ⟨mid, hmid⟩ := hAt.above
  have hfr : (T.setTop g).frames = (.java g :: mid) ++ below := by rw [State.frames_setTop' g hAt.top, hmid]; rfl
  have hP : (fun args s => args = (av.map (cv G)).toArray ∧ (g_s G).WarmedH s.vm ∧ RepH G h s.heap) (av.map (cv G)).toArray (T.calling g mk (av.map (cv G)).toArray) := ⟨rfl, hWT, hR⟩
  obtain ⟨oc, s₂, hsteps, -, hend, hq⟩ := Steps.callFree (hC hG) p X.admits X.cas X.clock (acts := []) hfr happ hP trivial
  rw [State.frames_setTop' g hAt.top] at hend
  obtain ⟨o, h', hq1, ho, hR', hmono, L, hW₂, hsm, hL⟩ := hq
  have hsm : (T.calling g mk (av.map (cv G)).toArray).sameButNew ({ s₂ with vm := (T.calling g mk (av.map (cv G)).toArray).vm } : State) L (a_n h' - a_n h) (a_s h' - a_s h) := hsm
  obtain ⟨e2, q2, q3, q4, q5, q6⟩ := id hsm
  have e3 : s₂ = ({ (T.calling g mk (av.map (cv G)).toArray).setFrames s₂.frames with heap := s₂.heap, slotsUsed := s₂.slotsUsed } : State).setVm s₂.vm := by
    have : s₂ = ({ s₂ with vm := (T.calling g mk (av.map (cv G)).toArray).vm } : State).setVm s₂.vm := rfl
    rw [e2] at this
    exact this
  have hW' : T.WarmedH s₂.vm := hW₂
  obtain ⟨g₀, hg0⟩ := Option.isSome_iff_exists.mp hAt.top
  obtain ⟨r, hr⟩ := State.topJava?_eq_some.mp hg0
  have hsame : T.sameButNew ({ T with heap := s₂.heap, slotsUsed := s₂.slotsUsed } : State) L (a_n h' - a_n h) (a_s h' - a_s h) := by
    refine ⟨?_, q2, q3, q4, q5, q6⟩
    obtain ⟨t, ht, -⟩ := State.frames_cons hr
    show ({ T with heap := s₂.heap, slotsUsed := s₂.slotsUsed } : State) = { T.setFrames T.frames with heap := s₂.heap, slotsUsed := s₂.slotsUsed }
    rw [State.setFrames_self ht]
  have hr' : (({ T with heap := s₂.heap, slotsUsed := s₂.slotsUsed } : State).setVm s₂.vm).frames = .java g₀ :: r := hr
  refine ⟨o, h', (({ T with heap := s₂.heap, slotsUsed := s₂.slotsUsed } : State).setVm s₂.vm), L, hq1, hR', hmono,
    ⟨X.admits, X.cas, X.clock, X.frames, X.room, X.hears, X.method, X.code, (X.here.setHeapUsed s₂.heap s₂.slotsUsed).setVm hW'.alike, X.tail, State.WarmedH.trans X.warmed hW', X.limits, X.bytes, X.same.trans (hsame.setVm s.vm)⟩, hL, ?_, ?_⟩
  · rintro v rfl
    subst ho
    obtain ⟨c₂, i₂, len₂, hc₂, hd₂, hf₂⟩ := hend
    have hcc : c₂ = c := by
      have h1 : s₂.code? g.method = T.code? g.method := by
        rw [State.code?_eq, State.code?_eq, hW'.alike.method?]
      exact Option.some.inj (hc₂.symm.trans (h1.trans hAt.code))
    subst hcc
    have hlen : len₂ = len := by rw [hdg] at hd₂; cases hd₂; rfl
    subst hlen
    have hs₂ : s₂ = (({ T with heap := s₂.heap, slotsUsed := s₂.slotsUsed } : State).setVm s₂.vm).setTop { g with pc := g.pc + len₂, stack := (v.map (cv G)).toList ++ g.stack } := by
      refine e3.trans ?_
      rw [hf₂, State.calling_eq hAt.top, State.setFrames_setFrames, State.setTop_of_frames _ hr', hr]
      rfl
    rw [← hs₂]
    exact hsteps
  · rintro b rfl
    subst ho
    have hf₂ : s₂.frames = .throwing (g_z G + (b - 100)) :: .java g :: T.frames.tail := hend
    have hs₂ : s₂ = ((({ T with heap := s₂.heap, slotsUsed := s₂.slotsUsed } : State).setVm s₂.vm).setTop g).pushFrame (.throwing (g_z G + (b - 100))) := by
      refine e3.trans ?_
      rw [hf₂, State.calling_eq hAt.top, State.setFrames_setFrames, State.pushFrame, State.setTop_of_frames _ hr', State.frames_setFrames _ (State.cur_lt_of_frames hr'), State.setFrames_setFrames, hr]
      rfl
    rw [← hs₂]
    exact hsteps
end CallEnd
