/-! ===== exceptions: out of a method, into a handler; the invoke rows ===== -/
section Catch
variable {Q : Handler → Pre} {E : CtlPost} {e : Env} {d : Bool} {acts : List Action} {s : State} {f : JFrame} {a : Addr}
theorem fh_cold {x : ExceptionTableEntry} {t : List ExceptionTableEntry} {c : ClassId} {cell : Cell} (hx : covers x f.pc = true) (h0 : x.catchType ≠ 0)
    (hl : s.vm.ClassLinks e.platform f.method.cls x.catchType c) (hcell : s.heap[a]? = some cell) (hobj : ∀ k, cell.vm ≠ .statics k)
    (hk : ∃ k, s.vm.classes[cell.cls]? = some k) (hc : ∃ k, s.vm.classes[c]? = some k) (hyes : s.vm.assignable cell.cls c = true) :
    wp (findHandler.go f a (x :: t)) Q E e d acts s ↔ Q (.found x.handlerPc) d acts (s.setVm (s.vm.noted f.method.cls x.catchType (.cls c))) := by
  simp only [covers] at hx
  obtain ⟨ha, ht⟩ := (resolveClass_links e.toSetting hl).op (op := VmOp.resolveClass f.method.cls x.catchType) rfl
  have hal : s.vm.Alike (s.vm.noted f.method.cls x.catchType (.cls c)) := (Vm.Alike.refl s.vm).noted _ _ _
  obtain ⟨k1, hk1⟩ := hk
  obtain ⟨k2, hk2⟩ := hc
  obtain ⟨k1', hk1', -⟩ := hal.2.2 _ _ hk1
  obtain ⟨k2', hk2', -⟩ := hal.2.2 _ _ hk2
  have hyes' : (s.vm.noted f.method.cls x.catchType (.cls c)).assignable cell.cls c = true := by rw [hal.assignable]; exact hyes
  simp [findHandler.go, hx, h0, ha, ht, hcell, hobj, hk1', hk2', hyes', VmOp.dirties, VmOp.acts]
theorem throwing_to {r : List Frame} {pc : Nat} {vm' : Vm} (hfind : ∀ (Q : Handler → Pre) (E : CtlPost) (d : Bool) (acts : List Action), wp (findHandler f a) Q E e d acts s ↔ Q (.found pc) d acts (s.setVm vm')) :
    (stepThrowing e s a (.java f :: r)).Is ((s.setVm vm').setFrames (.java { f with pc := pc, stack := [.ref a] } :: r)) [] := by
  simp only [stepThrowing, searchFrame, vmDo]
  generalize hr : Sem.go _ e false [] s = res
  obtain ⟨as, rfl, ha⟩ := Sem.eq_ok_of hr (a := Handler.found pc) (s' := s.setVm vm') (acts' := []) (by simp [hfind _ _ _ _])
  exact ⟨rfl, ha⟩
end Catch
section Catch2
variable {tb : Tables} {e : Env} {s target : State} {g : JFrame} {c : Code} {below : List Frame} {a : Addr}
theorem caught_to (h : At s g.method c below) {pc : Nat} {vm' : Vm} (hfind : ∀ (Q : Handler → Pre) (E : CtlPost) (d : Bool) (acts : List Action), wp (findHandler g a) Q E e d acts ((s.setTop g).pushFrame (.throwing a)) ↔ Q (.found pc) d acts (((s.setTop g).pushFrame (.throwing a)).setVm vm'))
    (hrest : Steps tb e below ((s.setVm vm').setTop { g with pc := pc, stack := [.ref a] }) target) :
    Steps tb e below ((s.setTop g).pushFrame (.throwing a)) target := by
  obtain ⟨hgo, hw⟩ := h.throwing a
  refine Steps.head hgo hw ?_
  rw [stepThread_throwing (frames_entered h.top _), (throwing_to (s := (s.setTop g).pushFrame (.throwing a)) hfind).1]
  obtain ⟨g₀, hg⟩ := Option.isSome_iff_exists.mp h.top
  obtain ⟨r, hr⟩ := State.topJava?_eq_some.mp hg
  have hr' : (s.setVm vm').frames = .java g₀ :: r := hr
  rw [State.setTop_of_frames _ hr'] at hrest
  have e1 : (((s.setTop g).pushFrame (.throwing a)).setVm vm').setFrames (.java { g with pc := pc, stack := [.ref a] } :: s.frames.tail) = (s.setVm vm').setFrames (.java { g with pc := pc, stack := [.ref a] } :: r) := by
    have e2 : ((s.setTop g).pushFrame (.throwing a)).setVm vm' = (((s.setVm vm').setTop g).pushFrame (.throwing a)) := rfl
    rw [e2, State.pushFrame, State.setFrames_setFrames, State.setTop_of_frames _ hr', State.setFrames_setFrames, hr]
    rfl
  rw [e1]
  exact hrest
end Catch2
/-- the frame at pc is left by what is thrown, or a handler of its own takes it -/
def Thr (G : GG) (d : Nat) (y : Mk) (pc : Nat) (ls : List Value) (b : Nat) (h : AH) (Q : AO → AH → Prop) : Prop :=
  100 ≤ b ∧ ((mk_h y = [] ∧ Q (.inr b) h) ∨
    ∃ a0 b0 hp ct, mk_h y = [(a0, b0, hp, ct)] ∧ a0 ≤ pc ∧ pc < b0 ∧ ct ≠ 0 ∧ (∃ (tg : Nat × Nat) (q : String × u_T × Nat × (Nat → FieldType)), a_t h b = some tg ∧ clsT[tg.1]? = some q ∧ 0 < q.2.2.1 ∧ Cond.classLink (mk_n y).cls ct q.1 ∈ lw_all) ∧ RA G d y hp ls [.ref b] h Q)
section Thrown
variable {G : GG} {d : Nat} {y : Mk} {hs : AH} {p : Program} {e : Env} {R : Room} {s : State} {m : MethodId} {args : Array Value} {below : List Frame} {meth : Method} {c : Code}
theorem Thr.go {pc b : Nat} {ls : List Value} {h : AH} {Q : AO → AH → Prop} (hT : Thr G d y pc ls b h Q) (M : MC G d y hs p e R s m args below meth c) (hm : a_n hs ≤ a_n h ∧ a_s hs ≤ a_s h) {T : State} {locs : List Loc} {lc : Array Slot} {st : List Value} (hR : RepH G h T.heap) (hL : ∀ q ∈ locs, g_z G ≤ q.base) (hl : LocOK G (mk_l y) ls lc)
    (X : Stand p (g_l G) e R s m args below meth c T locs (a_n h - a_n hs) (a_s h - a_s hs)) : ∃ t, Steps p.tables e below ((T.setTop (F0 m pc lc st)).pushFrame (.throwing (g_z G + (b - 100)))) t ∧ EndQ G below s hs Q t := by
  obtain ⟨hb, hT⟩ := hT
  have hlocks : meth.locks = false := M.locks
  rcases hT with ⟨h0, hq⟩ | ⟨a0, b0, hp, ct, hh, h1, h2, h3, ⟨tg, q, ht, hq, hq0, hw⟩, k⟩
  · have hem : c.exceptionTable.toList = [] := by
      have := M.tab
      rw [h0] at this
      exact List.map_eq_nil_iff.mp this
    obtain ⟨s1, s2, s3, s4, s5⟩ := X.leaveThrown (g_z G + (b - 100)) (g := F0 m pc lc st) rfl rfl rfl (fun x hx => by rw [hem] at hx; cases hx)
    exact ⟨_, s1, .inr b, h, hq, s2, s3, hR, hm, locs, s4, s5, hL⟩
  · obtain ⟨x, hx, hx1⟩ : ∃ x : ExceptionTableEntry, c.exceptionTable.toList = [x] ∧ (x.startPc, x.endPc, x.handlerPc, x.catchType) = (a0, b0, hp, ct) := by
      have := M.tab
      rw [hh] at this
      match hc : c.exceptionTable.toList, this with
      | [x], this => exact ⟨x, rfl, by simpa using this⟩
      | [], this => cases this
      | _ :: _ :: _, this => cases this
    obtain ⟨e1, e2, e3, e4⟩ : x.startPc = a0 ∧ x.endPc = b0 ∧ x.handlerPc = hp ∧ x.catchType = ct := by
      simpa using hx1
    obtain ⟨ad, cell, had, hcell, hvm, hcls, -⟩ := hR.cell ht
    have hvm := hvm.1.resolve_right (by omega)
    have hcls := hcls.resolve_right (fun z => absurd z.1 (by omega))
    have had' : ad = g_z G + (b - 100) := by
      rw [g_r, if_neg (by omega)] at had
      exact (Value.ref.inj had).symm
    subst had'
    obtain ⟨-, hfc, kC, hkC, -⟩ := M.kn hq hq0
    have hpl : e.platform.magicAccessors = ({} : Platform).magicAccessors := by rw [X.admits.platform]
    obtain ⟨c', hc', hcl⟩ := Cond.classLink_spec M.own (M.hts _ hw) e.platform hpl
    have ecc : c' = g_C G tg.1 := Option.some.inj (hc'.symm.trans hfc)
    subst ecc
    obtain ⟨dk, _, _, kt, hd, _, _, _, _, hkt, _, hopen⟩ := hcl.here
    have hWT := X.warmed
    obtain ⟨kC', hkC', -⟩ := hWT.alike.2.2 _ _ hkC
    have hW' := hWT.noted hd hopen (State.rightAt_cls hcl)
    have X' := X.noted hW'
    rw [← e4] at h3 hcl hW' X'
    have hfind : ∀ (Q : Handler → Pre) (E : CtlPost) (d : Bool) (acts : List Action), wp (findHandler (F0 m pc lc st) (g_z G + (b - 100))) Q E e d acts ((T.setTop (F0 m pc lc st)).pushFrame (.throwing (g_z G + (b - 100)))) ↔ Q (.found hp) d acts (((T.setTop (F0 m pc lc st)).pushFrame (.throwing (g_z G + (b - 100)))).setVm (T.vm.noted m.cls x.catchType (.cls (g_C G tg.1)))) := by
      intro Q E d acts
      rw [W.findHandler_eq (meth := meth) (code := c) X.method' X.code, hx]
      rw [fh_cold (f := F0 m pc lc st) (s := (T.setTop (F0 m pc lc st)).pushFrame (.throwing (g_z G + (b - 100)))) (c := g_C G tg.1) (cell := cell) (by simp [covers, e1, e2, h1, h2]) h3 (hWT.classLinks hcl) hcell (fun k => by rw [hvm]; exact fun z => by cases z) ⟨kC', by rw [hcls]; exact hkC'⟩ ⟨kC', hkC'⟩ (by rw [hcls]; exact va_asg _ _)]
      rw [e3]
      exact Iff.rfl
    have key := k p e R s m args below meth c hs M hm T.heap locs lc hR hL hl (T.setVm (T.vm.noted m.cls x.catchType (.cls (g_C G tg.1)))) rfl X'
    obtain ⟨t, k1, k2⟩ := key
    refine ⟨t, caught_to (g := F0 m pc lc st) X.here hfind ?_, k2⟩
    have k3 : Steps p.tables e below ((T.setVm (T.vm.noted m.cls x.catchType (.cls (g_C G tg.1)))).setTop (F0 m hp lc (cv G (.ref b) :: []))) t := k1
    rw [cv_new hb] at k3
    exact k3
end Thrown
