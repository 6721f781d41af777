/-! ===== returns, stores of references ===== -/
section Ret
variable {G : GG} {d : Nat} {y : Mk} {pc : Nat} {ls st : List Value} {Q : AO → AH → Prop} {h : AH} {t : Nat → Option (Nat × Nat)} {I : Nat → Nat → Int32} {J : Nat → Nat → Int64} {P : Nat → Nat → Value} {n sl : Nat}
theorem x_ireturn {v : Int32} {ty : FieldType} (hd : decode (mk_c y) pc = .ok (.ireturn, 1)) (hq : Q (.inl (some (.int v))) h) (hr : mk_r y = some ty := by rfl) (hn : narrow ty (.int v) = .int v := by rfl) : RA G d y pc ls [.int v] h Q :=
  fun p e R s m args below meth c hs M hm H locs lc hR hL hl => by
    intro T hT X
    have hexec := M.hx
    have hb := M.hb
    have hlocks : meth.locks = false := M.locks
    have hr : meth.sig.returnType = some ty := M.ret.trans hr
    obtain ⟨fs, hret, hrun, hended, hW, hframe⟩ := X.leave (v := some (.int v)) (fun h => by rw [hr] at h; cases h)
    have hmeth' : T.vm.method? m = some meth := X.method'
    refine ⟨T.setFrames fs, ?_, .inl (some (.int v)), h, hq, hrun, hended, ?_, hm, locs, hW, hframe, hL⟩
    · show Steps p.tables e below (T.setTop (F0 m pc lc [.int v])) (T.setFrames fs)
      jvm_step X.here [X.here.top, hexec, hb, hd, hmeth', hr, hn]
      (try refine ⟨rfl, ?_⟩); (try refine ⟨rfl, ?_⟩)
      first | (intro acts; rw [hret _ acts rfl rfl rfl]) | rw [hret _ _ rfl rfl rfl]
      exact Steps.refl _
    · show RepH G h T.heap
      rw [hT]; exact hR
theorem x_lreturn {v : Int64} (hd : decode (mk_c y) pc = .ok (.lreturn, 1)) (hq : Q (.inl (some (.long v))) h) (hr : mk_r y = some .long := by rfl) : RA G d y pc ls [.long v] h Q :=
  fun p e R s m args below meth c hs M hm H locs lc hR hL hl => by
    intro T hT X
    have hexec := M.hx
    have hb := M.hb
    have hlocks : meth.locks = false := M.locks
    have hr : meth.sig.returnType = some .long := M.ret.trans hr
    obtain ⟨fs, hret, hrun, hended, hW, hframe⟩ := X.leave (v := some (.long v)) (fun h => by rw [hr] at h; cases h)
    have hmeth' : T.vm.method? m = some meth := X.method'
    refine ⟨T.setFrames fs, ?_, .inl (some (.long v)), h, hq, hrun, hended, ?_, hm, locs, hW, hframe, hL⟩
    · show Steps p.tables e below (T.setTop (F0 m pc lc [.long v])) (T.setFrames fs)
      jvm_step X.here [X.here.top, hexec, hb, hd, hmeth', hr, narrow]
      (try refine ⟨rfl, ?_⟩); (try refine ⟨rfl, ?_⟩)
      first | (intro acts; rw [hret _ acts rfl rfl rfl]) | rw [hret _ _ rfl rfl rfl]
      exact Steps.refl _
    · show RepH G h T.heap
      rw [hT]; exact hR
theorem x_return (hd : decode (mk_c y) pc = .ok (.return_, 1)) (hq : Q (.inl none) h) (hr : mk_r y = none := by rfl) : RA G d y pc ls [] h Q :=
  fun p e R s m args below meth c hs M hm H locs lc hR hL hl => by
    intro T hT X
    have hexec := M.hx
    have hb := M.hb
    have hlocks : meth.locks = false := M.locks
    have hr : meth.sig.returnType = none := M.ret.trans hr
    obtain ⟨fs, hret, hrun, hended, hW, hframe⟩ := X.leave (v := none) (fun _ => rfl)
    have hmeth' : T.vm.method? m = some meth := X.method'
    refine ⟨T.setFrames fs, ?_, .inl none, h, hq, hrun, hended, ?_, hm, locs, hW, hframe, hL⟩
    · show Steps p.tables e below (T.setTop (F0 m pc lc [])) (T.setFrames fs)
      jvm_step X.here [X.here.top, hexec, hb, hd, hmeth', hr]
      (try refine ⟨rfl, ?_⟩); (try refine ⟨rfl, ?_⟩)
      first | (intro acts; rw [hret _ acts rfl rfl rfl]) | rw [hret _ _ rfl rfl rfl]
      exact Steps.refl _
    · show RepH G h T.heap
      rw [hT]; exact hR
theorem x_areturn {v : Value} {ty : FieldType} (hd : decode (mk_c y) pc = .ok (.areturn, 1)) (hq : Q (.inl (some v)) h) (hr : mk_r y = some ty := by rfl) (hty : rfTy ty = true := by rfl) (hv : isR v = true := by rfl) : RA G d y pc ls [v] h Q :=
  fun p e R s m args below meth c hs M hm H locs lc hR hL hl => by
    intro T hT X
    have hexec := M.hx
    have hb := M.hb
    have hlocks : meth.locks = false := M.locks
    have hr : meth.sig.returnType = some ty := M.ret.trans hr
    obtain ⟨fs, hret, hrun, hended, hW, hframe⟩ := X.leave (v := some (cv G v)) (fun h => by rw [hr] at h; cases h)
    have hmeth' : T.vm.method? m = some meth := X.method'
    refine ⟨T.setFrames fs, ?_, .inl (some v), h, hq, hrun, hended, ?_, hm, locs, hW, hframe, hL⟩
    · show Steps p.tables e below (T.setTop (F0 m pc lc [cv G v])) (T.setFrames fs)
      have hv2 := cv_R M.gok hv
      generalize cv G v = w at hv2 hret ⊢
      cases ty with
      | object q =>
        rcases hv2 with rfl | ⟨ad, rfl⟩ <;>
        (jvm_step X.here [X.here.top, hexec, hb, hd, hmeth', hr]
         (try refine ⟨rfl, ?_⟩); (try refine ⟨rfl, ?_⟩)
         first | (intro acts; rw [hret _ acts rfl rfl rfl]) | rw [hret _ _ rfl rfl rfl]
         exact Steps.refl _)
      | array q =>
        rcases hv2 with rfl | ⟨ad, rfl⟩ <;>
        (jvm_step X.here [X.here.top, hexec, hb, hd, hmeth', hr]
         (try refine ⟨rfl, ?_⟩); (try refine ⟨rfl, ?_⟩)
         first | (intro acts; rw [hret _ acts rfl rfl rfl]) | rw [hret _ _ rfl rfl rfl]
         exact Steps.refl _)
      | _ => cases hty
    · show RepH G h T.heap
      rw [hT]; exact hR
/-- the class with tag c can be laid into arrays of the tag 100 + k: the component's own class, or castable to it -/
def AL (k c : Nat) : Prop := 5 ≤ k ∧ k < 7 ∧ ∃ q C, clsT[c]? = some q ∧ 0 < q.2.2.1 ∧ a_ety k = .object C ∧ (q.1 = C ∨ Cond.castable q.1 C ∈ lw_tbl)
theorem AL.assign {hs : AH} {p : Program} {e : Env} {R : Room} {s : State} {m : MethodId} {args : Array Value} {below : List Frame} {meth : Method} {c : Code} (M : MC G d y hs p e R s m args below meth c) {k v : Nat} (h : AL k v) :
    ∃ (C : String) (kA kcomp kv : Class) (comp : ClassId), a_ety k = .object C ∧ s.vm.classes[g_C G (100 + k)]? = some kA ∧ kA.kind = .array comp (.object C) ∧ s.vm.classes[comp]? = some kcomp ∧ s.vm.classes[g_C G v]? = some kv ∧ s.vm.assignable (g_C G v) comp = true := by
  obtain ⟨h5, h7, q, C, hq, h0, hty, hcast⟩ := h
  have hA := (M.gok.2.2.1 k h7).2.moved M.warm.alike
  rw [hty] at hA
  obtain ⟨kA, comp, a1, a2, a3, a4⟩ := hA
  obtain ⟨-, hfc, kv, hkv, -⟩ := M.kn hq h0
  obtain ⟨kcomp, hkc⟩ := Vm.classAt_of_findClass a3
  refine ⟨C, kA, kcomp, kv, comp, hty, a1, a2, hkc, hkv, ?_⟩
  rcases hcast with z | z
  · rw [z] at hfc
    have e1 : g_C G v = comp := Option.some.inj (hfc.symm.trans a3)
    rw [e1]
    exact va_asg _ _
  · exact vb_asgC (va_Nw.warmC M.warm (va_Nw.of rfl (M.gok.1 _ z))) _ _ a3 hfc
theorem x_aast {a b k len : Nat} {j : Int32} {tb : Nat × Nat} (hd : decode (mk_c y) pc = .ok (.aastore, 1)) (ht : t a = some (100 + k, len)) (hj : vp_in j len) (hb0 : t b = some tb) (hA : AL k tb.1) (k0 : RA G d y (pc + 1) ls st (t, I, J, u2 P a j.toNatClampNeg (.ref b), n, sl) Q) (ha : 100 ≤ a := by decide) : RA G d y pc ls (.ref b :: .int j :: .ref a :: st) (t, I, J, P, n, sl) Q :=
  fun p e R s m args below meth c hs M hm H locs lc hR hL hl => by
    obtain ⟨ad, cell, had, hcell, -, hnw, harr, -, hval⟩ := hR.arr (k := k) M ht
    obtain ⟨hvm, hcls, hsz⟩ := hnw ha
    obtain ⟨bd, cb, hbd, hcb, hvb, hclb0, -⟩ := hR.cell hb0
    have hclb : cb.cls = g_C G tb.1 := hclb0.resolve_right (fun z => by
      obtain ⟨-, -, q, C, hq, -⟩ := hA
      have := clsT_lt hq
      exact absurd z.2.1 (by omega))
    obtain ⟨C, kA, kcomp, kv, comp, hty, a1, a2, a3, a4, a5⟩ := hA.assign M
    show W p (g_l G) e R s m args below meth c H locs _ _ _ (F0 m pc lc (g_r G b :: .int j :: g_r G a :: st.map (cv G)))
    have hz : g_z G ≤ ad := by
      rw [g_r, if_neg (by omega)] at had
      have : g_z G + (a - 100) = ad := Value.ref.inj had
      omega
    have hbd' := hbd
    rw [had, hbd]
    have h0 : ¬ j < 0 := fun q => hj (Or.inl q)
    refine W.aast M.hx M.hb hcell (fun q => by rw [hvm]; exact fun z => by cases z) (by rw [hvm]; exact fun z => by cases z) (by rw [hcls]; exact a1) a2 rfl a3 ⟨h0, by rw [hsz]; exact in_lt hj⟩ hcb (fun q z => by have h3 := hvb.2.2; rw [z] at h3; cases h3) (by rw [hclb]; exact a4) (by rw [hclb]; exact a5) rfl rfl hd (fun H' e1 e2 e3 => ?_)
    refine k0 p e R s m args below meth c hs M hm H' _ lc (hR.arrSet (h' := (t, I, J, u2 P a j.toNatClampNeg (.ref b), n, sl)) (k := k) (v := .ref bd) M.gok ha had ht hcell (in_lt hj) e1 e2 e3 rfl rfl (fun _ _ _ => rfl) (fun _ _ _ => rfl) (fun b i hb => u2_off hb) ?_) ?_ hl
    · rw [hty]
      show cv G (u2 P a _ _ a _) = _
      rw [u2_self]
      exact hbd'
    · intro q hq
      rcases List.mem_append.mp hq with z | z
      · exact hL q z
      · rw [List.mem_singleton.mp z]; exact hz
/-- constants -/
theorem x_ldc {idx : Nat} {v : Int32} (hd : decode (mk_c y) pc = .ok (.ldc idx, 2)) (hw : Cond.constant (mk_n y).cls idx v ∈ lw_all) (k0 : RA G d y (pc + 2) ls (.int v :: st) h Q) : RA G d y pc ls st h Q :=
  fun p e R s m args below meth c hs M hm H locs lc hR hL hl => lv_ldc M.hx M.hb M.own (M.hts _ hw) hd (k0 p e R s m args below meth c hs M hm H locs lc hR hL hl)
theorem x_ldc2 {idx : Nat} {v : Int64} (hd : decode (mk_c y) pc = .ok (.ldc2_w idx, 3)) (hw : Cond.constantLong (mk_n y).cls idx v ∈ lw_all) (k0 : RA G d y (pc + 3) ls (.long v :: st) h Q) : RA G d y pc ls st h Q :=
  fun p e R s m args below meth c hs M hm H locs lc hR hL hl => lv_ldc2 M.hx M.hb M.own (M.hts _ hw) hd (k0 p e R s m args below meth c hs M hm H locs lc hR hL hl)
theorem x_ldcS {idx k : Nat} {tx : String} (hd : decode (mk_c y) pc = .ok (.ldc idx, 2)) (hw : ((mk_n y).cls, idx, tx, k) ∈ strTbl) (k0 : RA G d y (pc + 2) ls (.ref k :: st) h Q) : RA G d y pc ls st h Q :=
  fun p e R s m args below meth c hs M hm H locs lc hR hL hl => by
    obtain ⟨hk, ad, had, hv⟩ := M.gok.2.2.2.2.1 _ hw
    have key : W p (g_l G) e R s m args below meth c H locs _ _ _ (F0 m (pc + 2) lc (g_r G k :: st.map (cv G))) := k0 p e R s m args below meth c hs M hm H locs lc hR hL hl
    rw [g_r, if_pos hk, had] at key
    exact va_ldcS M.hx M.hb M.own (vk_R.warm M.warm hv) hd key
/-- a static -/
theorem x_gets {idx : Nat} {C nm ds : String} {v : Value} (hd : decode (mk_c y) pc = .ok (.getstatic idx, 3)) (hw : Cond.fieldLink (mk_n y).cls idx C nm ds ∈ lw_all) (hs0 : (C, nm, ds, v) ∈ stTbl) (k0 : RA G d y (pc + 3) ls (v :: st) h Q) : RA G d y pc ls st h Q :=
  fun p e R s m args below meth c hs M hm H locs lc hR hL hl => by
    obtain ⟨cf, kf, fi, f, a, cell, h1, h2, h3, h4, h5, h6, h7, -⟩ := va_Z.moved M.warm.alike (M.gok.2.2.2.2.2 _ hs0)
    have hlt : a < g_z G := (Array.getElem?_eq_some_iff.mp h5).1
    exact W.gets M.hx M.hb M.own (M.hts _ hw) h1 h2 h3 h4 (by rw [hR.2.2.1 a hlt]; exact h5) (fun e => by rw [e] at h6; cases h6) h7 rfl hd (k0 p e R s m args below meth c hs M hm H locs lc hR hL hl)
/-- the receiver's class -/
theorem RepH.recv {hs : AH} {p : Program} {e : Env} {R : Room} {s : State} {m : MethodId} {args : Array Value} {below : List Frame} {meth : Method} {c : Code} {H : Heap} (M : MC G d y hs p e R s m args below meth c) (hR : RepH G h H) {a : Nat} {tg : Nat × Nat} (ht : a_t h a = some tg) {q : String × u_T × Nat × (Nat → FieldType)} (hq : clsT[tg.1]? = some q) (h0 : 0 < q.2.2.1) :
    ∃ (ad : Nat) (cell : Cell), g_r G a = .ref ad ∧ H[ad]? = some cell ∧ cell.vm.isStatics = false ∧ cell.vm ≠ .unknown ∧ s.vm.findClass q.1 = some cell.cls := by
  obtain ⟨ad, cell, had, hcell, hvm, hcls, -⟩ := hR.cell ht
  exact ⟨ad, cell, had, hcell, hvm.2.2, hvm.2.1, by rw [hcls.resolve_right (fun z => absurd z.2.1 (by have := clsT_lt hq; omega))]; exact (M.kn hq h0).2.1⟩
theorem x_instS {idx a : Nat} {tg : Nat × Nat} {q : String × u_T × Nat × (Nat → FieldType)} (hd : decode (mk_c y) pc = .ok (.instanceof idx, 3)) (ht : a_t h a = some tg) (hq : clsT[tg.1]? = some q) (hw : Cond.classLink (mk_n y).cls idx q.1 ∈ lw_all) (k0 : RA G d y (pc + 3) ls (.int 1 :: st) h Q) (h0 : 0 < q.2.2.1 := by decide) : RA G d y pc ls (.ref a :: st) h Q :=
  fun p e R s m args below meth c hs M hm H locs lc hR hL hl => by
    obtain ⟨ad, cell, had, hcell, h1, -, h2⟩ := hR.recv M ht hq h0
    show W p (g_l G) e R s m args below meth c H locs _ _ _ (F0 m pc lc (g_r G a :: st.map (cv G)))
    rw [had]
    exact va_instE M.hx M.hb M.own (M.hts _ hw) ⟨cell, hcell, h1, h2⟩ hd (k0 p e R s m args below meth c hs M hm H locs lc hR hL hl)
theorem x_castS {idx a : Nat} {tg : Nat × Nat} {q : String × u_T × Nat × (Nat → FieldType)} (hd : decode (mk_c y) pc = .ok (.checkcast idx, 3)) (ht : a_t h a = some tg) (hq : clsT[tg.1]? = some q) (hw : Cond.classLink (mk_n y).cls idx q.1 ∈ lw_all) (k0 : RA G d y (pc + 3) ls (.ref a :: st) h Q) (h0 : 0 < q.2.2.1 := by decide) : RA G d y pc ls (.ref a :: st) h Q :=
  fun p e R s m args below meth c hs M hm H locs lc hR hL hl => by
    obtain ⟨ad, cell, had, hcell, h1, -, h2⟩ := hR.recv M ht hq h0
    have key : W p (g_l G) e R s m args below meth c H locs _ _ _ (F0 m (pc + 3) lc (g_r G a :: st.map (cv G))) := k0 p e R s m args below meth c hs M hm H locs lc hR hL hl
    show W p (g_l G) e R s m args below meth c H locs _ _ _ (F0 m pc lc (g_r G a :: st.map (cv G)))
    rw [had] at key ⊢
    exact va_castE M.hx M.hb M.own (M.hts _ hw) ⟨cell, hcell, h1, h2⟩ hd key
/-- a cast of an array of a primitive type to its own class -/
theorem x_castA {idx a k len : Nat} {nm : String} (hd : decode (mk_c y) pc = .ok (.checkcast idx, 3)) (ht : a_t h a = some (100 + k, len)) (ha : 100 ≤ a) (hk : k < 5) (hnm : "[" ++ (a_ety k).toString = nm) (hw : Cond.classLink (mk_n y).cls idx nm ∈ lw_all) (k0 : RA G d y (pc + 3) ls (.ref a :: st) h Q) : RA G d y pc ls (.ref a :: st) h Q :=
  fun p e R s m args below meth c hs M hm H locs lc hR hL hl => by
    obtain ⟨ad, cell, had, hcell, -, hnw, -⟩ := hR.arr (k := k) M ht
    obtain ⟨hvm, hcls, -⟩ := hnw ha
    have key : W p (g_l G) e R s m args below meth c H locs _ _ _ (F0 m (pc + 3) lc (g_r G a :: st.map (cv G))) := k0 p e R s m args below meth c hs M hm H locs lc hR hL hl
    show W p (g_l G) e R s m args below meth c H locs _ _ _ (F0 m pc lc (g_r G a :: st.map (cv G)))
    rw [had] at key ⊢
    have hA := (M.gok.2.2.1 k (by omega)).2.moved M.warm.alike
    refine va_castE M.hx M.hb M.own (M.hts _ hw) ⟨cell, hcell, by rw [hvm]; rfl, ?_⟩ hd key
    rw [← hnm, hcls]
    have hkk : k = 0 ∨ k = 1 ∨ k = 2 ∨ k = 3 ∨ k = 4 := by omega
    rcases hkk with rfl | rfl | rfl | rfl | rfl <;> exact hA
/-- Object's constructor -/
theorem x_objInit {idx a : Nat} (hd : decode (mk_c y) pc = .ok (.invokespecial idx, 3)) (hw : Cond.methodLink (mk_n y).cls idx Lib.objectInit ∈ lw_all) (hw2 : Cond.instanceMethod Lib.objectInit ∈ lw_all) (hw3 : Cond.code Lib.objectInit ⟨#[0xb1]⟩ 1 none ∈ lw_all) (ha : 100 ≤ a) (hst : ((st.map fun v => v.category).sum ≤ 16)) (k0 : RA G (d + 1) y (pc + 3) ls st h Q) : RA G (d + 1) y pc ls (.ref a :: st) h Q :=
  fun p e R s m args below meth c hs M hm H locs lc hR hL hl => by
    show W p (g_l G) e R s m args below meth c H locs _ _ _ (F0 m pc lc (cv G (.ref a) :: st.map (cv G)))
    rw [cv_new ha]
    obtain ⟨r1, r2, -⟩ := M.room
    have hcat : ((st.map (cv G)).map fun v => v.category).sum = (st.map fun v => v.category).sum := by
      rw [List.map_map]
      congr 1
      refine List.map_congr_left (fun v _ => ?_)
      cases v with
      | ref a =>
        show (g_r G a).category = 1
        rcases g_r_ref M.gok a with e | ⟨ad, e⟩ <;> rw [e] <;> rfl
      | _ => rfl
    exact W.objInit M.hx M.hb M.own (M.hts _ hw) (M.hts _ hw2) (M.hts _ hw3) rfl (hl.2.1.trans M.ml.symm) rfl hd (by omega) (by show 2 * 0 + ((st.map (cv G)).map fun v => v.category).sum + 12 ≤ R.locals; rw [hcat]; omega) (k0 p e R s m args below meth c hs M hm H locs lc hR hL hl)
end Ret
