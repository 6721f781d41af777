/-! ===== new cells; references into arrays; returns ===== -/
def r1 {α : Type} (f : Nat → Nat → α) (a : Nat) (v : α) : Nat → Nat → α := fun b => if b = a then (fun _ => v) else f b
def p1 {α : Type} (f : Nat → α) (a : Nat) (v : α) : Nat → α := fun b => if b = a then v else f b
theorem r1_self {α : Type} (f : Nat → Nat → α) (a k : Nat) (v : α) : r1 f a v a k = v := by simp [r1]
theorem r1_row {α : Type} (f : Nat → Nat → α) {a b : Nat} (v : α) (h : b ≠ a) : r1 f a v b = f b := by simp [r1, h]
theorem p1_self {α : Type} (f : Nat → α) (a : Nat) (v : α) : p1 f a v a = v := by simp [p1]
theorem p1_ne {α : Type} (f : Nat → α) {a b : Nat} (v : α) (h : b ≠ a) : p1 f a v b = f b := by simp [p1, h]
/-- the entry idx of own's pool names the class with tag c, of N slots -/
def NL (own : String) (idx c N : Nat) : Prop := ∃ q, clsT[c]? = some q ∧ q.2.2.1 = N ∧ 0 < N ∧ Cond.classLink own idx q.1 ∈ lw_all ∧ Cond.instantiable q.1 N ∈ lw_all ∧ Cond.initialized q.1 ∈ lw_all
section New
variable {G : GG} {d : Nat} {y : Mk} {pc : Nat} {ls st : List Value} {Q : AO → AH → Prop} {t : Nat → Option (Nat × Nat)} {I : Nat → Nat → Int32} {J : Nat → Nat → Int64} {P : Nat → Nat → Value} {n sl : Nat}
theorem RepH.push {H H' : Heap} {sl' : Nat} (hR : RepH G (t, I, J, P, n, sl) H) {tg : Nat × Nat} {cell : Cell} (e1 : H'[H.size]? = some cell) (e2 : H'.size = H.size + 1) (e3 : ∀ q, q < H.size → H'[q]? = H[q]?)
    (hc : CellOK G (p1 t n (some tg), r1 I n 0, r1 J n 0, r1 P n .null, n + 1, sl') n tg cell) : RepH G (p1 t n (some tg), r1 I n 0, r1 J n 0, r1 P n .null, n + 1, sl') H' := by
  have hn : 100 ≤ n := hR.1
  have hz : H.size = g_z G + (n - 100) := hR.2.1
  refine ⟨by show 100 ≤ n + 1; omega, by show H'.size = g_z G + (n + 1 - 100); omega, fun q hq => ?_, fun b tb hb => ?_⟩
  · rw [e3 q (by omega)]
    exact hR.2.2.1 q hq
  · have hb : p1 t n (some tg) b = some tb := hb
    by_cases hbn : b = n
    · subst hbn
      rw [p1_self] at hb
      cases hb
      refine ⟨⟨by show b < b + 1; omega, fun x hx => absurd hx (by omega)⟩, H.size, cell, ?_, e1, hc⟩
      rw [g_r, if_neg (by omega), hz]
    · rw [p1_ne _ _ hbn] at hb
      obtain ⟨hlt, adb, cb, q1, q2, q3⟩ := hR.2.2.2 b tb hb
      have hlt1 : b < n := hlt.1
      refine ⟨⟨by show b < n + 1; omega, hlt.2⟩, adb, cb, q1, ?_, q3.1, q3.2.1, ?_⟩
      · rw [e3 adb (Array.getElem?_eq_some_iff.mp q2).1]; exact q2
      · have hv : ∀ k i, a_v G (p1 t n (some tg), r1 I n 0, r1 J n 0, r1 P n .null, n + 1, sl') b k i = a_v G (t, I, J, P, n, sl) b k i := by
          intro k i
          unfold a_v
          show (match k with | 0 => Value.int (r1 I n 0 b i) | 1 => Value.long (r1 J n 0 b i) | _ => cv G (r1 P n .null b i)) = _
          rw [r1_row _ _ hbn, r1_row _ _ hbn, r1_row _ _ hbn]
          rfl
        have q4 := q3.2.2
        by_cases hc : tb.1 < 100
        · rw [if_pos hc] at q4 ⊢
          obtain ⟨q, z1, z2⟩ := q4
          exact ⟨q, z1, fun k hk => by rw [hv]; exact z2 k hk⟩
        · rw [if_neg hc] at q4 ⊢
          exact ⟨q4.1, q4.2.1, fun j hj => by rw [hv]; exact q4.2.2 j hj⟩
theorem dflt_v (ty : FieldType) (a i : Nat) (hty : ty ≠ .float ∧ ty ≠ .double) {tt : Nat → Option (Nat × Nat)} : defaultValue ty = a_v G (tt, r1 I a 0, r1 J a 0, r1 P a .null, n, sl) a (kd ty) i := by
  cases ty with
  | float => exact absurd rfl hty.1
  | double => exact absurd rfl hty.2
  | long => show Value.long 0 = Value.long (r1 J a 0 a i); rw [r1_self]
  | object _ => show Value.null = cv G (r1 P a .null a i); rw [r1_self]; rfl
  | array _ => show Value.null = cv G (r1 P a .null a i); rw [r1_self]; rfl
  | _ => show Value.int 0 = Value.int (r1 I a 0 a i); rw [r1_self]
theorem clsT_nofl : ∀ (c : Nat) (q : String × u_T × Nat × (Nat → FieldType)), clsT[c]? = some q → ∀ k, k < q.2.2.1 → q.2.2.2 k ≠ .float ∧ q.2.2.2 k ≠ .double := by
  intro c q hq k hk
  have h := (clsT_ok c q hq).2.2 k hk
  have hall : clsT.all (fun q => (List.range q.2.2.1).all (fun k => decide (q.2.2.2 k ≠ .float ∧ q.2.2.2 k ≠ .double))) = true := by decide +kernel
  have h1 := List.all_eq_true.mp hall q (List.mem_of_getElem? hq)
  exact of_decide_eq_true (List.all_eq_true.mp h1 k (List.mem_range.mpr hk))
theorem x_new {idx c N : Nat} (hd : decode (mk_c y) pc = .ok (.new idx, 3)) (hl0 : NL (mk_n y).cls idx c N) (hB : n + 1 ≤ 601124) (hS : sl + N ≤ 7293033)
    (k0 : RA G d y (pc + 3) ls (.ref n :: st) (p1 t n (some (c, 0)), r1 I n 0, r1 J n 0, r1 P n .null, n + 1, sl + N) Q) : RA G d y pc ls st (t, I, J, P, n, sl) Q :=
  fun p e R s m args below meth cc hs M hm H locs lc hR hL hl => by
    obtain ⟨q, hq, hN, h0, w1, w2, w3⟩ := hl0
    have hKn := M.kn hq (by omega)
    obtain ⟨hin, -, htyo⟩ := clsT_ok c q hq
    have hm1 : a_n hs ≤ n := hm.1
    have hm2 : a_s hs ≤ sl := hm.2
    obtain ⟨-, -, r3, r4, r5⟩ := M.room
    have hnz : H.size = g_z G + (n - 100) := hR.2.1
    have hn100 : 100 ≤ n := hR.1
    refine W.newcK (n := N) M.hx M.hb M.own (M.hts _ w1) (M.hts _ w2) (M.hts _ w3) rfl hd (by show n - a_n hs + 1 ≤ R.cells; omega) (by show sl - a_s hs + N ≤ R.slots; omega) hKn.2.1 rfl (fun H1 kC hkC e1 e2 e3 => ?_)
    have hrep : RepH G (p1 t n (some (c, 0)), r1 I n 0, r1 J n 0, r1 P n .null, n + 1, sl + N) H1 := by
      refine hR.push (cell := blank (g_C G c) kC) e1 e2 e3 ⟨vm3 rfl, Or.inl rfl, ?_⟩
      rw [if_pos (clsT_lt hq)]
      refine ⟨q, hq, fun k hk => ?_⟩
      obtain ⟨cell, g1, g2, g3, g4⟩ := u_born q.2.2.2 M.hts hin hKn hkC e1 htyo
      have : cell = blank (g_C G c) kC := by rw [e1] at g1; exact (Option.some.inj g1).symm
      subst this
      rw [g4 k hk]
      exact congrArg some (dflt_v _ n k (clsT_nofl c q hq k hk))
    have key := k0 p e R s m args below meth cc hs M ⟨by show a_n hs ≤ n + 1; omega, by show a_s hs ≤ sl + N; omega⟩ H1 locs lc hrep hL hl
    have e4 : (n + 1) - a_n hs = n - a_n hs + 1 := by omega
    have e5 : (sl + N) - a_s hs = sl - a_s hs + N := by omega
    have key2 : W p (g_l G) e R s m args below meth cc H1 locs (n + 1 - a_n hs) (sl + N - a_s hs) (EndQ G below s hs Q) (F0 m (pc + 3) lc (cv G (.ref n) :: st.map (cv G))) := key
    rw [e4, e5, cv_new hn100, ← hnz] at key2
    exact key2
/-- the kind of a primitive array by its tag -/
theorem x_newarray {atype : ArrayType} {k len : Nat} {v : Int32} (hd : decode (mk_c y) pc = .ok (.newarray atype, 2)) (hw : Cond.arrayClass (newarray.typeOf atype) ∈ lw_all) (hty : newarray.typeOf atype = a_ety k) (hv0 : ¬ v < 0) (hv : v.toNatClampNeg = len) (hB : n + 1 ≤ 601124) (hS : sl + len ≤ 7293033)
    (k0 : RA G d y (pc + 2) ls (.ref n :: st) (p1 t n (some (100 + k, len)), r1 I n 0, r1 J n 0, r1 P n .null, n + 1, sl + len) Q) (hk : k < 5 := by decide) : RA G d y pc ls (.int v :: st) (t, I, J, P, n, sl) Q :=
  fun p e R s m args below meth cc hs M hm H locs lc hR hL hl => by
    have hm1 : a_n hs ≤ n := hm.1
    have hm2 : a_s hs ≤ sl := hm.2
    obtain ⟨-, -, r3, r4, r5⟩ := M.room
    have hnz : H.size = g_z G + (n - 100) := hR.2.1
    have hn100 : 100 ≤ n := hR.1
    have hby : len * componentBytes (newarray.typeOf atype) ≤ 536870912 := by
      have : componentBytes (newarray.typeOf atype) ≤ 8 := by cases atype <;> decide
      have h2 := Nat.mul_le_mul (show len ≤ 7293033 by omega) this
      omega
    refine va_newaK M.hx M.hb (M.hts _ hw) rfl hd rfl hv0 hv hby (by show n - a_n hs + 1 ≤ R.cells; omega) (by show sl - a_s hs + len ≤ R.slots; omega) rfl (fun H1 cA e1 e2 e3 _ hfc => ?_)
    have hcA : cA = g_C G (100 + k) := by
      have h1 := (M.gok.2.2.1 k (by omega)).2.moved M.warm.alike
      rw [hty] at hfc
      have h2 : s.vm.findClass ("[" ++ (a_ety k).toString) = some (g_C G (100 + k)) := by
        have hkk : k = 0 ∨ k = 1 ∨ k = 2 ∨ k = 3 ∨ k = 4 := by omega
        rcases hkk with rfl | rfl | rfl | rfl | rfl <;> exact h1
      exact Option.some.inj (hfc.symm.trans h2)
    have hrep : RepH G (p1 t n (some (100 + k, len)), r1 I n 0, r1 J n 0, r1 P n .null, n + 1, sl + len) H1 := by
      refine hR.push (cell := arrV cA len (fun _ => defaultValue (newarray.typeOf atype))) e1 e2 e3 ⟨vm3 rfl, Or.inl hcA, ?_⟩
      rw [if_neg (by omega)]
      refine ⟨by show 100 + k < 107; omega, sz3 (arrV_size _ _ _), fun j hj => ?_⟩
      rw [arrV_read _ _ hj]
      show some (defaultValue (newarray.typeOf atype)) = _
      rw [hty, show 100 + k - 100 = k by omega]
      refine congrArg some (dflt_v _ n j ?_)
      have hkk : k = 0 ∨ k = 1 ∨ k = 2 ∨ k = 3 ∨ k = 4 := by omega
      rcases hkk with rfl | rfl | rfl | rfl | rfl <;> decide
    have key := k0 p e R s m args below meth cc hs M ⟨by show a_n hs ≤ n + 1; omega, by show a_s hs ≤ sl + len; omega⟩ H1 locs lc hrep hL hl
    have e4 : (n + 1) - a_n hs = n - a_n hs + 1 := by omega
    have e5 : (sl + len) - a_s hs = sl - a_s hs + len := by omega
    have key2 : W p (g_l G) e R s m args below meth cc H1 locs (n + 1 - a_n hs) (sl + len - a_s hs) (EndQ G below s hs Q) (F0 m (pc + 2) lc (cv G (.ref n) :: st.map (cv G))) := key
    rw [e4, e5, cv_new hn100, ← hnz] at key2
    exact key2
theorem x_anewarray {idx k len : Nat} {C : String} {v : Int32} (hd : decode (mk_c y) pc = .ok (.anewarray idx, 3)) (hk : 5 ≤ k ∧ k < 7) (hty : a_ety k = .object C) (hw1 : Cond.classLink (mk_n y).cls idx C ∈ lw_all) (hw2 : Cond.arrayOver (.object C) ∈ lw_tbl) (hv0 : ¬ v < 0) (hv : v.toNatClampNeg = len) (hB : n + 1 ≤ 601124) (hS : sl + len ≤ 7293033)
    (k0 : RA G d y (pc + 3) ls (.ref n :: st) (p1 t n (some (100 + k, len)), r1 I n 0, r1 J n 0, r1 P n .null, n + 1, sl + len) Q) : RA G d y pc ls (.int v :: st) (t, I, J, P, n, sl) Q :=
  fun p e R s m args below meth cc hs M hm H locs lc hR hL hl => by
    have hm1 : a_n hs ≤ n := hm.1
    have hm2 : a_s hs ≤ sl := hm.2
    obtain ⟨-, -, r3, r4, r5⟩ := M.room
    have hnz : H.size = g_z G + (n - 100) := hR.2.1
    have hn100 : 100 ≤ n := hR.1
    have hover : va_AO C s := (va_AO.of (M.gok.1 _ hw2)).moved M.warm.alike
    have hA := (M.gok.2.2.1 k hk.2).2.moved M.warm.alike
    rw [hty] at hA
    obtain ⟨kA0, comp0, a1, a2, a3, a4⟩ := hA
    refine W.anew M.hx M.hb M.own (M.hts _ hw1) (va_AO.use hover) rfl hd rfl hv0 (by rw [hv]; omega) (by show n - a_n hs + 1 ≤ R.cells; omega) (by show sl - a_s hs + v.toNatClampNeg ≤ R.slots; omega) (fun cA kA comp f1 f2 f3 f4 => ?_)
    have hcA : cA = g_C G (100 + k) := Option.some.inj (f1.symm.trans a4)
    generalize hH1 : H.push ({ cls := cA, slots := Array.replicate v.toNatClampNeg .null, vm := .none } : Cell) = H1
    have z1 : H1.size = H.size + 1 := by rw [← hH1, Array.size_push]
    have e1 : H1[H.size]? = some (arrV cA v.toNatClampNeg (fun _ => .null)) := by rw [← hH1, Array.getElem?_push_size, ← arrV_new]
    have o1 : ∀ q : Nat, q < H.size → H1[q]? = H[q]? := fun q hq => by rw [← hH1, Array.getElem?_push, if_neg (Nat.ne_of_lt hq)]
    have hrep : RepH G (p1 t n (some (100 + k, len)), r1 I n 0, r1 J n 0, r1 P n .null, n + 1, sl + len) H1 := by
      refine hR.push (cell := arrV cA v.toNatClampNeg (fun _ => .null)) e1 z1 o1 ⟨vm3 rfl, Or.inl hcA, ?_⟩
      rw [if_neg (by omega)]
      refine ⟨by show 100 + k < 107; omega, sz3 ((arrV_size _ _ _).trans hv), fun j hj => ?_⟩
      rw [arrV_read _ _ (by rw [hv]; exact hj)]
      rw [show 100 + k - 100 = k by omega, hty]
      show some Value.null = some (cv G (r1 P n .null n j))
      rw [r1_self]; rfl
    have key := k0 p e R s m args below meth cc hs M ⟨by show a_n hs ≤ n + 1; omega, by show a_s hs ≤ sl + len; omega⟩ H1 locs lc hrep hL hl
    have e4 : (n + 1) - a_n hs = n - a_n hs + 1 := by omega
    have e5 : (sl + len) - a_s hs = sl - a_s hs + v.toNatClampNeg := by omega
    have key2 : W p (g_l G) e R s m args below meth cc H1 locs (n + 1 - a_n hs) (sl + len - a_s hs) (EndQ G below s hs Q) (F0 m (pc + 3) lc (cv G (.ref n) :: st.map (cv G))) := key
    rw [e4, e5, cv_new hn100, ← hnz] at key2
    exact key2
end New
