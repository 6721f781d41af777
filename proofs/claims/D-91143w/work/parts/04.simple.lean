section Simple2
variable {G : GG} {d : Nat} {y : Mk} {pc : Nat} {ls st : List Value} {h : AH} {Q : AO → AH → Prop}
theorem x_iadd {a b : Int32} (hd : decode (mk_c y) pc = .ok (.iadd, 1))  (k : RA G d y (pc + 1) ls (.int (a + b) :: st) h Q) : RA G d y pc ls (.int b :: .int a :: st) h Q :=
  RA.step (fun _ _ _ _ _ _ _ _ _ _ _ _ _ _ _ hx hb hl k => lv_iadd hx hb hd k) k
theorem x_isub {a b : Int32} (hd : decode (mk_c y) pc = .ok (.isub, 1))  (k : RA G d y (pc + 1) ls (.int (a - b) :: st) h Q) : RA G d y pc ls (.int b :: .int a :: st) h Q :=
  RA.step (fun _ _ _ _ _ _ _ _ _ _ _ _ _ _ _ hx hb hl k => lv_isub hx hb hd k) k
theorem x_imul {a b : Int32} (hd : decode (mk_c y) pc = .ok (.imul, 1))  (k : RA G d y (pc + 1) ls (.int (a * b) :: st) h Q) : RA G d y pc ls (.int b :: .int a :: st) h Q :=
  RA.step (fun _ _ _ _ _ _ _ _ _ _ _ _ _ _ _ hx hb hl k => lv_imul hx hb hd k) k
theorem x_iand {a b : Int32} (hd : decode (mk_c y) pc = .ok (.iand, 1))  (k : RA G d y (pc + 1) ls (.int (a &&& b) :: st) h Q) : RA G d y pc ls (.int b :: .int a :: st) h Q :=
  RA.step (fun _ _ _ _ _ _ _ _ _ _ _ _ _ _ _ hx hb hl k => lv_iand hx hb hd k) k
theorem x_ior {a b : Int32} (hd : decode (mk_c y) pc = .ok (.ior, 1))  (k : RA G d y (pc + 1) ls (.int (a ||| b) :: st) h Q) : RA G d y pc ls (.int b :: .int a :: st) h Q :=
  RA.step (fun _ _ _ _ _ _ _ _ _ _ _ _ _ _ _ hx hb hl k => lv_ior hx hb hd k) k
theorem x_ixor {a b : Int32} (hd : decode (mk_c y) pc = .ok (.ixor, 1))  (k : RA G d y (pc + 1) ls (.int (a ^^^ b) :: st) h Q) : RA G d y pc ls (.int b :: .int a :: st) h Q :=
  RA.step (fun _ _ _ _ _ _ _ _ _ _ _ _ _ _ _ hx hb hl k => lv_ixor hx hb hd k) k
theorem x_ishl {a b : Int32} (hd : decode (mk_c y) pc = .ok (.ishl, 1))  (k : RA G d y (pc + 1) ls (.int (a <<< (b &&& 31)) :: st) h Q) : RA G d y pc ls (.int b :: .int a :: st) h Q :=
  RA.step (fun _ _ _ _ _ _ _ _ _ _ _ _ _ _ _ hx hb hl k => lv_ishl hx hb hd k) k
theorem x_ishr {a b : Int32} (hd : decode (mk_c y) pc = .ok (.ishr, 1))  (k : RA G d y (pc + 1) ls (.int (a >>> (b &&& 31)) :: st) h Q) : RA G d y pc ls (.int b :: .int a :: st) h Q :=
  RA.step (fun _ _ _ _ _ _ _ _ _ _ _ _ _ _ _ hx hb hl k => lv_ishr hx hb hd k) k
theorem x_idiv {a b : Int32} (hd : decode (mk_c y) pc = .ok (.idiv, 1)) (hne : ¬ b = 0) (k : RA G d y (pc + 1) ls (.int (a / b) :: st) h Q) : RA G d y pc ls (.int b :: .int a :: st) h Q :=
  RA.step (fun _ _ _ _ _ _ _ _ _ _ _ _ _ _ _ hx hb hl k => lv_idiv hx hb hd hne k) k
theorem x_irem {a b : Int32} (hd : decode (mk_c y) pc = .ok (.irem, 1)) (hne : ¬ b = 0) (k : RA G d y (pc + 1) ls (.int (a - a / b * b) :: st) h Q) : RA G d y pc ls (.int b :: .int a :: st) h Q :=
  RA.step (fun _ _ _ _ _ _ _ _ _ _ _ _ _ _ _ hx hb hl k => lv_irem hx hb hd hne k) k
theorem x_iushr {a b v : Int32} (hd : decode (mk_c y) pc = .ok (.iushr, 1)) (hv : (a.toUInt32 >>> (b.toUInt32 &&& Int32.toUInt32 31)).toInt32 = v) (k : RA G d y (pc + 1) ls (.int v :: st) h Q) : RA G d y pc ls (.int b :: .int a :: st) h Q :=
  RA.step (fun _ _ _ _ _ _ _ _ _ _ _ _ _ _ _ hx hb hl k => lv_iushr hx hb hd hv k) k
theorem x_ineg {a : Int32} (hd : decode (mk_c y) pc = .ok (.ineg, 1))  (k : RA G d y (pc + 1) ls (.int (-a) :: st) h Q) : RA G d y pc ls (.int a :: st) h Q :=
  RA.step (fun _ _ _ _ _ _ _ _ _ _ _ _ _ _ _ hx hb hl k => lv_ineg hx hb hd k) k
theorem x_ladd {a b : Int64} (hd : decode (mk_c y) pc = .ok (.ladd, 1))  (k : RA G d y (pc + 1) ls (.long (a + b) :: st) h Q) : RA G d y pc ls (.long b :: .long a :: st) h Q :=
  RA.step (fun _ _ _ _ _ _ _ _ _ _ _ _ _ _ _ hx hb hl k => lv_ladd hx hb hd k) k
theorem x_lmul {a b : Int64} (hd : decode (mk_c y) pc = .ok (.lmul, 1))  (k : RA G d y (pc + 1) ls (.long (a * b) :: st) h Q) : RA G d y pc ls (.long b :: .long a :: st) h Q :=
  RA.step (fun _ _ _ _ _ _ _ _ _ _ _ _ _ _ _ hx hb hl k => lv_lmul hx hb hd k) k
theorem x_lcmp {a b : Int64} (hd : decode (mk_c y) pc = .ok (.lcmp, 1))  (k : RA G d y (pc + 1) ls (.int (lg_cmp a b) :: st) h Q) : RA G d y pc ls (.long b :: .long a :: st) h Q :=
  RA.step (fun _ _ _ _ _ _ _ _ _ _ _ _ _ _ _ hx hb hl k => W.lcmp hx hb hd k) k
theorem x_i2l {a : Int32} (hd : decode (mk_c y) pc = .ok (.i2l, 1))  (k : RA G d y (pc + 1) ls (.long a.toInt64 :: st) h Q) : RA G d y pc ls (.int a :: st) h Q :=
  RA.step (fun _ _ _ _ _ _ _ _ _ _ _ _ _ _ _ hx hb hl k => lv_i2l hx hb hd rfl k) k
theorem x_l2i {a : Int64} (hd : decode (mk_c y) pc = .ok (.l2i, 1))  (k : RA G d y (pc + 1) ls (.int a.toInt32 :: st) h Q) : RA G d y pc ls (.long a :: st) h Q :=
  RA.step (fun _ _ _ _ _ _ _ _ _ _ _ _ _ _ _ hx hb hl k => lv_l2i hx hb hd rfl k) k
theorem x_i2b {a : Int32} (hd : decode (mk_c y) pc = .ok (.i2b, 1))  (k : RA G d y (pc + 1) ls (.int a.toInt8.toInt32 :: st) h Q) : RA G d y pc ls (.int a :: st) h Q :=
  RA.step (fun _ _ _ _ _ _ _ _ _ _ _ _ _ _ _ hx hb hl k => lv_i2b hx hb hd rfl k) k
theorem x_i2c {a : Int32} (hd : decode (mk_c y) pc = .ok (.i2c, 1))  (k : RA G d y (pc + 1) ls (.int (a.toUInt32 % 65536).toInt32 :: st) h Q) : RA G d y pc ls (.int a :: st) h Q :=
  RA.step (fun _ _ _ _ _ _ _ _ _ _ _ _ _ _ _ hx hb hl k => lv_i2c hx hb hd rfl k) k
/-- a value of one word, whatever it stands for -/
def cat1 (v : Value) : Bool := match v with
  | .int _ => true
  | .null => true
  | .ref _ => true
  | _ => false
theorem g_r_ref (hG : GOK G) (a : Nat) : g_r G a = .null ∨ ∃ ad, g_r G a = .ref ad := by
  by_cases ha : a < 100
  · rcases hG.old a ha with h | ⟨ad, h⟩
    · left; rw [g_r, if_pos ha]; exact h
    · right; exact ⟨ad, by rw [g_r, if_pos ha]; exact h⟩
  · right; exact ⟨_, by rw [g_r, if_neg ha]⟩
theorem cv_cat (hG : GOK G) {v : Value} (hv : cat1 v = true) : (cv G v).category = 1 := by
  cases v with
  | int x => rfl
  | null => rfl
  | ref a =>
    show (g_r G a).category = 1
    rcases g_r_ref hG a with h | ⟨ad, h⟩ <;> rw [h] <;> rfl
  | _ => cases hv
theorem RA.stepG {pc' : Nat} {st' : List Value} (f : ∀ (p : Program) (e : Env) (R : Room) (s : State) (m : MethodId) (args : Array Value) (below : List Frame) (meth : Method) (c : Code) (H : Heap) (locs : List Loc) (cells slots : Nat) (Q' : State → Prop) (lc : Array Slot), p.tables.exec = Jvm.exec → c.code = mk_c y → LocOK G (mk_l y) ls lc → GOK G →
      W p (g_l G) e R s m args below meth c H locs cells slots Q' (F0 m pc' lc (st'.map (cv G))) → W p (g_l G) e R s m args below meth c H locs cells slots Q' (F0 m pc lc (st.map (cv G))))
    (k : RA G d y pc' ls st' h Q) : RA G d y pc ls st h Q :=
  fun p e R s m args below meth c hs M hm H locs lc hR hL hl => f p e R s m args below meth c H locs _ _ _ lc M.1 M.2.1 hl M.2.2.2.2.2.2.2.2.1 (k p e R s m args below meth c hs M hm H locs lc hR hL hl)
theorem x_dup {v : Value} (hd : decode (mk_c y) pc = .ok (.dup, 1)) (hv : cat1 v = true) (k : RA G d y (pc + 1) ls (v :: v :: st) h Q) : RA G d y pc ls (v :: st) h Q :=
  RA.stepG (fun _ _ _ _ _ _ _ _ _ _ _ _ _ _ _ hx hb hl hG k => lv_dup hx hb hd (cv_cat hG hv) k) k
theorem x_pop {v : Value} (hd : decode (mk_c y) pc = .ok (.pop, 1)) (hv : cat1 v = true) (k : RA G d y (pc + 1) ls (st) h Q) : RA G d y pc ls (v :: st) h Q :=
  RA.stepG (fun _ _ _ _ _ _ _ _ _ _ _ _ _ _ _ hx hb hl hG k => lv_pop hx hb hd (cv_cat hG hv) k) k
theorem x_dup2 {v w : Value} (hd : decode (mk_c y) pc = .ok (.dup2, 1)) (hv : cat1 v = true) (hw : cat1 w = true) (k : RA G d y (pc + 1) ls (v :: w :: v :: w :: st) h Q) : RA G d y pc ls (v :: w :: st) h Q :=
  RA.stepG (fun _ _ _ _ _ _ _ _ _ _ _ _ _ _ _ hx hb hl hG k => lv_dup2_11 hx hb hd (cv_cat hG hv) (cv_cat hG hw) k) k
theorem x_dup_x1 {v w : Value} (hd : decode (mk_c y) pc = .ok (.dup_x1, 1)) (hv : cat1 v = true) (hw : cat1 w = true) (k : RA G d y (pc + 1) ls (v :: w :: v :: st) h Q) : RA G d y pc ls (v :: w :: st) h Q :=
  RA.stepG (fun _ _ _ _ _ _ _ _ _ _ _ _ _ _ _ hx hb hl hG k => lv_dup_x1 hx hb hd (cv_cat hG hv) (cv_cat hG hw) k) k
theorem x_null (hd : decode (mk_c y) pc = .ok (.aconst_null, 1)) (k : RA G d y (pc + 1) ls (.null :: st) h Q) : RA G d y pc ls st h Q :=
  RA.step (fun _ _ _ _ _ _ _ _ _ _ _ _ _ _ _ hx hb _ k => lv_null hx hb hd k) k
def isR (v : Value) : Bool := match v with
  | .null => true
  | .ref _ => true
  | _ => false
theorem cv_R (hG : GOK G) {v : Value} (hv : isR v = true) : cv G v = .null ∨ ∃ ad, cv G v = .ref ad := by
  cases v with
  | null => exact Or.inl rfl
  | ref a => exact g_r_ref hG a
  | _ => cases hv
theorem isR_U0 {v : Value} (hv : isR v = true) : v ≠ U0 := by
  cases v <;> simp_all [isR]
theorem x_aload_n {i : Fin 4} {v : Value} (hd : decode (mk_c y) pc = .ok (.aload_n i, 1)) (hi : ls[(i : Nat)]? = some v) (k : RA G d y (pc + 1) ls (v :: st) h Q) (hv : isR v = true := by rfl) : RA G d y pc ls st h Q :=
  RA.stepG (fun _ _ _ _ _ _ _ _ _ _ _ _ _ _ _ hx hb hl hG k => by
    have h1 := hl.at hi (isR_U0 hv)
    rw [List.map_cons] at k
    rcases cv_R hG hv with e | ⟨ad, e⟩
    · rw [e] at h1 k
      exact lv_aload_nN hx hb hd rfl h1 k
    · rw [e] at h1 k
      exact lv_aload_n hx hb hd rfl h1 k) k
theorem x_aload {i : Nat} {v : Value} (hd : decode (mk_c y) pc = .ok (.aload i, 2)) (hi : ls[i]? = some v) (k : RA G d y (pc + 2) ls (v :: st) h Q) (hv : isR v = true := by rfl) : RA G d y pc ls st h Q :=
  RA.stepG (fun _ _ _ _ _ _ _ _ _ _ _ _ _ _ _ hx hb hl hG k => by
    have h1 := hl.at hi (isR_U0 hv)
    rw [List.map_cons] at k
    rcases cv_R hG hv with e | ⟨ad, e⟩
    · rw [e] at h1 k
      exact lv_aloadN hx hb hd h1 k
    · rw [e] at h1 k
      exact lv_aload hx hb hd h1 k) k
theorem RA.branch {C : Prop} {pc1 pc2 : Nat} {st' : List Value} (f : ∀ (p : Program) (e : Env) (R : Room) (s : State) (m : MethodId) (args : Array Value) (below : List Frame) (meth : Method) (c : Code) (H : Heap) (locs : List Loc) (cells slots : Nat) (Q' : State → Prop) (lc : Array Slot), p.tables.exec = Jvm.exec → c.code = mk_c y →
      (C → W p (g_l G) e R s m args below meth c H locs cells slots Q' (F0 m pc1 lc (st'.map (cv G)))) → (¬ C → W p (g_l G) e R s m args below meth c H locs cells slots Q' (F0 m pc2 lc (st'.map (cv G)))) → W p (g_l G) e R s m args below meth c H locs cells slots Q' (F0 m pc lc (st.map (cv G))))
    (k1 : C → RA G d y pc1 ls st' h Q) (k2 : ¬ C → RA G d y pc2 ls st' h Q) : RA G d y pc ls st h Q :=
  fun p e R s m args below meth c hs M hm H locs lc hR hL hl => f p e R s m args below meth c H locs _ _ _ lc M.1 M.2.1 (fun q => k1 q p e R s m args below meth c hs M hm H locs lc hR hL hl) (fun q => k2 q p e R s m args below meth c hs M hm H locs lc hR hL hl)
theorem x_if_eq {x : Int32} {off : Int} (tgt : Nat) (hd : decode (mk_c y) pc = .ok (.ifCond .eq off, 3)) (ht : (pc : Int) + off = (tgt : Int)) (k1 : x = 0 → RA G d y tgt ls st h Q) (k2 : ¬ x = 0 → RA G d y (pc + 3) ls st h Q) : RA G d y pc ls (.int x :: st) h Q :=
  RA.branch (fun _ _ _ _ _ _ _ _ _ _ _ _ _ _ _ hx hb a b => lv_if_eq hx hb hd ht a b) k1 k2
theorem x_if_ne {x : Int32} {off : Int} (tgt : Nat) (hd : decode (mk_c y) pc = .ok (.ifCond .ne off, 3)) (ht : (pc : Int) + off = (tgt : Int)) (k1 : ¬ x = 0 → RA G d y tgt ls st h Q) (k2 : x = 0 → RA G d y (pc + 3) ls st h Q) : RA G d y pc ls (.int x :: st) h Q :=
  RA.branch (C := x = 0) (fun _ _ _ _ _ _ _ _ _ _ _ _ _ _ _ hx hb a b => lv_if_ne hx hb hd ht b a) k2 k1
theorem x_if_lt {x : Int32} {off : Int} (tgt : Nat) (hd : decode (mk_c y) pc = .ok (.ifCond .lt off, 3)) (ht : (pc : Int) + off = (tgt : Int)) (k1 : x < 0 → RA G d y tgt ls st h Q) (k2 : ¬ x < 0 → RA G d y (pc + 3) ls st h Q) : RA G d y pc ls (.int x :: st) h Q :=
  RA.branch (fun _ _ _ _ _ _ _ _ _ _ _ _ _ _ _ hx hb a b => lv_if_lt hx hb hd ht a b) k1 k2
theorem x_if_ge {x : Int32} {off : Int} (tgt : Nat) (hd : decode (mk_c y) pc = .ok (.ifCond .ge off, 3)) (ht : (pc : Int) + off = (tgt : Int)) (k1 : 0 ≤ x → RA G d y tgt ls st h Q) (k2 : ¬ 0 ≤ x → RA G d y (pc + 3) ls st h Q) : RA G d y pc ls (.int x :: st) h Q :=
  RA.branch (fun _ _ _ _ _ _ _ _ _ _ _ _ _ _ _ hx hb a b => lv_if_ge hx hb hd ht a b) k1 k2
theorem x_if_gt {x : Int32} {off : Int} (tgt : Nat) (hd : decode (mk_c y) pc = .ok (.ifCond .gt off, 3)) (ht : (pc : Int) + off = (tgt : Int)) (k1 : 0 < x → RA G d y tgt ls st h Q) (k2 : ¬ 0 < x → RA G d y (pc + 3) ls st h Q) : RA G d y pc ls (.int x :: st) h Q :=
  RA.branch (fun _ _ _ _ _ _ _ _ _ _ _ _ _ _ _ hx hb a b => lv_if_gt hx hb hd ht a b) k1 k2
theorem x_if_le {x : Int32} {off : Int} (tgt : Nat) (hd : decode (mk_c y) pc = .ok (.ifCond .le off, 3)) (ht : (pc : Int) + off = (tgt : Int)) (k1 : x ≤ 0 → RA G d y tgt ls st h Q) (k2 : ¬ x ≤ 0 → RA G d y (pc + 3) ls st h Q) : RA G d y pc ls (.int x :: st) h Q :=
  RA.branch (fun _ _ _ _ _ _ _ _ _ _ _ _ _ _ _ hx hb a b => lv_if_le hx hb hd ht a b) k1 k2
theorem x_icmp_eq {x z : Int32} {off : Int} (tgt : Nat) (hd : decode (mk_c y) pc = .ok (.if_icmp .eq off, 3)) (ht : (pc : Int) + off = (tgt : Int)) (k1 : x = z → RA G d y tgt ls st h Q) (k2 : ¬ x = z → RA G d y (pc + 3) ls st h Q) : RA G d y pc ls (.int z :: .int x :: st) h Q :=
  RA.branch (fun _ _ _ _ _ _ _ _ _ _ _ _ _ _ _ hx hb a b => lv_icmp_eq hx hb hd ht a b) k1 k2
theorem x_icmp_ne {x z : Int32} {off : Int} (tgt : Nat) (hd : decode (mk_c y) pc = .ok (.if_icmp .ne off, 3)) (ht : (pc : Int) + off = (tgt : Int)) (k1 : ¬ x = z → RA G d y tgt ls st h Q) (k2 : x = z → RA G d y (pc + 3) ls st h Q) : RA G d y pc ls (.int z :: .int x :: st) h Q :=
  RA.branch (C := x = z) (fun _ _ _ _ _ _ _ _ _ _ _ _ _ _ _ hx hb a b => lv_icmp_ne hx hb hd ht b a) k2 k1
theorem x_icmp_lt {x z : Int32} {off : Int} (tgt : Nat) (hd : decode (mk_c y) pc = .ok (.if_icmp .lt off, 3)) (ht : (pc : Int) + off = (tgt : Int)) (k1 : x < z → RA G d y tgt ls st h Q) (k2 : ¬ x < z → RA G d y (pc + 3) ls st h Q) : RA G d y pc ls (.int z :: .int x :: st) h Q :=
  RA.branch (fun _ _ _ _ _ _ _ _ _ _ _ _ _ _ _ hx hb a b => lv_icmp_lt hx hb hd ht a b) k1 k2
theorem x_icmp_ge {x z : Int32} {off : Int} (tgt : Nat) (hd : decode (mk_c y) pc = .ok (.if_icmp .ge off, 3)) (ht : (pc : Int) + off = (tgt : Int)) (k1 : z ≤ x → RA G d y tgt ls st h Q) (k2 : ¬ z ≤ x → RA G d y (pc + 3) ls st h Q) : RA G d y pc ls (.int z :: .int x :: st) h Q :=
  RA.branch (fun _ _ _ _ _ _ _ _ _ _ _ _ _ _ _ hx hb a b => lv_icmp_ge hx hb hd ht a b) k1 k2
theorem x_icmp_gt {x z : Int32} {off : Int} (tgt : Nat) (hd : decode (mk_c y) pc = .ok (.if_icmp .gt off, 3)) (ht : (pc : Int) + off = (tgt : Int)) (k1 : z < x → RA G d y tgt ls st h Q) (k2 : ¬ z < x → RA G d y (pc + 3) ls st h Q) : RA G d y pc ls (.int z :: .int x :: st) h Q :=
  RA.branch (fun _ _ _ _ _ _ _ _ _ _ _ _ _ _ _ hx hb a b => lv_icmp_gt hx hb hd ht a b) k1 k2
theorem x_icmp_le {x z : Int32} {off : Int} (tgt : Nat) (hd : decode (mk_c y) pc = .ok (.if_icmp .le off, 3)) (ht : (pc : Int) + off = (tgt : Int)) (k1 : x ≤ z → RA G d y tgt ls st h Q) (k2 : ¬ x ≤ z → RA G d y (pc + 3) ls st h Q) : RA G d y pc ls (.int z :: .int x :: st) h Q :=
  RA.branch (fun _ _ _ _ _ _ _ _ _ _ _ _ _ _ _ hx hb a b => lv_icmp_le hx hb hd ht a b) k1 k2
theorem x_goto {off : Int} (tgt : Nat) (hd : decode (mk_c y) pc = .ok (.goto off, 3)) (ht : (pc : Int) + off = (tgt : Int)) (k : RA G d y tgt ls st h Q) : RA G d y pc ls st h Q :=
  RA.step (fun _ _ _ _ _ _ _ _ _ _ _ _ _ _ _ hx hb _ k => lv_goto hx hb hd ht k) k
theorem x_ifnonnull {off : Int} {a : Nat} (tgt : Nat) (hd : decode (mk_c y) pc = .ok (.ifnonnull off, 3)) (ht : (pc : Int) + off = (tgt : Int)) (ha : 100 ≤ a) (k : RA G d y tgt ls st h Q) : RA G d y pc ls (.ref a :: st) h Q :=
  RA.step (fun _ _ _ _ _ _ _ _ _ _ _ _ _ _ _ hx hb _ k => by
    rw [List.map_cons, cv_new ha]
    exact lv_ifnonnull hx hb hd ht k) k
theorem x_ifnonnullN {off : Int} (hd : decode (mk_c y) pc = .ok (.ifnonnull off, 3)) (k : RA G d y (pc + 3) ls st h Q) : RA G d y pc ls (.null :: st) h Q :=
  RA.step (fun _ _ _ _ _ _ _ _ _ _ _ _ _ _ _ hx hb _ k => lv_ifnonnullN hx hb hd k) k
theorem x_ifnull {off : Int} {a : Nat} (hd : decode (mk_c y) pc = .ok (.ifnull off, 3)) (ha : 100 ≤ a) (k : RA G d y (pc + 3) ls st h Q) : RA G d y pc ls (.ref a :: st) h Q :=
  RA.step (fun _ _ _ _ _ _ _ _ _ _ _ _ _ _ _ hx hb _ k => by
    rw [List.map_cons, cv_new ha]
    exact lv_ifnull hx hb hd k) k
theorem x_ifnullN {off : Int} (tgt : Nat) (hd : decode (mk_c y) pc = .ok (.ifnull off, 3)) (ht : (pc : Int) + off = (tgt : Int)) (k : RA G d y tgt ls st h Q) : RA G d y pc ls (.null :: st) h Q :=
  RA.step (fun _ _ _ _ _ _ _ _ _ _ _ _ _ _ _ hx hb _ k => lv_ifnullN hx hb hd ht k) k
theorem x_lookup {dflt : Int} {ps : Array (Int × Int)} {len : Nat} {x : Int32} {off : Int} (tgt : Nat) (hd : decode (mk_c y) pc = .ok (.lookupswitch dflt ps, len)) (hp : (ps.toList.zip (ps.toList.drop 1)).all (fun (a, next) => a.1 < next.1) = true) (ho : Op.lookupswitch.offset ps.toList dflt x.toInt = off) (ht : (pc : Int) + off = (tgt : Int)) (k : RA G d y tgt ls st h Q) : RA G d y pc ls (.int x :: st) h Q :=
  RA.step (fun _ _ _ _ _ _ _ _ _ _ _ _ _ _ _ hx hb _ k => lv_lookup hx hb hd hp ho ht k) k
theorem x_tableOut {dflt lo hi : Int} {offs : Array Int} {len : Nat} {x : Int32} (tgt : Nat) (hd : decode (mk_c y) pc = .ok (.tableswitch dflt lo hi offs, len)) (hh : x.toInt < lo ∨ hi < x.toInt) (ht : (pc : Int) + dflt = (tgt : Int)) (k : RA G d y tgt ls st h Q) : RA G d y pc ls (.int x :: st) h Q :=
  RA.step (fun _ _ _ _ _ _ _ _ _ _ _ _ _ _ _ hx hb _ k => lv_tableOut hx hb hd hh ht k) k
theorem x_tableIn {dflt lo hi : Int} {offs : Array Int} {len : Nat} {x : Int32} {off : Int} (tgt : Nat) (hd : decode (mk_c y) pc = .ok (.tableswitch dflt lo hi offs, len)) (h1 : ¬ x.toInt < lo) (h2 : ¬ hi < x.toInt) (ho : offs[(x.toInt - lo).toNat]? = some off) (ht : (pc : Int) + off = (tgt : Int)) (k : RA G d y tgt ls st h Q) : RA G d y pc ls (.int x :: st) h Q :=
  RA.step (fun _ _ _ _ _ _ _ _ _ _ _ _ _ _ _ hx hb _ k => lv_tableIn hx hb hd h1 h2 ho ht k) k
/-- two references told apart: at least one of them is new -/
theorem x_acmp_ne {off : Int} {a b : Nat} (tgt : Nat) (hd : decode (mk_c y) pc = .ok (.if_acmp .ne off, 3)) (ht : (pc : Int) + off = (tgt : Int)) (hab : 100 ≤ a ∨ 100 ≤ b) {ta tb : Nat × Nat} (hta : a_t h a = some ta) (htb : a_t h b = some tb) (k1 : ¬ a = b → RA G d y tgt ls st h Q) (k2 : a = b → RA G d y (pc + 3) ls st h Q) : RA G d y pc ls (.ref b :: .ref a :: st) h Q :=
  fun p e R s m args below meth c hs M hm H locs lc hR hL hl => by
    have hG := M.2.2.2.2.2.2.2.2.1
    have key : ∀ q, g_r G q = va_rf (match g_r G q with | .ref x => some x | _ => none) := by
      intro q
      rcases g_r_ref hG q with e | ⟨ad, e⟩ <;> rw [e] <;> rfl
    have inj : g_r G a = g_r G b → a = b := by
      intro e
      by_cases ha : a < 100
      · have hb : ¬ b < 100 := by omega
        rw [g_r, if_pos ha, g_r, if_neg hb] at e
        rcases hG.old a ha with q | ⟨ad, q2⟩
        · rw [q] at e; cases e
        · have q1 : ad < g_z G := (hR.2.2.2 a ta hta).1.2 ad ha (by rw [g_r, if_pos ha]; exact q2)
          rw [q2] at e
          have : ad = g_z G + (b - 100) := Value.ref.inj e
          omega
      · by_cases hb : b < 100
        · rw [g_r, if_neg ha, g_r, if_pos hb] at e
          rcases hG.old b hb with q | ⟨ad, q2⟩
          · rw [q] at e; cases e
          · have q1 : ad < g_z G := (hR.2.2.2 b tb htb).1.2 ad hb (by rw [g_r, if_pos hb]; exact q2)
            rw [q2] at e
            have : g_z G + (a - 100) = ad := Value.ref.inj e
            omega
        · rw [g_r, if_neg ha, g_r, if_neg hb] at e
          have : g_z G + (a - 100) = g_z G + (b - 100) := Value.ref.inj e
          omega
    show W p (g_l G) e R s m args below meth c H locs _ _ _ (F0 m pc lc (g_r G b :: g_r G a :: st.map (cv G)))
    rw [key a, key b]
    refine lv_acmp_ne M.1 M.2.1 hd ht (fun q => k1 (fun q2 => q (by rw [q2])) p e R s m args below meth c hs M hm H locs lc hR hL hl) (fun q => k2 (inj ?_) p e R s m args below meth c hs M hm H locs lc hR hL hl)
    rw [key a, key b, q]
def lcat (ls : List Value) (i : Nat) : Bool := match i with
  | 0 => true
  | i + 1 => match ls[i]? with
    | some (.long _) => false
    | some (.double _) => false
    | _ => true
/-- all the locals that are known, as a list -/
def locl (G : GG) (ls : List Value) : List (Nat × Value) := (List.range ls.length).filterMap (fun j => match ls[j]? with
  | some v => if v = U0 then none else some (j, cv G v)
  | none => none)
theorem locl_has {n : Nat} {lc : Array Slot} (hl : LocOK G n ls lc) : lv_has lc n (locl G ls) := by
  refine ⟨hl.2.1, hl.2.2.1, fun q hq => ?_⟩
  obtain ⟨j, -, hj⟩ := List.mem_filterMap.mp hq
  cases hv : ls[j]? with
  | none => rw [hv] at hj; cases hj
  | some v =>
    rw [hv] at hj
    by_cases h0 : v = U0
    · simp [h0] at hj
    · simp only [h0, if_false] at hj
      cases hj
      exact hl.2.2.2 j v hv h0
theorem locl_mem {j : Nat} {v : Value} (hj : ls[j]? = some v) (hv : v ≠ U0) : (j, cv G v) ∈ locl G ls := by
  refine List.mem_filterMap.mpr ⟨j, List.mem_range.mpr (List.getElem?_eq_some_iff.mp hj).1, ?_⟩
  rw [hj]
  simp [hv]
theorem LocOK.store {n i : Nat} {lc lc' : Array Slot} {v : Value} (hG : GOK G) (hl : LocOK G n ls lc) (hi : i < n) (hc : lcat ls i = true)
    (h' : lv_has lc' n ((i, cv G v) :: (locl G ls).filter (fun q => !(q.1 == i) && !(q.1 + 1 == i && q.2.category == 2)))) : LocOK G n (ls.set i v) lc' := by
  refine ⟨by rw [List.length_set]; exact hl.1, h'.1, h'.2.1, fun j w hj hw => ?_⟩
  by_cases hij : i = j
  · subst hij
    rw [List.getElem?_set_self (by rw [hl.1]; exact hi)] at hj
    cases hj
    exact h'.2.2 _ List.mem_cons_self
  · rw [List.getElem?_set_ne hij] at hj
    refine h'.2.2 (j, cv G w) (List.mem_cons_of_mem _ (List.mem_filter.mpr ⟨locl_mem hj hw, ?_⟩))
    simp only [Bool.and_eq_true, Bool.not_eq_true', beq_eq_false_iff_ne, ne_eq, Bool.and_eq_false_iff]
    refine ⟨fun q => hij q.symm, ?_⟩
    by_cases hj1 : j + 1 = i
    · right
      subst hj1
      simp only [lcat, hj] at hc
      cases w with
      | long x => cases hc
      | double x => cases hc
      | ref a =>
        show ¬ (g_r G a).category = 2
        rcases g_r_ref hG a with e | ⟨ad, e⟩ <;> rw [e] <;> simp [Value.category]
      | _ => simp [cv, Value.category]
    · left; exact hj1
theorem RA.store {i pc' : Nat} {v : Value} (hi : i < ls.length) (hc : lcat ls i = true) (f : ∀ (p : Program) (e : Env) (R : Room) (s : State) (m : MethodId) (args : Array Value) (below : List Frame) (meth : Method) (c : Code) (H : Heap) (locs : List Loc) (cells slots : Nat) (Q' : State → Prop) (lc : Array Slot), p.tables.exec = Jvm.exec → c.code = mk_c y → GOK G → i < mk_l y → LocOK G (mk_l y) ls lc →
      (∀ lc' : Array Slot, lv_has lc' (mk_l y) ((i, cv G v) :: (locl G ls).filter (fun q => !(q.1 == i) && !(q.1 + 1 == i && q.2.category == 2))) → W p (g_l G) e R s m args below meth c H locs cells slots Q' (F0 m pc' lc' (st.map (cv G)))) → W p (g_l G) e R s m args below meth c H locs cells slots Q' (F0 m pc lc ((v :: st).map (cv G))))
    (k : RA G d y pc' (ls.set i v) st h Q) : RA G d y pc ls (v :: st) h Q :=
  fun p e R s m args below meth c hs M hm H locs lc hR hL hl => by
    have hi' : i < mk_l y := by rw [← hl.1]; exact hi
    exact f p e R s m args below meth c H locs _ _ _ lc M.1 M.2.1 M.2.2.2.2.2.2.2.2.1 hi' hl (fun lc' h' => k p e R s m args below meth c hs M hm H locs lc' hR hL (hl.store M.2.2.2.2.2.2.2.2.1 hi' hc h'))
theorem x_istore_n {i : Fin 4} {x : Int32} (hd : decode (mk_c y) pc = .ok (.istore_n i, 1)) (k : RA G d y (pc + 1) (ls.set i (.int x)) st h Q) (hi : (i : Nat) < ls.length := by exact Nat.le_of_ble_eq_true rfl) (hc : lcat ls i = true := by rfl) : RA G d y pc ls (.int x :: st) h Q :=
  RA.store hi hc (fun _ _ _ _ _ _ _ _ _ _ _ _ _ _ _ hx hb _ hi hl k => lv_istore_n hx hb hd rfl (locl_has hl) hi rfl k) k
theorem x_istore {i : Nat} {x : Int32} (hd : decode (mk_c y) pc = .ok (.istore i, 2)) (k : RA G d y (pc + 2) (ls.set i (.int x)) st h Q) (hi : i < ls.length := by exact Nat.le_of_ble_eq_true rfl) (hc : lcat ls i = true := by rfl) : RA G d y pc ls (.int x :: st) h Q :=
  RA.store hi hc (fun _ _ _ _ _ _ _ _ _ _ _ _ _ _ _ hx hb _ hi hl k => lv_istore hx hb hd (locl_has hl) hi rfl k) k
theorem x_astore_n {i : Fin 4} {v : Value} (hd : decode (mk_c y) pc = .ok (.astore_n i, 1)) (k : RA G d y (pc + 1) (ls.set i v) st h Q) (hi : (i : Nat) < ls.length := by exact Nat.le_of_ble_eq_true rfl) (hc : lcat ls i = true := by rfl) (hv : isR v = true := by rfl) : RA G d y pc ls (v :: st) h Q :=
  RA.store hi hc (fun _ _ _ _ _ _ _ _ _ _ _ _ _ _ _ hx hb hG hi hl k => by
    rw [List.map_cons]
    rcases cv_R hG hv with e | ⟨ad, e⟩
    · rw [e] at k ⊢
      exact lv_astore_nN hx hb hd rfl (locl_has hl) hi rfl k
    · rw [e] at k ⊢
      exact lv_astore_n hx hb hd rfl (locl_has hl) hi rfl k) k
theorem x_astore {i : Nat} {v : Value} (hd : decode (mk_c y) pc = .ok (.astore i, 2)) (k : RA G d y (pc + 2) (ls.set i v) st h Q) (hi : i < ls.length := by exact Nat.le_of_ble_eq_true rfl) (hc : lcat ls i = true := by rfl) (hv : isR v = true := by rfl) : RA G d y pc ls (v :: st) h Q :=
  RA.store hi hc (fun _ _ _ _ _ _ _ _ _ _ _ _ _ _ _ hx hb hG hi hl k => by
    rw [List.map_cons]
    rcases cv_R hG hv with e | ⟨ad, e⟩
    · rw [e] at k ⊢
      exact lv_astoreN hx hb hd (locl_has hl) hi rfl k
    · rw [e] at k ⊢
      exact lv_astore hx hb hd (locl_has hl) hi rfl k) k
theorem x_iinc {i : Nat} {n : Int} {x v : Int32} (hd : decode (mk_c y) pc = .ok (.iinc i n, 3)) (hx0 : ls[i]? = some (.int x)) (hv : x + Int32.ofInt n = v) (k : RA G d y (pc + 3) (ls.set i (.int v)) st h Q) (hc : lcat ls i = true := by rfl) : RA G d y pc ls st h Q :=
  fun p e R s m args below meth c hs M hm H locs lc hR hL hl => by
    have hi : i < mk_l y := by rw [← hl.1]; exact (List.getElem?_eq_some_iff.mp hx0).1
    obtain ⟨k0, hk0⟩ := List.getElem?_of_mem (locl_mem (G := G) hx0 (by simp))
    exact lv_iinc M.1 M.2.1 hd (locl_has hl) hk0 hv hi rfl (fun lc' h' => k p e R s m args below meth c hs M hm H locs lc' hR hL (hl.store (v := .int v) M.2.2.2.2.2.2.2.2.1 hi hc h'))
theorem x_lstore_n {i : Fin 4} {x : Int64} (hd : decode (mk_c y) pc = .ok (.lstore_n i, 1)) (k : RA G d y (pc + 1) ((ls.set i (.long x)).set (i + 1) U0) st h Q) (hi : (i : Nat) + 1 < ls.length := by exact Nat.le_of_ble_eq_true rfl) (hc : lcat ls i = true := by rfl) : RA G d y pc ls (.long x :: st) h Q :=
  fun p e R s m args below meth c hs M hm H locs lc hR hL hl => by
    have hi' : (i : Nat) + 1 < mk_l y := by rw [← hl.1]; exact hi
    refine lv_lstore_n M.1 M.2.1 hd rfl (locl_has hl) hi' rfl (fun lc' h' => k p e R s m args below meth c hs M hm H locs lc' hR hL ⟨by rw [List.length_set, List.length_set]; exact hl.1, h'.1, h'.2.1, fun j w hj hw => ?_⟩)
    by_cases h1 : (i : Nat) + 1 = j
    · subst h1
      rw [List.getElem?_set_self (by rw [List.length_set]; exact hi)] at hj
      cases hj
      exact absurd rfl hw
    · rw [List.getElem?_set_ne h1] at hj
      by_cases hij : (i : Nat) = j
      · subst hij
        rw [List.getElem?_set_self (by omega)] at hj
        cases hj
        exact h'.2.2 _ List.mem_cons_self
      · rw [List.getElem?_set_ne hij] at hj
        refine h'.2.2 (j, cv G w) (List.mem_cons_of_mem _ (List.mem_filter.mpr ⟨locl_mem hj hw, ?_⟩))
        simp only [Bool.and_eq_true, Bool.not_eq_true', beq_eq_false_iff_ne, ne_eq, Bool.and_eq_false_iff]
        refine ⟨fun q => hij q.symm, fun q => h1 q.symm, ?_⟩
        by_cases hj1 : j + 1 = (i : Nat)
        · right
          have hc' : lcat ls (j + 1) = true := by rw [hj1]; exact hc
          simp only [lcat, hj] at hc'
          cases w with
          | long x => cases hc'
          | double x => cases hc'
          | ref a =>
            show ¬ (g_r G a).category = 2
            rcases g_r_ref M.2.2.2.2.2.2.2.2.1 a with e | ⟨ad, e⟩ <;> rw [e] <;> simp [Value.category]
          | _ => simp [cv, Value.category]
        · left; exact hj1
/-- another face of the top of the stack -/
theorem x_top {v w : Value} (e : v = w) (k : RA G d y pc ls (w :: st) h Q) : RA G d y pc ls (v :: st) h Q := by rw [e]; exact k
theorem RA.mono {Q' : AO → AH → Prop} (k : RA G d y pc ls st h Q') (hq : ∀ o h', Q' o h' → Q o h') : RA G d y pc ls st h Q :=
  fun p e R s m args below meth c hs M hm H locs lc hR hL hl T hT X => by
    obtain ⟨t, a, o, h', q, r⟩ := k p e R s m args below meth c hs M hm H locs lc hR hL hl T hT X
    exact ⟨t, a, o, h', hq o h' q, r⟩
end Simple2
