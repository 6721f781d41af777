/-! ===== the abstract heap and the judgement RA ===== -/
abbrev U0 : Value := .retAddr 0
/-- types, ints, longs, references, next address, slots made -/
abbrev AH : Type := (Nat → Option (Nat × Nat)) × (Nat → Nat → Int32) × (Nat → Nat → Int64) × (Nat → Nat → Value) × Nat × Nat
abbrev a_t (h : AH) : Nat → Option (Nat × Nat) := h.1
abbrev a_I (h : AH) : Nat → Nat → Int32 := h.2.1
abbrev a_J (h : AH) : Nat → Nat → Int64 := h.2.2.1
abbrev a_P (h : AH) : Nat → Nat → Value := h.2.2.2.1
abbrev a_n (h : AH) : Nat := h.2.2.2.2.1
abbrev a_s (h : AH) : Nat := h.2.2.2.2.2
/-- launch, the law's entry state and arguments, addresses of old objects, class numbers by tag, field slots by tag -/
abbrev GG : Type := Launch × State × Array Value × (Nat → Value) × (Nat → ClassId) × (Nat → Nat → Nat)
abbrev g_l (G : GG) : Launch := G.1
abbrev g_s (G : GG) : State := G.2.1
abbrev g_a (G : GG) : Array Value := G.2.2.1
abbrev g_o (G : GG) : Nat → Value := G.2.2.2.1
abbrev g_C (G : GG) : Nat → ClassId := G.2.2.2.2.1
abbrev g_i (G : GG) : Nat → Nat → Nat := G.2.2.2.2.2
def g_z (G : GG) : Nat := (g_s G).heap.size
/-- where an abstract address lies -/
def g_r (G : GG) (a : Nat) : Value := if a < 100 then g_o G a else .ref (g_z G + (a - 100))
def cv (G : GG) : Value → Value
  | .ref a => g_r G a
  | v => v
theorem cv_int {G : GG} (x : Int32) : cv G (.int x) = .int x := rfl
theorem cv_long {G : GG} (x : Int64) : cv G (.long x) = .long x := rfl
theorem cv_null {G : GG} : cv G .null = .null := rfl
theorem cv_new {G : GG} {a : Nat} (h : 100 ≤ a) : cv G (.ref a) = .ref (g_z G + (a - 100)) := by
  show g_r G a = _
  rw [g_r, if_neg (by omega)]
/-- the kind of a slot: 0 int and the like, 1 long, 2 reference -/
def kd : FieldType → Nat
  | .long => 1
  | .object _ => 2
  | .array _ => 2
  | _ => 0
def a_v (G : GG) (h : AH) (a : Nat) (k : Nat) (i : Nat) : Value := match k with
  | 0 => .int (a_I h a i)
  | 1 => .long (a_J h a i)
  | _ => cv G (a_P h a i)
/-- arrays' element types, by tag - 100 -/
def a_ety (n : Nat) : FieldType := match n with
  | 0 => .int
  | 1 => .byte
  | 2 => .char
  | 3 => .boolean
  | 4 => .long
  | 5 => .object "RightsHouse$Part"
  | _ => .object "RightsHouse$Line"
def CellOK (G : GG) (h : AH) (a : Nat) (tg : Nat × Nat) (cell : Cell) : Prop :=
  ((cell.vm = .none ∨ a < 100) ∧ cell.vm ≠ .unknown ∧ cell.vm.isStatics = false) ∧ (cell.cls = g_C G tg.1 ∨ (a < 100 ∧ 100 ≤ tg.1 ∧ ∃ k, (g_s G).vm.classes[cell.cls]? = some k ∧ ∃ comp, k.kind = .array comp (a_ety (tg.1 - 100)))) ∧
  if tg.1 < 100 then ∃ q, clsT[tg.1]? = some q ∧ ∀ k, k < q.2.2.1 → cell.slots[g_i G tg.1 k]? = some (a_v G h a (kd (q.2.2.2 k)) k)
  else tg.1 < 107 ∧ (tg.2 ≤ cell.slots.size ∧ Int32.ofNat cell.slots.size = Int32.ofNat tg.2 ∧ (cell.slots.size = tg.2 ∨ a < 100)) ∧ ∀ j, j < tg.2 → cell.slots[j]? = some (a_v G h a (kd (a_ety (tg.1 - 100))) j)
theorem vm3 {v : VmData} {P : Prop} (h : v = .none) : (v = .none ∨ P) ∧ v ≠ .unknown ∧ v.isStatics = false := by
  subst h
  exact ⟨Or.inl rfl, (fun z => by cases z), rfl⟩
theorem sz3 {x n : Nat} {P : Prop} (h : x = n) : n ≤ x ∧ Int32.ofNat x = Int32.ofNat n ∧ (x = n ∨ P) := by
  subst h
  exact ⟨Nat.le_refl _, rfl, Or.inl rfl⟩
def RepH (G : GG) (h : AH) (H : Heap) : Prop :=
  100 ≤ a_n h ∧ H.size = g_z G + (a_n h - 100) ∧ (∀ q, q < g_z G → H[q]? = (g_s G).heap[q]?) ∧
  ∀ a tg, a_t h a = some tg → (a < a_n h ∧ ∀ x : Nat, a < 100 → g_r G a = .ref x → x < g_z G) ∧ ∃ (ad : Nat) (cell : Cell), g_r G a = .ref ad ∧ H[ad]? = some cell ∧ CellOK G h a tg cell

/-- String constants: class, entry, text, abstract address (their byte arrays: 30 more) -/
def strTbl : List (String × Nat × String × Nat) := [("java/lang/String", 7, "", 1), ("RightsHouse$Reader", 59, "", 2), ("RightsHouse$Reader", 96, "get", 3), ("RightsHouse$Reader", 98, "let", 4), ("RightsHouse$Reader", 100, "ask", 5), ("RightsHouse$Reader", 102, "put", 6), ("RightsHouse$Reader", 104, "wash", 7), ("RightsHouse$Reader", 106, "result", 8), ("RightsHouse$Reader", 121, "to", 9), ("RightsHouse$Reader", 160, "from", 10), ("RightsHouse$Reader", 138, "with", 11), ("RightsHouse$Reader", 145, "by", 12), ("RightsHouse$Reader", 150, "of", 13), ("RightsHouseModel", 177, "get", 14), ("RightsHouseModel", 179, "let", 15), ("RightsHouseModel", 181, "ask", 16), ("RightsHouseModel", 183, "put", 17), ("RightsHouseModel", 185, "wash", 18), ("RightsHouseModel", 187, "result", 19), ("RightsHouseModel", 199, "to", 20), ("RightsHouseModel", 208, "from", 21), ("RightsHouseModel", 213, "with", 22), ("RightsHouseModel", 215, "by", 23), ("RightsHouseModel", 217, "of", 24)]
/-- statics: class, name, descriptor, value -/
def stTbl : List (String × String × String × Value) := [("java/lang/Throwable", "UNASSIGNED_STACK", "[Ljava/lang/StackTraceElement;", .ref 60), ("java/lang/Throwable", "SUPPRESSED_SENTINEL", "Ljava/util/List;", .ref 61), ("jdk/internal/util/Preconditions", "SIOOBE_FORMATTER", "Ljava/util/function/BiFunction;", .ref 62), ("java/lang/String", "COMPACT_STRINGS", "Z", .int 1), ("java/lang/StringUTF16", "$assertionsDisabled", "Z", .int 1)]
/-- what is known of the run's start: the tables' words, the classes by tag, arrays by tag, old objects, String constants, statics -/
def GOK (G : GG) : Prop :=
  (∀ w ∈ lw_tbl, w.before (g_a G) (g_s G) = true) ∧
  (∀ (c : Nat) (q : String × u_T × Nat × (Nat → FieldType)), clsT[c]? = some q → 0 < q.2.2.1 → u_Kn (g_s G) q.1 q.2.1 q.2.2.1 (g_C G c) (g_i G c)) ∧
  (∀ c, c < 7 → ArrOfT (g_s G) (g_C G (100 + c)) (a_ety c) ∧ va_RA (g_s G) (g_C G (100 + c)) (a_ety c)) ∧
  (∀ a, a < 100 → g_o G a = .null ∨ ∃ ad : Nat, g_o G a = .ref ad) ∧
  (∀ e ∈ strTbl, e.2.2.2 < 100 ∧ ∃ ad, g_o G e.2.2.2 = .ref ad ∧ vk_R e.1 e.2.1 e.2.2.1 ad (g_s G)) ∧
  (∀ e ∈ stTbl, va_Z e.1 e.2.1 e.2.2.1 (cv G e.2.2.2) (fun _ => False) (g_s G) (g_s G).heap)
theorem GOK.old {G : GG} (h : GOK G) : ∀ a, a < 100 → g_o G a = .null ∨ ∃ ad : Nat, g_o G a = .ref ad := h.2.2.2.1
/-- the outcome: returned (a value or none), or threw (an abstract address) -/
abbrev AO : Type := Option Value ⊕ Nat
def cO (G : GG) : AO → Outcome
  | .inl v => .returned (v.map (cv G))
  | .inr a => .threw (g_z G + (a - 100))
def EndQ (G : GG) (below : List Frame) (s : State) (hs : AH) (Q : AO → AH → Prop) : State → Prop := fun t =>
  ∃ o h', Q o h' ∧ t.status = .running ∧ Ended t below (cO G o) ∧ RepH G h' t.heap ∧ (a_n hs ≤ a_n h' ∧ a_s hs ≤ a_s h') ∧
    ∃ L, s.WarmedH t.vm ∧ s.sameButNew ({ t with vm := s.vm } : State) L (a_n h' - a_n hs) (a_s h' - a_s hs) ∧ ∀ q ∈ L, g_z G ≤ q.base
def RoomOK (R : Room) (d : Nat) (hs : AH) : Prop := d ≤ R.frames ∧ 64 * d ≤ R.locals ∧ 601024 - (a_n hs - 100) ≤ R.cells ∧ 7293033 - a_s hs ≤ R.slots ∧ 100 ≤ a_n hs
def MC (G : GG) (d : Nat) (y : Mk) (hs : AH) (p : Program) (e : Env) (R : Room) (s : State) (m : MethodId) (args : Array Value) (below : List Frame) (meth : Method) (c : Code) : Prop :=
  p.tables.exec = Jvm.exec ∧ c.code = mk_c y ∧ c.maxLocals = mk_l y ∧ meth.sig.returnType = mk_r y ∧ meth.locks = false ∧
  s.vm.findClass (mk_n y).cls = some m.cls ∧ meth.name = (mk_n y).name ∧ (g_s G).WarmedH s.vm ∧ GOK G ∧ RoomOK R d hs ∧
  c.exceptionTable.toList.map (fun h => (h.startPc, h.endPc, h.handlerPc, h.catchType)) = mk_h y
def LocOK (G : GG) (n : Nat) (ls : List Value) (lc : Array Slot) : Prop :=
  ls.length = n ∧ lc.size = n ∧ lv_wf lc ∧ ∀ (i : Nat) (v : Value), ls[i]? = some v → v ≠ U0 → lc[i]? = some (.val (cv G v))
/-- method y at pc, with these locals and stack and this abstract heap, comes to an end with Q -/
def RA (G : GG) (d : Nat) (y : Mk) (pc : Nat) (ls st : List Value) (h : AH) (Q : AO → AH → Prop) : Prop :=
  ∀ (p : Program) (e : Env) (R : Room) (s : State) (m : MethodId) (args : Array Value) (below : List Frame) (meth : Method) (c : Code) (hs : AH),
    MC G d y hs p e R s m args below meth c → a_n hs ≤ a_n h ∧ a_s hs ≤ a_s h → ∀ (H : Heap) (locs : List Loc) (lc : Array Slot), RepH G h H → (∀ q ∈ locs, g_z G ≤ q.base) → LocOK G (mk_l y) ls lc →
      W p (g_l G) e R s m args below meth c H locs (a_n h - a_n hs) (a_s h - a_s hs) (EndQ G below s hs Q) (F0 m pc lc (st.map (cv G)))
section Simple
variable {G : GG} {d : Nat} {y : Mk} {pc : Nat} {ls st : List Value} {h : AH} {Q : AO → AH → Prop}
theorem RA.step {pc' : Nat} {st' : List Value} (f : ∀ (p : Program) (e : Env) (R : Room) (s : State) (m : MethodId) (args : Array Value) (below : List Frame) (meth : Method) (c : Code) (H : Heap) (locs : List Loc) (cells slots : Nat) (Q' : State → Prop) (lc : Array Slot), p.tables.exec = Jvm.exec → c.code = mk_c y → LocOK G (mk_l y) ls lc →
      W p (g_l G) e R s m args below meth c H locs cells slots Q' (F0 m pc' lc (st'.map (cv G))) → W p (g_l G) e R s m args below meth c H locs cells slots Q' (F0 m pc lc (st.map (cv G))))
    (k : RA G d y pc' ls st' h Q) : RA G d y pc ls st h Q :=
  fun p e R s m args below meth c hs M hm H locs lc hR hL hl => f p e R s m args below meth c H locs _ _ _ lc M.1 M.2.1 hl (k p e R s m args below meth c hs M hm H locs lc hR hL hl)
theorem x_iconst {n : Int} {v : Int32} (hd : decode (mk_c y) pc = .ok (.iconst n, 1)) (hv : Int32.ofInt n = v) (k : RA G d y (pc + 1) ls (.int v :: st) h Q) : RA G d y pc ls st h Q :=
  RA.step (fun _ _ _ _ _ _ _ _ _ _ _ _ _ _ _ hx hb _ k => lv_iconst hx hb hd hv k) k
theorem x_bipush {n : Int} {v : Int32} (hd : decode (mk_c y) pc = .ok (.bipush n, 2)) (hv : (Int8.ofInt n).toInt32 = v) (k : RA G d y (pc + 2) ls (.int v :: st) h Q) : RA G d y pc ls st h Q :=
  RA.step (fun _ _ _ _ _ _ _ _ _ _ _ _ _ _ _ hx hb _ k => lv_bipush hx hb hd hv k) k
theorem x_sipush {n : Int} {v : Int32} (hd : decode (mk_c y) pc = .ok (.sipush n, 3)) (hv : (Int16.ofInt n).toInt32 = v) (k : RA G d y (pc + 3) ls (.int v :: st) h Q) : RA G d y pc ls st h Q :=
  RA.step (fun _ _ _ _ _ _ _ _ _ _ _ _ _ _ _ hx hb _ k => lv_sipush hx hb hd hv k) k
theorem x_lconst {n : Fin 2} {v : Int64} (hd : decode (mk_c y) pc = .ok (.lconst n, 1)) (hv : Int64.ofNat (n : Nat) = v) (k : RA G d y (pc + 1) ls (.long v :: st) h Q) : RA G d y pc ls st h Q :=
  RA.step (fun _ _ _ _ _ _ _ _ _ _ _ _ _ _ _ hx hb _ k => lv_lconst hx hb hd hv k) k
theorem LocOK.at {n : Nat} {lc : Array Slot} (hl : LocOK G n ls lc) {i : Nat} {v : Value} (hi : ls[i]? = some v) (hv : v ≠ U0) : lc[i]? = some (.val (cv G v)) := hl.2.2.2 i v hi hv
theorem x_iload_n {k : Fin 4} {x : Int32} (hd : decode (mk_c y) pc = .ok (.iload_n k, 1)) (hi : ls[(k : Nat)]? = some (.int x)) (kk : RA G d y (pc + 1) ls (.int x :: st) h Q) : RA G d y pc ls st h Q :=
  RA.step (fun _ _ _ _ _ _ _ _ _ _ _ _ _ _ _ hx hb hl k => lv_iload_n hx hb hd rfl (hl.at hi (by simp)) k) kk
theorem x_iload {i : Nat} {x : Int32} (hd : decode (mk_c y) pc = .ok (.iload i, 2)) (hi : ls[i]? = some (.int x)) (kk : RA G d y (pc + 2) ls (.int x :: st) h Q) : RA G d y pc ls st h Q :=
  RA.step (fun _ _ _ _ _ _ _ _ _ _ _ _ _ _ _ hx hb hl k => lv_iload hx hb hd (hl.at hi (by simp)) k) kk
theorem x_lload_n {k : Fin 4} {x : Int64} (hd : decode (mk_c y) pc = .ok (.lload_n k, 1)) (hi : ls[(k : Nat)]? = some (.long x)) (kk : RA G d y (pc + 1) ls (.long x :: st) h Q) : RA G d y pc ls st h Q :=
  RA.step (fun _ _ _ _ _ _ _ _ _ _ _ _ _ _ _ hx hb hl k => lv_lload_n hx hb hd rfl (hl.at hi (by simp)) k) kk
end Simple
