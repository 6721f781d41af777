/-! ===== sets of bits as natural numbers ===== -/
theorem nx_and (a b : Nat) : nI a &&& nI b = nI (a &&& b) := by
  apply Int32.toBitVec_inj.1
  show BitVec.ofNat 32 a &&& BitVec.ofNat 32 b = BitVec.ofNat 32 (a &&& b)
  apply BitVec.eq_of_getLsbD_eq
  intro i hi
  simp [hi]
theorem nx_or (a b : Nat) : nI a ||| nI b = nI (a ||| b) := by
  apply Int32.toBitVec_inj.1
  show BitVec.ofNat 32 a ||| BitVec.ofNat 32 b = BitVec.ofNat 32 (a ||| b)
  apply BitVec.eq_of_getLsbD_eq
  intro i hi
  simp [hi]
theorem nx_xor (a b : Nat) : nI a ^^^ nI b = nI (a ^^^ b) := by
  apply Int32.toBitVec_inj.1
  show BitVec.ofNat 32 a ^^^ BitVec.ofNat 32 b = BitVec.ofNat 32 (a ^^^ b)
  apply BitVec.eq_of_getLsbD_eq
  intro i hi
  simp [hi]
/-- a without b (sets of 16) -/
def adf (a b : Nat) : Nat := a &&& (65535 ^^^ b)
theorem adf_bit {a b : Nat} (ha : a < 65536) (i : Nat) : (adf a b).testBit i = (a.testBit i && !b.testBit i) := by
  unfold adf
  rw [Nat.testBit_and, Nat.testBit_xor]
  by_cases hi : i < 16
  · have : (65535 : Nat).testBit i = true := by
      rw [show (65535 : Nat) = 2 ^ 16 - 1 from rfl, Nat.testBit_two_pow_sub_one]
      simpa using hi
    rw [this]; cases a.testBit i <;> cases b.testBit i <;> rfl
  · have : a.testBit i = false := Nat.testBit_lt_two_pow (Nat.lt_of_lt_of_le ha (show 65536 ≤ 2 ^ i from Nat.pow_le_pow_right (n := 2) (by decide) (Nat.not_lt.mp hi)))
    rw [this]; rfl
theorem adf_lt {a b : Nat} (ha : a < 65536) : adf a b < 65536 := Nat.lt_of_le_of_lt Nat.and_le_left ha
theorem nx_andn {a b : Nat} (ha : a < 65536) : nI a &&& (nI b ^^^ (-1)) = nI (adf a b) := by
  apply Int32.toBitVec_inj.1
  show BitVec.ofNat 32 a &&& (BitVec.ofNat 32 b ^^^ (-1#32)) = BitVec.ofNat 32 (adf a b)
  apply BitVec.eq_of_getLsbD_eq
  intro i hi
  rw [BitVec.getLsbD_and, BitVec.getLsbD_xor, BitVec.getLsbD_ofNat, BitVec.getLsbD_ofNat, BitVec.getLsbD_ofNat, adf_bit ha]
  have : (-1#32 : BitVec 32).getLsbD i = true := (by decide +kernel : ∀ i, i < 32 → (-1#32 : BitVec 32).getLsbD i = true) i hi
  rw [this]
  simp [hi]
theorem s_l : ∀ n, n < 32 → ((nI n &&& 31).toBitVec.smod 32).toNat = n := by decide +kernel
theorem nx_shr {a n : Nat} (ha : a < 2 ^ 31) (hn : n < 32) : nI a >>> (nI n &&& 31) = nI (a / 2 ^ n) := pk_shrN ha _ n (s_l n hn)
theorem nx_shl {n : Nat} (hn : n < 31) : nI 1 <<< (nI n &&& 31) = nI (2 ^ n) := by
  rw [pk_shlN _ n (s_l n (by omega)) (by rw [Nat.one_mul]; exact Nat.pow_lt_pow_right (by decide) (by omega)), Nat.one_mul]
section BitRows
variable {G : GG} {d : Nat} {y : Mk} {pc : Nat} {ls st : List Value} {Q : AO → AH → Prop} {h : AH}
theorem x_iandN {a b : Nat} (hd : decode (mk_c y) pc = .ok (.iand, 1)) (k : RA G d y (pc + 1) ls (.int (nI (a &&& b)) :: st) h Q) : RA G d y pc ls (.int (nI b) :: .int (nI a) :: st) h Q :=
  x_iand hd (by rw [nx_and]; exact k)
theorem x_iorN {a b : Nat} (hd : decode (mk_c y) pc = .ok (.ior, 1)) (k : RA G d y (pc + 1) ls (.int (nI (a ||| b)) :: st) h Q) : RA G d y pc ls (.int (nI b) :: .int (nI a) :: st) h Q :=
  x_ior hd (by rw [nx_or]; exact k)
theorem x_ixorN {a b : Nat} (hd : decode (mk_c y) pc = .ok (.ixor, 1)) (k : RA G d y (pc + 1) ls (.int (nI (a ^^^ b)) :: st) h Q) : RA G d y pc ls (.int (nI b) :: .int (nI a) :: st) h Q :=
  x_ixor hd (by rw [nx_xor]; exact k)
theorem x_andnN {a b : Nat} (hd : decode (mk_c y) pc = .ok (.iand, 1)) (ha : a < 65536) (k : RA G d y (pc + 1) ls (.int (nI (adf a b)) :: st) h Q) : RA G d y pc ls (.int (nI b ^^^ (-1)) :: .int (nI a) :: st) h Q :=
  x_iand hd (by rw [nx_andn ha]; exact k)
theorem x_ishrN {a n : Nat} (hd : decode (mk_c y) pc = .ok (.ishr, 1)) (ha : a < 2 ^ 31) (hn : n < 32) (k : RA G d y (pc + 1) ls (.int (nI (a / 2 ^ n)) :: st) h Q) : RA G d y pc ls (.int (nI n) :: .int (nI a) :: st) h Q :=
  x_ishr hd (by rw [nx_shr ha hn]; exact k)
theorem x_1shlN {n : Nat} (hd : decode (mk_c y) pc = .ok (.ishl, 1)) (hn : n < 31) (k : RA G d y (pc + 1) ls (.int (nI (2 ^ n)) :: st) h Q) : RA G d y pc ls (.int (nI n) :: .int (nI 1) :: st) h Q :=
  x_ishl hd (by rw [nx_shl hn]; exact k)
end BitRows
/-- the bit i of a, as 0 or 1 -/
def tb (a i : Nat) : Nat := a / 2 ^ i &&& 1
theorem tb_eq (a i : Nat) : tb a i = (a.testBit i).toNat := by
  unfold tb
  rw [Nat.and_one_is_mod, Nat.testBit_eq_decide_div_mod_eq]
  have : a / 2 ^ i % 2 = 0 ∨ a / 2 ^ i % 2 = 1 := by omega
  rcases this with h | h <;> simp [h]
theorem tb0 {a i : Nat} : tb a i = 0 ↔ a.testBit i = false := by rw [tb_eq]; cases a.testBit i <;> simp
theorem tb1 {a i : Nat} : tb a i = 1 ↔ a.testBit i = true := by rw [tb_eq]; cases a.testBit i <;> simp
theorem tb_ne1 {a i : Nat} : tb a i ≠ 1 ↔ a.testBit i = false := by rw [tb_eq]; cases a.testBit i <;> simp
theorem tb_ne0 {a i : Nat} : tb a i ≠ 0 ↔ a.testBit i = true := by rw [tb_eq]; cases a.testBit i <;> simp
theorem tb_lt (a i : Nat) : tb a i < 2 := by rw [tb_eq]; cases a.testBit i <;> decide
theorem bit_ext {a b : Nat} (h : ∀ i, a.testBit i = b.testBit i) : a = b := Nat.eq_of_testBit_eq h
theorem bit_hi {a i : Nat} (ha : a < 65536) (hi : 16 ≤ i) : a.testBit i = false := Nat.testBit_lt_two_pow (Nat.lt_of_lt_of_le ha (show 65536 ≤ 2 ^ i from Nat.pow_le_pow_right (n := 2) (by decide) hi))
theorem or_lt {a b : Nat} (ha : a < 65536) (hb : b < 65536) : a ||| b < 65536 := Nat.or_lt_two_pow (n := 16) ha hb
theorem and_lt {a b : Nat} (ha : a < 65536) : a &&& b < 65536 := Nat.lt_of_le_of_lt Nat.and_le_left ha
theorem xor_lt {a b : Nat} (ha : a < 65536) (hb : b < 65536) : a ^^^ b < 65536 := Nat.xor_lt_two_pow (n := 16) ha hb
theorem p2_lt {i : Nat} (hi : i < 16) : 2 ^ i < 65536 := Nat.pow_lt_pow_right (n := 16) (by decide) hi
theorem p2_bit (n i : Nat) : (2 ^ n).testBit i = decide (n = i) := Nat.testBit_two_pow
theorem lt_of_bits {a : Nat} (h : ∀ i, 16 ≤ i → a.testBit i = false) : a < 65536 := Nat.lt_pow_two_of_testBit (n := 16) a (fun i hi => h i hi)
/-- the set of the numbers below n with P -/
noncomputable def mkS (P : Nat → Prop) : Nat → Nat
  | 0 => 0
  | n + 1 => mkS P n ||| @ite Nat (P n) (Classical.propDecidable (P n)) (2 ^ n) 0
theorem mkS_bit (P : Nat → Prop) (n i : Nat) : (mkS P n).testBit i = true ↔ i < n ∧ P i := by
  induction n with
  | zero => simp [mkS]
  | succ n ih =>
    rw [mkS, Nat.testBit_or, Bool.or_eq_true, ih]
    by_cases hP : P n
    · rw [@if_pos _ (Classical.propDecidable (P n)) hP, p2_bit]
      constructor
      · rintro (⟨h1, h2⟩ | h)
        · exact ⟨by omega, h2⟩
        · have h := of_decide_eq_true h
          subst h
          exact ⟨by omega, hP⟩
      · rintro ⟨h1, h2⟩
        by_cases hi : i = n
        · right; exact decide_eq_true hi.symm
        · left; exact ⟨by omega, h2⟩
    · rw [@if_neg _ (Classical.propDecidable (P n)) hP]
      constructor
      · rintro (⟨h1, h2⟩ | h)
        · exact ⟨by omega, h2⟩
        · simp at h
      · rintro ⟨h1, h2⟩
        left
        refine ⟨?_, h2⟩
        rcases Nat.lt_or_ge i n with z | z
        · exact z
        · have : i = n := by omega
          subst this
          exact absurd h2 hP
noncomputable def mk16 (P : Nat → Prop) : Nat := mkS P 16
theorem mk16_bit {P : Nat → Prop} {i : Nat} : (mk16 P).testBit i = true ↔ i < 16 ∧ P i := mkS_bit P 16 i
theorem mk16_lt (P : Nat → Prop) : mk16 P < 65536 := lt_of_bits (fun i hi => by
  cases hb : (mk16 P).testBit i with
  | false => rfl
  | true => have := (mk16_bit.mp hb).1; omega)
/-- a set is what its bits say -/
theorem mk16_eq {a : Nat} {P : Nat → Prop} (ha : a < 65536) (h : ∀ i, i < 16 → (a.testBit i = true ↔ P i)) : a = mk16 P := by
  refine bit_ext (fun i => ?_)
  rw [Bool.eq_iff_iff, mk16_bit]
  by_cases hi : i < 16
  · rw [h i hi]; simp [hi]
  · rw [bit_hi ha (by omega)]; simp [hi]
theorem mk16_congr {P R : Nat → Prop} (h : ∀ i, i < 16 → (P i ↔ R i)) : mk16 P = mk16 R :=
  mk16_eq (mk16_lt P) (fun i hi => by rw [mk16_bit]; simp [hi, h i hi])
/-- sums -/
def sumN : Nat → (Nat → Nat) → Nat
  | 0, _ => 0
  | n + 1, f => sumN n f + f n
theorem sumN_congr {n : Nat} {f g : Nat → Nat} (h : ∀ i, i < n → f i = g i) : sumN n f = sumN n g := by
  induction n with
  | zero => rfl
  | succ n ih => rw [sumN, sumN, ih (fun i hi => h i (by omega)), h n (by omega)]
theorem sumN_shift (n : Nat) (f : Nat → Nat) : sumN (n + 1) f = f 0 + sumN n (fun i => f (i + 1)) := by
  induction n with
  | zero => simp [sumN]
  | succ n ih => rw [sumN, ih, sumN]; omega
theorem sumN_le {n : Nat} {f : Nat → Nat} {c : Nat} (h : ∀ i, i < n → f i ≤ c) : sumN n f ≤ n * c := by
  induction n with
  | zero => simp [sumN]
  | succ n ih =>
    have h1 := ih (fun i hi => h i (by omega))
    have h2 := h n (by omega)
    rw [sumN, Nat.succ_mul]; omega
theorem sumN_add (n : Nat) (f g : Nat → Nat) : sumN n (fun i => f i + g i) = sumN n f + sumN n g := by
  induction n with
  | zero => rfl
  | succ n ih => rw [sumN, ih, sumN, sumN]; omega
theorem sumN_swap (n m : Nat) (f : Nat → Nat → Nat) : sumN n (fun i => sumN m (f i)) = sumN m (fun j => sumN n (fun i => f i j)) := by
  induction n with
  | zero => induction m with
    | zero => rfl
    | succ m ih => simp only [sumN] at ih ⊢; omega
  | succ n ih => rw [sumN, ih, ← sumN_add]; rfl
theorem sumN_zero {n : Nat} {f : Nat → Nat} : sumN n f = 0 ↔ ∀ i, i < n → f i = 0 := by
  induction n with
  | zero => simp [sumN]
  | succ n ih =>
    rw [sumN, Nat.add_eq_zero_iff, ih]
    constructor
    · rintro ⟨h1, h2⟩ i hi
      by_cases h : i = n
      · subst h; exact h2
      · exact h1 i (by omega)
    · intro h
      exact ⟨fun i hi => h i (by omega), h n (by omega)⟩
/-- how many bits are set -/
def pop (a : Nat) : Nat := sumN 16 (fun i => (a.testBit i).toNat)
theorem pop_le (a : Nat) : pop a ≤ 16 := by
  have := sumN_le (n := 16) (f := fun i => (a.testBit i).toNat) (c := 1) (fun i _ => by cases a.testBit i <;> decide)
  simpa [pop] using this
theorem pop_stepG : ∀ n k : Nat, 0 < k → k < 2 ^ n → sumN n (fun i => ((k &&& (k - 1)).testBit i).toNat) + 1 = sumN n (fun i => (k.testBit i).toNat) := by
  intro n
  induction n with
  | zero => intro k h1 h2; rw [Nat.pow_zero] at h2; omega
  | succ n ih =>
    intro k h1 h2
    rw [sumN_shift, sumN_shift]
    have hs : ∀ x i : Nat, x.testBit (i + 1) = (x / 2).testBit i := fun x i => Nat.testBit_succ x i
    simp only [hs]
    have h0 : ∀ x : Nat, x.testBit 0 = decide (x % 2 = 1) := fun x => Nat.testBit_zero x
    simp only [h0]
    have hd : (k &&& (k - 1)) / 2 = k / 2 &&& (k - 1) / 2 := by
      refine bit_ext (fun i => ?_)
      rw [← hs, Nat.testBit_and, Nat.testBit_and, hs, hs]
    have hm : (k &&& (k - 1)) % 2 = 0 := by
      have h3 : (k &&& (k - 1)).testBit 0 = false := by
        rw [Nat.testBit_and, h0, h0]
        by_cases hk : k % 2 = 1
        · have : (k - 1) % 2 = 0 := by omega
          simp [this]
        · simp [hk]
      rw [h0] at h3
      have := of_decide_eq_false h3
      omega
    rw [hd, hm]
    by_cases hk : k % 2 = 1
    · have e1 : (k - 1) / 2 = k / 2 := by omega
      rw [e1, Nat.and_self, hk]
      simp; omega
    · have e1 : (k - 1) / 2 = k / 2 - 1 := by omega
      have e2 : k % 2 = 0 := by omega
      rw [e1, e2]
      have := ih (k / 2) (by omega) (by rw [Nat.pow_succ] at h2; omega)
      simpa using this
theorem pop_step {k : Nat} (h0 : 0 < k) (h : k < 65536) : pop (k &&& (k - 1)) + 1 = pop k := pop_stepG 16 k h0 h
theorem pop_0 : pop 0 = 0 := rfl
