/-! Plain: sets as numbers, first of as an answer -/
theorem sm_31 : ∀ n, n < 32 → ((nI n &&& 31).toBitVec.smod 32).toNat = n := by decide +kernel
theorem bs_shl1 {k : Nat} (hk : k < 31) : nI 1 <<< (nI k &&& 31) = nI (2 ^ k) := by
  rw [pk_shlN (n := 1) (nI k &&& 31) k (sm_31 k (by omega)) (by rw [Nat.one_mul]; exact Nat.pow_lt_pow_right (by decide) (by omega)), Nat.one_mul]
theorem bs_or (a b : Nat) : nI a ||| nI b = nI (a ||| b) := by
  apply Int32.toBitVec_inj.1
  show BitVec.ofNat 32 a ||| BitVec.ofNat 32 b = BitVec.ofNat 32 (a ||| b)
  apply BitVec.eq_of_getLsbD_eq
  intro i hi
  simp [hi]
theorem bs_and (a b : Nat) : nI a &&& nI b = nI (a &&& b) := by
  apply Int32.toBitVec_inj.1
  show BitVec.ofNat 32 a &&& BitVec.ofNat 32 b = BitVec.ofNat 32 (a &&& b)
  apply BitVec.eq_of_getLsbD_eq
  intro i hi
  simp [hi]
theorem bs_inj {a b : Nat} (ha : a < 2 ^ 31) (hb : b < 2 ^ 31) : nI a = nI b ↔ a = b := nI_eq ha hb
theorem bs_has {m k : Nat} (hm : m < 2 ^ 31) (hk : k < 31) : decide ((nI m >>> (nI k &&& 31)) &&& nI 1 = nI 1) = m.testBit k := by
  rw [pk_shrN hm (nI k &&& 31) k (sm_31 k (by omega)), bs_and]
  have h1 : m / 2 ^ k &&& 1 = m / 2 ^ k % 2 := Nat.and_two_pow_sub_one_eq_mod (m / 2 ^ k) 1
  rw [h1, Nat.testBit_eq_decide_div_mod_eq]
  have h2 : m / 2 ^ k % 2 < 2 := Nat.mod_lt _ (by decide)
  simp only [nI_eq (show m / 2 ^ k % 2 < 2 ^ 31 by omega) (show 1 < 2 ^ 31 by decide)]
theorem bs_not (m k : Nat) (hm : m < 2 ^ 31) : nI m &&& (nI (2 ^ k) ^^^ (-1)) = nI (m - (m &&& 2 ^ k)) := by
  have e : nI m &&& (nI (2 ^ k) ^^^ (-1)) = nI m - (nI m &&& nI (2 ^ k)) := by
    apply Int32.toBitVec_inj.1
    rw [Int32.toBitVec_sub, Int32.toBitVec_and, Int32.toBitVec_and, Int32.toBitVec_xor]
    generalize (nI m).toBitVec = x
    generalize (nI (2 ^ k)).toBitVec = y
    have h1 : (-1 : Int32).toBitVec = BitVec.allOnes 32 := by decide
    rw [h1, BitVec.xor_allOnes]
    have h2 : x = (x &&& y) + (x &&& ~~~y) := by
      rw [BitVec.add_eq_or_of_and_eq_zero]
      · apply BitVec.eq_of_getLsbD_eq
        intro i hi
        simp [hi]
        cases x[i] <;> cases y[i] <;> rfl
      · apply BitVec.eq_of_getLsbD_eq
        intro i hi
        simp [hi]
        exact fun _ h _ => h
    have h3 : x - (x &&& y) = (x &&& ~~~y) := by
      conv => lhs; lhs; rw [h2]
      rw [BitVec.add_comm, BitVec.add_sub_cancel]
    exact h3.symm
  rw [e, bs_and, pk_sub Nat.and_le_left]
/-- the set of those under n that f says -/
def mskN (n : Nat) (f : Nat → Bool) : Nat := match n with
  | 0 => 0
  | n + 1 => mskN n f + (if f n then 2 ^ n else 0)
theorem msk_lt (n : Nat) (f : Nat → Bool) : mskN n f < 2 ^ n := by
  induction n with
  | zero => simp [mskN]
  | succ n ih =>
    rw [mskN, Nat.pow_succ]
    split <;> omega
theorem msk_or {n m : Nat} (hm : m < 2 ^ n) : m ||| 2 ^ n = m + 2 ^ n := by
  have := Nat.two_pow_add_eq_or_of_lt hm 1
  rw [Nat.mul_one] at this
  rw [Nat.or_comm, ← this, Nat.add_comm]
theorem msk_bit (n : Nat) (f : Nat → Bool) (k : Nat) : (mskN n f).testBit k = (decide (k < n) && f k) := by
  induction n with
  | zero => simp [mskN]
  | succ n ih =>
    rw [mskN]
    have hl := msk_lt n f
    by_cases hf : f n = true
    · rw [if_pos hf, ← msk_or hl, Nat.testBit_or, ih, Nat.testBit_two_pow]
      by_cases hk : k = n
      · subst hk; simp [hf]
      · simp [show k < n + 1 ↔ k < n by omega, show ¬ n = k by omega]
    · rw [if_neg hf, Nat.add_zero, ih]
      by_cases hk : k = n
      · subst hk; simp [hf]
      · simp [show k < n + 1 ↔ k < n by omega]
theorem msk_ext {m n : Nat} (h : ∀ k, m.testBit k = n.testBit k) : m = n := Nat.eq_of_testBit_eq h
/-- the first under n that p says, as an answer; -1 -/
def fI (p : Nat → Bool) (n : Nat) : Int32 := if firstT p n < n then nI (firstT p n) else -1
theorem fI_at {p : Nat → Bool} {n k : Nat} (h : ∀ j, j < k → p j = false) (hk : k < n) (hp : p k = true) : fI p n = nI k := by
  have h1 := firstT_of hk hp
  have h2 := firstT_spec p n
  have h3 : firstT p n = k := by
    rcases Nat.lt_or_ge (firstT p n) k with q | q
    · have := h2.1 (by omega); rw [h _ q] at this; cases this
    · omega
  unfold fI
  rw [if_pos (by omega), h3]
theorem fI_none {p : Nat → Bool} {n : Nat} (h : ∀ j, j < n → p j = false) : fI p n = -1 := by
  unfold fI
  rw [if_neg]
  intro q
  have := (firstT_spec p n).1 q
  rw [h _ q] at this; cases this
