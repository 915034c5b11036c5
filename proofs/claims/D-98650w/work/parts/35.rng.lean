/-! Plain: within a range, as the programs ask it -/
theorem of_rng {p : Int32} {n : Nat} (h : (decide (0 ≤ p) && decide (p < nI n)) = true) (hn : n < 2 ^ 31) : ∃ k, k < n ∧ p = nI k := by
  simp only [Bool.and_eq_true, decide_eq_true_eq] at h
  obtain ⟨k, hk, rfl⟩ := nI_of (Int32.not_lt.mpr h.1)
  exact ⟨k, (nI_ltI hk hn).mp h.2, rfl⟩
def inI (x : Int32) (a b : Nat) : Bool := decide (nI a ≤ x) && decide (x ≤ nI b)
theorem l_le1 {x : Int32} {a : Nat} (ha : a < 2 ^ 31) : (lN a ≤ x.toInt64) ↔ (nI a ≤ x) := by
  rw [Int64.le_iff_toInt_le, Int32.le_iff_toInt_le, lN_toInt ha, nI_toInt ha, Int32.toInt_toInt64]
theorem l_le2 {x : Int32} {a : Nat} (ha : a < 2 ^ 31) : (x.toInt64 ≤ lN a) ↔ (x ≤ nI a) := by
  rw [Int64.le_iff_toInt_le, Int32.le_iff_toInt_le, lN_toInt ha, nI_toInt ha, Int32.toInt_toInt64]
theorem inL_I {x : Int32} {a b : Nat} (ha : a < 2 ^ 31) (hb : b < 2 ^ 31) : (decide (lN a ≤ x.toInt64) && decide (x.toInt64 ≤ lN b)) = inI x a b := by
  unfold inI
  rw [decide_eq_decide.mpr (l_le1 ha), decide_eq_decide.mpr (l_le2 hb)]
theorem inI_of {x : Int32} {a b : Nat} (h : inI x a b = true) (ha : a < 2 ^ 31) (hb : b < 2 ^ 31) : ∃ j, a ≤ j ∧ j ≤ b ∧ x = nI j := by
  simp only [inI, Bool.and_eq_true, decide_eq_true_eq] at h
  have h0 : ¬ x < 0 := by
    intro q
    have h1 := Int32.le_iff_toInt_le.mp h.1
    have h2 := Int32.lt_iff_toInt_lt.mp q
    rw [nI_toInt ha] at h1
    have : (0 : Int32).toInt = 0 := by decide
    omega
  obtain ⟨j, hj, rfl⟩ := nI_of h0
  exact ⟨j, (nI_leI ha hj).mp h.1, (nI_leI hj hb).mp h.2, rfl⟩
theorem inI_nI {j a b : Nat} (hj : j < 2 ^ 31) (ha : a < 2 ^ 31) (hb : b < 2 ^ 31) : inI (nI j) a b = (decide (a ≤ j) && decide (j ≤ b)) := by
  unfold inI
  rw [decide_eq_decide.mpr (nI_leI ha hj), decide_eq_decide.mpr (nI_leI hj hb)]
theorem rng_nI {j n : Nat} (hj : j < n) (hn : n < 2 ^ 31) : (decide (0 ≤ nI j) && decide (nI j < nI n)) = true := by
  simp only [Bool.and_eq_true, decide_eq_true_eq]
  exact ⟨nI_pos' (by omega), (nI_ltI (by omega) hn).mpr hj⟩
theorem nI_ne {a b : Nat} (h : a ≠ b) (ha : a < 2 ^ 31) (hb : b < 2 ^ 31) : nI a ≠ nI b := fun q => h ((nI_eq ha hb).mp q)
/-- only one scratch row is changed -/
def PU (n : Nat) (G : Gm) (I : Im) (L : Lm) : Gm → Im → Lm → Prop := fun G1 I1 L1 => G = G1 ∧ L = L1 ∧ ∃ f : Nat → Int32, va_up I n f = I1
theorem PU.rf {n : Nat} {G : Gm} {I : Im} {L : Lm} : PU n G I L G I L := ⟨rfl, rfl, I n, vup_id I n⟩
