/-! Plain: the rooms to which one can come by going out alone -/
def outK (S : Nat → Int32) (a : Nat) : Nat → Nat → Prop
  | 0, r => r = a
  | k + 1, r => ∃ d, d < nd S ∧ openB S d = true ∧ farr S d = r ∧ outK S a k (near S d)
def closedS (S : Nat → Int32) (m d : Nat) : Prop := ∀ d', d' < d → openB S d' = true → m.testBit (near S d') = true → m.testBit (farr S d') = true
/-- a set of rooms on the way: has a, only rooms that can be reached -/
def OW (S : Nat → Int32) (a m : Nat) : Prop := m.testBit a = true ∧ m < 2 ^ 8 ∧ ∀ r, m.testBit r = true → r < nr S ∧ ∃ k, outK S a k r
def OutSet (S : Nat → Int32) (a m : Nat) : Prop := OW S a m ∧ closedS S m (nd S)
theorem OutSet.has {S : Nat → Int32} {a m : Nat} (h : OutSet S a m) : ∀ k r, outK S a k r → m.testBit r = true := by
  intro k
  induction k with
  | zero => intro r hr; rw [show r = a from hr]; exact h.1.1
  | succ k ih =>
    rintro r ⟨d, h1, h2, h3, h4⟩
    rw [← h3]; exact h.2 d h1 h2 (ih _ h4)
theorem OutSet.uni {S : Nat → Int32} {a m m' : Nat} (h : OutSet S a m) (h' : OutSet S a m') : m = m' := by
  apply Nat.eq_of_testBit_eq
  intro r
  rw [Bool.eq_iff_iff]
  constructor
  · intro q; obtain ⟨-, k, hk⟩ := h.1.2.2 r q; exact h'.has k r hk
  · intro q; obtain ⟨-, k, hk⟩ := h'.1.2.2 r q; exact h.has k r hk

noncomputable def outV (S : Nat → Int32) (a : Nat) : Nat := Classical.epsilon (OutSet S a)
theorem OutSet.eq {S : Nat → Int32} {a m : Nat} (h : OutSet S a m) : m = outV S a := h.uni (Classical.epsilon_spec (p := OutSet S a) ⟨m, h⟩)
def cntS (m : Nat) : Nat := sumN 8 (fun k => if m.testBit k then 1 else 0)
theorem sumN_mono {n : Nat} {f g : Nat → Nat} (h : ∀ k, k < n → f k ≤ g k) : sumN n f ≤ sumN n g := by
  induction n with
  | zero => exact Nat.le_refl _
  | succ n ih =>
    rw [sumN, sumN]
    have h1 := ih (fun k hk => h k (by omega))
    have h2 := h n (by omega)
    omega
theorem sumN_lt {n : Nat} {f g : Nat → Nat} {k : Nat} (hk : k < n) (h : ∀ k, k < n → f k ≤ g k) (hl : f k < g k) : sumN n f < sumN n g := by
  induction n with
  | zero => omega
  | succ n ih =>
    rw [sumN, sumN]
    have h2 := h n (by omega)
    by_cases e : k = n
    · subst e
      have h1 := sumN_mono (n := k) (fun j hj => h j (by omega))
      omega
    · have h1 := ih (by omega) (fun j hj => h j (by omega))
      omega
theorem cnt_or {m r : Nat} (hr : r < 8) (h : m.testBit r = false) : cntS m < cntS (m ||| 2 ^ r) := by
  refine sumN_lt (k := r) hr (fun k _ => ?_) ?_
  · rw [Nat.testBit_or]
    cases m.testBit k <;> simp
  · rw [Nat.testBit_or, Nat.testBit_two_pow, h]; simp
theorem cnt_le (m : Nat) : cntS m ≤ 8 := by
  have := sumN_le (n := 8) (b := 1) (f := fun k => if m.testBit k then 1 else 0) (fun k _ => by split <;> omega)
  simpa [cntS] using this
theorem or_self_bit {m r : Nat} (h : m.testBit r = true) : m ||| 2 ^ r = m := by
  apply Nat.eq_of_testBit_eq
  intro k
  rw [Nat.testBit_or, Nat.testBit_two_pow]
  by_cases e : r = k
  · subst e; simp [h]
  · simp [e]
theorem OW.or {S : Nat → Int32} (hS : InvS S) {a m d : Nat} (h : OW S a m) (hd : d < nd S) (ho : openB S d = true) (hb : m.testBit (near S d) = true) : OW S a (m ||| 2 ^ farr S d) := by
  have h8 := iv0b hS
  have hf := ivd hS hd
  refine ⟨by rw [Nat.testBit_or, h.1]; rfl, Nat.or_lt_two_pow h.2.1 (Nat.pow_lt_pow_right (by decide) (by omega)), fun r hr => ?_⟩
  rw [Nat.testBit_or, Nat.testBit_two_pow, Bool.or_eq_true] at hr
  rcases hr with hr | hr
  · exact h.2.2 r hr
  · have e : farr S d = r := by simpa using hr
    subst e
    obtain ⟨-, k, hk⟩ := h.2.2 _ hb
    exact ⟨hf.2.2.2, k + 1, d, hd, ho, rfl, hk⟩
/-- within a pass: nothing new till here, or something new -/
def OP (S : Nat → Int32) (m0 m d : Nat) : Prop := (m = m0 ∧ closedS S m0 d) ∨ (cntS m0 < cntS m ∧ ¬ closedS S m0 (nd S))
theorem OP.step {S : Nat → Int32} (hS : InvS S) {m0 m d : Nat} (h : OP S m0 m d) (hd : d < nd S) (ho : openB S d = true) (hb : m.testBit (near S d) = true) : OP S m0 (m ||| 2 ^ farr S d) (d + 1) := by
  have h8 := iv0b hS
  have hf := ivd hS hd
  by_cases e : m.testBit (farr S d) = true
  · rw [or_self_bit e]
    rcases h with ⟨rfl, hc⟩ | h
    · refine Or.inl ⟨rfl, fun d' hd' ho' hb' => ?_⟩
      by_cases e' : d' = d
      · subst e'; exact e
      · exact hc d' (by omega) ho' hb'
    · exact Or.inr h
  · have e : m.testBit (farr S d) = false := by simpa using e
    have hc := cnt_or (m := m) (r := farr S d) (by omega) e
    rcases h with ⟨rfl, -⟩ | ⟨h1, h2⟩
    · exact Or.inr ⟨hc, fun q => by rw [q d hd ho hb] at e; cases e⟩
    · exact Or.inr ⟨by omega, h2⟩
theorem OP.skip {S : Nat → Int32} {m0 m d : Nat} (h : OP S m0 m d) (hx : openB S d = true → m.testBit (near S d) = true → False) : OP S m0 m (d + 1) := by
  rcases h with ⟨rfl, hc⟩ | h
  · refine Or.inl ⟨rfl, fun d' hd' ho' hb' => ?_⟩
    by_cases e' : d' = d
    · subst e'; exact (hx ho' hb').elim
    · exact hc d' (by omega) ho' hb'
  · exact Or.inr h
