/-! Plain: first of, any of; how many doors it is to a room -/
def firstT (p : Nat → Bool) : Nat → Nat
  | 0 => 0
  | n + 1 => if firstT p n < n then firstT p n else if p n then n else n + 1
theorem firstT_le (p : Nat → Bool) (n : Nat) : firstT p n ≤ n := by
  induction n with
  | zero => exact Nat.le_refl _
  | succ n ih =>
    unfold firstT
    split
    · omega
    · split <;> omega
theorem firstT_spec (p : Nat → Bool) (n : Nat) : (firstT p n < n → p (firstT p n) = true) ∧ ∀ k, k < firstT p n → p k = false := by
  induction n with
  | zero => exact ⟨fun h => absurd h (by simp [firstT]), fun k hk => absurd hk (by simp [firstT])⟩
  | succ n ih =>
    have hle := firstT_le p n
    unfold firstT
    by_cases h1 : firstT p n < n
    · rw [if_pos h1]
      exact ⟨fun _ => ih.1 h1, ih.2⟩
    · rw [if_neg h1]
      have he : firstT p n = n := by omega
      rw [he] at ih
      by_cases h2 : p n = true
      · rw [if_pos h2]
        exact ⟨fun _ => h2, fun k hk => ih.2 k hk⟩
      · rw [if_neg h2]
        refine ⟨fun h => absurd h (by omega), fun k hk => ?_⟩
        by_cases hkn : k = n
        · subst hkn; simpa using h2
        · exact ih.2 k (by omega)
theorem firstT_of {p : Nat → Bool} {n k : Nat} (hk : k < n) (hp : p k = true) : firstT p n ≤ k := by
  rcases Nat.lt_or_ge k (firstT p n) with h | h
  · exact absurd hp (by simp [(firstT_spec p n).2 k h])
  · exact h
def anyN (n : Nat) (p : Nat → Bool) : Bool := match n with
  | 0 => false
  | n + 1 => anyN n p || p n
theorem anyN_iff {n : Nat} {p : Nat → Bool} : anyN n p = true ↔ ∃ k, k < n ∧ p k = true := by
  induction n with
  | zero => simp [anyN]
  | succ n ih =>
    rw [anyN, Bool.or_eq_true, ih]
    constructor
    · rintro (⟨k, h1, h2⟩ | h)
      · exact ⟨k, by omega, h2⟩
      · exact ⟨n, by omega, h⟩
    · rintro ⟨k, h1, h2⟩
      by_cases hk : k = n
      · subst hk; exact Or.inr h2
      · exact Or.inl ⟨k, by omega, h2⟩
theorem anyN_false {n : Nat} {p : Nat → Bool} : anyN n p = false ↔ ∀ k, k < n → p k = false := by
  rw [← Bool.not_eq_true, anyN_iff]
  constructor
  · intro h k hk
    rw [← Bool.not_eq_true]
    exact fun q => h ⟨k, hk, q⟩
  · rintro h ⟨k, hk, q⟩
    rw [h k hk] at q; cases q
/-- a walk of k steps from g to a room -/
def reachB (S : Nat → Int32) (g : Nat) : Nat → Nat → Bool
  | 0, r => r == g
  | k + 1, r => anyN (nd S) (fun d => openB S d && ((near S d == r && reachB S g k (farr S d)) || (farr S d == r && reachB S g k (near S d))))
theorem reachB_succ {S : Nat → Int32} {g k r : Nat} : reachB S g (k + 1) r = true ↔ ∃ d, d < nd S ∧ openB S d = true ∧ ((near S d = r ∧ reachB S g k (farr S d) = true) ∨ (farr S d = r ∧ reachB S g k (near S d) = true)) := by
  rw [reachB, anyN_iff]
  simp only [Bool.and_eq_true, Bool.or_eq_true, beq_iff_eq]
def distV (S : Nat → Int32) (g r : Nat) : Nat := firstT (fun k => reachB S g k r) 99
theorem dist_le (S : Nat → Int32) (g r : Nat) : distV S g r ≤ 99 := firstT_le _ _
theorem dist_0 (S : Nat → Int32) (g : Nat) : distV S g g = 0 := by
  have := firstT_of (p := fun k => reachB S g k g) (n := 99) (k := 0) (by omega) (by simp [reachB])
  unfold distV; omega
theorem dist_eq0 {S : Nat → Int32} {g r : Nat} (h : distV S g r = 0) : r = g := by
  have := (firstT_spec (fun k => reachB S g k r) 99).1 (by unfold distV at h; omega)
  unfold distV at h
  rw [h] at this
  simpa [reachB] using this
theorem dist_reach {S : Nat → Int32} {g r : Nat} (h : distV S g r < 99) : reachB S g (distV S g r) r = true := (firstT_spec (fun k => reachB S g k r) 99).1 h
theorem dist_of {S : Nat → Int32} {g r k : Nat} (hk : k < 99) (h : reachB S g k r = true) : distV S g r ≤ k := firstT_of hk h
theorem dist_step {S : Nat → Int32} {g d : Nat} (hd : d < nd S) (ho : openB S d = true) : distV S g (near S d) ≤ distV S g (farr S d) + 1 ∧ distV S g (farr S d) ≤ distV S g (near S d) + 1 := by
  constructor
  · by_cases h : distV S g (farr S d) < 98
    · exact dist_of (by omega) (reachB_succ.mpr ⟨d, hd, ho, Or.inl ⟨rfl, dist_reach (by omega)⟩⟩)
    · have := dist_le S g (near S d); omega
  · by_cases h : distV S g (near S d) < 98
    · exact dist_of (by omega) (reachB_succ.mpr ⟨d, hd, ho, Or.inr ⟨rfl, dist_reach (by omega)⟩⟩)
    · have := dist_le S g (farr S d); omega
theorem dist_pred {S : Nat → Int32} {g r k : Nat} (h : distV S g r = k + 1) (hk : k + 1 < 99) : ∃ d, d < nd S ∧ openB S d = true ∧ ((near S d = r ∧ distV S g (farr S d) ≤ k) ∨ (farr S d = r ∧ distV S g (near S d) ≤ k)) := by
  have h1 := dist_reach (S := S) (g := g) (r := r) (by omega)
  rw [h] at h1
  obtain ⟨d, hd, ho, hh⟩ := reachB_succ.mp h1
  refine ⟨d, hd, ho, ?_⟩
  rcases hh with ⟨e, q⟩ | ⟨e, q⟩
  · exact Or.inl ⟨e, dist_of (by omega) q⟩
  · exact Or.inr ⟨e, dist_of (by omega) q⟩
/-- no door makes anything less: then all is at most the distance -/
theorem dist_upper {S : Nat → Int32} {g : Nat} {f : Nat → Nat} (h0 : f g = 0) (h99 : ∀ r, r < nr S → f r ≤ 99) (hin : ∀ d, d < nd S → near S d < nr S ∧ farr S d < nr S)
    (hx : ∀ d, d < nd S → openB S d = true → f (near S d) ≤ f (farr S d) + 1 ∧ f (farr S d) ≤ f (near S d) + 1) : ∀ r, r < nr S → f r ≤ distV S g r := by
  have key : ∀ k r, r < nr S → reachB S g k r = true → f r ≤ k := by
    intro k
    induction k with
    | zero =>
      intro r _ h
      have : r = g := by simpa [reachB] using h
      subst this; omega
    | succ k ih =>
      intro r hr h
      obtain ⟨d, hd, ho, hh⟩ := reachB_succ.mp h
      have h1 := hx d hd ho
      have h2 := hin d hd
      rcases hh with ⟨e, q⟩ | ⟨e, q⟩
      · have := ih _ h2.2 q; subst e; omega
      · have := ih _ h2.1 q; subst e; omega
  intro r hr
  by_cases h : distV S g r < 99
  · exact key _ _ hr (dist_reach h)
  · have := h99 r hr; omega
/-- the sum of the first n -/
def sumN (n : Nat) (f : Nat → Nat) : Nat := match n with
  | 0 => 0
  | n + 1 => sumN n f + f n
theorem sumN_up {n : Nat} {f : Nat → Nat} {r x : Nat} (hr : r < n) (hx : x < f r) : sumN n (va_up f r x) < sumN n f := by
  induction n with
  | zero => omega
  | succ n ih =>
    rw [sumN, sumN]
    by_cases h : r = n
    · subst h
      have : ∀ m, m ≤ r → sumN m (va_up f r x) = sumN m f := by
        intro m
        induction m with
        | zero => intro _; rfl
        | succ m ihm =>
          intro hm
          rw [sumN, sumN, ihm (by omega)]
          simp [va_up, show m ≠ r by omega]
      rw [this r (Nat.le_refl _)]
      simp [va_up]
      exact hx
    · have := ih (by omega)
      have e : va_up f r x n = f n := by simp [va_up, Ne.symm h]
      omega
theorem sumN_le {n b : Nat} {f : Nat → Nat} (h : ∀ r, r < n → f r ≤ b) : sumN n f ≤ n * b := by
  induction n with
  | zero => simp [sumN]
  | succ n ih =>
    rw [sumN, Nat.succ_mul]
    have h1 := ih (fun r hr => h r (by omega))
    have h2 := h n (by omega)
    omega
