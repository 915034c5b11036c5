/-! Plain: all that can be reached, level by level -/
def walkE (E : Nat → Nat → Prop) : Nat → Nat → Nat → Prop
  | 0, a, b => a = b
  | k + 1, a, b => ∃ c, walkE E k a c ∧ E c b
theorem walkE_trans {E : Nat → Nat → Prop} {a b c : Nat} : ∀ {j i : Nat}, walkE E i a b → walkE E j b c → walkE E (i + j) a c := by
  intro j
  induction j generalizing c with
  | zero => intro i h1 h2; cases h2; exact h1
  | succ j ih =>
    rintro i h1 ⟨x, h2, h3⟩
    exact ⟨x, ih h1 h2, h3⟩
theorem walkE_head {E : Nat → Nat → Prop} {k : Nat} : ∀ {a b c : Nat}, E a b → walkE E k b c → walkE E (k + 1) a c := by
  intro a b c h1 h2
  have := walkE_trans (E := E) (i := 1) (j := k) (a := a) (b := b) (c := c) ⟨a, rfl, h1⟩ h2
  rwa [Nat.add_comm] at this
theorem pigeon : ∀ (M cnt : Nat) (f : Nat → Nat), (∀ i, i < cnt → f i < M) → (∀ i j, i < cnt → j < cnt → f i = f j → i = j) → cnt ≤ M := by
  intro M
  induction M with
  | zero =>
    intro cnt f h1 _
    rcases Nat.eq_zero_or_pos cnt with h | h
    · omega
    · exact absurd (h1 0 h) (by omega)
  | succ M ih =>
    intro cnt f h1 h2
    by_cases hx : ∃ i, i < cnt ∧ f i = M
    · obtain ⟨i0, hi0, he⟩ := hx
      have h3 := ih (cnt - 1) (fun i => if i < i0 then f i else f (i + 1)) (fun i hi => by
        split
        · rename_i h
          have := h1 i (by omega)
          have h4 : f i ≠ M := fun q => by have := h2 i i0 (by omega) hi0 (q.trans he.symm); omega
          omega
        · rename_i h
          have := h1 (i + 1) (by omega)
          have h4 : f (i + 1) ≠ M := fun q => by have := h2 (i + 1) i0 (by omega) hi0 (q.trans he.symm); omega
          omega) (fun i j hi hj hij => by
        split at hij <;> split at hij
        · exact h2 i j (by omega) (by omega) hij
        · have := h2 i (j + 1) (by omega) (by omega) hij; omega
        · have := h2 (i + 1) j (by omega) (by omega) hij; omega
        · have := h2 (i + 1) (j + 1) (by omega) (by omega) hij; omega)
      omega
    · have := ih cnt f (fun i hi => by
        have := h1 i hi
        have h4 : f i ≠ M := fun q => hx ⟨i, hi, q⟩
        omega) h2
      omega
/-- the state of a search: how many are seen, in what order, at what level; k are done -/
def BFI (E : Nat → Nat → Prop) (src : Nat → Prop) (M cnt k : Nat) (qv lv : Nat → Nat) : Prop :=
  (∀ i j, i < cnt → j < cnt → qv i = qv j → i = j) ∧ (∀ j, j < cnt → qv j < M) ∧ (∀ j, j < cnt → ∃ s, src s ∧ walkE E (lv (qv j)) s (qv j)) ∧
  (∀ s, src s → ∃ j, j < cnt ∧ qv j = s ∧ lv s = 0) ∧ (∀ i j, i ≤ j → j < cnt → lv (qv i) ≤ lv (qv j)) ∧ (k < cnt → ∀ j, j < cnt → lv (qv j) ≤ lv (qv k) + 1) ∧
  (∀ i, i < k → i < cnt → ∀ c, E (qv i) c → ∃ j, j < cnt ∧ qv j = c ∧ lv c ≤ lv (qv i) + 1)
def seenB (cnt : Nat) (qv : Nat → Nat) (c : Nat) : Prop := ∃ j, j < cnt ∧ qv j = c
theorem BFI.room {E : Nat → Nat → Prop} {src : Nat → Prop} {M cnt k c : Nat} {qv lv : Nat → Nat} (h : BFI E src M cnt k qv lv) (hc : c < M) (hn : ¬ seenB cnt qv c) : cnt < M := by
  have := pigeon M (cnt + 1) (va_up qv cnt c) (fun i hi => by
    by_cases e : i = cnt
    · subst e; rw [vup_s]; exact hc
    · rw [vup_n _ _ e]; exact h.2.1 i (by omega)) (fun i j hi hj hij => by
    by_cases e1 : i = cnt <;> by_cases e2 : j = cnt
    · omega
    · subst e1; rw [vup_s, vup_n _ _ e2] at hij; exact absurd ⟨j, by omega, hij.symm⟩ hn
    · subst e2; rw [vup_s, vup_n _ _ e1] at hij; exact absurd ⟨i, by omega, hij⟩ hn
    · rw [vup_n _ _ e1, vup_n _ _ e2] at hij; exact h.1 i j (by omega) (by omega) hij)
  omega
/-- one more is seen, from the one at work -/
theorem BFI.add {E : Nat → Nat → Prop} {src : Nat → Prop} {M cnt k c : Nat} {qv lv : Nat → Nat} (h : BFI E src M cnt k qv lv) (hk : k < cnt) (hc : c < M) (hE : E (qv k) c) (hn : ¬ seenB cnt qv c) : BFI E src M (cnt + 1) k (va_up qv cnt c) (va_up lv c (lv (qv k) + 1)) := by
  obtain ⟨a, m, b, cc, d, e, f⟩ := h
  have hq : ∀ j, j < cnt → va_up qv cnt c j = qv j := fun j hj => vup_n _ _ (by omega)
  have hl : ∀ j, j < cnt → va_up lv c (lv (qv k) + 1) (qv j) = lv (qv j) := fun j hj => vup_n _ _ (fun q => hn ⟨j, hj, q⟩)
  have hqn : va_up qv cnt c cnt = c := vup_s _ _ _
  have hln : va_up lv c (lv (qv k) + 1) c = lv (qv k) + 1 := vup_s _ _ _
  refine ⟨fun i j hi hj hij => ?_, fun j hj => ?_, fun j hj => ?_, fun s hs => ?_, fun i j hij hj => ?_, fun _ j hj => ?_, fun i hi hi2 x hx => ?_⟩
  · by_cases e1 : i = cnt <;> by_cases e2 : j = cnt
    · omega
    · subst e1; rw [hqn, hq j (by omega)] at hij; exact absurd ⟨j, by omega, hij.symm⟩ hn
    · subst e2; rw [hqn, hq i (by omega)] at hij; exact absurd ⟨i, by omega, hij⟩ hn
    · rw [hq i (by omega), hq j (by omega)] at hij; exact a i j (by omega) (by omega) hij
  · by_cases e1 : j = cnt
    · subst e1; rw [hqn]; exact hc
    · rw [hq j (by omega)]; exact m j (by omega)
  · by_cases e1 : j = cnt
    · subst e1
      rw [hqn, hln]
      obtain ⟨s, h1, h2⟩ := b k hk
      exact ⟨s, h1, qv k, h2, hE⟩
    · rw [hq j (by omega), hl j (by omega)]; exact b j (by omega)
  · obtain ⟨j, h1, h2, h3⟩ := cc s hs
    refine ⟨j, by omega, by rw [hq j h1]; exact h2, ?_⟩
    rw [← h2, hl j h1, h2]; exact h3
  · by_cases e1 : j = cnt
    · subst e1
      rw [hqn, hln]
      by_cases e2 : i = j
      · subst e2; rw [hqn, hln]; exact Nat.le_refl _
      · rw [hq i (by omega), hl i (by omega)]; exact e hk i (by omega)
    · rw [hq j (by omega), hl j (by omega), hq i (by omega), hl i (by omega)]; exact d i j hij (by omega)
  · rw [hq k hk, hl k hk]
    by_cases e1 : j = cnt
    · subst e1; rw [hqn, hln]; exact Nat.le_refl _
    · rw [hq j (by omega), hl j (by omega)]; exact e hk j (by omega)
  · by_cases e1 : i = cnt
    · omega
    · rw [hq i (by omega)] at hx
      obtain ⟨j, h1, h2, h3⟩ := f i hi (by omega) x hx
      refine ⟨j, by omega, by rw [hq j h1]; exact h2, ?_⟩
      rw [hq i (by omega), hl i (by omega), ← h2, hl j h1, h2]; exact h3
/-- the one at work is done: all that it leads to is seen -/
theorem BFI.next {E : Nat → Nat → Prop} {src : Nat → Prop} {M cnt k : Nat} {qv lv : Nat → Nat} (h : BFI E src M cnt k qv lv) (hk : k < cnt) (hx : ∀ c, E (qv k) c → seenB cnt qv c) : BFI E src M cnt (k + 1) qv lv := by
  obtain ⟨a, m, b, cc, d, e, f⟩ := h
  refine ⟨a, m, b, cc, d, fun h1 j hj => ?_, fun i hi hi2 x hxx => ?_⟩
  · have h2 := e hk j hj
    have h3 := d k (k + 1) (by omega) h1
    omega
  · by_cases e1 : i = k
    · subst e1
      obtain ⟨j, h1, h2⟩ := hx x hxx
      refine ⟨j, h1, h2, ?_⟩
      rw [← h2]; exact e hk j h1
    · exact f i (by omega) hi2 x hxx
/-- before any work: the sources, in any order, at level 0 -/
theorem BFI.start {E : Nat → Nat → Prop} {src : Nat → Prop} {M cnt : Nat} {qv lv : Nat → Nat} (h1 : ∀ i j, i < cnt → j < cnt → qv i = qv j → i = j) (h2 : ∀ j, j < cnt → qv j < M) (h3 : ∀ j, j < cnt → src (qv j) ∧ lv (qv j) = 0) (h4 : ∀ s, src s → ∃ j, j < cnt ∧ qv j = s) : BFI E src M cnt 0 qv lv := by
  refine ⟨h1, h2, fun j hj => ⟨qv j, (h3 j hj).1, by rw [(h3 j hj).2]; rfl⟩, fun s hs => ?_, fun i j hij hj => by rw [(h3 i (by omega)).2, (h3 j hj).2]; exact Nat.le_refl _, fun h j hj => by rw [(h3 j hj).2]; omega, fun i hi => absurd hi (by omega)⟩
  obtain ⟨j, a, b⟩ := h4 s hs
  exact ⟨j, a, b, by rw [← b]; exact (h3 j a).2⟩
/-- all done: seen is what can be reached, at the least number of steps -/
theorem BFI.done {E : Nat → Nat → Prop} {src : Nat → Prop} {M cnt : Nat} {qv lv : Nat → Nat} (h : BFI E src M cnt cnt qv lv) : ∀ (n s c : Nat), src s → walkE E n s c → seenB cnt qv c ∧ lv c ≤ n := by
  obtain ⟨a, m, b, cc, d, e, f⟩ := h
  intro n
  induction n with
  | zero =>
    intro s c hs hw
    cases hw
    obtain ⟨j, h1, h2, h3⟩ := cc s hs
    exact ⟨⟨j, h1, h2⟩, by omega⟩
  | succ n ih =>
    rintro s c hs ⟨x, hw, hE⟩
    obtain ⟨⟨i, h1, h2⟩, h3⟩ := ih s x hs hw
    rw [← h2] at hE
    obtain ⟨j, h4, h5, h6⟩ := f i h1 h1 c hE
    refine ⟨⟨j, h4, h5⟩, ?_⟩
    rw [h2] at h6
    omega
theorem BFI.lev {E : Nat → Nat → Prop} {src : Nat → Prop} {M cnt : Nat} {qv lv : Nat → Nat} (h : BFI E src M cnt cnt qv lv) {c : Nat} (hc : seenB cnt qv c) : (∃ s, src s ∧ walkE E (lv c) s c) ∧ ∀ n s, src s → walkE E n s c → lv c ≤ n := by
  obtain ⟨j, h1, h2⟩ := hc
  subst h2
  exact ⟨h.2.2.1 j h1, fun n s hs hw => (h.done n s _ hs hw).2⟩
/-- the least number with a property; none -/
noncomputable def leastP (P : Nat → Prop) : Nat := Classical.epsilon (fun k => P k ∧ ∀ j, j < k → ¬ P j)
theorem leastP_eq {P : Nat → Prop} {k : Nat} (h : P k) (hm : ∀ j, j < k → ¬ P j) : leastP P = k := by
  have hs := Classical.epsilon_spec (p := fun k => P k ∧ ∀ j, j < k → ¬ P j) ⟨k, h, hm⟩
  have h1 : P (leastP P) ∧ ∀ j, j < leastP P → ¬ P j := hs
  rcases Nat.lt_trichotomy (leastP P) k with q | q | q
  · exact absurd h1.1 (hm _ q)
  · exact q
  · exact absurd h (h1.2 _ q)
theorem leastP_ex {P : Nat → Prop} (h : ∃ k, P k) : P (leastP P) ∧ ∀ j, j < leastP P → ¬ P j := by
  obtain ⟨k, hk⟩ := h
  have key : ∀ n, (∃ k, k < n ∧ P k) → ∃ k, P k ∧ ∀ j, j < k → ¬ P j := by
    intro n
    induction n with
    | zero => rintro ⟨k, h, -⟩; omega
    | succ n ih =>
      rintro ⟨k, h1, h2⟩
      by_cases hx : ∃ j, j < n ∧ P j
      · exact ih hx
      · exact ⟨k, h2, fun j hj hp => hx ⟨j, by omega, hp⟩⟩
  obtain ⟨k0, h0, h1⟩ := key (k + 1) ⟨k, by omega, hk⟩
  rw [leastP_eq h0 h1]
  exact ⟨h0, h1⟩
