/-! What a castle's text tells -/
set_option maxRecDepth 100000
/-- a number that is read: an error, or the place and the number -/
def numP (T : Nat → Int32) (n i mn mx : Nat) : Sum Nat (Nat × Nat) := if digB T n (skip T n i) = true then (if numB T n (skip T n i) mn mx = true then .inr (skip T n i + drun T n (skip T n i), numV T (skip T n i) (drun T n (skip T n i))) else .inl (errN 1 (skip T n i))) else .inl (errN 0 (skip T n i))
theorem numP_ok {T : Nat → Int32} {n i mn mx : Nat} {q : Nat × Nat} (hi : i ≤ n) (h : numP T n i mn mx = .inr q) : i < q.1 ∧ q.1 ≤ n ∧ mn ≤ q.2 ∧ q.2 ≤ mx := by
  have hs := skip_le (T := T) hi
  unfold numP at h
  split at h
  · rename_i hD
    have hp := drun_pos hD
    have hl : skip T n i + drun T n (skip T n i) ≤ n := run_le (f := digB T n) hs.2
    split at h
    · rename_i hN
      cases h
      unfold numB at hN
      simp only [Bool.and_eq_true, decide_eq_true_eq] at hN
      exact ⟨by show i < skip T n i + drun T n (skip T n i); omega, hl, hN.2.1, hN.2.2⟩
    · cases h
  · cases h
theorem numM_ok {I : Im} {T : Nat → Int32} {n j mn mx : Nat} (hD : digB T n j = true) (hN : numB T n j mn mx = true) : numM I T n j mn mx = upd2 (upd2 I 161 8 (nI (j + drun T n j))) 161 10 (nI (numV T j (drun T n j))) := by
  unfold numM
  rw [if_pos hD]
  exact if_pos hN
theorem numM_b1 {I : Im} {T : Nat → Int32} {n j mn mx : Nat} (hD : digB T n j = true) (hN : numB T n j mn mx = false) : numM I T n j mn mx = upd2 (upd2 (upd2 I 161 8 (nI (j + drun T n j))) 161 10 (nI (numV T j (drun T n j)))) 161 9 (failW (I 161 9) 1 j) := by
  unfold numM
  rw [if_pos hD]
  exact if_neg (by rw [hN]; exact Bool.false_ne_true)
theorem numM_b0 {I : Im} {T : Nat → Int32} {n j mn mx : Nat} (hD : digB T n j = false) : numM I T n j mn mx = upd2 (upd2 I 161 8 (nI j)) 161 9 (failW (I 161 9) 0 j) := by
  unfold numM
  rw [if_neg (by rw [hD]; exact Bool.false_ne_true)]
abbrev Kt : Type := Nat × Nat × Nat
/-- a castle: how many rooms, how far, doors, night, people -/
abbrev CS : Type := Nat × (Nat → Nat) × List Kt × Option (Nat × Nat) × List Kt
abbrev kR (K : CS) : Nat := K.1
abbrev kF (K : CS) : Nat → Nat := K.2.1
abbrev kD (K : CS) : List Kt := K.2.2.1
abbrev kN (K : CS) : Option (Nat × Nat) := K.2.2.2.1
abbrev kP (K : CS) : List Kt := K.2.2.2.2
def gK (D : List Kt) (k : Nat) : Kt := D.getD k (0, 0, 0)
theorem gK_lt {D E : List Kt} {k : Nat} (h : k < D.length) : gK (D ++ E) k = gK D k := by
  unfold gK
  rw [List.getD_eq_getElem?_getD, List.getD_eq_getElem?_getD, List.getElem?_append_left h]
theorem gK_eq {D : List Kt} {x : Kt} : gK (D ++ [x]) D.length = x := by
  unfold gK
  rw [List.getD_eq_getElem?_getD, List.getElem?_append_right (Nat.le_refl _), Nat.sub_self]
  rfl
/-- whether a door stands between -/
def joinF (D : List Kt) (a b k : Nat) : Bool := (decide ((gK D k).1 = a) && decide ((gK D k).2.1 = b)) || (decide ((gK D k).1 = b) && decide ((gK D k).2.1 = a))
def joinD (D : List Kt) (a b : Nat) : Bool := anyN D.length (joinF D a b)
def CSok (K : CS) : Prop := (kR K = 0 ∨ 2 ≤ kR K) ∧ kR K ≤ 8 ∧ (kD K).length ≤ 14 ∧ (kP K).length ≤ 4 ∧ (∀ k, k < (kD K).length → (gK (kD K) k).1 < kR K ∧ (gK (kD K) k).2.1 < kR K ∧ (gK (kD K) k).2.2 ≤ 1 ∧ (gK (kD K) k).1 ≠ (gK (kD K) k).2.1) ∧ (∀ k, k < (kP K).length → (gK (kP K) k).1 < kR K ∧ (gK (kP K) k).2.1 < kR K ∧ (gK (kP K) k).2.2 ≤ 50) ∧ (∀ q, kN K = some q → q.1 ≤ q.2 ∧ q.2 ≤ 23) ∧ (∀ r, r < 8 → kF K r ≤ 9)
/-- a row of cells tells a castle -/
def LayC (C : Nat → Int32) (K : CS) : Prop := C 0 = nI (kR K) ∧ C 1 = nI (kD K).length ∧ C 2 = nI (kP K).length ∧ C 3 = 0 ∧ (match kN K with
    | none => C 4 = -1 ∧ C 5 = -1
    | some q => C 4 = nI q.1 ∧ C 5 = nI q.2) ∧ (∀ r, r < 8 → C (34 + r) = nI (kF K r)) ∧ (∀ k, k < (kD K).length → C (42 + 3 * k) = nI (gK (kD K) k).1 ∧ C (42 + 3 * k + 1) = nI (gK (kD K) k).2.1 ∧ C (42 + 3 * k + 2) = nI (gK (kD K) k).2.2) ∧ (∀ k, k < (kP K).length → C (10 + 6 * k) = nI (gK (kP K) k).1 ∧ C (10 + 6 * k + 1) = nI (gK (kP K) k).2.1 ∧ C (10 + 6 * k + 2) = nI (gK (kP K) k).2.2 ∧ C (10 + 6 * k + 3) = 0 ∧ C (10 + 6 * k + 4) = 0 ∧ C (10 + 6 * k + 5) = -1)
theorem LayC.of {C C1 : Nat → Int32} {K : CS} (h : LayC C K) (hP : (kP K).length ≤ 4) (h1 : ∀ j, j < 6 ∨ (34 ≤ j ∧ j < 42 + 3 * (kD K).length) ∨ (10 ≤ j ∧ j < 10 + 6 * (kP K).length) → C1 j = C j) : LayC C1 K := by
  obtain ⟨a0, a1, a2, a3, a4, a5, a6, a7⟩ := h
  refine ⟨(h1 0 (by omega)).trans a0, (h1 1 (by omega)).trans a1, (h1 2 (by omega)).trans a2, (h1 3 (by omega)).trans a3, ?_, fun r hr => (h1 _ (by omega)).trans (a5 r hr), fun k hk => ⟨(h1 _ (by omega)).trans (a6 k hk).1, (h1 _ (by omega)).trans (a6 k hk).2.1, (h1 _ (by omega)).trans (a6 k hk).2.2⟩, fun k hk => ⟨(h1 _ (by omega)).trans (a7 k hk).1, (h1 _ (by omega)).trans (a7 k hk).2.1, (h1 _ (by omega)).trans (a7 k hk).2.2.1, (h1 _ (by omega)).trans (a7 k hk).2.2.2.1, (h1 _ (by omega)).trans (a7 k hk).2.2.2.2.1, (h1 _ (by omega)).trans (a7 k hk).2.2.2.2.2⟩⟩
  cases hn : kN K with
  | none => rw [hn] at a4; exact ⟨(h1 4 (by omega)).trans a4.1, (h1 5 (by omega)).trans a4.2⟩
  | some q => rw [hn] at a4; exact ⟨(h1 4 (by omega)).trans a4.1, (h1 5 (by omega)).trans a4.2⟩
/-- the clauses, behind their word's place -/
abbrev CRes : Type := Sum Nat (Nat × CS)
def wcP (T : Nat → Int32) (n i : Nat) (K : CS) : CRes := if 0 < kR K then .inl (errN 4 i) else match numP T n (i + lrun T n i) 2 8 with
  | .inl e => .inl e
  | .inr q => .inr (q.1, q.2, K.2)
def wfP (T : Nat → Int32) (n i : Nat) (K : CS) : CRes := match numP T n (i + lrun T n i) 0 (kR K - 1) with
  | .inl e => .inl e
  | .inr q => match numP T n q.1 0 9 with
    | .inl e => .inl e
    | .inr v => .inr (v.1, kR K, va_up (kF K) q.2 v.2, kD K, kN K, kP K)
def wdP (T : Nat → Int32) (n i wn : Nat) (K : CS) : CRes := if (kD K).length = 14 then .inl (errN 4 i) else match numP T n (i + lrun T n i) 0 (kR K - 1) with
  | .inl e => .inl e
  | .inr q => match numP T n (skip T n q.1) 0 (kR K - 1) with
    | .inl e => .inl e
    | .inr v => if q.2 = v.2 ∨ joinD (kD K) q.2 v.2 = true then .inl (errN 1 (skip T n q.1)) else .inr (v.1, kR K, kF K, kD K ++ [(q.2, v.2, wn)], kN K, kP K)
def wnP (T : Nat → Int32) (n i : Nat) (K : CS) : CRes := if (kN K).isSome = true then .inl (errN 4 i) else match numP T n (i + lrun T n i) 0 23 with
  | .inl e => .inl e
  | .inr q => match numP T n q.1 q.2 23 with
    | .inl e => .inl e
    | .inr v => .inr (v.1, kR K, kF K, kD K, some (q.2, v.2), kP K)
def wpP (T : Nat → Int32) (n i : Nat) (K : CS) : CRes := if (kP K).length = 4 then .inl (errN 4 i) else match numP T n (i + lrun T n i) 0 (kR K - 1) with
  | .inl e => .inl e
  | .inr q => match numP T n q.1 0 (kR K - 1) with
    | .inl e => .inl e
    | .inr v => match numP T n v.1 0 50 with
      | .inl e => .inl e
      | .inr u => .inr (u.1, kR K, kF K, kD K, kN K, kP K ++ [(q.2, v.2, u.2)])
theorem LayC.castle {C : Nat → Int32} {K : CS} {v : Nat} (h : LayC C K) : LayC (va_up C 0 (nI v)) (v, K.2) := by
  obtain ⟨a0, a1, a2, a3, a4, a5, a6, a7⟩ := h
  exact ⟨vup_s _ _ _, (vup_n _ _ (by decide)).trans a1, (vup_n _ _ (by decide)).trans a2, (vup_n _ _ (by decide)).trans a3, by
    cases hn : kN K with
    | none => rw [hn] at a4; exact ⟨(vup_n _ _ (by decide)).trans a4.1, (vup_n _ _ (by decide)).trans a4.2⟩
    | some q => rw [hn] at a4; exact ⟨(vup_n _ _ (by decide)).trans a4.1, (vup_n _ _ (by decide)).trans a4.2⟩, fun r hr => (vup_n _ _ (by omega)).trans (a5 r hr), fun k hk => ⟨(vup_n _ _ (by omega)).trans (a6 k hk).1, (vup_n _ _ (by omega)).trans (a6 k hk).2.1, (vup_n _ _ (by omega)).trans (a6 k hk).2.2⟩, fun k hk => ⟨(vup_n _ _ (by omega)).trans (a7 k hk).1, (vup_n _ _ (by omega)).trans (a7 k hk).2.1, (vup_n _ _ (by omega)).trans (a7 k hk).2.2.1, (vup_n _ _ (by omega)).trans (a7 k hk).2.2.2.1, (vup_n _ _ (by omega)).trans (a7 k hk).2.2.2.2.1, (vup_n _ _ (by omega)).trans (a7 k hk).2.2.2.2.2⟩⟩
theorem LayC.far {C : Nat → Int32} {K : CS} {r v : Nat} (h : LayC C K) (hr : r < 8) (hP : (kP K).length ≤ 4) : LayC (va_up C (34 + r) (nI v)) (kR K, va_up (kF K) r v, kD K, kN K, kP K) := by
  obtain ⟨a0, a1, a2, a3, a4, a5, a6, a7⟩ := h
  refine ⟨(vup_n _ _ (by omega)).trans a0, (vup_n _ _ (by omega)).trans a1, (vup_n _ _ (by omega)).trans a2, (vup_n _ _ (by omega)).trans a3, ?_, fun j hj => ?_, fun k hk => ⟨(vup_n _ _ (by omega)).trans (a6 k hk).1, (vup_n _ _ (by omega)).trans (a6 k hk).2.1, (vup_n _ _ (by omega)).trans (a6 k hk).2.2⟩, fun k hk => ?_⟩
  · show match kN K with | none => _ | some q => _
    cases hn : kN K with
    | none => rw [hn] at a4; exact ⟨(vup_n _ _ (by omega)).trans a4.1, (vup_n _ _ (by omega)).trans a4.2⟩
    | some q => rw [hn] at a4; exact ⟨(vup_n _ _ (by omega)).trans a4.1, (vup_n _ _ (by omega)).trans a4.2⟩
  · show _ = nI (va_up (kF K) r v j)
    by_cases e : j = r
    · subst e; rw [vup_s, vup_s]
    · rw [vup_n _ _ (by omega), vup_n _ _ e]; exact a5 j hj
  · have hk2 : k < (kP K).length := hk
    exact ⟨(vup_n _ _ (by omega)).trans (a7 k hk).1, (vup_n _ _ (by omega)).trans (a7 k hk).2.1, (vup_n _ _ (by omega)).trans (a7 k hk).2.2.1, (vup_n _ _ (by omega)).trans (a7 k hk).2.2.2.1, (vup_n _ _ (by omega)).trans (a7 k hk).2.2.2.2.1, (vup_n _ _ (by omega)).trans (a7 k hk).2.2.2.2.2⟩
theorem LayC.night {C C1 : Nat → Int32} {K : CS} {a b : Nat} (h : LayC C K) (hP : (kP K).length ≤ 4) (h4 : C1 4 = nI a) (h5 : C1 5 = nI b) (h1 : ∀ j, j ≠ 4 → j ≠ 5 → C1 j = C j) : LayC C1 (kR K, kF K, kD K, some (a, b), kP K) := by
  obtain ⟨a0, a1, a2, a3, a4, a5, a6, a7⟩ := h
  refine ⟨(h1 0 (by omega) (by omega)).trans a0, (h1 1 (by omega) (by omega)).trans a1, (h1 2 (by omega) (by omega)).trans a2, (h1 3 (by omega) (by omega)).trans a3, ⟨h4, h5⟩, fun r hr => (h1 _ (by omega) (by omega)).trans (a5 r hr), fun k hk => ⟨(h1 _ (by omega) (by omega)).trans (a6 k hk).1, (h1 _ (by omega) (by omega)).trans (a6 k hk).2.1, (h1 _ (by omega) (by omega)).trans (a6 k hk).2.2⟩, fun k hk => ⟨(h1 _ (by omega) (by omega)).trans (a7 k hk).1, (h1 _ (by omega) (by omega)).trans (a7 k hk).2.1, (h1 _ (by omega) (by omega)).trans (a7 k hk).2.2.1, (h1 _ (by omega) (by omega)).trans (a7 k hk).2.2.2.1, (h1 _ (by omega) (by omega)).trans (a7 k hk).2.2.2.2.1, (h1 _ (by omega) (by omega)).trans (a7 k hk).2.2.2.2.2⟩⟩
theorem LayC.door {C C1 : Nat → Int32} {K : CS} {x : Kt} (h : LayC C K) (hP : (kP K).length ≤ 4) (hb : C1 (42 + 3 * (kD K).length) = nI x.1 ∧ C1 (42 + 3 * (kD K).length + 1) = nI x.2.1 ∧ C1 (42 + 3 * (kD K).length + 2) = nI x.2.2) (hm : C1 1 = nI ((kD K).length + 1)) (h1 : ∀ j, j ≠ 1 → j < 42 + 3 * (kD K).length → C1 j = C j) : LayC C1 (kR K, kF K, kD K ++ [x], kN K, kP K) := by
  obtain ⟨a0, a1, a2, a3, a4, a5, a6, a7⟩ := h
  refine ⟨(h1 0 (by omega) (by omega)).trans a0, ?_, (h1 2 (by omega) (by omega)).trans a2, (h1 3 (by omega) (by omega)).trans a3, ?_, fun r hr => (h1 _ (by omega) (by omega)).trans (a5 r hr), fun k hk => ?_, fun k hk => ?_⟩
  · show C1 1 = nI (kD K ++ [x]).length
    rw [hm, List.length_append]; rfl
  · show match kN K with | none => _ | some q => _
    cases hn : kN K with
    | none => rw [hn] at a4; exact ⟨(h1 4 (by omega) (by omega)).trans a4.1, (h1 5 (by omega) (by omega)).trans a4.2⟩
    | some q => rw [hn] at a4; exact ⟨(h1 4 (by omega) (by omega)).trans a4.1, (h1 5 (by omega) (by omega)).trans a4.2⟩
  · have hk2 : k < (kD K ++ [x]).length := hk
    rw [List.length_append] at hk2
    have hk3 : k < (kD K).length + 1 := hk2
    show C1 _ = nI (gK (kD K ++ [x]) k).1 ∧ C1 _ = nI (gK (kD K ++ [x]) k).2.1 ∧ C1 _ = nI (gK (kD K ++ [x]) k).2.2
    by_cases e : k = (kD K).length
    · subst e; rw [gK_eq]; exact hb
    · rw [gK_lt (by omega)]
      exact ⟨(h1 _ (by omega) (by omega)).trans (a6 k (by omega)).1, (h1 _ (by omega) (by omega)).trans (a6 k (by omega)).2.1, (h1 _ (by omega) (by omega)).trans (a6 k (by omega)).2.2⟩
  · have hk2 : k < (kP K).length := hk
    exact ⟨(h1 _ (by omega) (by omega)).trans (a7 k hk).1, (h1 _ (by omega) (by omega)).trans (a7 k hk).2.1, (h1 _ (by omega) (by omega)).trans (a7 k hk).2.2.1, (h1 _ (by omega) (by omega)).trans (a7 k hk).2.2.2.1, (h1 _ (by omega) (by omega)).trans (a7 k hk).2.2.2.2.1, (h1 _ (by omega) (by omega)).trans (a7 k hk).2.2.2.2.2⟩
theorem LayC.person {C C1 : Nat → Int32} {K : CS} {x : Kt} (h : LayC C K) (hP : (kP K).length < 4) (hb : C1 (10 + 6 * (kP K).length) = nI x.1 ∧ C1 (10 + 6 * (kP K).length + 1) = nI x.2.1 ∧ C1 (10 + 6 * (kP K).length + 2) = nI x.2.2 ∧ C1 (10 + 6 * (kP K).length + 3) = 0 ∧ C1 (10 + 6 * (kP K).length + 4) = 0 ∧ C1 (10 + 6 * (kP K).length + 5) = -1) (hm : C1 2 = nI ((kP K).length + 1)) (h1 : ∀ j, j ≠ 2 → j < 10 + 6 * (kP K).length ∨ 10 + 6 * (kP K).length + 6 ≤ j → C1 j = C j) : LayC C1 (kR K, kF K, kD K, kN K, kP K ++ [x]) := by
  obtain ⟨a0, a1, a2, a3, a4, a5, a6, a7⟩ := h
  refine ⟨(h1 0 (by omega) (by omega)).trans a0, (h1 1 (by omega) (by omega)).trans a1, ?_, (h1 3 (by omega) (by omega)).trans a3, ?_, fun r hr => (h1 _ (by omega) (by omega)).trans (a5 r hr), fun k hk => ?_, fun k hk => ?_⟩
  · show C1 2 = nI (kP K ++ [x]).length
    rw [hm, List.length_append]; rfl
  · show match kN K with | none => _ | some q => _
    cases hn : kN K with
    | none => rw [hn] at a4; exact ⟨(h1 4 (by omega) (by omega)).trans a4.1, (h1 5 (by omega) (by omega)).trans a4.2⟩
    | some q => rw [hn] at a4; exact ⟨(h1 4 (by omega) (by omega)).trans a4.1, (h1 5 (by omega) (by omega)).trans a4.2⟩
  · exact ⟨(h1 _ (by omega) (by omega)).trans (a6 k hk).1, (h1 _ (by omega) (by omega)).trans (a6 k hk).2.1, (h1 _ (by omega) (by omega)).trans (a6 k hk).2.2⟩
  · have hk2 : k < (kP K ++ [x]).length := hk
    rw [List.length_append] at hk2
    have hk3 : k < (kP K).length + 1 := hk2
    show C1 _ = nI (gK (kP K ++ [x]) k).1 ∧ C1 _ = nI (gK (kP K ++ [x]) k).2.1 ∧ C1 _ = nI (gK (kP K ++ [x]) k).2.2 ∧ _
    by_cases e : k = (kP K).length
    · subst e; rw [gK_eq]; exact hb
    · rw [gK_lt (by omega)]
      exact ⟨(h1 _ (by omega) (by omega)).trans (a7 k (by omega)).1, (h1 _ (by omega) (by omega)).trans (a7 k (by omega)).2.1, (h1 _ (by omega) (by omega)).trans (a7 k (by omega)).2.2.1, (h1 _ (by omega) (by omega)).trans (a7 k (by omega)).2.2.2.1, (h1 _ (by omega) (by omega)).trans (a7 k (by omega)).2.2.2.2.1, (h1 _ (by omega) (by omega)).trans (a7 k (by omega)).2.2.2.2.2⟩
theorem CSok.castle {K : CS} {v : Nat} (h : CSok K) (h0 : kR K = 0) (hv : 2 ≤ v ∧ v ≤ 8) : CSok (v, K.2) := by
  obtain ⟨a0, a1, a2, a3, a4, a5, a6, a7⟩ := h
  exact ⟨Or.inr hv.1, hv.2, a2, a3, fun k hk => absurd (a4 k hk).1 (by omega), fun k hk => absurd (a5 k hk).1 (by omega), a6, a7⟩
theorem CSok.far {K : CS} {r v : Nat} (h : CSok K) (hv : v ≤ 9) : CSok (kR K, va_up (kF K) r v, kD K, kN K, kP K) := by
  obtain ⟨a0, a1, a2, a3, a4, a5, a6, a7⟩ := h
  refine ⟨a0, a1, a2, a3, a4, a5, a6, fun j hj => ?_⟩
  show va_up (kF K) r v j ≤ 9
  by_cases e : j = r
  · subst e; rw [vup_s]; exact hv
  · rw [vup_n _ _ e]; exact a7 j hj
theorem CSok.night {K : CS} {a b : Nat} (h : CSok K) (hv : a ≤ b ∧ b ≤ 23) : CSok (kR K, kF K, kD K, some (a, b), kP K) := by
  obtain ⟨a0, a1, a2, a3, a4, a5, a6, a7⟩ := h
  exact ⟨a0, a1, a2, a3, a4, a5, fun q hq => by cases hq; exact hv, a7⟩
theorem CSok.door {K : CS} {x : Kt} (h : CSok K) (hD : (kD K).length < 14) (hx : x.1 < kR K ∧ x.2.1 < kR K ∧ x.2.2 ≤ 1 ∧ x.1 ≠ x.2.1) : CSok (kR K, kF K, kD K ++ [x], kN K, kP K) := by
  obtain ⟨a0, a1, a2, a3, a4, a5, a6, a7⟩ := h
  have e : (kD K ++ [x]).length = (kD K).length + 1 := List.length_append
  refine ⟨a0, a1, by show (kD K ++ [x]).length ≤ 14; omega, a3, fun k hk => ?_, a5, a6, a7⟩
  have hk2 : k < (kD K ++ [x]).length := hk
  show (gK (kD K ++ [x]) k).1 < kR K ∧ (gK (kD K ++ [x]) k).2.1 < kR K ∧ (gK (kD K ++ [x]) k).2.2 ≤ 1 ∧ (gK (kD K ++ [x]) k).1 ≠ (gK (kD K ++ [x]) k).2.1
  by_cases e2 : k = (kD K).length
  · subst e2; rw [gK_eq]; exact hx
  · rw [gK_lt (by omega)]; exact a4 k (by omega)
theorem CSok.person {K : CS} {x : Kt} (h : CSok K) (hD : (kP K).length < 4) (hx : x.1 < kR K ∧ x.2.1 < kR K ∧ x.2.2 ≤ 50) : CSok (kR K, kF K, kD K, kN K, kP K ++ [x]) := by
  obtain ⟨a0, a1, a2, a3, a4, a5, a6, a7⟩ := h
  have e : (kP K ++ [x]).length = (kP K).length + 1 := List.length_append
  refine ⟨a0, a1, a2, by show (kP K ++ [x]).length ≤ 4; omega, a4, fun k hk => ?_, a6, a7⟩
  have hk2 : k < (kP K ++ [x]).length := hk
  show (gK (kP K ++ [x]) k).1 < kR K ∧ (gK (kP K ++ [x]) k).2.1 < kR K ∧ (gK (kP K ++ [x]) k).2.2 ≤ 50
  by_cases e2 : k = (kP K).length
  · subst e2; rw [gK_eq]; exact hx
  · rw [gK_lt (by omega)]; exact a5 k (by omega)
