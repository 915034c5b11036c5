/-! Plain: the least pay, till nothing is less -/
def wwalk (EW : Nat → Nat → Nat → Prop) : Nat → Nat → Nat → Nat → Prop
  | 0, y, a, b => b = a ∧ y = 0
  | k + 1, y, a, b => ∃ c y1 w, wwalk EW k y1 a c ∧ EW c b w ∧ y = y1 + w
def PayS (S : Nat → Int32) : Prop := ∀ p, p < np S → ∃ w, w ≤ 50 ∧ pv S p 2 = nI w
def wP (S : Nat → Int32) (but p : Nat) : Nat := if p = but then 0 else (pv S p 2).toNatClampNeg
/-- one passing back, and what it costs; of one door and one who goes out -/
def ewp (S : Nat → Int32) (c d p u : Nat) : Prop := openB S d = true ∧ dg (nr S) c p = farr S d ∧ (u = mv (nr S) c p (near S d) ∨ ∃ q, q < np S ∧ q ≠ p ∧ dg (nr S) c q = near S d ∧ u = mv (nr S) (mv (nr S) c p (near S d)) q (farr S d))
def EW (S : Nat → Int32) (but c u w : Nat) : Prop := ∃ d p, d < nd S ∧ p < np S ∧ ewp S c d p u ∧ w = wP S but p
def WB (S : Nat → Int32) (but : Nat) (src : Nat → Prop) (c y : Nat) : Prop := ∃ k s, src s ∧ wwalk (EW S but) k y s c
noncomputable def leastV (P : Nat → Prop) : Int32 := @ite _ (∃ y, P y) (Classical.propDecidable _) (nI (leastP P)) (-1)
theorem leastV_no {P : Nat → Prop} (h : ∀ y, ¬ P y) : leastV P = -1 := by
  unfold leastV
  rw [if_neg]
  rintro ⟨y, hy⟩
  exact h y hy
theorem leastV_is {P : Nat → Prop} {y : Nat} (h : P y) (hm : ∀ j, P j → y ≤ j) : leastV P = nI y := by
  unfold leastV
  rw [if_pos ⟨y, h⟩, leastP_eq h]
  intro j hj q
  have := hm j q
  omega
def cntF (M : Nat) (X : Nat → Nat) : Nat := sumN M (fun c => if X c = 0 then 0 else 1)
def BIG : Nat := 300000
def muP (M : Nat) (X : Nat → Nat) : Nat := sumN M (fun c => if X c = 0 then BIG else X c)
/-- what always holds of the row of pays (0 none, y + 1: y) -/
def PI (S : Nat → Int32) (but : Nat) (src : Nat → Prop) (M : Nat) (X : Nat → Nat) : Prop :=
  (∀ c y, c < M → X c = y + 1 → WB S but src c y) ∧ (∀ c, c < M → X c ≤ 50 * cntF M X + 1) ∧ (∀ s, src s → X s = 1)
theorem sumN_congr {n : Nat} {f g : Nat → Nat} (h : ∀ i, i < n → f i = g i) : sumN n f = sumN n g := by
  induction n with
  | zero => rfl
  | succ n ih => rw [sumN, sumN, ih (fun i hi => h i (by omega)), h n (by omega)]
theorem sumN_one {n u x : Nat} {f : Nat → Nat} (hu : u < n) : sumN n (va_up f u x) + f u = sumN n f + x := by
  induction n with
  | zero => omega
  | succ n ih =>
    rw [sumN, sumN]
    by_cases e : u = n
    · subst e
      rw [vup_s, sumN_congr (f := va_up f u x) (g := f) (fun i hi => vup_n _ _ (by omega))]
      omega
    · have := ih (by omega)
      rw [vup_n _ _ (Ne.symm e)]
      omega
theorem sum_up {g : Nat → Nat} {M u x : Nat} {X : Nat → Nat} (hu : u < M) : sumN M (fun c => g (va_up X u x c)) + g (X u) = sumN M (fun c => g (X c)) + g x := by
  have h1 := sumN_one (f := fun c => g (X c)) (x := g x) hu
  rw [← h1]
  congr 1
  refine sumN_congr (fun i hi => ?_)
  by_cases e : i = u
  · subst e; rw [vup_s, vup_s]
  · rw [vup_n _ _ e, vup_n _ _ e]
theorem cntF_le {M : Nat} {X : Nat → Nat} : cntF M X ≤ M := by
  have := sumN_le (n := M) (b := 1) (f := fun c => if X c = 0 then 0 else 1) (fun r _ => by split <;> omega)
  unfold cntF; omega
theorem PI.le {S : Nat → Int32} {but M c : Nat} {src : Nat → Prop} {X : Nat → Nat} (h : PI S but src M X) (hM : M ≤ 4096) (hc : c < M) : X c ≤ 204801 := by
  have h1 := h.2.1 c hc
  have h2 := cntF_le (M := M) (X := X)
  omega
theorem wP_le {S : Nat → Int32} {but p : Nat} (hP : PayS S) (hp : p < np S) : wP S but p ≤ 50 := by
  unfold wP
  obtain ⟨w, h1, h2⟩ := hP p hp
  split
  · omega
  · rw [h2, nI_clamp (by omega)]; exact h1
/-- one is less now -/
theorem PI.relax {S : Nat → Int32} {but M c u w : Nat} {src : Nat → Prop} {X : Nat → Nat} (h : PI S but src M X) (hM : M ≤ 4096) (hc : c < M) (hu : u < M) (h0 : X c ≠ 0) (hE : EW S but c u w) (hw : w ≤ 50) (hx : X u = 0 ∨ X c + w < X u) :
    PI S but src M (va_up X u (X c + w)) ∧ muP M (va_up X u (X c + w)) < muP M X := by
  have hs : ∀ s, src s → s ≠ u := fun s hs e => by
    have h1 := h.2.2 s hs
    rw [e] at h1
    rcases hx with q | q
    · omega
    · omega
  have hb := h.le hM hc
  have hbu := h.le hM hu
  have h1 := sum_up (g := fun z => if z = 0 then 0 else 1) (M := M) (u := u) (x := X c + w) (X := X) hu
  have h2 := sum_up (g := fun z => if z = 0 then BIG else z) (M := M) (u := u) (x := X c + w) (X := X) hu
  have h3 : X c + w ≠ 0 := by omega
  have e1 : cntF M (va_up X u (X c + w)) + (if X u = 0 then 0 else 1) = cntF M X + 1 := by
    unfold cntF; rw [if_neg h3] at h1; exact h1
  have e2 : muP M (va_up X u (X c + w)) + (if X u = 0 then BIG else X u) = muP M X + (X c + w) := by
    unfold muP; rw [if_neg h3] at h2; exact h2
  refine ⟨⟨fun e y he hy => ?_, fun e he => ?_, fun s hs1 => ?_⟩, ?_⟩
  · by_cases q : e = u
    · subst q
      rw [vup_s] at hy
      obtain ⟨k, s, h4, h5⟩ := h.1 c (X c - 1) hc (by omega)
      exact ⟨k + 1, s, h4, c, X c - 1, w, h5, hE, by omega⟩
    · rw [vup_n _ _ q] at hy; exact h.1 e y he hy
  · have h4 := h.2.1 c hc
    have h5 := h.2.1 e he
    by_cases q : e = u
    · subst q
      rw [vup_s]
      rcases hx with q2 | q2
      · rw [if_pos q2] at e1; omega
      · rw [if_neg (by omega)] at e1; omega
    · rw [vup_n _ _ q]
      have : cntF M X ≤ cntF M (va_up X u (X c + w)) := by
        split at e1 <;> omega
      have := Nat.mul_le_mul_left 50 this
      omega
  · rw [vup_n _ _ (hs s hs1)]; exact h.2.2 s hs1
  · rcases hx with q | q
    · rw [if_pos q] at e2; unfold BIG at e2; omega
    · rw [if_neg (by omega)] at e2; omega
def FixW (S : Nat → Int32) (but : Nat) (X : Nat → Nat) (c : Nat) : Prop := X c ≠ 0 → ∀ u w, EW S but c u w → X u ≠ 0 ∧ X u ≤ X c + w
theorem EW_lt {S : Nat → Int32} (hS : InvS S) (h0 : 0 < nr S) {but c u w : Nat} (h : EW S but c u w) (hc : c < pw (nr S) (np S)) : u < pw (nr S) (np S) := by
  obtain ⟨d, p, hd, hp, ⟨-, -, rfl | ⟨q, h2, -, -, rfl⟩⟩, -⟩ := h
  · exact mv_lt h0 hc hp (ivd hS hd).2.1
  · exact mv_lt h0 (mv_lt h0 hc hp (ivd hS hd).2.1) h2 (ivd hS hd).2.2.2
/-- nothing is less: the pays are the least -/
theorem PI.done {S : Nat → Int32} (hS : InvS S) (h0 : 0 < nr S) {but : Nat} {src : Nat → Prop} {X : Nat → Nat} (h : PI S but src (pw (nr S) (np S)) X) (hsrc : ∀ s, src s → s < pw (nr S) (np S)) (hx : ∀ c, c < pw (nr S) (np S) → FixW S but X c) : ∀ c, c < pw (nr S) (np S) → qI (X c) = leastV (WB S but src c) := by
  have key : ∀ k y s c, src s → wwalk (EW S but) k y s c → c < pw (nr S) (np S) ∧ X c ≠ 0 ∧ X c ≤ y + 1 := by
    intro k
    induction k with
    | zero => rintro y s c hs ⟨rfl, rfl⟩; have := h.2.2 _ hs; exact ⟨hsrc _ hs, by omega, by omega⟩
    | succ k ih =>
      rintro y s c hs ⟨e, y1, w, h1, h2, rfl⟩
      have h3 := ih y1 s e hs h1
      have h4 := hx e h3.1 h3.2.1 c w h2
      exact ⟨EW_lt hS h0 h2 h3.1, h4.1, by omega⟩
  intro c hc
  unfold qI
  split
  · rename_i e
    rw [leastV_no]
    rintro y ⟨k, s, h1, h2⟩
    exact (key k y s c h1 h2).2.1 e
  · rename_i e
    rw [leastV_is (h.1 c (X c - 1) hc (by omega))]
    rintro y ⟨k, s, h1, h2⟩
    have := (key k y s c h1 h2).2.2
    omega
