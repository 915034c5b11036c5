/-! Plain: a moment -/
def vecP (S : Nat → Int32) (N : Nat → Nat → Int32) : Nat → Int32 := fun i => if 10 ≤ i ∧ i < 34 then N ((i - 10) / 6) ((i - 10) % 6) else S i
theorem vecP_id (S : Nat → Int32) : vecP S (pv S) = S := by
  funext i
  unfold vecP
  split
  · unfold pv; congr 1; omega
  · rfl
theorem vecP_pv {S : Nat → Int32} {N : Nat → Nat → Int32} {q k : Nat} (hq : q < 4) (hk : k < 6) : pv (vecP S N) q k = N q k := by
  unfold pv vecP
  rw [if_pos (by omega), show (10 + 6 * q + k - 10) / 6 = q by omega, show (10 + 6 * q + k - 10) % 6 = k by omega]
theorem vecP_out {S : Nat → Int32} {N : Nat → Nat → Int32} {i : Nat} (h : i < 10 ∨ 34 ≤ i) : vecP S N i = S i := by
  unfold vecP; rw [if_neg (by omega)]
theorem vecP_up {S : Nat → Int32} {N : Nat → Nat → Int32} {q k : Nat} (hq : q < 4) (hk : k < 6) (v : Int32) : va_up (vecP S N) (10 + 6 * q + k) v = vecP S (upd2 N q k v) := by
  funext i
  by_cases e : i = 10 + 6 * q + k
  · subst e
    rw [vup_s]
    unfold vecP
    rw [if_pos (by omega), show (10 + 6 * q + k - 10) / 6 = q by omega, show (10 + 6 * q + k - 10) % 6 = k by omega, upd2_s, vup_s]
  · rw [vup_n _ _ e]
    unfold vecP
    by_cases h : 10 ≤ i ∧ i < 34
    · rw [if_pos h, if_pos h]
      by_cases e1 : (i - 10) / 6 = q
      · rw [e1, upd2_s, vup_n _ _ (by omega)]
      · rw [upd2_n _ _ _ e1]
    · rw [if_neg h, if_neg h]
theorem vecP_ext {S : Nat → Int32} {N M : Nat → Nat → Int32} (h : ∀ q k, q < 4 → k < 6 → N q k = M q k) : vecP S N = vecP S M := by
  funext i
  unfold vecP
  split
  · exact h _ _ (by omega) (by omega)
  · rfl
/-- what of the vector is not people stays -/
theorem vecP_static {S : Nat → Int32} {N : Nat → Nat → Int32} : nr (vecP S N) = nr S ∧ nd (vecP S N) = nd S ∧ np (vecP S N) = np S ∧ (∀ d k, dv (vecP S N) d k = dv S d k) ∧ (∀ d, near (vecP S N) d = near S d) ∧ ∀ d, farr (vecP S N) d = farr S d := by
  have hd : ∀ d k, dv (vecP S N) d k = dv S d k := fun d k => vecP_out (by omega)
  refine ⟨?_, ?_, ?_, hd, fun d => ?_, fun d => ?_⟩
  · unfold nr nv; rw [vecP_out (by omega)]
  · unfold nd nv; rw [vecP_out (by omega)]
  · unfold np nv; rw [vecP_out (by omega)]
  · unfold near; rw [hd]
  · unfold farr; rw [hd]
/-- people keep valid rooms and goals -/
def okN (S : Nat → Int32) (N : Nat → Nat → Int32) : Prop := ∀ p, p < np S → N p 0 = nI (N p 0).toNatClampNeg ∧ (N p 0).toNatClampNeg < nr S ∧ N p 1 = nI (N p 1).toNatClampNeg ∧ (N p 1).toNatClampNeg < nr S
theorem InvS.vec {S : Nat → Int32} {N : Nat → Nat → Int32} (h : InvS S) (hN : okN S N) : InvS (vecP S N) := by
  obtain ⟨e1, e2, e3, e4, e5, e6⟩ := vecP_static (S := S) (N := N)
  refine ⟨by rw [e1, vecP_out (by omega)]; exact iv0 h, by rw [e1]; exact iv0b h, by rw [e2, vecP_out (by omega)]; exact iv1 h, by rw [e2]; exact iv1b h, by rw [e3, vecP_out (by omega)]; exact iv2 h, by rw [e3]; exact iv2b h, fun d hd => ?_, fun p hp => ?_⟩
  · rw [e2] at hd
    rw [e1, e4, e4, e5, e6]
    exact ivd h hd
  · rw [e3] at hp
    have h4 := iv2b h
    unfold rm gl
    rw [e1, vecP_pv (by omega) (by omega), vecP_pv (by omega) (by omega)]
    exact hN p hp
theorem okN_pv {S : Nat → Int32} (h : InvS S) : okN S (pv S) := fun p hp => by
  have := ivp h hp
  unfold rm gl at this
  exact this
def cntB (f : Nat → Bool) (n : Nat) : Nat := sumN n (fun q => if f q = true then 1 else 0)
theorem cntB_s (f : Nat → Bool) (n : Nat) : cntB f (n + 1) = cntB f n + (if f n = true then 1 else 0) := rfl
theorem cntB_mono (f : Nat → Bool) {a b : Nat} (h : a ≤ b) : cntB f a ≤ cntB f b := by
  induction b with
  | zero => rw [show a = 0 by omega]; exact Nat.le_refl _
  | succ b ih =>
    by_cases e : a = b + 1
    · subst e; exact Nat.le_refl _
    · have := ih (by omega); rw [cntB_s]; omega
theorem cntB_lt (f : Nat → Bool) {a b : Nat} (h : a < b) (hf : f a = true) : cntB f a < cntB f b := by
  have := cntB_mono f (show a + 1 ≤ b by omega)
  rw [cntB_s, if_pos hf] at this; omega
theorem cntB_le (f : Nat → Bool) (n : Nat) : cntB f n ≤ n := by
  have := sumN_le (n := n) (b := 1) (f := fun q => if f q = true then 1 else 0) (fun q _ => by split <;> omega)
  unfold cntB; omega
/-- the k-th of those under n -/
def nthI (f : Nat → Bool) (n k : Nat) : Int32 := fI (fun p => f p && (cntB f p == k)) n
theorem nthI_of {f : Nat → Bool} {n k : Nat} (h : k < cntB f n) : ∃ q, q < n ∧ nthI f n k = nI q ∧ f q = true ∧ cntB f q = k := by
  have hx : ∃ q, q < n ∧ f q = true ∧ cntB f q = k := by
    induction n with
    | zero => simp [cntB, sumN] at h
    | succ n ih =>
      rw [cntB_s] at h
      by_cases h2 : k < cntB f n
      · obtain ⟨q, a, b, c⟩ := ih h2; exact ⟨q, by omega, b, c⟩
      · by_cases hf : f n = true
        · rw [if_pos hf] at h; exact ⟨n, by omega, hf, by omega⟩
        · rw [if_neg hf] at h; omega
  obtain ⟨q, a, b, c⟩ := hx
  refine ⟨q, a, fI_at (fun j hj => ?_) a (by simp [b, c]), b, c⟩
  by_cases hf : f j = true
  · have := cntB_lt f hj hf; simp [hf]; omega
  · simp [hf]
theorem nthI_no {f : Nat → Bool} {n k : Nat} (h : cntB f n ≤ k) : nthI f n k = -1 := by
  refine fI_none (fun j hj => ?_)
  by_cases hf : f j = true
  · have := cntB_lt f hj hf; simp [hf]; omega
  · simp [hf]
section MOM
variable (S : Nat → Int32) (fr : Option (List Cl))
def wdB (d q : Nat) : Bool := decide (willI S fr q = nI d)
def outsB (d q : Nat) : Bool := wdB S fr d q && outB S fr q
def insB (d q : Nat) : Bool := wdB S fr d q && !outB S fr q
def rowOut (q d : Nat) : Nat → Int32 := va_up (va_up (pv S q) 0 (nI (farr S d))) 4 (pv S q 4 + nI 1)
def rowIn (q d : Nat) (by_ : Int32) : Nat → Int32 := va_up (va_up (va_up (pv S q) 0 (nI (near S d))) 3 (pv S q 3 + nI 1)) 5 by_
/-- who comes in: as many as go out -/
def comesB (q : Nat) : Bool := !outB S fr q && (decide (0 ≤ willI S fr q) && decide (cntB (insB S fr (willI S fr q).toNatClampNeg) q < cntB (outsB S fr (willI S fr q).toNatClampNeg) (np S)))
def newRow (q : Nat) : Nat → Int32 :=
  if outB S fr q = true then rowOut S q (willI S fr q).toNatClampNeg
  else if comesB S fr q = true then rowIn S q (willI S fr q).toNatClampNeg (nthI (outsB S fr (willI S fr q).toNatClampNeg) (np S) (cntB (insB S fr (willI S fr q).toNatClampNeg) q))
  else pv S q
def passS : Nat → Int32 := va_up (vecP S (fun q => if q < np S then newRow S fr q else pv S q)) 3 (S 3 + nI 1)
def passN : Nat := cntB (outB S fr) (np S) + cntB (comesB S fr) (np S)
end MOM
