/-! Plain: a moment's two runs, step by step -/
theorem goes_vec {S : Nat → Int32} {N : Nat → Nat → Int32} {k d : Nat} (hk : k < 4) (hN : N k = pv S k) : va_up (va_up (vecP S N) (10 + 6 * k) (nI (farr (vecP S N) d))) (10 + 6 * k + 4) (vecP S N (10 + 6 * k + 4) + nI 1) = vecP S (va_up N k (rowOut S k d)) := by
  have h0 := vecP_up (S := S) (N := N) hk (show 0 < 6 by decide) (nI (farr (vecP S N) d))
  have h1 : vecP S N (10 + 6 * k + 4) = N k 4 := vecP_pv hk (by decide)
  rw [Nat.add_zero] at h0
  rw [h0, vecP_up hk (by decide), h1, vecP_static.2.2.2.2.2, hN]
  unfold upd2 rowOut
  rw [vup_vup, vup_s, hN]
theorem comes_vec {S : Nat → Int32} {N : Nat → Nat → Int32} {k d : Nat} {b : Int32} (hk : k < 4) (hN : N k = pv S k) : va_up (va_up (va_up (vecP S N) (10 + 6 * k) (nI (near (vecP S N) d))) (10 + 6 * k + 3) (vecP S N (10 + 6 * k + 3) + nI 1)) (10 + 6 * k + 5) b = vecP S (va_up N k (rowIn S k d b)) := by
  have h0 := vecP_up (S := S) (N := N) hk (show 0 < 6 by decide) (nI (near (vecP S N) d))
  have h1 : vecP S N (10 + 6 * k + 3) = N k 3 := vecP_pv hk (by decide)
  rw [Nat.add_zero] at h0
  rw [h0, vecP_up hk (by decide), vecP_up hk (by decide), h1, vecP_static.2.2.2.2.1, hN]
  unfold upd2 rowIn
  rw [vup_vup, vup_s, vup_vup, vup_s, hN]
theorem cntB_flip {f g : Nat → Bool} {a n : Nat} (ha : a < n) (h : ∀ q, q ≠ a → f q = g q) (hf : f a = false) (hg : g a = true) : cntB g n = cntB f n + 1 := by
  induction n with
  | zero => omega
  | succ n ih =>
    rw [cntB_s, cntB_s]
    by_cases e : a = n
    · subst e
      have hs : ∀ m, m ≤ a → cntB g m = cntB f m := by
        intro m
        induction m with
        | zero => intro _; rfl
        | succ m ihm => intro hm; rw [cntB_s, cntB_s, ihm (by omega), h m (by omega)]
      rw [hs a (Nat.le_refl _), hf, hg]
      simp
    · rw [ih (by omega), h n (Ne.symm e)]; omega
theorem cntB_same {f g : Nat → Bool} {n : Nat} (h : ∀ q, q < n → f q = g q) : cntB f n = cntB g n := by
  induction n with
  | zero => rfl
  | succ n ih => rw [cntB_s, cntB_s, ih (fun q hq => h q (by omega)), h n (by omega)]
section MOM2
variable (S : Nat → Int32) (fr : Option (List Cl))
def wdn (q : Nat) : Nat := (willI S fr q).toNatClampNeg
def rkB (q : Nat) : Nat := cntB (insB S fr (wdn S fr q)) q
def N1 (k : Nat) : Nat → Nat → Int32 := fun q => if q < k ∧ outB S fr q = true then rowOut S q (wdn S fr q) else pv S q
def doneB (d kk q : Nat) : Bool := !outB S fr q && (decide (0 ≤ willI S fr q) && (decide (wdn S fr q < d ∧ rkB S fr q < cntB (outsB S fr (wdn S fr q)) (np S)) || decide (wdn S fr q = d ∧ rkB S fr q < kk)))
def N2 (d kk : Nat) : Nat → Nat → Int32 := fun q => if q < np S then (if outB S fr q = true then rowOut S q (wdn S fr q) else if doneB S fr d kk q = true then rowIn S q (wdn S fr q) (nthI (outsB S fr (wdn S fr q)) (np S) (rkB S fr q)) else pv S q) else pv S q
end MOM2
section MOM3
variable {S : Nat → Int32} {fr : Option (List Cl)}
theorem wdn_of {q : Nat} (h0 : 0 ≤ willI S fr q) (hS : InvS S) : willI S fr q = nI (wdn S fr q) ∧ wdn S fr q < nd S := by
  rcases will_cases S fr q with h | ⟨d, hd, h⟩
  · rw [h] at h0; exact absurd h0 (by decide)
  · have := iv1b hS
    unfold wdn
    rw [h, nI_clamp (by omega)]
    exact ⟨rfl, hd⟩
theorem outB_ge {q : Nat} (h : outB S fr q = true) : 0 ≤ willI S fr q := by
  unfold outB at h
  rw [Bool.and_eq_true] at h
  exact of_decide_eq_true h.1
theorem N1_0 : N1 S fr 0 = pv S := by
  funext q; unfold N1; rw [if_neg (by omega)]
theorem N1_skip {k : Nat} (h : outB S fr k = false) : N1 S fr (k + 1) = N1 S fr k := by
  funext q
  unfold N1
  by_cases e : q = k
  · subst e; rw [if_neg (by simp [h]), if_neg (by simp [h])]
  · by_cases h2 : q < k ∧ outB S fr q = true
    · rw [if_pos h2, if_pos ⟨by omega, h2.2⟩]
    · rw [if_neg h2, if_neg (fun z => h2 ⟨by omega, z.2⟩)]
theorem N1_at {k : Nat} : N1 S fr k k = pv S k := by unfold N1; rw [if_neg (by omega)]
theorem N1_step {k : Nat} (h : outB S fr k = true) : N1 S fr (k + 1) = va_up (N1 S fr k) k (rowOut S k (wdn S fr k)) := by
  funext q
  by_cases e : q = k
  · subst e; rw [vup_s]; unfold N1; rw [if_pos ⟨by omega, h⟩]
  · rw [vup_n _ _ e]
    unfold N1
    by_cases h2 : q < k ∧ outB S fr q = true
    · rw [if_pos h2, if_pos ⟨by omega, h2.2⟩]
    · rw [if_neg h2, if_neg (fun z => h2 ⟨by omega, z.2⟩)]
theorem N2_0 : N2 S fr 0 0 = N1 S fr (np S) := by
  funext q
  unfold N2 N1
  by_cases h : q < np S
  · rw [if_pos h]
    by_cases h2 : outB S fr q = true
    · rw [if_pos h2, if_pos ⟨h, h2⟩]
    · rw [if_neg h2, if_neg (by simp [doneB]), if_neg (fun z => h2 z.2)]
  · rw [if_neg h, if_neg (fun z => h z.1)]
theorem N2_ext {d k d' k' : Nat} (h : ∀ q, q < np S → doneB S fr d k q = doneB S fr d' k' q) : N2 S fr d k = N2 S fr d' k' := by
  funext q
  unfold N2
  by_cases hq : q < np S
  · rw [if_pos hq, if_pos hq, h q hq]
  · rw [if_neg hq, if_neg hq]
theorem done_end (hS : InvS S) {q : Nat} : doneB S fr (nd S) 0 q = comesB S fr q := by
  unfold doneB comesB
  by_cases h0 : 0 ≤ willI S fr q
  · have h1 := (wdn_of h0 hS).2
    have h2 : (decide (wdn S fr q < nd S ∧ rkB S fr q < cntB (outsB S fr (wdn S fr q)) (np S)) || decide (wdn S fr q = nd S ∧ rkB S fr q < 0)) = decide (rkB S fr q < cntB (outsB S fr (wdn S fr q)) (np S)) := by
      rw [Bool.eq_iff_iff]; simp [h1]
    rw [h2]; rfl
  · simp [h0]
theorem N2_end (hS : InvS S) : N2 S fr (nd S) 0 = fun q => if q < np S then newRow S fr q else pv S q := by
  funext q
  unfold N2 newRow
  rw [done_end hS]
  rfl
theorem done_next {d k : Nat} (hS : InvS S) (hk : k ≤ cntB (outsB S fr d) (np S)) (hx : k = cntB (outsB S fr d) (np S) ∨ k = cntB (insB S fr d) (np S)) {q : Nat} (hq : q < np S) : doneB S fr d k q = doneB S fr (d + 1) 0 q := by
  unfold doneB
  by_cases ho : outB S fr q = true
  · simp [ho]
  · by_cases h0 : 0 ≤ willI S fr q
    · have hw := (wdn_of h0 hS).1
      congr 2
      rw [Bool.eq_iff_iff]
      simp only [Bool.or_eq_true, decide_eq_true_eq]
      by_cases e : wdn S fr q = d
      · have hi : insB S fr d q = true := by unfold insB wdB; rw [hw, e]; simp [ho]
        have hr : rkB S fr q < cntB (insB S fr d) (np S) := by unfold rkB; rw [e]; exact cntB_lt _ hq hi
        rw [e]
        rcases hx with hx | hx <;> omega
      · omega
    · simp [h0]
/-- one more comes in at a door -/
theorem done_step {d k qi : Nat} (hS : InvS S) (hd : d < nd S) (hi : insB S fr d qi = true) (hr : cntB (insB S fr d) qi = k) : (∀ q, q ≠ qi → doneB S fr d k q = doneB S fr d (k + 1) q) ∧ doneB S fr d k qi = false ∧ doneB S fr d (k + 1) qi = true ∧ wdn S fr qi = d ∧ outB S fr qi = false ∧ rkB S fr qi = k := by
  have h14 := iv1b hS
  have hi2 := hi
  unfold insB wdB at hi2
  simp only [Bool.and_eq_true, decide_eq_true_eq, Bool.not_eq_true'] at hi2
  have hw : wdn S fr qi = d := by unfold wdn; rw [hi2.1, nI_clamp (by omega)]
  have hg : 0 ≤ willI S fr qi := by rw [hi2.1]; exact nI_pos' (by omega)
  have hrk : rkB S fr qi = k := by unfold rkB; rw [hw]; exact hr
  refine ⟨fun q hq => ?_, ?_, ?_, hw, hi2.2, hrk⟩
  · unfold doneB
    by_cases ho : outB S fr q = true
    · simp [ho]
    · by_cases h0 : 0 ≤ willI S fr q
      · have hwq := (wdn_of h0 hS).1
        congr 2
        congr 1
        rw [decide_eq_decide]
        constructor
        · omega
        · rintro ⟨a, b⟩
          refine ⟨a, ?_⟩
          rcases Nat.lt_or_ge (rkB S fr q) k with z | z
          · exact z
          · exfalso
            have hiq : insB S fr d q = true := by unfold insB wdB; rw [hwq, a]; simp [ho]
            have e1 : cntB (insB S fr d) q = k := by unfold rkB at b z; rw [a] at b z; omega
            rcases Nat.lt_or_ge q qi with y | y
            · have := cntB_lt (insB S fr d) y hiq; omega
            · have := cntB_lt (insB S fr d) (show qi < q by omega) hi; omega
      · simp [h0]
  · unfold doneB
    rw [hw, hrk]
    simp
  · unfold doneB
    rw [hw, hrk]
    simp [hi2.2, hg]
theorem N2_step {d k qi : Nat} (hS : InvS S) (hd : d < nd S) (hqi : qi < np S) (hi : insB S fr d qi = true) (hr : cntB (insB S fr d) qi = k) : N2 S fr d (k + 1) = va_up (N2 S fr d k) qi (rowIn S qi d (nthI (outsB S fr d) (np S) k)) ∧ N2 S fr d k qi = pv S qi ∧ cntB (doneB S fr d (k + 1)) (np S) = cntB (doneB S fr d k) (np S) + 1 := by
  obtain ⟨h1, h2, h3, h4, h5, h6⟩ := done_step hS hd hi hr
  refine ⟨?_, ?_, cntB_flip hqi h1 h2 h3⟩
  · funext q
    by_cases e : q = qi
    · subst e
      rw [vup_s]
      unfold N2
      rw [if_pos hqi, if_neg (by rw [h5]; decide), if_pos h3, h4, h6]
    · rw [vup_n _ _ e]
      unfold N2
      rw [h1 q e]
  · unfold N2
    rw [if_pos hqi, if_neg (by rw [h5]; decide), if_neg (by rw [h2]; decide)]
theorem okN1 (hS : InvS S) (k : Nat) : okN S (N1 S fr k) := by
  intro p hp
  have h8 := iv0b hS
  have h0 := okN_pv hS p hp
  unfold N1
  split
  · rename_i h
    have hw := wdn_of (outB_ge h.2) hS
    have hf := ivd hS hw.2
    have e0 : rowOut S p (wdn S fr p) 0 = nI (farr S (wdn S fr p)) := rfl
    have e1 : rowOut S p (wdn S fr p) 1 = pv S p 1 := rfl
    rw [e0, e1, nI_clamp (by omega)]
    exact ⟨rfl, hf.2.2.2, h0.2.2⟩
  · exact h0
theorem okN2 (hS : InvS S) (d k : Nat) : okN S (N2 S fr d k) := by
  intro p hp
  have h8 := iv0b hS
  have h0 := okN_pv hS p hp
  unfold N2
  rw [if_pos hp]
  split
  · rename_i h
    have hw := wdn_of (outB_ge h) hS
    have hf := ivd hS hw.2
    have e0 : rowOut S p (wdn S fr p) 0 = nI (farr S (wdn S fr p)) := rfl
    have e1 : rowOut S p (wdn S fr p) 1 = pv S p 1 := rfl
    rw [e0, e1, nI_clamp (by omega)]
    exact ⟨rfl, hf.2.2.2, h0.2.2⟩
  · split
    · rename_i h
      unfold doneB at h
      simp only [Bool.and_eq_true, decide_eq_true_eq] at h
      have hw := wdn_of h.2.1 hS
      have hf := ivd hS hw.2
      generalize nthI (outsB S fr (wdn S fr p)) (np S) (rkB S fr p) = b
      have e0 : rowIn S p (wdn S fr p) b 0 = nI (near S (wdn S fr p)) := rfl
      have e1 : rowIn S p (wdn S fr p) b 1 = pv S p 1 := rfl
      rw [e0, e1, nI_clamp (by omega)]
      exact ⟨rfl, hf.2.1, h0.2.2⟩
    · exact h0
theorem sel_t {d : Nat} : selB (willI S fr) (outB S fr) d true = outsB S fr d := by
  funext q; unfold selB outsB wdB; cases outB S fr q <;> rfl
theorem sel_f {d : Nat} : selB (willI S fr) (outB S fr) d false = insB S fr d := by
  funext q; unfold selB insB wdB; cases outB S fr q <;> rfl
theorem passS_eq (hS : InvS S) : va_up (vecP S (N2 S fr (nd S) 0)) 3 (S 3 + nI 1) = passS S fr := by
  unfold passS; rw [N2_end hS]
theorem passN_eq (hS : InvS S) : cntB (outB S fr) (np S) + cntB (doneB S fr (nd S) 0) (np S) = passN S fr := by
  unfold passN; rw [cntB_same (fun q _ => done_end hS)]
end MOM3
