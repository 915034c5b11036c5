/-! Plain: the first passing that is nearer by one -/
def qI (j : Nat) : Int32 := if j = 0 then -1 else nI (j - 1)
def nxB (S : Nat → Int32) (c p d j : Nat) : Prop := p < np S ∧ d < nd S ∧ j ≤ np S ∧ openB S d = true ∧ dg (nr S) c p = near S d ∧ (j = 0 ∨ (j - 1 ≠ p ∧ dg (nr S) c (j - 1) = farr S d))
def nxTo (S : Nat → Int32) (c p d j : Nat) : Nat := if j = 0 then mv (nr S) c p (farr S d) else mv (nr S) (mv (nr S) c p (farr S d)) (j - 1) (near S d)
def NXP (S : Nat → Int32) (f : Nat → Int32) (c p d j : Nat) : Prop := nxB S c p d j ∧ f (nxTo S c p d j) = f c - nI 1
def lexL (p d j p2 d2 j2 : Nat) : Prop := p ≤ p2 ∧ (p = p2 → d ≤ d2 ∧ (d = d2 → j ≤ j2))
def NXF (S : Nat → Int32) (f : Nat → Int32) (c p d j : Nat) : Prop := NXP S f c p d j ∧ ∀ p2 d2 j2, NXP S f c p2 d2 j2 → lexL p d j p2 d2 j2
theorem lex_anti {p d j p2 d2 j2 : Nat} (h : lexL p d j p2 d2 j2) (h2 : lexL p2 d2 j2 p d j) : p = p2 ∧ d = d2 ∧ j = j2 := by
  have e1 : p = p2 := Nat.le_antisymm h.1 h2.1
  have e2 : d = d2 := Nat.le_antisymm (h.2 e1).1 (h2.2 e1.symm).1
  exact ⟨e1, e2, Nat.le_antisymm ((h.2 e1).2 e2) ((h2.2 e1.symm).2 e2.symm)⟩
theorem NXF.uniq {S : Nat → Int32} {f : Nat → Int32} {c p d j p2 d2 j2 : Nat} (h : NXF S f c p d j) (h2 : NXF S f c p2 d2 j2) : p = p2 ∧ d = d2 ∧ j = j2 := lex_anti (h.2 _ _ _ h2.1) (h2.2 _ _ _ h.1)
theorem lex_least {P : Nat → Nat → Nat → Prop} (h : ∃ p d j, P p d j) : ∃ p d j, P p d j ∧ ∀ p2 d2 j2, P p2 d2 j2 → lexL p d j p2 d2 j2 := by
  have h1 := leastP_ex (P := fun p => ∃ d j, P p d j) h
  generalize leastP (fun p => ∃ d j, P p d j) = p at h1
  have h2 := leastP_ex (P := fun d => ∃ j, P p d j) h1.1
  generalize leastP (fun d => ∃ j, P p d j) = d at h2
  have h3 := leastP_ex (P := fun j => P p d j) h2.1
  generalize leastP (fun j => P p d j) = j at h3
  refine ⟨p, d, j, h3.1, fun p2 d2 j2 hp => ⟨?_, fun e => ⟨?_, fun e2 => ?_⟩⟩⟩
  · rcases Nat.lt_or_ge p2 p with q | q
    · exact absurd ⟨d2, j2, hp⟩ (h1.2 p2 q)
    · exact q
  · subst e
    rcases Nat.lt_or_ge d2 d with q | q
    · exact absurd ⟨j2, hp⟩ (h2.2 d2 q)
    · exact q
  · subst e; subst e2
    rcases Nat.lt_or_ge j2 j with q | q
    · exact absurd hp (h3.2 j2 q)
    · exact q
theorem NXF.ex {S : Nat → Int32} {f : Nat → Int32} {c : Nat} (h : ∃ p d j, NXP S f c p d j) : ∃ p d j, NXF S f c p d j := lex_least h
theorem mv_back {b n c p r x : Nat} (hb : 0 < b) (hc : c < pw b n) (hp : p < n) (hr : r < b) (hx : dg b c p = x) : mv b (mv b c p r) p x = c := by
  have hx2 : x < b := hx ▸ dg_lt hb c p
  have h1 := mv_lt hb hc hp hr
  refine dg_ext hb (mv_lt hb h1 hp hx2) hc (fun q hq => ?_)
  rw [dg_mv hb h1 hp hx2 hq]
  by_cases e : q = p
  · subst e; rw [vup_s]; exact hx.symm
  · rw [vup_n _ _ e, dg_mv hb hc hp hr hq, vup_n _ _ e]
theorem mv_swap {b n c p r q x : Nat} (hb : 0 < b) (hc : c < pw b n) (hp : p < n) (hq : q < n) (hr : r < b) (hx : x < b) (hne : q ≠ p) : mv b (mv b c p r) q x = mv b (mv b c q x) p r := by
  have h1 := mv_lt hb hc hp hr
  have h2 := mv_lt hb hc hq hx
  refine dg_ext hb (mv_lt hb h1 hq hx) (mv_lt hb h2 hp hr) (fun k hk => ?_)
  rw [dg_mv hb h1 hq hx hk, dg_mv hb h2 hp hr hk]
  by_cases e : k = q
  · subst e; rw [vup_s, vup_n _ _ hne, dg_mv hb hc hk hx hk, vup_s]
  · rw [vup_n _ _ e, dg_mv hb hc hp hr hk]
    by_cases e2 : k = p
    · subst e2; rw [vup_s, vup_s]
    · rw [vup_n _ _ e2, vup_n _ _ e2, dg_mv hb hc hq hx hk, vup_n _ _ e]
theorem EB_lt {S : Nat → Int32} (hS : InvS S) (h0 : 0 < nr S) {n c u : Nat} {inw : Int32} (h : EB S n inw c u) (hc : c < pw (nr S) n) : u < pw (nr S) n := by
  obtain ⟨d, hd, -, h | ⟨-, q, h1, -, rfl⟩⟩ := h
  · obtain ⟨p, h1, -, rfl | ⟨q, h2, -, -, rfl⟩⟩ := h
    · exact mv_lt h0 hc h1 (ivd hS hd).2.1
    · exact mv_lt h0 (mv_lt h0 hc h1 (ivd hS hd).2.1) h2 (ivd hS hd).2.2.2
  · exact mv_lt h0 hc h1 (ivd hS hd).2.2.2
theorem walk_lt {S : Nat → Int32} (hS : InvS S) (h0 : 0 < nr S) {n : Nat} {inw : Int32} : ∀ {k c u : Nat}, walkE (EB S n inw) k c u → c < pw (nr S) n → u < pw (nr S) n := by
  intro k
  induction k with
  | zero => intro c u h hc; cases h; exact hc
  | succ k ih => rintro c u ⟨x, h1, h2⟩ hc; exact EB_lt hS h0 h2 (ih h1 hc)
/-- a passing, seen from both its ends -/
theorem EB_nx {S : Nat → Int32} (hS : InvS S) (h0 : 0 < nr S) {c u : Nat} (h : EB S (np S) (-1) u c) (hu : u < pw (nr S) (np S)) : ∃ p d j, nxB S c p d j ∧ nxTo S c p d j = u := by
  obtain ⟨d, hd, ho, h | ⟨h, -⟩⟩ := h
  · have ha := (ivd hS hd).2.1
    have hb := (ivd hS hd).2.2.2
    obtain ⟨p, h1, h2, rfl | ⟨q, h3, h4, h5, rfl⟩⟩ := h
    · refine ⟨p, d, 0, ⟨h1, hd, Nat.zero_le _, ho, ?_, Or.inl rfl⟩, ?_⟩
      · rw [dg_mv h0 hu h1 ha h1, vup_s]
      · unfold nxTo; rw [if_pos rfl]; exact mv_back h0 hu h1 ha h2
    · have hu1 := mv_lt h0 hu h1 ha
      have hu2 := mv_lt h0 hu1 h3 hb
      refine ⟨p, d, q + 1, ⟨h1, hd, by omega, ho, ?_, Or.inr ⟨h4, ?_⟩⟩, ?_⟩
      · rw [dg_mv h0 hu1 h3 hb h1, vup_n _ _ (Ne.symm h4), dg_mv h0 hu h1 ha h1, vup_s]
      · rw [Nat.add_sub_cancel, dg_mv h0 hu1 h3 hb h3, vup_s]
      · unfold nxTo
        rw [if_neg (by omega), Nat.add_sub_cancel, mv_swap h0 hu2 h1 h3 hb ha h4,
          mv_back h0 hu1 h3 hb (by rw [dg_mv h0 hu h1 ha h3, vup_n _ _ h4]; exact h5), mv_back h0 hu h1 ha h2]
  · exfalso
    have h1 : nI d = -1 := h
    have h2 : (0 : Int32) ≤ nI d := nI_pos' (by have := iv1b hS; omega)
    rw [h1] at h2; exact absurd h2 (by decide)
theorem nx_EB {S : Nat → Int32} (hS : InvS S) (h0 : 0 < nr S) {c p d j : Nat} (h : nxB S c p d j) (hc : c < pw (nr S) (np S)) : nxTo S c p d j < pw (nr S) (np S) ∧ EB S (np S) (-1) (nxTo S c p d j) c := by
  obtain ⟨hp, hd, hj, ho, h1, h2⟩ := h
  have ha := (ivd hS hd).2.1
  have hb := (ivd hS hd).2.2.2
  have hc1 := mv_lt h0 hc hp hb
  unfold nxTo
  by_cases e : j = 0
  · rw [if_pos e]
    exact ⟨hc1, d, hd, ho, Or.inl ⟨p, hp, by rw [dg_mv h0 hc hp hb hp, vup_s], Or.inl (mv_back h0 hc hp hb h1).symm⟩⟩
  · rw [if_neg e]
    have h3 := h2.resolve_left e
    have hq : j - 1 < np S := by omega
    have hc2 := mv_lt h0 hc1 hq ha
    refine ⟨hc2, d, hd, ho, Or.inl ⟨p, hp, ?_, Or.inr ⟨j - 1, hq, h3.1, ?_, ?_⟩⟩⟩
    · rw [dg_mv h0 hc1 hq ha hp, vup_n _ _ (Ne.symm h3.1), dg_mv h0 hc hp hb hp, vup_s]
    · rw [dg_mv h0 hc1 hq ha hq, vup_s]
    · rw [mv_swap h0 hc2 hp hq ha hb h3.1, mv_back h0 hc1 hq ha (by rw [dg_mv h0 hc hp hb hq, vup_n _ _ h3.1]; exact h3.2), mv_back h0 hc hp hb h1]
/-- from where it takes n + 1, a passing leads to where it takes n -/
theorem next_ex {S : Nat → Int32} (hS : InvS S) (h0 : 0 < nr S) {src : Nat → Prop} {f : Nat → Int32} (hsrc : ∀ s, src s → s < pw (nr S) (np S)) (hf : ∀ c, c < pw (nr S) (np S) → DistP (EB S (np S) (-1)) src (pw (nr S) (np S)) c (f c)) {c n : Nat} (hc : c < pw (nr S) (np S)) (h : f c = nI (n + 1)) (hn : n + 1 < 2 ^ 31) : ∃ p d j, NXP S f c p d j := by
  have hM := pw_le (k := 4) (iv0b hS) (iv2b hS)
  rcases hf c hc with ⟨h1, -⟩ | ⟨x, hx, h1, ⟨s, hs, hw⟩, h3⟩
  · rw [h] at h1
    exfalso
    have h2 : (0 : Int32) ≤ nI (n + 1) := nI_pos' hn
    rw [h1] at h2; exact absurd h2 (by decide)
  · have hxn : x = n + 1 := (nI_eq (by omega) hn).mp (h1.symm.trans h)
    subst hxn
    obtain ⟨u, hu, hE⟩ := hw
    have hul := walk_lt hS h0 hu (hsrc s hs)
    obtain ⟨p, d, j, h4, h5⟩ := EB_nx hS h0 hE hul
    refine ⟨p, d, j, h4, ?_⟩
    rw [h5, h, pk_sub (by omega), Nat.add_sub_cancel]
    rcases hf u hul with ⟨-, h6⟩ | ⟨y, hy, h6, ⟨t, ht, hw2⟩, h7⟩
    · exact absurd hu (h6 n s hs)
    · have h8 := h7 n s hs hu
      have h9 := h3 (y + 1) t ht ⟨u, hw2, hE⟩
      rw [h6, show y = n by omega]
/-- k passings by the rule lead from one to another -/
def CH (S : Nat → Int32) (f : Nat → Int32) : Nat → Nat → Nat → Prop
  | 0, c, e => e = c
  | k + 1, c, e => ∃ m p d j, CH S f k c m ∧ NXF S f m p d j ∧ e = nxTo S m p d j
theorem CH.uniq {S : Nat → Int32} {f : Nat → Int32} {c : Nat} : ∀ {k e e2 : Nat}, CH S f k c e → CH S f k c e2 → e = e2 := by
  intro k
  induction k with
  | zero => intro e e2 h1 h2; exact Eq.trans h1 (Eq.symm h2)
  | succ k ih =>
    rintro e e2 ⟨m, p, d, j, h1, h2, rfl⟩ ⟨m2, p2, d2, j2, h4, h5, rfl⟩
    have := ih h1 h4
    subst this
    obtain ⟨rfl, rfl, rfl⟩ := h2.uniq h5
    rfl
/-- the row of the k-th passing -/
def RowK (S : Nat → Int32) (f : Nat → Int32) (c k : Nat) (t : Nat × Nat × Nat) : Prop := ∃ m, CH S f k c m ∧ NXF S f m t.1 t.2.1 t.2.2
theorem RowK.uniq {S : Nat → Int32} {f : Nat → Int32} {c k : Nat} {t t2 : Nat × Nat × Nat} (h : RowK S f c k t) (h2 : RowK S f c k t2) : t = t2 := by
  obtain ⟨m, h3, h4⟩ := h
  obtain ⟨m2, h5, h6⟩ := h2
  have := h3.uniq h5
  subst this
  obtain ⟨a, b, e⟩ := h4.uniq h6
  exact Prod.ext a (Prod.ext b e)
noncomputable def rowK (S : Nat → Int32) (f : Nat → Int32) (c k : Nat) : Nat × Nat × Nat := Classical.epsilon (fun t => RowK S f c k t)
theorem RowK.eq {S : Nat → Int32} {f : Nat → Int32} {c k : Nat} {t : Nat × Nat × Nat} (h : RowK S f c k t) : rowK S f c k = t := by
  have h1 : RowK S f c k (rowK S f c k) := Classical.epsilon_spec (p := fun t => RowK S f c k t) ⟨t, h⟩
  exact h1.uniq h
