/-! Plain: the search forward, places in three bits each -/
def VC (S : Nat → Int32) (n c : Nat) : Prop := c < pw 8 n ∧ ∀ p, p < n → dg 8 c p < nr S
def cv (S : Nat → Int32) (n c : Nat) : Nat := enc (nr S) n (dg 8 c)
section FW
variable {S : Nat → Int32} {n : Nat}
theorem cv_lt {c : Nat} (h : VC S n c) : cv S n c < pw (nr S) n := enc_lt h.2
theorem cv_dg {c p : Nat} (h0 : 0 < nr S) (h : VC S n c) (hp : p < n) : dg (nr S) (cv S n c) p = dg 8 c p := dg_enc h0 h.2 hp
theorem cv_inj {c e : Nat} (h0 : 0 < nr S) (h : VC S n c) (h2 : VC S n e) (he : cv S n c = cv S n e) : c = e := dg_ext (by decide) h.1 h2.1 (fun p hp => by rw [← cv_dg h0 h hp, ← cv_dg h0 h2 hp, he])
theorem VC.mv {c p r : Nat} (h0 : 0 < nr S) (h8 : nr S ≤ 8) (h : VC S n c) (hp : p < n) (hr : r < nr S) : VC S n (mv 8 c p r) ∧ cv S n (mv 8 c p r) = mv (nr S) (cv S n c) p r := by
  have hdg : ∀ q, q < n → dg 8 (_root_.Jvm.Pilot.COutwardDoorsLaw_law_r1145_e2c561.mv 8 c p r) q = va_up (dg 8 c) p r q := fun q hq => dg_mv (by decide) h.1 hp (by omega) hq
  refine ⟨⟨mv_lt (by decide) h.1 hp (by omega), fun q hq => ?_⟩, ?_⟩
  · rw [hdg q hq]
    by_cases e : q = p
    · subst e; rw [vup_s]; exact hr
    · rw [vup_n _ _ e]; exact h.2 q hq
  · rw [mv_enc h0 (cv_lt h) hp]
    exact enc_congr (fun q hq => by
      rw [hdg q hq]
      by_cases e : q = p
      · subst e; rw [vup_s, vup_s]
      · rw [vup_n _ _ e, vup_n _ _ e, cv_dg h0 h hq])
end FW
/-- a passing forward, with its number -/
def FEd (S : Nat → Int32) (b n : Nat) (inw : Int32) (c l u : Nat) : Prop :=
  (∃ p d j, p < n ∧ d < nd S ∧ j ≤ n ∧ openB S d = true ∧ dg b c p = near S d ∧ (j = 0 ∨ (j - 1 ≠ p ∧ dg b c (j - 1) = farr S d)) ∧ l = (p + 1) * 128 + d * 8 + j ∧ u = (if j = 0 then mv b c p (farr S d) else mv b (mv b c p (farr S d)) (j - 1) (near S d))) ∨
  (∃ d q, d < nd S ∧ openB S d = true ∧ nI d = inw ∧ q < n ∧ dg b c q = farr S d ∧ l = 1024 + d * 8 + q + 1 ∧ u = mv b c q (near S d))
def E8 (S : Nat → Int32) (n : Nat) (inw : Int32) (c u : Nat) : Prop := ∃ l, FEd S 8 n inw c l u
section FW2
variable {S : Nat → Int32} {n : Nat} {inw : Int32}
theorem FE_lab {b c l u : Nat} (hS : InvS S) (hn : n ≤ 5) (h : FEd S b n inw c l u) : l < 2048 ∧ l % 8 ≤ n := by
  have hd := iv1b hS
  rcases h with ⟨p, d, j, h1, h2, h3, -, -, -, rfl, -⟩ | ⟨d, q, h1, -, -, h2, -, rfl, -⟩
  · constructor <;> omega
  · constructor <;> omega
theorem FE_uniq {b c l u u2 : Nat} (hS : InvS S) (hn : n ≤ 5) (h : FEd S b n inw c l u) (h2 : FEd S b n inw c l u2) : u = u2 := by
  have hd := iv1b hS
  rcases h with ⟨p, d, j, a1, a2, a3, -, -, -, a4, rfl⟩ | ⟨d, q, a1, -, -, a2, -, a4, rfl⟩ <;> rcases h2 with ⟨p2, d2, j2, b1, b2, b3, -, -, -, b4, rfl⟩ | ⟨d2, q2, b1, -, -, b2, -, b4, rfl⟩
  · obtain rfl : p = p2 := by omega
    obtain rfl : d = d2 := by omega
    obtain rfl : j = j2 := by omega
    rfl
  · omega
  · omega
  · obtain rfl : d = d2 := by omega
    obtain rfl : q = q2 := by omega
    rfl
theorem FE_cv {c l u : Nat} (hS : InvS S) (h0 : 0 < nr S) (hc : VC S n c) (h : FEd S 8 n inw c l u) : VC S n u ∧ FEd S (nr S) n inw (cv S n c) l (cv S n u) := by
  have h8 := iv0b hS
  rcases h with ⟨p, d, j, a1, a2, a3, a4, a5, a6, a7, rfl⟩ | ⟨d, q, a1, a2, a3, a4, a5, a6, rfl⟩
  · have hv := ivd hS a2
    have m1 := hc.mv h0 h8 a1 hv.2.2.2
    by_cases e : j = 0
    · subst e
      simp only [if_true]
      exact ⟨m1.1, Or.inl ⟨p, d, 0, a1, a2, a3, a4, by rw [cv_dg h0 hc a1]; exact a5, Or.inl rfl, a7, by rw [m1.2]; rfl⟩⟩
    · rw [if_neg e]
      have hq : j - 1 < n := by omega
      have m2 := m1.1.mv h0 h8 hq hv.2.1
      have a8 := a6.resolve_left e
      exact ⟨m2.1, Or.inl ⟨p, d, j, a1, a2, a3, a4, by rw [cv_dg h0 hc a1]; exact a5, Or.inr ⟨a8.1, by rw [cv_dg h0 hc hq]; exact a8.2⟩, a7, by rw [if_neg e, m2.2, m1.2]⟩⟩
  · have hv := ivd hS a1
    have m1 := hc.mv h0 h8 a4 hv.2.1
    exact ⟨m1.1, Or.inr ⟨d, q, a1, a2, a3, a4, by rw [cv_dg h0 hc a4]; exact a5, a6, m1.2⟩⟩
theorem FE_of {c l e : Nat} (hS : InvS S) (h0 : 0 < nr S) (hc : VC S n c) (h : FEd S (nr S) n inw (cv S n c) l e) : ∃ u, VC S n u ∧ cv S n u = e ∧ FEd S 8 n inw c l u := by
  have h8 := iv0b hS
  rcases h with ⟨p, d, j, a1, a2, a3, a4, a5, a6, a7, rfl⟩ | ⟨d, q, a1, a2, a3, a4, a5, a6, rfl⟩
  · have hv := ivd hS a2
    have m1 := hc.mv h0 h8 a1 hv.2.2.2
    rw [cv_dg h0 hc a1] at a5
    by_cases e : j = 0
    · subst e
      exact ⟨_, m1.1, by rw [m1.2]; rfl, Or.inl ⟨p, d, 0, a1, a2, a3, a4, a5, Or.inl rfl, a7, rfl⟩⟩
    · have hq : j - 1 < n := by omega
      have m2 := m1.1.mv h0 h8 hq hv.2.1
      have a8 := a6.resolve_left e
      rw [cv_dg h0 hc hq] at a8
      exact ⟨_, m2.1, by rw [m2.2, m1.2, if_neg e], Or.inl ⟨p, d, j, a1, a2, a3, a4, a5, Or.inr a8, a7, by rw [if_neg e]⟩⟩
  · have hv := ivd hS a1
    have m1 := hc.mv h0 h8 a4 hv.2.1
    rw [cv_dg h0 hc a4] at a5
    exact ⟨_, m1.1, m1.2, Or.inr ⟨d, q, a1, a2, a3, a4, a5, a6, rfl⟩⟩
theorem FE_EB {c l u : Nat} (hS : InvS S) (h0 : 0 < nr S) (hc : c < pw (nr S) n) (h : FEd S (nr S) n inw c l u) : EB S n inw u c := by
  rcases h with ⟨p, d, j, a1, a2, a3, a4, a5, a6, -, rfl⟩ | ⟨d, q, a1, a2, a3, a4, a5, -, rfl⟩
  · have hv := ivd hS a2
    have hl1 := mv_lt h0 hc a1 hv.2.2.2
    refine ⟨d, a2, a4, Or.inl ⟨p, a1, ?_⟩⟩
    by_cases e : j = 0
    · rw [if_pos e]
      exact ⟨by rw [dg_mv h0 hc a1 hv.2.2.2 a1, vup_s], Or.inl (mv_back h0 hc a1 hv.2.2.2 a5).symm⟩
    · rw [if_neg e]
      have a8 := a6.resolve_left e
      have hq : j - 1 < n := by omega
      refine ⟨by rw [dg_mv h0 hl1 hq hv.2.1 a1, vup_n _ _ (Ne.symm a8.1), dg_mv h0 hc a1 hv.2.2.2 a1, vup_s], Or.inr ⟨j - 1, hq, a8.1, by rw [dg_mv h0 hl1 hq hv.2.1 hq, vup_s], ?_⟩⟩
      rw [mv_swap h0 hl1 hq a1 hv.2.1 hv.2.1 (Ne.symm a8.1), mv_back h0 hc a1 hv.2.2.2 a5, mv_back h0 hc hq hv.2.1 a8.2]
  · have hv := ivd hS a1
    exact ⟨d, a1, a2, Or.inr ⟨a3, q, a4, by rw [dg_mv h0 hc a4 hv.2.1 a4, vup_s], (mv_back h0 hc a4 hv.2.1 a5).symm⟩⟩
theorem EB_FE {c u : Nat} (hS : InvS S) (h0 : 0 < nr S) (hc : c < pw (nr S) n) (h : EB S n inw c u) : ∃ l, FEd S (nr S) n inw u l c := by
  obtain ⟨d, hd, ho, h | ⟨hi, q, hq, hg, rfl⟩⟩ := h
  · have hv := ivd hS hd
    obtain ⟨p, hp, hg, rfl | ⟨q, hq, hqp, hgq, rfl⟩⟩ := h
    · exact ⟨_, Or.inl ⟨p, d, 0, hp, hd, Nat.zero_le _, ho, by rw [dg_mv h0 hc hp hv.2.1 hp, vup_s], Or.inl rfl, rfl, (mv_back h0 hc hp hv.2.1 hg).symm⟩⟩
    · have hl1 := mv_lt h0 hc hp hv.2.1
      refine ⟨_, Or.inl ⟨p, d, q + 1, hp, hd, hq, ho, by rw [dg_mv h0 hl1 hq hv.2.2.2 hp, vup_n _ _ (Ne.symm hqp), dg_mv h0 hc hp hv.2.1 hp, vup_s], Or.inr ⟨hqp, by rw [Nat.add_sub_cancel, dg_mv h0 hl1 hq hv.2.2.2 hq, vup_s]⟩, rfl, ?_⟩⟩
      rw [if_neg (by omega), Nat.add_sub_cancel, mv_swap h0 hl1 hq hp hv.2.2.2 hv.2.2.2 (Ne.symm hqp), mv_back h0 hc hp hv.2.1 hg, mv_back h0 hc hq hv.2.2.2 hgq]
  · have hv := ivd hS hd
    exact ⟨_, Or.inr ⟨d, q, hd, ho, hi, hq, by rw [dg_mv h0 hc hq hv.2.2.2 hq, vup_s], rfl, (mv_back h0 hc hq hv.2.2.2 hg).symm⟩⟩
theorem walkE_un {E : Nat → Nat → Prop} {k : Nat} : ∀ {a c : Nat}, walkE E (k + 1) a c → ∃ b, E a b ∧ walkE E k b c := by
  induction k with
  | zero => rintro a c ⟨b, h1, h2⟩; cases h1; exact ⟨c, h2, rfl⟩
  | succ k ih =>
    rintro a c ⟨b, h1, h2⟩
    obtain ⟨x, h3, h4⟩ := ih h1
    exact ⟨x, h3, b, h4, h2⟩
theorem w_to {c0 : Nat} (hS : InvS S) (h0 : 0 < nr S) (hc : VC S n c0) : ∀ {k c : Nat}, walkE (E8 S n inw) k c0 c → VC S n c ∧ walkE (EB S n inw) k (cv S n c) (cv S n c0) := by
  intro k
  induction k with
  | zero => intro c h; cases h; exact ⟨hc, rfl⟩
  | succ k ih =>
    rintro c ⟨m, h1, l, h2⟩
    obtain ⟨h3, h4⟩ := ih h1
    obtain ⟨h5, h6⟩ := FE_cv hS h0 h3 h2
    exact ⟨h5, walkE_head (FE_EB hS h0 (cv_lt h3) h6) h4⟩
theorem w_of {c0 : Nat} (hS : InvS S) (h0 : 0 < nr S) (hc : VC S n c0) : ∀ {k s : Nat}, s < pw (nr S) n → walkE (EB S n inw) k s (cv S n c0) → ∃ c, VC S n c ∧ cv S n c = s ∧ walkE (E8 S n inw) k c0 c := by
  intro k
  induction k with
  | zero => intro s _ h; cases h; exact ⟨c0, hc, rfl, rfl⟩
  | succ k ih =>
    intro s hs h
    obtain ⟨m, h1, h2⟩ := walkE_un h
    obtain ⟨cm, h3, h4, h5⟩ := ih (EB_lt hS h0 h1 hs) h2
    obtain ⟨l, h6⟩ := EB_FE hS h0 hs h1
    rw [← h4] at h6
    obtain ⟨u, h7, h8, h9⟩ := FE_of hS h0 h3 h6
    exact ⟨u, h7, h8, cm, h5, l, h9⟩
theorem fw_dist {c0 g k : Nat} {src g8 : Nat → Prop} (hS : InvS S) (h0 : 0 < nr S) (hc : VC S n c0) (hg : ∀ c, VC S n c → (g8 c ↔ src (cv S n c))) (hsl : ∀ s, src s → s < pw (nr S) n) (h1 : g8 g) (h2 : walkE (E8 S n inw) k c0 g) (h3 : ∀ m c, walkE (E8 S n inw) m c0 c → g8 c → k ≤ m) : distE (EB S n inw) src (cv S n c0) = nI k := by
  obtain ⟨h4, h5⟩ := w_to hS h0 hc h2
  refine dist_is ((hg g h4).mp h1) h5 (fun j t ht hw => ?_)
  obtain ⟨c, h6, rfl, h7⟩ := w_of hS h0 hc (hsl t ht) hw
  exact h3 j c h7 ((hg c h6).mpr ht)
theorem fw_none {c0 : Nat} {src g8 : Nat → Prop} (hS : InvS S) (h0 : 0 < nr S) (hc : VC S n c0) (hg : ∀ c, VC S n c → (g8 c ↔ src (cv S n c))) (hsl : ∀ s, src s → s < pw (nr S) n) (h3 : ∀ m c, walkE (E8 S n inw) m c0 c → ¬ g8 c) : distE (EB S n inw) src (cv S n c0) = -1 := by
  refine dist_no (fun j t ht hw => ?_)
  obtain ⟨c, h6, rfl, h7⟩ := w_of hS h0 hc (hsl t ht) hw
  exact h3 j c h7 ((hg c h6).mpr ht)
end FW2
/-! the order of what is found -/
def LXI (FE : Nat → Nat → Nat → Prop) (cnt k l0 : Nat) (qv lv par lab : Nat → Nat) : Prop :=
  (∀ j, 1 ≤ j → j < cnt → par j < j ∧ FE (qv (par j)) (lab j) (qv j) ∧ lv (qv j) = lv (qv (par j)) + 1) ∧
  (∀ i j, 1 ≤ i → i ≤ j → j < cnt → par i < par j ∨ (par i = par j ∧ lab i ≤ lab j)) ∧
  (∀ j, 1 ≤ j → j < cnt → par j < k ∨ (par j = k ∧ lab j < l0)) ∧
  (∀ i l c, (i < k ∨ (i = k ∧ l < l0)) → i < cnt → FE (qv i) l c → ∃ j, j < cnt ∧ qv j = c ∧ (j = 0 ∨ par j < i ∨ (par j = i ∧ lab j ≤ l)))
section LX
variable {FE : Nat → Nat → Nat → Prop} {cnt k l0 : Nat} {qv lv par lab : Nat → Nat}
theorem LXI.start {c0 : Nat} (h : qv 0 = c0) : LXI FE 1 0 0 qv lv par lab := ⟨fun j a b => by omega, fun i j a b c => by omega, fun j a b => by omega, fun i l c a b => by omega⟩
theorem LXI.skip {l1 : Nat} (h : LXI FE cnt k l0 qv lv par lab) (hl : l0 ≤ l1) (hn : ∀ l c, l0 ≤ l → l < l1 → ¬ FE (qv k) l c) : LXI FE cnt k l1 qv lv par lab := by
  obtain ⟨a, b, c, d⟩ := h
  refine ⟨a, b, fun j h1 h2 => (c j h1 h2).imp id (fun q => ⟨q.1, by omega⟩), fun i l x h1 h2 h3 => ?_⟩
  rcases h1 with h1 | ⟨rfl, h1⟩
  · exact d i l x (Or.inl h1) h2 h3
  · rcases Nat.lt_or_ge l l0 with q | q
    · exact d i l x (Or.inr ⟨rfl, q⟩) h2 h3
    · exact absurd h3 (hn l x q h1)
theorem LXI.seen {u : Nat} (h : LXI FE cnt k l0 qv lv par lab) (hu : ∀ c, FE (qv k) l0 c → c = u) (hs : seenB cnt qv u) : LXI FE cnt k (l0 + 1) qv lv par lab := by
  obtain ⟨a, b, c, d⟩ := h
  refine ⟨a, b, fun j h1 h2 => (c j h1 h2).imp id (fun q => ⟨q.1, by omega⟩), fun i l x h1 h2 h3 => ?_⟩
  rcases h1 with h1 | ⟨rfl, h1⟩
  · exact d i l x (Or.inl h1) h2 h3
  · rcases Nat.lt_or_ge l l0 with q | q
    · exact d i l x (Or.inr ⟨rfl, q⟩) h2 h3
    · obtain rfl : l = l0 := by omega
      obtain ⟨j, h4, h5⟩ := hs
      rw [hu x h3]
      refine ⟨j, h4, h5, ?_⟩
      rcases Nat.eq_zero_or_pos j with e | e
      · exact Or.inl e
      · exact Or.inr ((c j e h4).imp id (fun q => ⟨q.1, by omega⟩))
theorem LXI.add {u : Nat} (h : LXI FE cnt k l0 qv lv par lab) (hk : k < cnt) (hE : FE (qv k) l0 u) (hu : ∀ c, FE (qv k) l0 c → c = u) (hs : ¬ seenB cnt qv u) : LXI FE (cnt + 1) k (l0 + 1) (va_up qv cnt u) (va_up lv u (lv (qv k) + 1)) (va_up par cnt k) (va_up lab cnt l0) := by
  obtain ⟨a, b, c, d⟩ := h
  have hq : ∀ j, j < cnt → va_up qv cnt u j = qv j := fun j hj => vup_n _ _ (by omega)
  have hp : ∀ j, j < cnt → va_up par cnt k j = par j := fun j hj => vup_n _ _ (by omega)
  have hb : ∀ j, j < cnt → va_up lab cnt l0 j = lab j := fun j hj => vup_n _ _ (by omega)
  have hl : ∀ j, j < cnt → va_up lv u (lv (qv k) + 1) (qv j) = lv (qv j) := fun j hj => vup_n _ _ (fun q => hs ⟨j, hj, q⟩)
  refine ⟨fun j h1 h2 => ?_, fun i j h1 h2 h3 => ?_, fun j h1 h2 => ?_, fun i l x h1 h2 h3 => ?_⟩
  · by_cases e : j = cnt
    · subst e
      rw [vup_s, vup_s, vup_s, hq k hk, vup_s, hl k hk]
      exact ⟨hk, hE, rfl⟩
    · have h9 := a j h1 (by omega)
      rw [hp j (by omega), hq j (by omega), hb j (by omega), hq _ (by omega), hl j (by omega), hl _ (by omega)]
      exact h9
  · by_cases e : j = cnt
    · subst e
      by_cases e2 : i = j
      · subst e2; exact Or.inr ⟨rfl, Nat.le_refl _⟩
      · rw [vup_s, vup_s, hp i (by omega), hb i (by omega)]
        exact (c i h1 (by omega)).imp id (fun q => ⟨q.1, by omega⟩)
    · rw [hp i (by omega), hb i (by omega), hp j (by omega), hb j (by omega)]
      exact b i j h1 h2 (by omega)
  · by_cases e : j = cnt
    · subst e; rw [vup_s, vup_s]; exact Or.inr ⟨rfl, by omega⟩
    · rw [hp j (by omega), hb j (by omega)]
      exact (c j h1 (by omega)).imp id (fun q => ⟨q.1, by omega⟩)
  · have hik : i < cnt := by omega
    rw [hq i hik] at h3
    by_cases hx : i = k ∧ l = l0
    · obtain ⟨rfl, rfl⟩ := hx
      rw [hu x h3]
      exact ⟨cnt, by omega, vup_s _ _ _, Or.inr (Or.inr ⟨vup_s _ _ _, by rw [vup_s]; exact Nat.le_refl _⟩)⟩
    · obtain ⟨j, h4, h5, h6⟩ := d i l x (by omega) hik h3
      exact ⟨j, by omega, by rw [hq j h4]; exact h5, by rw [hp j h4, hb j h4]; exact h6⟩
theorem LXI.next (h : LXI FE cnt k l0 qv lv par lab) (hn : ∀ l c, l0 ≤ l → ¬ FE (qv k) l c) : LXI FE cnt (k + 1) 0 qv lv par lab := by
  obtain ⟨a, b, c, d⟩ := h
  refine ⟨a, b, fun j h1 h2 => Or.inl (by rcases c j h1 h2 with q | q <;> omega), fun i l x h1 h2 h3 => ?_⟩
  rcases h1 with h1 | ⟨-, h1⟩
  · by_cases e : i = k
    · subst e
      rcases Nat.lt_or_ge l l0 with q | q
      · exact d i l x (Or.inr ⟨rfl, q⟩) h2 h3
      · exact absurd h3 (hn l x q)
    · exact d i l x (Or.inl (by omega)) h2 h3
  · omega
theorem LXI.all (h : LXI FE cnt k l0 qv lv par lab) (hk : k < cnt) (hn : ∀ l c, l0 ≤ l → ¬ FE (qv k) l c) : ∀ l c, FE (qv k) l c → seenB cnt qv c := by
  intro l c h1
  rcases Nat.lt_or_ge l l0 with q | q
  · obtain ⟨j, h2, h3, -⟩ := h.2.2.2 k l c (Or.inr ⟨rfl, q⟩) hk h1
    exact ⟨j, h2, h3⟩
  · exact absurd h1 (hn l c q)
end LX
/-- the first in the row at a goal is one of the nearest -/
theorem first_least {E : Nat → Nat → Prop} {src g8 : Nat → Prop} {M cnt k : Nat} {qv lv : Nat → Nat} (h : BFI E src M cnt k qv lv) (hk : k < cnt) (hg : ∀ i, i < k → ¬ g8 (qv i)) : ∀ m s c, src s → walkE E m s c → g8 c → lv (qv k) ≤ m := by
  have key : ∀ m s c, src s → walkE E m s c → m < lv (qv k) → ∃ i, i < k ∧ qv i = c ∧ lv c ≤ m := by
    intro m
    induction m with
    | zero =>
      intro s c hs hw hm
      cases hw
      obtain ⟨j, h1, h2, h3⟩ := h.2.2.2.1 s hs
      refine ⟨j, ?_, h2, by omega⟩
      rcases Nat.lt_or_ge j k with q | q
      · exact q
      · have := h.2.2.2.2.1 k j q h1
        rw [h2, h3] at this; omega
    | succ m ih =>
      rintro s c hs ⟨x, hw, hE⟩ hm
      obtain ⟨i, h1, h2, h3⟩ := ih s x hs hw (by omega)
      rw [← h2] at hE
      obtain ⟨j, h4, h5, h6⟩ := h.2.2.2.2.2.2 i h1 (by omega) c hE
      rw [h2] at h6
      refine ⟨j, ?_, h5, by omega⟩
      rcases Nat.lt_or_ge j k with q | q
      · exact q
      · have := h.2.2.2.2.1 k j q h4
        rw [h5] at this; omega
  intro m s c hs hw hgc
  rcases Nat.lt_or_ge m (lv (qv k)) with q | q
  · obtain ⟨i, h1, h2, -⟩ := key m s c hs hw q
    exact absurd (h2 ▸ hgc) (hg i h1)
  · exact q
