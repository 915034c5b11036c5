/-! Plain: all who are where, as one number -/
def pw (b p : Nat) : Nat := b ^ p
def dg (b c p : Nat) : Nat := c / pw b p % b
def mv (b c p r : Nat) : Nat := c + r * pw b p - dg b c p * pw b p
def enc (b : Nat) : Nat → (Nat → Nat) → Nat
  | 0, _ => 0
  | n + 1, v => enc b n v + v n * pw b n
theorem pw_s (b p : Nat) : pw b (p + 1) = pw b p * b := rfl
theorem pw_pos {b : Nat} (hb : 0 < b) (p : Nat) : 0 < pw b p := Nat.pow_pos hb
theorem pw_mono {b : Nat} (hb : 0 < b) {p q : Nat} (h : p ≤ q) : pw b p ≤ pw b q := Nat.pow_le_pow_right hb h
theorem pw_le {b p k : Nat} (hb : b ≤ 8) (hp : p ≤ k) : pw b p ≤ 8 ^ k := Nat.le_trans (Nat.pow_le_pow_left hb p) (Nat.pow_le_pow_right (by decide) hp)
theorem enc_lt {b n : Nat} {v : Nat → Nat} (h : ∀ p, p < n → v p < b) : enc b n v < pw b n := by
  induction n with
  | zero => exact Nat.one_pos
  | succ n ih =>
    have h1 := ih (fun p hp => h p (by omega))
    have h2 := h n (by omega)
    rw [enc, pw_s]
    have h3 : (v n + 1) * pw b n ≤ b * pw b n := Nat.mul_le_mul_right _ h2
    rw [Nat.add_mul, Nat.mul_comm b] at h3
    omega
theorem dg_lt {b : Nat} (hb : 0 < b) (c p : Nat) : dg b c p < b := Nat.mod_lt _ hb
theorem dg_add {b n p x y : Nat} (hb : 0 < b) (hp : p < n) : dg b (x + y * pw b n) p = dg b x p := by
  unfold dg
  obtain ⟨k, rfl⟩ : ∃ k, n = p + 1 + k := ⟨n - (p + 1), by omega⟩
  have e : pw b (p + 1 + k) = pw b p * (b * pw b k) := by
    unfold pw; rw [Nat.pow_add, Nat.pow_succ, Nat.mul_assoc]
  have e2 : x + y * pw b (p + 1 + k) = x + pw b p * (b * (pw b k * y)) := by
    rw [e, Nat.mul_comm y, Nat.mul_assoc, Nat.mul_assoc]
  rw [e2, Nat.add_mul_div_left _ _ (pw_pos hb p), Nat.add_mul_mod_self_left]
theorem dg_enc {b n p : Nat} {v : Nat → Nat} (hb : 0 < b) (h : ∀ p, p < n → v p < b) (hp : p < n) : dg b (enc b n v) p = v p := by
  induction n with
  | zero => omega
  | succ n ih =>
    rw [enc]
    by_cases e : p = n
    · subst e
      have h1 := enc_lt (n := p) (v := v) (fun q hq => h q (by omega))
      unfold dg
      rw [Nat.mul_comm (v p), Nat.add_mul_div_left _ _ (pw_pos hb p), Nat.div_eq_of_lt h1, Nat.zero_add, Nat.mod_eq_of_lt (h p (by omega))]
    · rw [dg_add hb (by omega)]
      exact ih (fun q hq => h q (by omega)) (by omega)
theorem enc_congr {b n : Nat} {u v : Nat → Nat} (h : ∀ p, p < n → u p = v p) : enc b n u = enc b n v := by
  induction n with
  | zero => rfl
  | succ n ih => rw [enc, enc, ih (fun p hp => h p (by omega)), h n (by omega)]
theorem enc_dg {b n c : Nat} (hb : 0 < b) (hc : c < pw b n) : enc b n (dg b c) = c := by
  induction n generalizing c with
  | zero => have : pw b 0 = 1 := rfl
            rw [enc]; omega
  | succ n ih =>
    rw [enc]
    have h0 := Nat.mod_add_div c (pw b n)
    have hp := pw_pos hb n
    have h1 : c / pw b n < b := by
      rw [Nat.div_lt_iff_lt_mul hp, Nat.mul_comm]
      rw [pw_s] at hc; exact hc
    have h2 : dg b c n = c / pw b n := Nat.mod_eq_of_lt h1
    have h3 : enc b n (dg b c) = c % pw b n := by
      rw [← ih (Nat.mod_lt c hp)]
      refine enc_congr (fun p hpn => ?_)
      have h4 := dg_add (b := b) (n := n) (p := p) (x := c % pw b n) (y := c / pw b n) hb hpn
      rw [Nat.mul_comm, h0] at h4
      exact h4
    rw [h3, h2, Nat.mul_comm]
    exact h0
theorem enc_up {b n p r : Nat} {v : Nat → Nat} (hp : p < n) : enc b n (va_up v p r) + v p * pw b p = enc b n v + r * pw b p := by
  induction n with
  | zero => omega
  | succ n ih =>
    rw [enc, enc]
    by_cases e : p = n
    · subst e
      rw [vup_s, enc_congr (u := va_up v p r) (v := v) (fun q hq => vup_n _ _ (by omega))]
      omega
    · have := ih (by omega)
      rw [vup_n _ _ (Ne.symm e)]
      omega
theorem dg_le {b n p c : Nat} (hb : 0 < b) (hc : c < pw b n) (hp : p < n) : dg b c p * pw b p ≤ c := by
  have h1 : c / pw b p % b ≤ c / pw b p := Nat.mod_le _ _
  exact Nat.le_trans (Nat.mul_le_mul_right _ h1) (Nat.div_mul_le_self c (pw b p))
theorem mv_enc {b n c p r : Nat} (hb : 0 < b) (hc : c < pw b n) (hp : p < n) : mv b c p r = enc b n (va_up (dg b c) p r) := by
  have h1 := enc_up (b := b) (n := n) (p := p) (r := r) (v := dg b c) hp
  rw [enc_dg hb hc] at h1
  unfold mv
  omega
theorem va_lt {b n p r c : Nat} (hb : 0 < b) (hr : r < b) : ∀ q, q < n → va_up (dg b c) p r q < b := by
  intro q _
  by_cases e : q = p
  · subst e; rw [vup_s]; exact hr
  · rw [vup_n _ _ e]; exact dg_lt hb c q
theorem mv_lt {b n c p r : Nat} (hb : 0 < b) (hc : c < pw b n) (hp : p < n) (hr : r < b) : mv b c p r < pw b n := by
  rw [mv_enc hb hc hp]; exact enc_lt (va_lt hb hr)
theorem dg_mv {b n c p r q : Nat} (hb : 0 < b) (hc : c < pw b n) (hp : p < n) (hr : r < b) (hq : q < n) : dg b (mv b c p r) q = va_up (dg b c) p r q := by
  rw [mv_enc hb hc hp]; exact dg_enc hb (va_lt hb hr) hq
theorem nI_mv {b c p r : Nat} : nI c + (nI r - nI (dg b c p)) * nI (pw b p) = nI (mv b c p r) := by
  have hle : dg b c p * pw b p ≤ c := Nat.le_trans (Nat.mul_le_mul_right _ (Nat.mod_le _ _)) (Nat.div_mul_le_self c (pw b p))
  have h1 : nI (mv b c p r) + nI (dg b c p) * nI (pw b p) = nI c + nI r * nI (pw b p) := by
    rw [pk_mul, nI_add, pk_mul, nI_add]
    congr 1
    unfold mv
    omega
  rw [Int32.sub_mul, Int32.sub_eq_add_neg, ← Int32.add_assoc, ← h1, ← Int32.sub_eq_add_neg, Int32.add_sub_cancel]
/-- two numbers with the same rooms are the same -/
theorem dg_ext {b n c e : Nat} (hb : 0 < b) (hc : c < pw b n) (he : e < pw b n) (h : ∀ p, p < n → dg b c p = dg b e p) : c = e := by
  rw [← enc_dg hb hc, ← enc_dg hb he]; exact enc_congr h
/-! The search from the ends back: what lies in the arrays -/
def EB (S : Nat → Int32) (n : Nat) (inw : Int32) (c u : Nat) : Prop := ∃ d, d < nd S ∧ openB S d = true ∧
  ((∃ p, p < n ∧ dg (nr S) c p = farr S d ∧ (u = mv (nr S) c p (near S d) ∨ ∃ q, q < n ∧ q ≠ p ∧ dg (nr S) c q = near S d ∧ u = mv (nr S) (mv (nr S) c p (near S d)) q (farr S d))) ∨
   (nI d = inw ∧ ∃ q, q < n ∧ dg (nr S) c q = near S d ∧ u = mv (nr S) c q (farr S d)))
def QW (n M cnt : Nat) (qv lv : Nat → Nat) (I : Im) : Prop := I 161 31 = nI cnt ∧ I 161 32 = nI n ∧ (∀ j, j < cnt → I 178 j = nI (qv j)) ∧ (∀ c, c < M → (seenB cnt qv c → I 177 c = nI (lv c)) ∧ (¬ seenB cnt qv c → I 177 c = -1)) ∧
  (∀ i j, i < cnt → j < cnt → qv i = qv j → i = j) ∧ (∀ j, j < cnt → qv j < M) ∧ ∀ j, j < cnt → lv (qv j) ≤ j
def QK (I : Im) (L : Lm) (I1 : Im) (L1 : Lm) : Prop := L = L1 ∧ (∀ n, n ≠ 161 → n ≠ 177 → n ≠ 178 → I1 n = I n) ∧ ∀ j, j ≠ 31 → j ≠ 32 → I1 161 j = I 161 j
theorem QK.rf {I : Im} {L : Lm} : QK I L I L := ⟨rfl, fun _ _ _ _ => rfl, fun _ _ _ => rfl⟩
theorem QK.trans {I I1 I2 : Im} {L L1 L2 : Lm} (h : QK I L I1 L1) (h2 : QK I1 L1 I2 L2) : QK I L I2 L2 := ⟨h.1.trans h2.1, fun n a b c => (h2.2.1 n a b c).trans (h.2.1 n a b c), fun j a b => (h2.2.2 j a b).trans (h.2.2 j a b)⟩
theorem QK.mc {I I1 : Im} {L L1 : Lm} (h : QK I L I1 L1) : MC [] [] I L I1 L1 := by
  refine ⟨fun n h1 _ => ?_, fun j h1 _ => h.2.2 j (fun e => by subst e; exact absurd h1 (by decide)) (fun e => by subst e; exact absurd h1 (by decide)), fun n _ => by rw [h.1]⟩
  simp only [scrL, List.mem_cons, List.not_mem_nil, or_false, not_or] at h1
  exact h.2.1 n h1.1 h1.2.2.2.2.2.2.2.2.1 h1.2.2.2.2.2.2.2.2.2.1
theorem QK.S {I I1 : Im} {L L1 : Lm} {S : Nat → Int32} (h : QK I L I1 L1) (hE : I 171 = S) : I1 171 = S := (h.2.1 171 (by decide) (by decide) (by decide)).trans hE
theorem seen_up {cnt c u : Nat} {qv : Nat → Nat} : seenB (cnt + 1) (va_up qv cnt c) u ↔ seenB cnt qv u ∨ u = c := by
  constructor
  · rintro ⟨j, h1, h2⟩
    by_cases e : j = cnt
    · subst e; rw [vup_s] at h2; exact Or.inr h2.symm
    · rw [vup_n _ _ e] at h2; exact Or.inl ⟨j, by omega, h2⟩
  · rintro (⟨j, h1, h2⟩ | rfl)
    · exact ⟨j, by omega, by rw [vup_n _ _ (by omega)]; exact h2⟩
    · exact ⟨cnt, by omega, vup_s _ _ _⟩
theorem QW.room {n M cnt c : Nat} {qv lv : Nat → Nat} {I : Im} (h : QW n M cnt qv lv I) (hc : c < M) (hn : ¬ seenB cnt qv c) : cnt < M := by
  have := pigeon M (cnt + 1) (va_up qv cnt c) (fun i hi => by
    by_cases e : i = cnt
    · subst e; rw [vup_s]; exact hc
    · rw [vup_n _ _ e]; exact h.2.2.2.2.2.1 i (by omega)) (fun i j hi hj hij => by
    by_cases e1 : i = cnt <;> by_cases e2 : j = cnt
    · omega
    · subst e1; rw [vup_s, vup_n _ _ e2] at hij; exact absurd ⟨j, by omega, hij.symm⟩ hn
    · subst e2; rw [vup_s, vup_n _ _ e1] at hij; exact absurd ⟨i, by omega, hij⟩ hn
    · rw [vup_n _ _ e1, vup_n _ _ e2] at hij; exact h.2.2.2.2.1 i j (by omega) (by omega) hij)
  omega
theorem QW.le {n M cnt : Nat} {qv lv : Nat → Nat} {I : Im} (h : QW n M cnt qv lv I) : cnt ≤ M := pigeon M cnt qv h.2.2.2.2.2.1 h.2.2.2.2.1
theorem QW.val {n M cnt c : Nat} {qv lv : Nat → Nat} {I : Im} (h : QW n M cnt qv lv I) (hc : c < M) (hM : M ≤ 32768) : (0 ≤ I 177 c ↔ seenB cnt qv c) := by
  have h1 := h.2.2.2.1 c hc
  constructor
  · intro h2
    by_cases h3 : seenB cnt qv c
    · exact h3
    · rw [h1.2 h3] at h2; exact absurd h2 (by decide)
  · intro h2
    rw [h1.1 h2]
    obtain ⟨j, h3, h4⟩ := h2
    have := h.2.2.2.2.2.2 j h3
    rw [h4] at this
    have := h.le
    exact nI_pos' (by omega)
theorem QW.add {n M cnt c x : Nat} {qv lv : Nat → Nat} {I : Im} (h : QW n M cnt qv lv I) (hc : c < M) (hn : ¬ seenB cnt qv c) (hx : x ≤ cnt) : QW n M (cnt + 1) (va_up qv cnt c) (va_up lv c x) (upd2 (upd2 (upd2 I 177 c (nI x)) 178 cnt (nI c)) 161 31 (nI (cnt + 1))) := by
  obtain ⟨a, b, cc, d, e, f, g⟩ := h
  refine ⟨rfl, b, fun j hj => ?_, fun u hu => ⟨fun hs => ?_, fun hs => ?_⟩, fun i j hi hj hij => ?_, fun j hj => ?_, fun j hj => ?_⟩
  · show va_up (I 178) cnt (nI c) j = _
    by_cases e1 : j = cnt
    · subst e1; rw [vup_s, vup_s]
    · rw [vup_n _ _ e1, vup_n _ _ e1]; exact cc j (by omega)
  · show va_up (I 177) c (nI x) u = _
    rcases seen_up.mp hs with h1 | h1
    · have : u ≠ c := fun q => hn (q ▸ h1)
      rw [vup_n _ _ this, vup_n _ _ this]; exact (d u hu).1 h1
    · subst h1; rw [vup_s, vup_s]
  · show va_up (I 177) c (nI x) u = _
    have h1 : ¬ seenB cnt qv u := fun q => hs (seen_up.mpr (Or.inl q))
    have h2 : u ≠ c := fun q => hs (seen_up.mpr (Or.inr q))
    rw [vup_n _ _ h2]; exact (d u hu).2 h1
  · by_cases e1 : i = cnt <;> by_cases e2 : j = cnt
    · omega
    · subst e1; rw [vup_s, vup_n _ _ e2] at hij; exact absurd ⟨j, by omega, hij.symm⟩ hn
    · subst e2; rw [vup_s, vup_n _ _ e1] at hij; exact absurd ⟨i, by omega, hij⟩ hn
    · rw [vup_n _ _ e1, vup_n _ _ e2] at hij; exact e i j (by omega) (by omega) hij
  · by_cases e1 : j = cnt
    · subst e1; rw [vup_s]; exact hc
    · rw [vup_n _ _ e1]; exact f j (by omega)
  · by_cases e1 : j = cnt
    · subst e1; rw [vup_s, vup_s]; exact hx
    · rw [vup_n _ _ e1, vup_n _ _ (fun q => hn ⟨j, by omega, q⟩)]; exact g j (by omega)
/-- at work on the k-th, c, x passings away, from which all of D is seen already -/
def RB (E : Nat → Nat → Prop) (src : Nat → Prop) (n M c k x : Nat) (D : Nat → Prop) (I : Im) : Prop := ∃ cnt qv lv, QW n M cnt qv lv I ∧ BFI E src M cnt k qv lv ∧ k < cnt ∧ qv k = c ∧ lv c = x ∧ ∀ u, D u → seenB cnt qv u
theorem RB.mono {E : Nat → Nat → Prop} {src : Nat → Prop} {n M c k x : Nat} {D D2 : Nat → Prop} {I : Im} (h : RB E src n M c k x D I) (hd : ∀ u, D2 u → D u) : RB E src n M c k x D2 I := by
  obtain ⟨cnt, qv, lv, a, b, cc, d, f, e⟩ := h
  exact ⟨cnt, qv, lv, a, b, cc, d, f, fun u hu => e u (hd u hu)⟩
theorem RB.val {E : Nat → Nat → Prop} {src : Nat → Prop} {n M c k x : Nat} {D : Nat → Prop} {I : Im} (h : RB E src n M c k x D I) : I 177 c = nI x ∧ c < M ∧ x < M ∧ I 161 32 = nI n := by
  obtain ⟨cnt, qv, lv, a, b, cc, d, f, e⟩ := h
  have hc : c < M := by rw [← d]; exact a.2.2.2.2.2.1 k cc
  have hl := a.le
  have h7 := a.2.2.2.2.2.2 k cc
  rw [d, f] at h7
  exact ⟨by rw [(a.2.2.2.1 c hc).1 ⟨k, cc, d⟩, f], hc, by omega, a.2.1⟩
/-- all states of the search between two of the queue -/
def GS (E : Nat → Nat → Prop) (src : Nat → Prop) (n M k : Nat) (I : Im) : Prop := ∃ cnt qv lv, QW n M cnt qv lv I ∧ BFI E src M cnt k qv lv ∧ k ≤ cnt
/-- while the sources are laid: those below c -/
def ST (src : Nat → Prop) (n M c : Nat) (I : Im) : Prop := ∃ cnt qv lv, QW n M cnt qv lv I ∧ (∀ j, j < cnt → qv j < c ∧ src (qv j) ∧ lv (qv j) = 0) ∧ ∀ s, s < c → src s → seenB cnt qv s
theorem ST.done {E : Nat → Nat → Prop} {src : Nat → Prop} {n M : Nat} {I : Im} (h : ST src n M M I) (hs : ∀ s, src s → s < M) : GS E src n M 0 I := by
  obtain ⟨cnt, qv, lv, a, b, c⟩ := h
  exact ⟨cnt, qv, lv, a, BFI.start a.2.2.2.2.1 a.2.2.2.2.2.1 (fun j hj => (b j hj).2) (fun s h1 => c s (hs s h1) h1), Nat.zero_le _⟩
theorem ST.skip {src : Nat → Prop} {n M c : Nat} {I : Im} (h : ST src n M c I) (hs : ¬ src c) : ST src n M (c + 1) I := by
  obtain ⟨cnt, qv, lv, a, b, d⟩ := h
  refine ⟨cnt, qv, lv, a, fun j hj => ⟨by have := (b j hj).1; omega, (b j hj).2⟩, fun s h1 h2 => ?_⟩
  by_cases e : s = c
  · subst e; exact absurd h2 hs
  · exact d s (by omega) h2
noncomputable def distE (E : Nat → Nat → Prop) (src : Nat → Prop) (c : Nat) : Int32 := @ite _ (∃ n s, src s ∧ walkE E n s c) (Classical.propDecidable _) (nI (leastP (fun n => ∃ s, src s ∧ walkE E n s c))) (-1)
theorem dist_no {E : Nat → Nat → Prop} {src : Nat → Prop} {c : Nat} (h : ∀ n s, src s → ¬ walkE E n s c) : distE E src c = -1 := by
  unfold distE
  rw [if_neg]
  rintro ⟨n, s, a, b⟩
  exact h n s a b
theorem dist_is {E : Nat → Nat → Prop} {src : Nat → Prop} {c n s : Nat} (hs : src s) (hw : walkE E n s c) (hm : ∀ j t, src t → walkE E j t c → n ≤ j) : distE E src c = nI n := by
  unfold distE
  rw [if_pos ⟨n, s, hs, hw⟩, leastP_eq (P := fun n => ∃ s, src s ∧ walkE E n s c) ⟨s, hs, hw⟩]
  rintro j hj ⟨t, a, b⟩
  have := hm j t a b
  omega
/-- what the row of passings says of one: no way there, or the least number -/
def DistP (E : Nat → Nat → Prop) (src : Nat → Prop) (M c : Nat) (v : Int32) : Prop := (v = -1 ∧ ∀ n s, src s → ¬ walkE E n s c) ∨ ∃ x, x < M ∧ v = nI x ∧ (∃ s, src s ∧ walkE E x s c) ∧ ∀ n s, src s → walkE E n s c → x ≤ n
theorem DistP.eq {E : Nat → Nat → Prop} {src : Nat → Prop} {M c : Nat} {v : Int32} (h : DistP E src M c v) : v = distE E src c := by
  rcases h with ⟨rfl, h⟩ | ⟨x, -, rfl, ⟨s, h1, h2⟩, h3⟩
  · exact (dist_no h).symm
  · exact (dist_is h1 h2 h3).symm
/-- the search is done: the row of least numbers of passings -/
theorem QW.done {E : Nat → Nat → Prop} {src : Nat → Prop} {n M cnt : Nat} {qv lv : Nat → Nat} {I : Im} (h : QW n M cnt qv lv I) (hb : BFI E src M cnt cnt qv lv) : ∀ c, c < M → I 177 c = distE E src c ∧ DistP E src M c (I 177 c) := by
  intro c hc
  have key : DistP E src M c (I 177 c) := by
    by_cases hs : seenB cnt qv c
    · obtain ⟨h2, h3⟩ := hb.lev hs
      have h4 := (h.2.2.2.1 c hc).1 hs
      obtain ⟨j, h5, h6⟩ := hs
      have h7 := h.2.2.2.2.2.2 j h5
      rw [h6] at h7
      have := h.le
      exact Or.inr ⟨lv c, by omega, h4, h2, h3⟩
    · exact Or.inl ⟨(h.2.2.2.1 c hc).2 hs, fun j t a b => hs (hb.done j t c a b).1⟩
  exact ⟨key.eq, key⟩
