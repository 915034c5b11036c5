/-! The reference's codes are well made -/
set_option maxRecDepth 100000
/-- well made from a depth to a depth -/
def okD : List Sg → Nat → Nat → Prop
  | [], d, e => d = e
  | q :: cs, d, e => q.2 < 2 ^ 20 ∧ q.1 < 15 ∧ (if q.1 = 0 then d < 64 ∧ okD cs (d + 1) e else if q.1 = 1 then q.2 < 12 ∧ d < 64 ∧ okD cs (d + 1) e else if q.1 = 11 then 1 ≤ d ∧ okD cs d e else 2 ≤ d ∧ okD cs (d - 1) e)
theorem okD.R {cs : List Sg} : ∀ {d : Nat}, okD cs d 1 → okR cs d := by
  induction cs with
  | nil => intro d h; exact h
  | cons q cs ih =>
    intro d h
    refine ⟨h.1, h.2.1, ?_⟩
    have h3 := h.2.2
    split
    · rename_i e; rw [if_pos e] at h3; exact ⟨h3.1, ih h3.2⟩
    · rename_i e; rw [if_neg e] at h3
      split
      · rename_i e2; rw [if_pos e2] at h3; exact ⟨h3.1, h3.2.1, ih h3.2.2⟩
      · rename_i e2; rw [if_neg e2] at h3
        split
        · rename_i e3; rw [if_pos e3] at h3; exact ⟨h3.1, ih h3.2⟩
        · rename_i e3; rw [if_neg e3] at h3; exact ⟨h3.1, ih h3.2⟩
theorem okD.app {cs cs2 : List Sg} {e f : Nat} : ∀ {d : Nat}, okD cs d e → okD cs2 e f → okD (cs ++ cs2) d f := by
  induction cs with
  | nil => intro d h h2; have h3 : d = e := h; subst h3; exact h2
  | cons q cs ih =>
    intro d h h2
    refine ⟨h.1, h.2.1, ?_⟩
    have h3 := h.2.2
    split
    · rename_i e; rw [if_pos e] at h3; exact ⟨h3.1, ih h3.2 h2⟩
    · rename_i e; rw [if_neg e] at h3
      split
      · rename_i e2; rw [if_pos e2] at h3; exact ⟨h3.1, h3.2.1, ih h3.2.2 h2⟩
      · rename_i e2; rw [if_neg e2] at h3
        split
        · rename_i e3; rw [if_pos e3] at h3; exact ⟨h3.1, ih h3.2 h2⟩
        · rename_i e3; rw [if_neg e3] at h3; exact ⟨h3.1, ih h3.2 h2⟩
theorem okD.num {v d : Nat} (hv : v < 2 ^ 20) (hd : d < 64) : okD [(0, v)] d (d + 1) := ⟨hv, by show 0 < 15; decide, by rw [if_pos rfl]; exact ⟨hd, rfl⟩⟩
theorem okD.word {v d : Nat} (hv : v < 12) (hd : d < 64) : okD [(1, v)] d (d + 1) := ⟨by show v < 2 ^ 20; omega, by show 1 < 15; decide, by rw [if_neg (show ¬ (1 : Nat) = 0 by decide), if_pos rfl]; exact ⟨hv, hd, rfl⟩⟩
theorem okD.un {d : Nat} (hd : 1 ≤ d) : okD [(11, 0)] d d := ⟨by decide, by decide, by rw [if_neg (by decide), if_neg (by decide), if_pos rfl]; exact ⟨hd, rfl⟩⟩
theorem okD.bin {k d : Nat} (h2 : 2 ≤ k) (h15 : k < 15) (h11 : k ≠ 11) (hd : 1 ≤ d) : okD [(k, 0)] (d + 1) d := ⟨by show 0 < 2 ^ 20; decide, h15, by rw [if_neg (show ¬ k = 0 by omega), if_neg (show ¬ k = 1 by omega), if_neg h11]; exact ⟨by omega, (show d + 1 - 1 = d by omega)⟩⟩
/-- what a part of a sum leaves: one more on the stack, never too many -/
def SubD (n : Nat) (sub : Nat → Nat → PRes) : Prop := ∀ i md q, i ≤ n → md ≤ 60 → sub i md = .inr q → md + 1 ≤ q.2.1 ∧ ∀ d, d + q.2.1 ≤ 64 + md → okD q.2.2 d (d + 1)
theorem mkP_d {md j : Nat} {r : Nat × List Sg} {q : Nat × Nat × List Sg} (h : mkP md j r = .inr q) : q.2.2 = r.2 ∧ q.2.1 = md + 1 := by
  unfold mkP at h
  split at h
  · cases h
  · cases h
    exact ⟨rfl, rfl⟩
theorem valueP_d (T : Nat → Int32) (n : Nat) : SubD n (valueP T n) := by
  intro i md q hi hmd h
  simp only [valueP] at h
  split at h
  · rename_i hD
    split at h
    · have h1 := mkP_d h
      have hv := numV_le (T := T) (n := n) (j := skip T n i) drun_digs
      rw [h1.1, h1.2]
      exact ⟨Nat.le_refl _, fun d hd => okD.num (by omega) (by omega)⟩
    · cases h
  · split at h
    · rename_i hW
      have h1 := mkP_d h
      rw [h1.1, h1.2]
      exact ⟨Nat.le_refl _, fun d hd => okD.word hW (by omega)⟩
    · cases h
theorem loopB_d {T : Nat → Int32} {n : Nat} {opk : Nat → Nat} {sub : Nat → Nat → PRes} (hs : SubOK n sub) (hd : SubD n sub) (ho : ∀ j, opk j ≠ 0 → j < n ∧ 2 ≤ opk j ∧ opk j < 15 ∧ opk j ≠ 11) : ∀ f i md code q md0, i ≤ n → md ≤ 60 → md0 + 1 ≤ md → (∀ d, d + md ≤ 64 + md0 → okD code d (d + 1)) → loopB T n opk sub f i md code = .inr q → md0 + 1 ≤ q.2.1 ∧ ∀ d, d + q.2.1 ≤ 64 + md0 → okD q.2.2 d (d + 1) := by
  intro f
  induction f with
  | zero => intro i md code q md0 _ _ _ _ h; cases h
  | succ f ih =>
    intro i md code q md0 hi hmd hm0 hc h
    have hsk := skip_le (T := T) hi
    rw [loopB] at h
    split at h
    · cases h
      exact ⟨hm0, hc⟩
    · rename_i hk
      have hj := ho _ hk
      split at h
      · cases h
      · rename_i q1 hq1
        have h0 := hs _ _ _ (by omega) hmd hq1
        have h1 := hd _ _ _ (by omega) hmd hq1
        exact ih _ _ _ _ md0 h0.2.1 h0.2.2 (by omega) (fun d hd2 => okD.app (okD.app (hc d (by omega)) (h1.2 (d + 1) (by omega))) (okD.bin hj.2.1 hj.2.2.1 hj.2.2.2 (by omega))) h
theorem binP_d {T : Nat → Int32} {n : Nat} {opk : Nat → Nat} {sub : Nat → Nat → PRes} (hs : SubOK n sub) (hd : SubD n sub) (ho : ∀ j, opk j ≠ 0 → j < n ∧ 2 ≤ opk j ∧ opk j < 15 ∧ opk j ≠ 11) : SubD n (binP T n opk sub) := by
  intro i md q hi hmd h
  unfold binP at h
  split at h
  · cases h
  · rename_i q1 hq1
    have h1 := hs _ _ _ hi hmd hq1
    have h2 := hd _ _ _ hi hmd hq1
    exact loopB_d hs hd ho _ _ _ _ _ md h1.2.1 h1.2.2 h2.1 h2.2 h
theorem mulK_k {T : Nat → Int32} {n j : Nat} (h : mulK T n j ≠ 0) : j < n ∧ 2 ≤ mulK T n j ∧ mulK T n j < 15 ∧ mulK T n j ≠ 11 := by
  refine ⟨mulK_lt h, ?_⟩
  unfold mulK at h ⊢
  split
  · split
    · decide
    · split <;> decide
  · rename_i e; rw [if_neg e] at h; exact absurd rfl h
theorem addK_k {T : Nat → Int32} {n j : Nat} (h : addK T n j ≠ 0) : j < n ∧ 2 ≤ addK T n j ∧ addK T n j < 15 ∧ addK T n j ≠ 11 := by
  refine ⟨addK_lt h, ?_⟩
  unfold addK at h ⊢
  split
  · split <;> decide
  · rename_i e; rw [if_neg e] at h; exact absurd rfl h
theorem termP_d (T : Nat → Int32) (n : Nat) : SubD n (termP T n) := binP_d (valueP_ok T n) (valueP_d T n) (fun _ h => mulK_k h)
theorem sumP_d (T : Nat → Int32) (n : Nat) : SubD n (sumP T n) := binP_d (termP_ok T n) (termP_d T n) (fun _ h => addK_k h)
theorem cmpS_lt (T : Nat → Int32) (n j : Nat) : cmpS T n j ≤ 4 := by
  unfold cmpS
  split
  · split <;> decide
  · split
    · decide
    · split <;> decide
theorem compareP_d (T : Nat → Int32) (n : Nat) : SubD n (compareP T n) := by
  intro i md q hi hmd h
  unfold compareP at h
  split at h
  · cases h
  · rename_i q1 hq1
    have h1 := sumP_ok T n _ _ _ hi hmd hq1
    have h1d := sumP_d T n _ _ _ hi hmd hq1
    have hs := skip_le (T := T) h1.2.1
    unfold cmpQ at h
    split at h
    · rename_i hc
      have hj := isCmp_lt hc
      have hi2 := cmpI_le (T := T) hj
      split at h
      · cases h
      · split at h
        · cases h
        · rename_i r hr
          have h2 := sumP_d T n _ _ _ hi2.2 (by omega) hr
          have hk := cmpS_lt T n (skip T n q1.1)
          cases h
          refine ⟨by show md + 1 ≤ r.2.1; omega, fun d hd => ?_⟩
          have hd : d + r.2.1 ≤ 64 + md := hd
          exact okD.app (okD.app (h1d.2 d (by omega)) (h2.2 (d + 1) (by omega))) (okD.bin (by omega) (by omega) (by omega) (by omega))
    · cases h
/-- signs that are open and stand between two -/
def bnO : List Nat → Nat
  | [] => 0
  | o :: r => (if o = 12 ∨ o = 13 then 1 else 0) + bnO r
def KO (ops : List Nat) : Prop := ∀ o ∈ ops, o = 11 ∨ o = 12 ∨ o = 13 ∨ o = 91
theorem KO.tail {o : Nat} {ops : List Nat} (h : KO (o :: ops)) : KO ops := fun x hx => h x (List.mem_cons_of_mem _ hx)
theorem settle_d {least : Nat} (hl : 1 ≤ least) : ∀ {ops : List Nat}, KO ops → okD (settleP least ops).1 (bnO ops + 1) (bnO (settleP least ops).2 + 1) ∧ KO (settleP least ops).2 ∧ bnO (settleP least ops).2 ≤ bnO ops := by
  intro ops
  induction ops with
  | nil => intro _; exact ⟨rfl, (fun o ho => by cases ho), Nat.le_refl _⟩
  | cons o r ih =>
    intro hk
    rw [settleP]
    split
    · rename_i hs
      have hne := strN_91 (show 0 < strN o by omega)
      have h1 := ih hk.tail
      refine ⟨?_, h1.2.1, Nat.le_trans h1.2.2 (Nat.le_add_left _ _)⟩
      rcases hk o (List.mem_cons_self ..) with q | q | q | q
      · subst q
        have e : bnO (11 :: r) = bnO r := by show (if (11 : Nat) = 12 ∨ (11 : Nat) = 13 then 1 else 0) + bnO r = _; rw [if_neg (by omega), Nat.zero_add]
        rw [e]
        exact okD.app (cs := [(11, 0)]) (okD.un (by omega)) h1.1
      · subst q
        have e : bnO (12 :: r) = bnO r + 1 := by show (if (12 : Nat) = 12 ∨ (12 : Nat) = 13 then 1 else 0) + bnO r = _; rw [if_pos (Or.inl rfl), Nat.add_comm]
        rw [e]
        exact okD.app (cs := [(12, 0)]) (okD.bin (by omega) (by omega) (by omega) (by omega)) h1.1
      · subst q
        have e : bnO (13 :: r) = bnO r + 1 := by show (if (13 : Nat) = 12 ∨ (13 : Nat) = 13 then 1 else 0) + bnO r = _; rw [if_pos (Or.inr rfl), Nat.add_comm]
        rw [e]
        exact okD.app (cs := [(13, 0)]) (okD.bin (by omega) (by omega) (by omega) (by omega)) h1.1
      · exact absurd q hne
    · exact ⟨rfl, hk, Nat.le_refl _⟩
theorem cls_d {T : Nat → Int32} {n : Nat} : ∀ f i code ops, KO ops → okD code 0 (bnO ops + 1) → okD (clsP T n f i code ops).2.1 0 (bnO (clsP T n f i code ops).2.2 + 1) ∧ KO (clsP T n f i code ops).2.2 ∧ bnO (clsP T n f i code ops).2.2 ≤ bnO ops := by
  intro f
  induction f with
  | zero => intro i code ops hk hc; exact ⟨hc, hk, Nat.le_refl _⟩
  | succ f ih =>
    intro i code ops hk hc
    rw [clsP]
    split
    · rename_i h
      obtain ⟨r, hr⟩ := settle_in hk (ins_mem h.2)
      have h1 := settle_d (least := 1) (by decide) hk
      rw [hr] at h1 ⊢
      have e : bnO (91 :: r) = bnO r := by show (if (91 : Nat) = 12 ∨ (91 : Nat) = 13 then 1 else 0) + bnO r = _; rw [if_neg (by omega), Nat.zero_add]
      rw [e] at h1
      have h3 := settle_d (least := 3) (by decide) h1.2.1.tail
      have h4 := ih (skip T n i + 1) (code ++ (settleP 1 ops).1 ++ (settleP 3 r).1) (settleP 3 r).2 h3.2.1 (okD.app (okD.app hc h1.1) h3.1)
      exact ⟨h4.1, h4.2.1, Nat.le_trans h4.2.2 (by have := h3.2.2; have := h1.2.2; omega)⟩
    · exact ⟨hc, hk, Nat.le_refl _⟩
/-- code ahead of what closes stays ahead of it -/
theorem cls_app (T : Nat → Int32) (n : Nat) : ∀ f i code ops pre, clsP T n f i (pre ++ code) ops = ((clsP T n f i code ops).1, pre ++ (clsP T n f i code ops).2.1, (clsP T n f i code ops).2.2) := by
  intro f
  induction f with
  | zero => intro i code ops pre; rfl
  | succ f ih =>
    intro i code ops pre
    rw [clsP, clsP]
    split
    · rw [show pre ++ code ++ (settleP 1 ops).1 ++ (settleP 3 (settleP 1 ops).2.tail).1 = pre ++ (code ++ (settleP 1 ops).1 ++ (settleP 3 (settleP 1 ops).2.tail).1) by simp [List.append_assoc]]
      exact ih _ _ _ _
    · rfl
theorem clsP_le {T : Nat → Int32} {n : Nat} : ∀ f i code ops, i ≤ n → (clsP T n f i code ops).1 ≤ n := by
  intro f
  induction f with
  | zero => intro i code ops hi; exact hi
  | succ f ih =>
    intro i code ops hi
    have hs := skip_le (T := T) hi
    rw [clsP]
    split
    · rename_i h
      exact ih _ _ _ (chV_lt h.1 (by decide))
    · exact hs.2
theorem open_d {T : Nat → Int32} {n : Nat} : ∀ f i ops q, KO ops → openP T n f i ops = .inr q → KO q.2 ∧ bnO q.2 = bnO ops := by
  intro f
  induction f with
  | zero => intro i ops q _ h; cases h
  | succ f ih =>
    intro i ops q hk h
    rw [openP] at h
    split at h
    · split at h
      · cases h
      · have h1 := ih _ _ _ (fun o ho => by rcases List.mem_cons.mp ho with e | e; · exact Or.inl e
                                            · exact hk o e) h
        exact ⟨h1.1, h1.2.trans (by show (if (11 : Nat) = 12 ∨ (11 : Nat) = 13 then 1 else 0) + bnO ops = _; rw [if_neg (by omega), Nat.zero_add])⟩
    · split at h
      · split at h
        · cases h
        · have h1 := ih _ _ _ (fun o ho => by rcases List.mem_cons.mp ho with e | e; · exact Or.inr (Or.inr (Or.inr e))
                                              · exact hk o e) h
          exact ⟨h1.1, h1.2.trans (by show (if (91 : Nat) = 12 ∨ (91 : Nat) = 13 then 1 else 0) + bnO ops = _; rw [if_neg (by omega), Nat.zero_add])⟩
      · cases h; exact ⟨hk, rfl⟩
theorem settle_all {ops : List Nat} (hk : KO ops) (h : insO ops = false) : (settleP 1 ops).2 = [] := by
  have h91 : 91 ∉ ops := by
    intro hm
    obtain ⟨j, hj, e⟩ := List.getElem_of_mem hm
    unfold insO at h
    have h2 := anyN_false.mp h (ops.length - 1 - j) (by omega)
    unfold gO at h2
    rw [show ops.length - 1 - (ops.length - 1 - j) = j by omega, List.getD_eq_getElem?_getD, List.getElem?_eq_getElem hj, Option.getD_some, e] at h2
    exact absurd h2 (by decide)
  clear h
  induction ops with
  | nil => rfl
  | cons o r ih =>
    have h1 : 1 ≤ strN o := by
      rcases hk o (List.mem_cons_self ..) with q | q | q | q
      · subst q; decide
      · subst q; decide
      · subst q; decide
      · subst q; exact absurd (List.mem_cons_self ..) h91
    rw [settleP, if_pos h1]
    exact ih hk.tail (fun q => h91 (List.mem_cons_of_mem _ q))
theorem tst_d {T : Nat → Int32} {n : Nat} : ∀ f i md code ops q, i ≤ n → md ≤ 60 → KO ops → bnO ops ≤ md → okD code 0 (bnO ops) → tstP T n f i md code ops = .inr q → okD q.2.2 0 1 ∧ q.1 ≤ n ∧ q.2.1 ≤ 60 := by
  intro f
  induction f with
  | zero => intro i md code ops q _ _ _ _ _ h; cases h
  | succ f ih =>
    intro i md code ops q hi hmd hk hb hc h
    rw [tstP] at h
    split at h
    · cases h
    · rename_i x hx
      unfold factP at hx
      split at hx
      · cases hx
      · rename_i q1 hq1
        split at hx
        · cases hx
        · rename_i r hr
          cases hx
          dsimp only at h
          have ho := open_d _ _ _ _ hk hq1
          have hl := openP_le _ _ _ _ hi hq1
          have h1 := compareP_ok T n _ _ _ hl hmd hr
          have h2 := compareP_d T n _ _ _ hl hmd hr
          have h3 := h2.2 (bnO ops) (by omega)
          have h4 : okD (code ++ r.2.2) 0 (bnO q1.2 + 1) := by rw [ho.2]; exact okD.app hc h3
          have h5 := settle_d (least := 3) (by decide) ho.1
          have h6 : ∃ y vc vo, closeP T n r.1 q1.2 = (y, vc, vo) ∧ okD (code ++ r.2.2 ++ vc) 0 (bnO vo + 1) ∧ KO vo ∧ bnO vo ≤ bnO q1.2 ∧ y ≤ n := by
            have h7 := cls_app T n (n + 1) r.1 (settleP 3 q1.2).1 (settleP 3 q1.2).2 (code ++ r.2.2)
            have h8 := cls_d (T := T) (n := n) (n + 1) r.1 (code ++ r.2.2 ++ (settleP 3 q1.2).1) (settleP 3 q1.2).2 h5.2.1 (okD.app h4 h5.1)
            rw [h7] at h8
            exact ⟨(closeP T n r.1 q1.2).1, (closeP T n r.1 q1.2).2.1, (closeP T n r.1 q1.2).2.2, rfl, h8.1, h8.2.1, Nat.le_trans h8.2.2 h5.2.2, clsP_le (T := T) (n + 1) r.1 (settleP 3 q1.2).1 (settleP 3 q1.2).2 h1.2.1⟩
          obtain ⟨y, vc, vo, hv, h7, h8, h9, h10⟩ := h6
          rw [hv] at h
          dsimp only at h
          split at h
          · split at h
            · cases h
            · rename_i hin
              have hall := settle_all h8 (by revert hin; cases insO vo <;> simp)
              have hd := settle_d (least := 1) (by decide) h8
              rw [hall] at hd
              cases h
              exact ⟨okD.app h7 hd.1, h10, h1.2.2⟩
          · rename_i hg
            have hgk : goK T n y = 12 ∨ goK T n y = 13 := by
              revert hg
              unfold goK
              split
              · intro _; exact Or.inl rfl
              · split
                · intro _; exact Or.inr rfl
                · intro e; exact absurd rfl e
            have hst : 1 ≤ strN (goK T n y) := by rcases hgk with e | e <;> (rw [e]; decide)
            have hd := settle_d hst h8
            have hbk : bnO (goK T n y :: (settleP (strN (goK T n y)) vo).2) = bnO (settleP (strN (goK T n y)) vo).2 + 1 := by
              show (if goK T n y = 12 ∨ goK T n y = 13 then 1 else 0) + _ = _
              rw [if_pos hgk, Nat.add_comm]
            refine ih _ _ _ _ _ (run_le (f := letB T n) h10) h1.2.2 (fun o ho2 => ?_) ?_ ?_ h
            · rcases List.mem_cons.mp ho2 with e | e
              · rw [e]; rcases hgk with e2 | e2
                · exact Or.inr (Or.inl e2)
                · exact Or.inr (Or.inr (Or.inl e2))
              · exact hd.2.1 o e
            · rw [hbk]; have := hd.2.2; have := ho.2; omega
            · rw [hbk]; exact okD.app h7 hd.1
theorem testedP_d {T : Nat → Int32} {n i md : Nat} {q : Nat × Nat × List Sg} (hi : i ≤ n) (hmd : md ≤ 60) (h : testedP T n i md = .inr q) : okR q.2.2 0 ∧ q.1 ≤ n ∧ q.2.1 ≤ 60 := by
  have h1 := tst_d (n + 1) i md [] [] q hi hmd (fun o ho => by cases ho) (Nat.zero_le _) rfl h
  exact ⟨h1.1.R, h1.2⟩
theorem sumP_R {T : Nat → Int32} {n i md : Nat} {q : Nat × Nat × List Sg} (hi : i ≤ n) (hmd : md ≤ 60) (h : sumP T n i md = .inr q) : okR q.2.2 0 := ((sumP_d T n _ _ _ hi hmd h).2 0 (by have := (sumP_ok T n _ _ _ hi hmd h).2.2; omega)).R
