/-! Errors are never none -/
set_option maxRecDepth 100000
def EOK (n e : Nat) : Prop := 1 ≤ e ∧ e ≤ 8 * n + 8
theorem EOK.e {n kd at2 : Nat} (hk : kd ≤ 4) (ha : at2 ≤ n) : EOK n (errN kd at2) := by
  unfold EOK errN; omega
theorem EOK.z {n e : Nat} (h : EOK n e) (hn : n ≤ 400) : nI e ≠ 0 := by
  unfold EOK at h
  exact nI_ne (b := 0) (by omega) (by omega) (by omega)
theorem EOK.one {n : Nat} : EOK n 1 := by unfold EOK; omega
def SubE (n : Nat) (sub : Nat → Nat → PRes) : Prop := ∀ i md e, i ≤ n → md ≤ 60 → sub i md = .inl e → EOK n e
theorem mkP_e {n md j : Nat} {r : Nat × List Sg} {e : Nat} (hj : j ≤ n) (h : mkP md j r = .inl e) : EOK n e := by
  unfold mkP at h
  split at h
  · cases h; exact EOK.e (by decide) hj
  · cases h
theorem valueP_e (T : Nat → Int32) (n : Nat) : SubE n (valueP T n) := by
  intro i md e hi hmd h
  have hs := skip_le (T := T) hi
  simp only [valueP] at h
  split at h
  · split at h
    · exact mkP_e hs.2 h
    · cases h; exact EOK.e (by decide) hs.2
  · split at h
    · exact mkP_e hs.2 h
    · cases h; exact EOK.e (by decide) hs.2
theorem loopB_e {T : Nat → Int32} {n : Nat} {opk : Nat → Nat} {sub : Nat → Nat → PRes} (hs : SubOK n sub) (he : SubE n sub) (ho : ∀ j, opk j ≠ 0 → j < n) : ∀ f i md code e, i ≤ n → md ≤ 60 → loopB T n opk sub f i md code = .inl e → EOK n e := by
  intro f
  induction f with
  | zero => intro i md code e _ _ h; cases h; exact EOK.one
  | succ f ih =>
    intro i md code e hi hmd h
    rw [loopB] at h
    split at h
    · cases h
    · rename_i hk
      have hj := ho _ hk
      split at h
      · rename_i e1 he1
        cases h
        exact he _ _ _ (by omega) hmd he1
      · rename_i q1 hq1
        have h1 := hs _ _ _ (by omega) hmd hq1
        exact ih _ _ _ _ h1.2.1 h1.2.2 h
theorem binP_e {T : Nat → Int32} {n : Nat} {opk : Nat → Nat} {sub : Nat → Nat → PRes} (hs : SubOK n sub) (he : SubE n sub) (ho : ∀ j, opk j ≠ 0 → j < n) : SubE n (binP T n opk sub) := by
  intro i md e hi hmd h
  unfold binP at h
  split at h
  · rename_i e1 he1
    cases h
    exact he _ _ _ hi hmd he1
  · rename_i q1 hq1
    have h1 := hs _ _ _ hi hmd hq1
    exact loopB_e hs he ho _ _ _ _ _ h1.2.1 h1.2.2 h
theorem termP_e (T : Nat → Int32) (n : Nat) : SubE n (termP T n) := binP_e (valueP_ok T n) (valueP_e T n) (fun _ h => mulK_lt h)
theorem sumP_e (T : Nat → Int32) (n : Nat) : SubE n (sumP T n) := binP_e (termP_ok T n) (termP_e T n) (fun _ h => addK_lt h)
theorem compareP_e (T : Nat → Int32) (n : Nat) : SubE n (compareP T n) := by
  intro i md e hi hmd h
  unfold compareP at h
  split at h
  · rename_i e1 he1
    cases h
    exact sumP_e T n _ _ _ hi hmd he1
  · rename_i q1 hq1
    have h1 := sumP_ok T n _ _ _ hi hmd hq1
    have hs := skip_le (T := T) h1.2.1
    unfold cmpQ at h
    split at h
    · rename_i hc
      have hi2 := cmpI_le (T := T) (isCmp_lt hc)
      split at h
      · cases h; exact EOK.e (by decide) hs.2
      · split at h
        · rename_i e1 he1
          cases h
          exact sumP_e T n _ _ _ hi2.2 (by omega) he1
        · cases h
    · cases h; exact EOK.e (by decide) hs.2
theorem openP_e {T : Nat → Int32} {n : Nat} : ∀ f i ops e, i ≤ n → openP T n f i ops = .inl e → EOK n e := by
  intro f
  induction f with
  | zero => intro i ops e _ h; cases h; exact EOK.one
  | succ f ih =>
    intro i ops e hi h
    have hs := skip_le (T := T) hi
    rw [openP] at h
    split at h
    · split at h
      · cases h; exact EOK.e (by decide) hs.2
      · exact ih _ _ _ (run_le (f := letB T n) hs.2) h
    · split at h
      · rename_i hc
        split at h
        · cases h; exact EOK.e (by decide) hs.2
        · exact ih _ _ _ (chV_lt hc (by decide)) h
      · cases h
theorem factP_e {T : Nat → Int32} {n i md : Nat} {ops : List Nat} {e : Nat} (hi : i ≤ n) (hmd : md ≤ 60) (h : factP T n i md ops = .inl e) : EOK n e := by
  unfold factP at h
  split at h
  · rename_i e1 he1
    cases h
    exact openP_e _ _ _ _ hi he1
  · rename_i q hq
    split at h
    · rename_i e1 he1
      cases h
      exact compareP_e T n _ _ _ (openP_le _ _ _ _ hi hq) hmd he1
    · cases h
theorem factP_in {T : Nat → Int32} {n i md : Nat} {ops : List Nat} {x : (Nat × Nat × List Sg) × List Nat} (hi : i ≤ n) (hmd : md ≤ 60) (h : factP T n i md ops = .inr x) : x.1.1 ≤ n ∧ x.1.2.1 ≤ 60 := by
  unfold factP at h
  split at h
  · cases h
  · rename_i q hq
    split at h
    · cases h
    · rename_i r hr
      cases h
      exact (compareP_ok T n _ _ _ (openP_le _ _ _ _ hi hq) hmd hr).2
theorem tstP_e {T : Nat → Int32} {n : Nat} : ∀ f i md code ops e, i ≤ n → md ≤ 60 → tstP T n f i md code ops = .inl e → EOK n e := by
  intro f
  induction f with
  | zero => intro i md code ops e _ _ h; cases h; exact EOK.one
  | succ f ih =>
    intro i md code ops e hi hmd h
    rw [tstP] at h
    split at h
    · rename_i e1 he1
      cases h
      exact factP_e hi hmd he1
    · rename_i x hx
      have hin := factP_in hi hmd hx
      have hcl : (closeP T n x.1.1 x.2).1 ≤ n := clsP_le _ _ _ _ hin.1
      split at h
      · split at h
        · cases h; exact EOK.e (by decide) hcl
        · cases h
      · exact ih _ _ _ _ _ (run_le (f := letB T n) hcl) hin.2 h
theorem testedP_e {T : Nat → Int32} {n i md e : Nat} (hi : i ≤ n) (hmd : md ≤ 60) (h : testedP T n i md = .inl e) : EOK n e := tstP_e _ _ _ _ _ _ hi hmd h
theorem goP_e {T : Nat → Int32} {n i md e : Nat} (hi : i ≤ n) (hmd : md ≤ 60) (h : goP T n i md = .inl e) : EOK n e := by
  have hl : i + lrun T n i ≤ n := run_le (f := letB T n) hi
  unfold goP at h
  split at h
  · rename_i e1 he1
    cases h
    exact sumP_e T n _ _ _ hl hmd he1
  · rename_i q hq
    have h1 := sumP_ok T n _ _ _ hl hmd hq
    have hs := skip_le (T := T) h1.2.1
    split at h
    · split at h
      · rename_i e1 he1
        cases h
        exact testedP_e (run_le (f := letB T n) hs.2) h1.2.2 he1
      · cases h
    · cases h
theorem goP_in {T : Nat → Int32} {n i md : Nat} {x : Nat × Nat × Cl} (hi : i ≤ n) (hmd : md ≤ 60) (h : goP T n i md = .inr x) : x.1 ≤ n ∧ x.2.1 ≤ 60 := by
  have hl : i + lrun T n i ≤ n := run_le (f := letB T n) hi
  unfold goP at h
  split at h
  · cases h
  · rename_i q hq
    have h1 := sumP_ok T n _ _ _ hl hmd hq
    have hs := skip_le (T := T) h1.2.1
    split at h
    · split at h
      · cases h
      · rename_i r hr
        cases h
        exact (testedP_d (run_le (f := letB T n) hs.2) h1.2.2 hr).2
    · cases h
      exact ⟨hs.2, h1.2.2⟩
theorem numP_e {T : Nat → Int32} {n i mn mx e : Nat} (hi : i ≤ n) (h : numP T n i mn mx = .inl e) : EOK n e := by
  have hs := skip_le (T := T) hi
  unfold numP at h
  split at h
  · split at h
    · cases h
    · cases h; exact EOK.e (by decide) hs.2
  · cases h; exact EOK.e (by decide) hs.2
