/-! The component: rules, words, who will go where -/
set_option maxRecDepth 100000
theorem TV.ix {sl : Nat → Prop} {G : Gm} {I I1 : Im} (he : ∀ m, sl m → I1 m = I m) : ∀ d n cs, TV sl G I d n cs → TV sl G I1 d n cs := by
  intro d
  induction d with
  | zero => intro n cs h; exact h
  | succ d ih =>
    intro n cs h
    have e := he n h.1
    refine ⟨h.1, ?_⟩
    rcases h.2 with ⟨h1, v, h2, h3, h4⟩ | ⟨h1, v, h2, h3, h4⟩ | ⟨h1, a, b, ca, cb, k, h2, h3, h4, h5, h6, h7, h8⟩
    · exact Or.inl ⟨h1, v, h2, h3, by rw [e]; exact h4⟩
    · exact Or.inr (Or.inl ⟨h1, v, h2, h3, by rw [e]; exact h4⟩)
    · exact Or.inr (Or.inr ⟨h1, a, b, ca, cb, k, ih _ _ h2, ih _ _ h3, h4, h5, h6, h7, by rw [e]; exact h8⟩)
theorem TC.ix {sl : Nat → Prop} {G : Gm} {I I1 : Im} (he : ∀ m, sl m → I1 m = I m) : ∀ d n cs, TC sl G I d n cs → TC sl G I1 d n cs := by
  intro d
  induction d with
  | zero => intro n cs h; exact h
  | succ d ih =>
    intro n cs h
    have e := he n h.1
    refine ⟨h.1, ?_⟩
    rcases h.2 with ⟨h1, a, b, ca, cb, s, h2, h3, h4, h5, h6, h7, h8, h9⟩ | ⟨h1, a, ca, h2, h3, h4⟩ | ⟨h1, a, b, ca, cb, k, h2, h3, h4, h5, h6, h7, h8⟩
    · exact Or.inl ⟨h1, a, b, ca, cb, s, TV.ix he _ _ _ h2, TV.ix he _ _ _ h3, h4, h5, h6, h7, by rw [e]; exact h8, by rw [e]; exact h9⟩
    · exact Or.inr (Or.inl ⟨h1, a, ca, ih _ _ h2, h3, h4⟩)
    · exact Or.inr (Or.inr ⟨h1, a, b, ca, cb, k, ih _ _ h2, ih _ _ h3, h4, h5, h6, h7, by rw [e]; exact h8⟩)
theorem TD.ix {sl : Nat → Prop} {G : Gm} {I I1 : Im} (he : ∀ m, sl m → I1 m = I m) {n : Nat} {q : Cl} (h : TD sl G I n q) : TD sl G I1 n q := by
  obtain ⟨h0, h1, a, h2, h3, h4⟩ := h
  refine ⟨h0, h1, a, h2, h3.ix he, ?_⟩
  cases hq : q.2 with
  | none => rw [hq] at h4; exact h4
  | some t =>
    rw [hq] at h4
    obtain ⟨b, h5, h6⟩ := h4
    exact ⟨b, h5, h6.ix he⟩
theorem RU.ix {sl : Nat → Prop} {G : Gm} {I I1 : Im} (he : ∀ m, sl m → I1 m = I m) {n : Nat} {cls : List Cl} (h : RU sl G I n cls) : RU sl G I1 n cls := by
  obtain ⟨h0, h1, l, a, cap, es, h2, h3, h4, h5, h6, h7, h8⟩ := h
  exact ⟨h0, h1, l, a, cap, es, h2, h3, h4, ⟨h5.1, h5.2.1, h5.2.2.1, by rw [he l h2]; exact h5.2.2.2.1, h5.2.2.2.2⟩, h6, h7, fun k hk => (h8 k hk).ix he⟩
theorem TV.cg {sl : Nat → Prop} {G : Gm} {I : Im} {W W' : Nat → Int64} (he : ∀ j, j < 12 → W j = W' j) : ∀ d n cs, TV sl G I d n cs → valR W cs = valR W' cs := by
  intro d
  induction d with
  | zero => intro n cs h; cases h
  | succ d ih =>
    intro n cs h
    rcases h.2 with ⟨-, v, -, rfl, -⟩ | ⟨-, v, hv, rfl, -⟩ | ⟨-, a, b, ca, cb, k, ha, hb, rfl, hk, -⟩
    · rfl
    · exact he v hv
    · rw [TV.val W ha hb (by omega), TV.val W' ha hb (by omega), ih _ _ ha, ih _ _ hb]
theorem TC.cg {sl : Nat → Prop} {G : Gm} {I : Im} {W W' : Nat → Int64} (he : ∀ j, j < 12 → W j = W' j) : ∀ d n cs, TC sl G I d n cs → isC W cs = isC W' cs := by
  intro d
  induction d with
  | zero => intro n cs h; cases h
  | succ d ih =>
    intro n cs h
    rcases h.2 with ⟨-, a, b, ca, cb, s, ha, hb, rfl, hs, -⟩ | ⟨-, a, ca, ha, rfl, -⟩ | ⟨-, a, b, ca, cb, k, ha, hb, rfl, hk, -⟩
    · unfold isC
      rw [TV.val W ha hb (by omega), TV.val W' ha hb (by omega), TV.cg he _ _ _ ha, TV.cg he _ _ _ hb]
    · rw [isC_not W ha, isC_not W' ha, ih _ _ ha]
    · rw [isC_two W ha hb hk, isC_two W' ha hb hk, ih _ _ ha, ih _ _ hb]
theorem TD.h {sl : Nat → Prop} {G : Gm} {I : Im} {W W' : Nat → Int64} (he : ∀ j, j < 12 → W j = W' j) {n : Nat} {q : Cl} (h : TD sl G I n q) : holdsV W q = holdsV W' q ∧ valR W q.1 = valR W' q.1 := by
  obtain ⟨-, -, a, -, h3, h4⟩ := h
  refine ⟨?_, h3.cg he⟩
  unfold holdsV
  cases hq : q.2 with
  | none => rfl
  | some t =>
    rw [hq] at h4
    obtain ⟨b, -, h6⟩ := h4
    exact h6.cg he
theorem getD_drop {α : Type} (xs : List α) (x : α) {k : Nat} (hk : k < xs.length) : xs.drop k = xs.getD k x :: xs.drop (k + 1) := by
  rw [List.getD_eq_getElem?_getD, List.getElem?_eq_getElem hk, Option.getD_some]
  exact List.drop_eq_getElem_cons hk
theorem RU.cg {sl : Nat → Prop} {G : Gm} {I : Im} {W W' : Nat → Int64} (he : ∀ j, j < 12 → W j = W' j) {n : Nat} {cls : List Cl} (h : RU sl G I n cls) : goesV W cls = goesV W' cls := by
  obtain ⟨-, -, l, a, cap, es, -, -, -, -, -, -, h8⟩ := h
  have key : ∀ f k, cls.length ≤ k + f → goesV W (cls.drop k) = goesV W' (cls.drop k) := by
    intro f
    induction f with
    | zero => intro k hk; rw [List.drop_eq_nil_of_le (by omega)]; rfl
    | succ f ih =>
      intro k hk
      rcases Nat.lt_or_ge k cls.length with hl | hl
      · have h9 := (h8 k hl).h he
        rw [getD_drop cls ([], none) hl, goesV, goesV, h9.1, h9.2, ih (k + 1) (by omega)]
      · rw [List.drop_eq_nil_of_le hl]; rfl
  have := key cls.length 0 (by omega)
  rwa [List.drop_zero] at this
/-- the rules: told one after another -/
def XRu (sl : Nat → Prop) (G : Gm) (I : Im) (RL : List (List Cl)) : Prop := ∃ a cap els, LA G I 19 a cap els ∧ els.length = RL.length ∧ RL.length ≤ 6 ∧ (a = 20 ∨ 186 ≤ a) ∧ ¬ sl a ∧ (∀ m, sl m → MutB m = false) ∧ ∀ r, r < RL.length → RU sl G I (els.getD r 0) (RL.getD r [])
theorem XRu.ix {sl : Nat → Prop} {G : Gm} {I I1 : Im} {RL : List (List Cl)} (h : XRu sl G I RL) (he : ∀ m, MutB m = false → I1 m = I m) : XRu sl G I1 RL := by
  obtain ⟨a, cap, els, h1, h2, h3, h4, h5, h6, h7⟩ := h
  exact ⟨a, cap, els, ⟨h1.1, h1.2.1, h1.2.2.1, by rw [he 19 rfl]; exact h1.2.2.2.1, h1.2.2.2.2⟩, h2, h3, h4, h5, h6, fun r hr => (h7 r hr).ix (fun m hm => he m (h6 m hm))⟩
/-- the rule in force -/
def XFr (I : Im) (RL : List (List Cl)) (fr : Option (List Cl)) : Prop := (fr = none ∧ I 0 4 = -1) ∨ ∃ r, r < RL.length ∧ I 0 4 = nI r ∧ fr = some (RL.getD r [])
theorem met_x_goes {w : Wd} {G : Gm} {I : Im} {L : Lm} {sl : Nat → Prop} {m n : Nat} (hm : SHP G m 101 12) {cls : List Cl} (hU : RU sl G I n cls) : AMet w yX8_goes cX8_goes 3 (some .int) 410 12300 0 0 [.ref (w.1 + n), .ref (w.1 + m)] G I L (Exact (some (.int (sgn64 (goesV (L m) cls)))) G I L) := by
  refine AMet.of (ls0 := [some (.ref (w.1 + n)), some (.ref (w.1 + m)), none]) rfl (Nat.le_of_ble_eq_true rfl) rfl (fun q hq => hq) (fun X h hl hr hi => ?_)
  obtain ⟨-, hs, l, a, cap, es, -, -, hP0, hA, hel, hc12, hT⟩ := hU
  have key : ∀ (fu k : Nat), k ≤ cls.length → cls.length < k + fu → goesV (L m) (cls.drop k) = goesV (L m) cls → AW X 0 0 2 [some (.ref (w.1 + n)), some (.ref (w.1 + m)), some (.int (nI k))] [] G I L := by
    intro fu
    induction fu with
    | zero => intro k hle hlt; exact absurd hlt (by omega)
    | succ fu ih =>
      intro k hle hlt hgo
      refine aw_iload2 h dX8_goes_2 ?_
      refine aw_aload0 h dX8_goes_3 ?_
      refine aw_getr h fl_X8_12 hs dX8_goes_4 rfl hP0 ?_
      refine aw_callVE0 h hl cl_X8_18 (met_j_size hA) hA.1 rfl dX8_goes_7 (Nat.le_of_ble_eq_true rfl) rfl (Nat.zero_le _) (Nat.zero_le _) ?_
      rw [hel]
      refine aw_icmp_geN h (tgt := 59) (by omega) (by omega) dX8_goes_10 (by decide) (fun c10 => ?_) (fun c10 => ?_)
      · refine aw_iconst h _ ci_0 dX8_goes_59 ?_
        exact aw_iret h hr dX8_goes_60 (⟨by rw [← hgo, List.drop_eq_nil_of_le (show cls.length ≤ k by omega)]; rfl, rfl, rfl, rfl⟩) (Nat.zero_le _) (Nat.zero_le _)
      · have hTk := hT k (by omega)
        obtain ⟨-, -, aa, hPa, hVa, -⟩ := id hTk
        have hdr := getD_drop cls ([], none) (show k < cls.length by omega)
        refine aw_aload0 h dX8_goes_13 ?_
        refine aw_getr h fl_X8_12 hs dX8_goes_14 rfl hP0 ?_
        refine aw_iload2 h dX8_goes_17 ?_
        refine aw_callVE1 h hl cl_X8_22 (met_j_get hA (i := k) (by omega)) hA.1 rfl dX8_goes_18 (Nat.le_of_ble_eq_true rfl) rfl (Nat.zero_le _) (Nat.zero_le _) ?_
        refine aw_cast h hTk.2.1 (by decide) rfl q1075 (Or.inl rfl) dX8_goes_21 ?_
        refine aw_aload1 h dX8_goes_24 ?_
        refine aw_callVE1 h hl cl_X8_28 (met_x_holds hm hTk) hTk.2.1 rfl dX8_goes_25 (Nat.le_of_ble_eq_true rfl) rfl (Nat.zero_le _) (Nat.zero_le _) ?_
        refine aw_if_eqB h (tgt := 53) dX8_goes_28 (by decide) (fun c28 => ?_) (fun c28 => ?_)
        · refine aw_iincN2 h rfl dX8_goes_53 ?_
          refine aw_goto h (tgt := 2) dX8_goes_56 (by decide) ?_
          exact ih (k + 1) (by omega) (by omega) (by rw [← hgo, hdr, goes_skip c28])
        · refine aw_aload0 h dX8_goes_31 ?_
          refine aw_getr h fl_X8_12 hs dX8_goes_32 rfl hP0 ?_
          refine aw_iload2 h dX8_goes_35 ?_
          refine aw_callVE1 h hl cl_X8_22 (met_j_get hA (i := k) (by omega)) hA.1 rfl dX8_goes_36 (Nat.le_of_ble_eq_true rfl) rfl (Nat.zero_le _) (Nat.zero_le _) ?_
          refine aw_cast h hTk.2.1 (by decide) rfl q1075 (Or.inl rfl) dX8_goes_39 ?_
          refine aw_getr h fl_X8_32 hTk.2.1 dX8_goes_42 rfl hPa ?_
          refine aw_aload1 h dX8_goes_45 ?_
          refine aw_of h hl ⟨cu_X8_36_X10, cu_X8_36_X11, cu_X8_36_X12⟩ (VM.all hm 400) hVa (⟨by decide, by decide⟩) (Nat.zero_le _) (Nat.zero_le _) dX8_goes_46 (Nat.le_of_ble_eq_true rfl) ?_
          refine aw_callSE1 h hl cl_X8_42 (met_j_signum) dX8_goes_49 (Nat.le_of_ble_eq_true rfl) rfl (Nat.zero_le _) (Nat.zero_le _) ?_
          exact aw_iret h hr dX8_goes_52 (⟨by rw [← hgo, hdr, goes_hit c28], rfl, rfl, rfl⟩) (Nat.zero_le _) (Nat.zero_le _)
  refine aw_iconst h _ ci_0 dX8_goes_0 ?_
  refine aw_istore2 h rfl dX8_goes_1 ?_
  exact key (cls.length + 1) 0 (Nat.zero_le _) (by omega) rfl
