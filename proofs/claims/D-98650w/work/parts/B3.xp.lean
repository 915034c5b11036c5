/-! The component: fewest, turned, caught -/
set_option maxRecDepth 100000
theorem met_x_fewest {w : Wd} {G : Gm} {I : Im} {L : Lm} (hX : XG G) {sl : Nat → Prop} {K : CS} {c : Nat} {S : Nat → Int32} {t : Nat} (hV : XV sl G I K c S t) (hA : StAt I 7 S) (hT27 : I 0 27 = -1) {m : Int32} : AMet w yX0_fewest cX0_fewest 2 (some .int) 9 220 0 0 [.ref (w.1 + 0), .int m] G I L (Ans (some (.int (fewA S m))) (SRq G I L)) := by
  refine AMet.of (ls0 := [some (.ref (w.1 + 0)), some (.int m)]) rfl (Nat.le_of_ble_eq_true rfl) rfl (fun q hq => hq) (fun X h hl hr hi => ?_)
  obtain ⟨hC0, hS, hcs, ht, ht2, hdj⟩ := id hV
  have hC := hC0
  obtain ⟨hc0, ⟨pl, pa, dl, da, fa, ps, ds, hK, hsp⟩, hok, hsl⟩ := id hC
  obtain ⟨cp, hLp⟩ := hK.2.2.2.2.2.1
  obtain ⟨cd, hLd⟩ := hK.2.2.2.2.2.2.1
  have hpl := hK.2.2.2.2.2.2.2.1
  have hdl := hK.2.2.2.2.2.2.2.2.1
  have hdk := hK.2.2.2.2.2.2.2.2.2.2.1
  have hpk := hK.2.2.2.2.2.2.2.2.2.1
  have hrm := hK.2.2.2.2.2.2.2.2.2.2.2.1
  have hfr := hK.2.2.2.2.2.2.2.2.2.2.2.2.2
  have hR8 := hok.2.1
  have hD14 := hok.2.2.1
  have hP4 := hok.2.2.2.1
  have hdo := hok.2.2.2.2.1
  have hpo := hok.2.2.2.2.2.1
  have hf9 := hok.2.2.2.2.2.2.2
  have hn := cas_n hcs hok
  refine aw_aload0 h dX0_fewest_0 ?_
  refine aw_iload1 h dX0_fewest_1 ?_
  refine aw_callVE1 h hl cl_X0_355 (met_x_isPeople hX hV) (gx0 hX) rfl dX0_fewest_2 (Nat.le_of_ble_eq_true rfl) rfl (Nat.zero_le _) (Nat.zero_le _) ?_
  refine aw_if_eqB h (tgt := 16) dX0_fewest_5 (by decide) (fun c5 => ?_) (fun c5 => ?_)
  · refine aw_iconst h _ ci_m1 dX0_fewest_16 ?_
    exact aw_iret h hr dX0_fewest_17 (⟨by unfold fewA; rw [c5]; rfl, rfl, XM.rf⟩) (Nat.zero_le _) (Nat.zero_le _)
  · obtain ⟨h0, k, rfl, hk, hk2⟩ := setB_of hS c5
    have hcl : (nI k).toNatClampNeg = k := nI_clamp (by omega)
    refine aw_aload0 h dX0_fewest_8 ?_
    refine aw_iload1 h dX0_fewest_9 ?_
    refine aw_callVA1 h hl cl_X0_358 (met_x_fewestOf hX hV h0 hA hT27 (Or.inl rfl) (m := k) (by omega)) (gx0 hX) rfl dX0_fewest_10 (Nat.le_of_ble_eq_true rfl) rfl (Nat.zero_le _) (Nat.zero_le _) (fun G1 I1 L1 hp9 => ?_)
    refine aw_goto h (tgt := 17) dX0_fewest_13 (by decide) ?_
    exact aw_iret h hr dX0_fewest_17 (⟨by unfold fewA; rw [c5, hcl]; rfl, hp9⟩) (Nat.zero_le _) (Nat.zero_le _)
def f27 (j : Nat) : Bool := srF j || j == 27
theorem XM.back27 {I I1 : Im} {L L1 : Lm} (h27 : I 0 27 = -1) (h : XM srE f27 I L I1 L1) : XM srE srF I L (upd2 I1 0 27 (-1)) L1 := by
  refine ⟨fun m a b => ?_, fun j a => ?_, h.2.2⟩
  · rw [upd2_n _ _ _ a]; exact h.1 m a b
  · rw [upd2_s]
    by_cases e : j = 27
    · subst e; rw [vup_s]; exact h27.symm
    · rw [vup_n _ _ e]
      exact h.2.1 j (by unfold f27; rw [a]; simpa using e)
theorem met_x_turned {w : Wd} {G : Gm} {I : Im} {L : Lm} (hX : XG G) {sl : Nat → Prop} {K : CS} {c : Nat} {S : Nat → Int32} {t : Nat} (hV : XV sl G I K c S t) (hA : StAt I 7 S) (hT27 : I 0 27 = -1) {door m : Int32} : AMet w yX0_turned cX0_turned 4 (some .int) 9 220 0 0 [.ref (w.1 + 0), .int door, .int m] G I L (Ans (some (.int (turnA S door m))) (SRq G I L)) := by
  refine AMet.of (ls0 := [some (.ref (w.1 + 0)), some (.int door), some (.int m), none]) rfl (Nat.le_of_ble_eq_true rfl) rfl (fun q hq => hq) (fun X h hl hr hi => ?_)
  obtain ⟨hC0, hS, hcs, ht, ht2, hdj⟩ := id hV
  have hC := hC0
  obtain ⟨hc0, ⟨pl, pa, dl, da, fa, ps, ds, hK, hsp⟩, hok, hsl⟩ := id hC
  obtain ⟨cp, hLp⟩ := hK.2.2.2.2.2.1
  obtain ⟨cd, hLd⟩ := hK.2.2.2.2.2.2.1
  have hpl := hK.2.2.2.2.2.2.2.1
  have hdl := hK.2.2.2.2.2.2.2.2.1
  have hdk := hK.2.2.2.2.2.2.2.2.2.2.1
  have hpk := hK.2.2.2.2.2.2.2.2.2.1
  have hrm := hK.2.2.2.2.2.2.2.2.2.2.2.1
  have hfr := hK.2.2.2.2.2.2.2.2.2.2.2.2.2
  have hR8 := hok.2.1
  have hD14 := hok.2.2.1
  have hP4 := hok.2.2.2.1
  have hdo := hok.2.2.2.2.1
  have hpo := hok.2.2.2.2.2.1
  have hf9 := hok.2.2.2.2.2.2.2
  have hn := cas_n hcs hok
  refine aw_aload0 h dX0_turned_0 ?_
  refine aw_iload1 h dX0_turned_1 ?_
  refine aw_callVE1 h hl cl_X0_257 (met_x_isDoor hX hC) (gx0 hX) rfl dX0_turned_2 (Nat.le_of_ble_eq_true rfl) rfl (Nat.zero_le _) (Nat.zero_le _) ?_
  rw [← hn.2.1]
  refine aw_if_eqB h (tgt := 34) dX0_turned_5 (by decide) (fun c5 => ?_) (fun c5 => ?_)
  · refine aw_iconst h _ ci_m1 dX0_turned_34 ?_
    exact aw_iret h hr dX0_turned_35 (⟨by unfold turnA; rw [show turnB S door m = false from (by unfold turnB; rw [c5, Bool.false_and, Bool.and_false])]; rfl, rfl, XM.rf⟩) (Nat.zero_le _) (Nat.zero_le _)
  · refine aw_aload0 h dX0_turned_8 ?_
    refine aw_iload2 h dX0_turned_9 ?_
    refine aw_callVE1 h hl cl_X0_355 (met_x_isPeople hX hV) (gx0 hX) rfl dX0_turned_10 (Nat.le_of_ble_eq_true rfl) rfl (Nat.zero_le _) (Nat.zero_le _) ?_
    refine aw_if_eqB h (tgt := 34) dX0_turned_13 (by decide) (fun c13 => ?_) (fun c13 => ?_)
    · refine aw_iconst h _ ci_m1 dX0_turned_34 ?_
      exact aw_iret h hr dX0_turned_35 (⟨by unfold turnA; rw [show turnB S door m = false from (by unfold turnB; rw [c13]; rfl)]; rfl, rfl, XM.rf⟩) (Nat.zero_le _) (Nat.zero_le _)
    · obtain ⟨h0, k, rfl, hk, hk2⟩ := setB_of hS c13
      obtain ⟨d, hdn, rfl⟩ := of_rng c5 (by have := iv1b hS; omega)
      have hcl : (nI k).toNatClampNeg = k := nI_clamp (by omega)
      have hdl2 : (nI d).toNatClampNeg = d := nI_clamp (by have := iv1b hS; omega)
      have hdd : d < (kD K).length := by omega
      have hm0 : XM srE f27 I L (upd2 I 0 27 (nI d)) L := XM.f rfl
      have hV1 : XV sl G (upd2 I 0 27 (nI d)) K c S t := hV.ix (hm0.nm sr_mut)
      have hA1 : StAt (upd2 I 0 27 (nI d)) 7 S := hA.ix7 (fun m a b => upd2_n _ _ _ (by omega))
      refine aw_aload0 h dX0_turned_16 ?_
      refine aw_getr h fl_X0_12 (gx0 hX) dX0_turned_17 rfl hc0 ?_
      refine aw_iload1 h dX0_turned_20 ?_
      refine aw_aload0 h dX0_turned_21 ?_
      refine aw_getr h fl_X0_19 (gx0 hX) dX0_turned_22 rfl (gxp1 hX) ?_
      refine aw_getiV h fl_X0_195 (gxt7 hX).1 dX0_turned_25 rfl (hA.1.trans ht) ?_
      refine aw_callVE2 h hl cl_X0_175 (met_x_isOpen hK hok hdd ht2) hK.1 rfl dX0_turned_28 (Nat.le_of_ble_eq_true rfl) rfl (Nat.zero_le _) (Nat.zero_le _) ?_
      rw [← cas_op hcs hok ht ht2 hdd]
      refine aw_if_neB h (tgt := 36) dX0_turned_31 (by decide) (fun c31 => ?_) (fun c31 => ?_)
      · refine aw_aload0 h dX0_turned_36 ?_
        refine aw_iload1 h dX0_turned_37 ?_
        refine aw_puti h fl_X0_104 ft_X0_104 (fun z => by cases z) (gx0 hX) dX0_turned_38 rfl ?_
        refine aw_aload0 h dX0_turned_41 ?_
        refine aw_iload2 h dX0_turned_42 ?_
        refine aw_callVA1 h hl cl_X0_358 (met_x_fewestOf hX hV1 h0 hA1 (show upd2 I 0 27 (nI d) 0 27 = nI d from rfl) (Or.inr ⟨d, hdn, rfl, c31⟩) (m := k) (by omega)) (gx0 hX) rfl dX0_turned_43 (Nat.le_of_ble_eq_true rfl) rfl (Nat.zero_le _) (Nat.zero_le _) (fun G1 I1 L1 hp9 => ?_)
        obtain ⟨rfl, hm1⟩ := hp9
        refine aw_istore3 h rfl dX0_turned_46 ?_
        refine aw_aload0 h dX0_turned_47 ?_
        refine aw_iconst h _ ci_m1 dX0_turned_48 ?_
        refine aw_puti h fl_X0_104 ft_X0_104 (fun z => by cases z) (gx0 hX) dX0_turned_49 rfl ?_
        refine aw_iload3 h dX0_turned_52 ?_
        exact aw_iret h hr dX0_turned_53 (⟨by unfold turnA; rw [show turnB S (nI d) (nI k) = true by unfold turnB; rw [c13, c5, hdl2, c31]; rfl, hcl]; rfl, rfl, (hm0.trans (hm1.mono (fun _ q => q) (fun j q => by unfold f27; rw [q]; rfl))).back27 hT27⟩) (Nat.zero_le _) (Nat.zero_le _)
      · refine aw_iconst h _ ci_m1 dX0_turned_34 ?_
        exact aw_iret h hr dX0_turned_35 (⟨by unfold turnA; rw [show turnB S (nI d) (nI k) = false from (by unfold turnB; rw [c13, c5, hdl2, c31]; rfl)]; rfl, rfl, XM.rf⟩) (Nat.zero_le _) (Nat.zero_le _)
theorem msk_all (n : Nat) : mskN n (fun _ => true) = 2 ^ n - 1 := by
  induction n with
  | zero => rfl
  | succ n ih =>
    rw [mskN, ih, if_pos rfl, Nat.pow_succ]
    have := Nat.pow_pos (n := n) (show 0 < 2 by decide)
    omega
theorem msk_cg {f g : Nat → Bool} {n : Nat} (h : ∀ q, q < n → f q = g q) : mskN n f = mskN n g := by
  induction n with
  | zero => rfl
  | succ n ih => rw [mskN, mskN, ih (fun q hq => h q (by omega)), h n (by omega)]
theorem msk_add1 {f : Nat → Bool} {p : Nat} (hf : f p = true) : ∀ n, p < n → mskN n f = mskN n (fun q => f q && !decide (q = p)) + 2 ^ p := by
  intro n
  induction n with
  | zero => intro h; omega
  | succ n ih =>
    intro h
    rw [mskN, mskN]
    by_cases e : p = n
    · subst e
      rw [hf, decide_eq_true rfl, msk_cg (n := p) (f := f) (g := fun q => f q && !decide (q = p)) (fun q hq => by simp; omega)]
      simp
    · rw [ih (by omega), decide_eq_false (Ne.symm e)]
      simp only [Bool.not_false, Bool.and_true]
      omega
theorem and_pow (x p : Nat) : x &&& 2 ^ p = if x.testBit p = true then 2 ^ p else 0 := by
  apply Nat.eq_of_testBit_eq
  intro i
  rw [Nat.testBit_and, Nat.testBit_two_pow]
  by_cases e : p = i
  · subst e
    rw [decide_eq_true rfl, Bool.and_true]
    cases hx : x.testBit p with
    | true => rw [if_pos rfl, Nat.testBit_two_pow]; exact (decide_eq_true rfl).symm
    | false => rw [if_neg Bool.false_ne_true, Nat.zero_testBit]
  · rw [decide_eq_false e, Bool.and_false]
    split
    · rw [Nat.testBit_two_pow]; exact (decide_eq_false e).symm
    · rw [Nat.zero_testBit]
theorem msk_clr {f : Nat → Bool} {p n : Nat} (hp : p < n) : mskN n f - (mskN n f &&& 2 ^ p) = mskN n (fun q => f q && !decide (q = p)) := by
  rw [and_pow, msk_bit, decide_eq_true hp, Bool.true_and]
  cases hf : f p with
  | true =>
    have := msk_add1 hf n hp
    rw [if_pos rfl]
    omega
  | false =>
    rw [if_neg Bool.false_ne_true, Nat.sub_zero]
    exact msk_cg (fun q _ => by
      by_cases e : q = p
      · subst e; rw [hf]; rfl
      · rw [decide_eq_false e]; simp)
theorem dist_nn {E : Nat → Nat → Prop} {src : Nat → Prop} {c j s : Nat} (hs : src s) (hw : walkE E j s c) (hj : j < 2 ^ 31) : ¬ distE E src c < 0 := by
  have hx : ∃ n s, src s ∧ walkE E n s c := ⟨j, s, hs, hw⟩
  have h1 := leastP_ex (P := fun n => ∃ s, src s ∧ walkE E n s c) ⟨j, s, hs, hw⟩
  have h2 : leastP (fun n => ∃ s, src s ∧ walkE E n s c) ≤ j := by
    rcases Nat.lt_or_ge j (leastP (fun n => ∃ s, src s ∧ walkE E n s c)) with q | q
    · exact absurd ⟨s, hs, hw⟩ (h1.2 j q)
    · exact q
  unfold distE
  rw [if_pos hx]
  exact Int32.not_lt.mpr (nI_pos' (by omega))
/-- one is where it counts -/
def hitB (S : Nat → Int32) (wh p c : Nat) : Bool := if wh = 0 then decide (dg 8 c p = gl S p) else !decide (dg 8 c p = rm S p)
def srcW (S : Nat → Int32) (wh p : Nat) : Nat → Prop := if wh = 0 then goalC S (np S) (2 ^ p) else leaveC S p
theorem hit_iff {S : Nat → Int32} {wh p c : Nat} (hS : InvS S) (h0 : 0 < nr S) (hp : p < np S) (hc : VC S (np S) c) : hitB S wh p c = true ↔ srcW S wh p (cv S (np S) c) := by
  unfold hitB srcW
  by_cases e : wh = 0
  · rw [if_pos e, if_pos e]
    rw [← at8_iff h0 (Nat.le_refl _) hc, decide_eq_true_iff]
    unfold at8
    rw [Bool.not_eq_true', anyN_false]
    constructor
    · intro h q hq
      by_cases e2 : q = p
      · subst e2; rw [decide_eq_true h]; simp
      · rw [show Nat.testBit (2 ^ p) q = false by rw [Nat.testBit_two_pow]; exact decide_eq_false (Ne.symm e2)]; rfl
    · intro h
      have h1 := h p hp
      rw [show Nat.testBit (2 ^ p) p = true by rw [Nat.testBit_two_pow]; exact decide_eq_true rfl] at h1
      simpa using h1
  · rw [if_neg e, if_neg e]
    have hn := cv_now hS
    have e1 : dg (nr S) (codeV S) p = rm S p := by rw [← hn.2, cv_dg h0 hn.1 hp]; exact dg_enc (by decide) (fun q hq => by have := (ivp hS hq).2.1; have := iv0b hS; omega) hp
    unfold leaveC
    rw [e1, cv_dg h0 hc hp]
    simp only [Bool.not_eq_true', decide_eq_false_iff_not]
    exact ⟨fun h => ⟨cv_lt hc, h⟩, fun h => h.2⟩
/-- who is left in the set when k are done -/
def CGi (S : Nat → Int32) (wh c0 : Nat) (f : Nat → Bool) : Prop := ∀ p, p < np S → f p = false → ∃ j c, j < 2 ^ 31 ∧ walkE (E8 S (np S) (-1)) j c0 c ∧ hitB S wh p c = true
def CGp (S : Nat → Int32) (wh : Nat) (f : Nat → Bool) (c : Nat) : Prop := ∀ p, p < np S → hitB S wh p c = true → f p = false
theorem CG.done {S : Nat → Int32} {wh cnt : Nat} {f : Nat → Bool} {qv lv par lab : Nat → Nat} {I : Im} (hS : InvS S) (h0 : 0 < nr S) (h : SX S (np S) (-1) (enc 8 (np S) (rm S)) cnt 0 (CGp S wh f) cnt qv lv par lab I) (hC : CGi S wh (enc 8 (np S) (rm S)) f) : mskN (np S) f = mskN (np S) (lessC S wh) := by
  have hn := cv_now hS
  refine msk_cg (fun p hp => ?_)
  have e : lessC S wh p = decide (distE (EB S (np S) (-1)) (srcW S wh p) (codeV S) < 0) := rfl
  rw [e, ← hn.2]
  cases hf : f p with
  | false =>
    obtain ⟨j, c, h1, h2, h3⟩ := hC p hp hf
    obtain ⟨h4, h5⟩ := w_to hS h0 hn.1 h2
    exact (decide_eq_false (dist_nn ((hit_iff hS h0 hp h4).mp h3) h5 h1)).symm
  | true =>
    have hsl : ∀ s, srcW S wh p s → s < pw (nr S) (np S) := fun s hs => by
      unfold srcW at hs
      split at hs <;> exact hs.1
    rw [fw_none (g8 := fun c => hitB S wh p c = true) hS h0 hn.1 (fun c hc => hit_iff hS h0 hp hc) hsl (fun j c hj hc => by
      obtain ⟨⟨i, hi, rfl⟩, -⟩ := h.2.1.done j _ c rfl hj
      have := h.2.2.2.2.1 i hi p hp hc
      rw [hf] at this; cases this)]
    rfl
theorem met_x_caught {w : Wd} {G : Gm} {I : Im} {L : Lm} (hX : XG G) {sl : Nat → Prop} {K : CS} {cK : Nat} {S : Nat → Int32} {t : Nat} (hV : XV sl G I K cK S t) (hA : StAt I 7 S) (hT27 : I 0 27 = -1) {what : Int32} : AMet w yX0_caught cX0_caught 6 (some .int) 8 198 0 0 [.ref (w.1 + 0), .int what] G I L (Ans (some (.int (caughtA S what))) (SRq G I L)) := by
  refine AMet.of (ls0 := [some (.ref (w.1 + 0)), some (.int what), none, none, none, none]) rfl (Nat.le_of_ble_eq_true rfl) rfl (fun q hq => hq) (fun X h hl hr hi => ?_)
  obtain ⟨hC0, hS, hcs, ht, ht2, hdj⟩ := id hV
  have hC := hC0
  obtain ⟨hc0, ⟨pl, pa, dl, da, fa, ps, ds, hK, hsp⟩, hok, hsl⟩ := id hC
  obtain ⟨cp, hLp⟩ := hK.2.2.2.2.2.1
  obtain ⟨cd, hLd⟩ := hK.2.2.2.2.2.2.1
  have hpl := hK.2.2.2.2.2.2.2.1
  have hdl := hK.2.2.2.2.2.2.2.2.1
  have hdk := hK.2.2.2.2.2.2.2.2.2.2.1
  have hpk := hK.2.2.2.2.2.2.2.2.2.1
  have hrm := hK.2.2.2.2.2.2.2.2.2.2.2.1
  have hfr := hK.2.2.2.2.2.2.2.2.2.2.2.2.2
  have hR8 := hok.2.1
  have hD14 := hok.2.2.1
  have hP4 := hok.2.2.2.1
  have hdo := hok.2.2.2.2.1
  have hpo := hok.2.2.2.2.2.1
  have hf9 := hok.2.2.2.2.2.2.2
  have hn := cas_n hcs hok
  have b2 := iv2b hS
  refine aw_aload0 h dX0_caught_0 ?_
  refine aw_callVE0 h hl cl_X0_139 (met_x_isCastle hX hC) (gx0 hX) rfl dX0_caught_1 (Nat.le_of_ble_eq_true rfl) rfl (Nat.zero_le _) (Nat.zero_le _) ?_
  rw [← hn.1]
  refine aw_if_eqB h (tgt := 17) dX0_caught_4 (by decide) (fun c4 => ?_) (fun c4 => ?_)
  · refine aw_iconst h _ ci_m1 dX0_caught_17 ?_
    exact aw_iret h hr dX0_caught_18 (⟨by unfold caughtA; rw [c4]; rfl, rfl, XM.rf⟩) (Nat.zero_le _) (Nat.zero_le _)
  · refine aw_iload1 h dX0_caught_7 ?_
    refine aw_i2l h dX0_caught_8 ?_
    refine aw_lconst h _ cl_0 dX0_caught_9 ?_
    refine aw_lconst h _ cl_1 dX0_caught_10 ?_
    refine aw_callSE3 h hl cl_X0_129 (met_x_in) dX0_caught_11 (Nat.le_of_ble_eq_true rfl) rfl (Nat.zero_le _) (Nat.zero_le _) ?_
    rw [inL_I (by decide) (by decide)]
    refine aw_if_neB h (tgt := 19) dX0_caught_14 (by decide) (fun c14 => ?_) (fun c14 => ?_)
    · obtain ⟨wh, -, hwh, rfl⟩ := inI_of c14 (by decide) (by decide)
      have h0 : 0 < nr S := of_decide_eq_true c4
      have hcn0 := cv_now hS
      have hans : caughtA S (nI wh) = nI (mskN (np S) (lessC S wh)) := by unfold caughtA; rw [c4, c14, nI_clamp (by omega)]; rfl
      have key : ∀ (fu k : Nat) (f : Nat → Bool) (I1 : Im) (L1 : Lm), k ≤ 32768 → 32768 < k + fu → XM srE srF I L I1 L1 → SQ S (np S) (-1) (enc 8 (np S) (rm S)) k (CGp S wh f) I1 → CGi S wh (enc 8 (np S) (rm S)) f → ∀ o4 o5 : Option Value, AW X 0 0 50 [some (.ref (w.1 + 0)), some (.int (nI wh)), some (.int (nI (mskN (np S) (f)))), some (.int (nI k)), o4, o5] [] G I1 L1 := by
        intro fu
        induction fu with
        | zero => intro k f I1 L1 hle hlt; exact absurd hlt (by omega)
        | succ fu ih =>
          intro k f I1 L1 hle hlt hm hSQ hCG
          intro o4 o5
          have hV1 : XV sl G I1 K cK S t := hV.ix (hm.nm sr_mut)
          have hA1 : StAt I1 7 S := hA.ix7 (fun m q1 q2 => (hm.1 m (by omega) (by unfold srE; simp; omega)).1)
          obtain ⟨hc0, ⟨pl, pa, dl, da, fa, ps, ds, hK, hsp⟩, -, -⟩ := id hV1.1
          obtain ⟨cp, hLp⟩ := hK.2.2.2.2.2.1
          obtain ⟨cnt, qv, lv, par, lab, hSX, hkc⟩ := hSQ
          have hcm := hSX.2.2.2.2.2.1
          have h156 := hSX.1.2.1
          have hM := pw8_le (show np S ≤ 5 by omega)
          refine aw_iload3 h dX0_caught_50 ?_
          refine aw_aload0 h dX0_caught_51 ?_
          refine aw_getiV h fl_X0_328 (gx0 hX) dX0_caught_52 rfl (hSX.1.1) ?_
          refine aw_icmp_geN h (tgt := 161) (by omega) (by omega) dX0_caught_55 (by decide) (fun c55 => ?_) (fun c55 => ?_)
          · refine aw_iload2 h dX0_caught_161 ?_
            exact aw_iret h hr dX0_caught_162 (⟨by rw [hans, CG.done hS h0 ((show k = cnt by omega) ▸ hSX) hCG], rfl, hm⟩) (Nat.zero_le _) (Nat.zero_le _)
          · have hkc2 : k < cnt := by omega
            have hql := hSX.2.2.2.1 k hkc2
            have hlk := hSX.2.2.2.2.2.2.1 k hkc2
            obtain ⟨s9, rfl, hw9⟩ := hSX.2.1.2.2.1 k hkc2
            generalize hcq : qv k = c at *
            have hc15 : c < 2 ^ 15 := Nat.lt_of_lt_of_le hql.1 hM
            have hqk : I1 156 k = nI c := by rw [h156 k hkc2, hcq]
            have hSK : SK S (np S) (-1) (enc 8 (np S) (rm S)) k 0 (fun x => CGp S wh f x ∨ x = c) c I1 := ⟨cnt, qv, lv, par, lab, hSX.imp (fun x hx => Or.inl hx), hkc2, hcq⟩
            refine aw_aload0 h dX0_caught_58 ?_
            refine aw_aload0 h dX0_caught_59 ?_
            refine aw_getr h fl_X0_101 (gx0 hX) dX0_caught_60 rfl (gxp25 hX) ?_
            refine aw_iload3 h dX0_caught_63 ?_
            refine aw_ialdV h (gxs156 hX) (by decide) (by omega) dX0_caught_64 (hqk) ?_
            refine aw_aload0 h dX0_caught_65 ?_
            refine aw_getr h fl_X0_12 (gx0 hX) dX0_caught_66 rfl hc0 ?_
            refine aw_callVE0 h hl cl_X0_125 (met_x_many hK hok) hK.1 rfl dX0_caught_69 (Nat.le_of_ble_eq_true rfl) rfl (Nat.zero_le _) (Nat.zero_le _) ?_
            rw [← hn.2.2]
            refine aw_callVN2 h hl cl_X0_346 (met_x_spreads hX hV1 h0 hA1 (n := np S) (by omega) ((hm.2.1 27 rfl).trans hT27) (Or.inl rfl) (P := fun x => CGp S wh f x ∨ x = c) hSK (Or.inr rfl)) (gx0 hX) rfl dX0_caught_72 (Nat.le_of_ble_eq_true rfl) rfl (Nat.zero_le _) (Nat.zero_le _) (fun G1 I2 L2 hp9 => ?_)
            obtain ⟨rfl, hm2, hSQ2, hqc⟩ := hp9
            have hSQ3 : SQ S (np S) (-1) (enc 8 (np S) (rm S)) (k + 1) (CGp S wh (fun q => f q && !(decide (q < (np S)) && hitB S wh q c))) I2 := by
              obtain ⟨cnt2, qv2, lv2, par2, lab2, hSX2, hk2⟩ := hSQ2
              refine ⟨cnt2, qv2, lv2, par2, lab2, hSX2.imp (fun x hx p hp hh => ?_), hk2⟩
              show (f p && !(decide (p < np S) && hitB S wh p c)) = false
              rcases hx with hx | hx
              · rw [hx p hp hh]; rfl
              · rw [hx] at hh
                rw [hh, decide_eq_true hp]; simp
            have hCG3 : CGi S wh (enc 8 (np S) (rm S)) (fun q => f q && !(decide (q < (np S)) && hitB S wh q c)) := by
              intro p hp hf
              cases hfp : f p with
              | false => exact hCG p hp hfp
              | true =>
                have hf : (f p && !(decide (p < np S) && hitB S wh p c)) = false := hf
                rw [hfp, decide_eq_true hp] at hf
                exact ⟨lv c, c, by omega, hw9, by simpa using hf⟩
            have hm12 := hm.trans hm2
            have hA2 : StAt I2 7 S := hA.ix7 (fun m q1 q2 => (hm12.1 m (by omega) (by unfold srE; simp; omega)).1)
            obtain ⟨hc02, ⟨pl, pa, dl, da, fa, ps, ds, hK1, hsp⟩, -, -⟩ := id (hV.ix (hm12.nm sr_mut)).1
            have keyp : ∀ (fp p : Nat), p ≤ np S → np S < p + fp → ∀ o5 : Option Value, AW X 0 0 78 [some (.ref (w.1 + 0)), some (.int (nI wh)), some (.int (nI (mskN (np S) ((fun q => f q && !(decide (q < p) && hitB S wh q c)))))), some (.int (nI k)), some (.int (nI p)), o5] [] G I2 L2 := by
              intro fp
              induction fp with
              | zero => intro p hle hlt; exact absurd hlt (by omega)
              | succ fp ihp =>
                intro p hle hlt
                intro o5
                refine aw_iload4 h dX0_caught_78 ?_
                refine aw_aload0 h dX0_caught_80 ?_
                refine aw_getr h fl_X0_12 (gx0 hX) dX0_caught_81 rfl hc0 ?_
                refine aw_callVE0 h hl cl_X0_125 (met_x_many hK1 hok) hK.1 rfl dX0_caught_84 (Nat.le_of_ble_eq_true rfl) rfl (Nat.zero_le _) (Nat.zero_le _) ?_
                rw [← hn.2.2]
                refine aw_icmp_geN h (tgt := 155) (by omega) (by omega) dX0_caught_87 (by decide) (fun c87 => ?_) (fun c87 => ?_)
                · refine aw_iincN3 h rfl dX0_caught_155 ?_
                  refine aw_goto h (tgt := 50) dX0_caught_158 (by decide) ?_
                  obtain rfl : p = np S := by omega
                  exact ih (k + 1) (fun q => f q && !(decide (q < (np S)) && hitB S wh q c)) I2 L2 (by omega) (by omega) (hm.trans hm2) hSQ3 hCG3 _ _
                · have hpn : p < np S := by omega
                  have hiv := ivp hS hpn
                  have hdl8 := dg_lt (b := 8) (by decide) c p
                  have hmk : mskN (np S) (fun q => f q && !(decide (q < p) && hitB S wh q c)) < 2 ^ 31 := by have := msk_lt (np S) (fun q => f q && !(decide (q < p) && hitB S wh q c)); have h2 : (2:Nat) ^ np S ≤ 2 ^ 4 := Nat.pow_le_pow_right (by decide) b2; omega
                  refine aw_aload0 h dX0_caught_90 ?_
                  refine aw_getr h fl_X0_101 (gx0 hX) dX0_caught_91 rfl (gxp25 hX) ?_
                  refine aw_iload3 h dX0_caught_94 ?_
                  refine aw_ialdV h (gxs156 hX) (by decide) (by omega) dX0_caught_95 (hqc) ?_
                  refine aw_iload4 h dX0_caught_96 ?_
                  refine aw_callSE2 h hl cl_X0_331 (met_x_placeOf hc15 (p := p) (by omega)) dX0_caught_98 (Nat.le_of_ble_eq_true rfl) rfl (Nat.zero_le _) (Nat.zero_le _) ?_
                  refine aw_istore5 h rfl dX0_caught_101 ?_
                  refine aw_iload1 h dX0_caught_103 ?_
                  refine aw_if_neN h (tgt := 125) (by omega) dX0_caught_104 (by decide) (fun c104 => ?_) (fun c104 => ?_)
                  · refine aw_iload5 h dX0_caught_125 ?_
                    refine aw_aload0 h dX0_caught_127 ?_
                    refine aw_getr h fl_X0_19 (gx0 hX) dX0_caught_128 rfl (gxp1 hX) ?_
                    refine aw_getr h fl_X0_202 (gxt7 hX).1 dX0_caught_131 rfl ((gxt7 hX).2 0 (by decide)).1 ?_
                    refine aw_iload4 h dX0_caught_134 ?_
                    refine aw_ialdV h ((gxt7 hX).2 0 (by decide)).2 (by decide) (by omega) dX0_caught_136 (((hA2.2.1 p (by omega)).1.trans (ivp hS (show p < np S by omega)).1)) ?_
                    refine aw_icmp_eqN h (tgt := 149) (by omega) (by omega) dX0_caught_137 (by decide) (fun c137 => ?_) (fun c137 => ?_)
                    · refine aw_iincN4 h rfl dX0_caught_149 ?_
                      refine aw_goto h (tgt := 78) dX0_caught_152 (by decide) ?_
                      have e9 : (fun q => f q && !(decide (q < (p + 1)) && hitB S wh q c)) = (fun q => f q && !(decide (q < p) && hitB S wh q c)) := funext fun q => by
                        by_cases e : q = p
                        · subst e; rw [show hitB S wh q c = false by unfold hitB; rw [if_neg c104, decide_eq_true c137]; rfl]; simp
                        · rw [show decide (q < p + 1) = decide (q < p) from decide_eq_decide.mpr (by omega)]
                      have h9 := ihp (p + 1) (by omega) (by omega) (some (.int (nI (dg 8 c p))))
                      rw [e9] at h9
                      exact h9
                    · refine aw_iload2 h dX0_caught_140 ?_
                      refine aw_iconst h _ ci_1 dX0_caught_141 ?_
                      refine aw_iload4 h dX0_caught_142 ?_
                      refine aw_ishl h dX0_caught_144 ?_
                      rw [bs_shl1 (by omega)]
                      refine aw_iconst h _ ci_m1 dX0_caught_145 ?_
                      refine aw_ixor h dX0_caught_146 ?_
                      refine aw_iand h dX0_caught_147 ?_
                      rw [bs_not _ _ hmk, msk_clr hpn]
                      refine aw_istore2 h rfl dX0_caught_148 ?_
                      refine aw_iincN4 h rfl dX0_caught_149 ?_
                      refine aw_goto h (tgt := 78) dX0_caught_152 (by decide) ?_
                      have e9 : (fun q => (fun q => f q && !(decide (q < p) && hitB S wh q c)) q && !decide (q = p)) = (fun q => f q && !(decide (q < (p + 1)) && hitB S wh q c)) := funext fun q => by
                        show ((f q && !(decide (q < p) && hitB S wh q c)) && !decide (q = p)) = _
                        by_cases e : q = p
                        · subst e; rw [show hitB S wh q c = true by unfold hitB; rw [if_neg c104, decide_eq_false c137]; rfl]; simp
                        · rw [decide_eq_false e, show decide (q < p + 1) = decide (q < p) from decide_eq_decide.mpr (by omega)]; simp
                      rw [e9]
                      exact ihp (p + 1) (by omega) (by omega) (some (.int (nI (dg 8 c p))))
                  · refine aw_iload5 h dX0_caught_107 ?_
                    refine aw_aload0 h dX0_caught_109 ?_
                    refine aw_getr h fl_X0_19 (gx0 hX) dX0_caught_110 rfl (gxp1 hX) ?_
                    refine aw_getr h fl_X0_192 (gxt7 hX).1 dX0_caught_113 rfl ((gxt7 hX).2 1 (by decide)).1 ?_
                    refine aw_iload4 h dX0_caught_116 ?_
                    refine aw_ialdV h ((gxt7 hX).2 1 (by decide)).2 (by decide) (by omega) dX0_caught_118 (((hA2.2.1 p (by omega)).2.1.trans (ivp hS (show p < np S by omega)).2.2.1)) ?_
                    refine aw_icmp_neN h (tgt := 149) (by omega) (by omega) dX0_caught_119 (by decide) (fun c119 => ?_) (fun c119 => ?_)
                    · refine aw_iincN4 h rfl dX0_caught_149 ?_
                      refine aw_goto h (tgt := 78) dX0_caught_152 (by decide) ?_
                      have e9 : (fun q => f q && !(decide (q < (p + 1)) && hitB S wh q c)) = (fun q => f q && !(decide (q < p) && hitB S wh q c)) := funext fun q => by
                        by_cases e : q = p
                        · subst e; rw [show hitB S wh q c = false by unfold hitB; rw [if_pos c104, decide_eq_false c119]]; simp
                        · rw [show decide (q < p + 1) = decide (q < p) from decide_eq_decide.mpr (by omega)]
                      have h9 := ihp (p + 1) (by omega) (by omega) (some (.int (nI (dg 8 c p))))
                      rw [e9] at h9
                      exact h9
                    · refine aw_goto h (tgt := 140) dX0_caught_122 (by decide) ?_
                      refine aw_iload2 h dX0_caught_140 ?_
                      refine aw_iconst h _ ci_1 dX0_caught_141 ?_
                      refine aw_iload4 h dX0_caught_142 ?_
                      refine aw_ishl h dX0_caught_144 ?_
                      rw [bs_shl1 (by omega)]
                      refine aw_iconst h _ ci_m1 dX0_caught_145 ?_
                      refine aw_ixor h dX0_caught_146 ?_
                      refine aw_iand h dX0_caught_147 ?_
                      rw [bs_not _ _ hmk, msk_clr hpn]
                      refine aw_istore2 h rfl dX0_caught_148 ?_
                      refine aw_iincN4 h rfl dX0_caught_149 ?_
                      refine aw_goto h (tgt := 78) dX0_caught_152 (by decide) ?_
                      have e9 : (fun q => (fun q => f q && !(decide (q < p) && hitB S wh q c)) q && !decide (q = p)) = (fun q => f q && !(decide (q < (p + 1)) && hitB S wh q c)) := funext fun q => by
                        show ((f q && !(decide (q < p) && hitB S wh q c)) && !decide (q = p)) = _
                        by_cases e : q = p
                        · subst e; rw [show hitB S wh q c = true by unfold hitB; rw [if_pos c104, decide_eq_true c119]]; simp
                        · rw [decide_eq_false e, show decide (q < p + 1) = decide (q < p) from decide_eq_decide.mpr (by omega)]; simp
                      rw [e9]
                      exact ihp (p + 1) (by omega) (by omega) (some (.int (nI (dg 8 c p))))
            refine aw_iconst h _ ci_0 dX0_caught_75 ?_
            refine aw_istore4 h rfl dX0_caught_76 ?_
            have h9 := keyp (np S + 1) 0 (Nat.zero_le _) (by omega) o5
            rw [show (fun q => f q && !(decide (q < 0) && hitB S wh q c)) = f from funext fun q => by simp] at h9
            exact h9
      refine aw_aload0 h dX0_caught_19 ?_
      refine aw_aload0 h dX0_caught_20 ?_
      refine aw_callVE0 h hl cl_X0_349 (met_x_placesNow hX hV hA) (gx0 hX) rfl dX0_caught_21 (Nat.le_of_ble_eq_true rfl) rfl (Nat.zero_le _) (Nat.zero_le _) ?_
      refine aw_aload0 h dX0_caught_24 ?_
      refine aw_getr h fl_X0_12 (gx0 hX) dX0_caught_25 rfl hc0 ?_
      refine aw_callVE0 h hl cl_X0_125 (met_x_many hK hok) hK.1 rfl dX0_caught_28 (Nat.le_of_ble_eq_true rfl) rfl (Nat.zero_le _) (Nat.zero_le _) ?_
      rw [← hn.2.2]
      refine aw_iconst h _ ci_0 dX0_caught_31 ?_
      refine aw_callVR3 h hl cl_X0_352 (met_x_finds hX hV h0 hA (n := np S) (by omega) hT27 (Or.inl rfl) hcn0.1 (m := 0) (by decide)) (gx0 hX) rfl dX0_caught_32 (Nat.le_of_ble_eq_true rfl) rfl (Nat.zero_le _) (Nat.zero_le _) (fun v G1 I1 L1 hp9 => ?_)
      obtain ⟨rfl, hm1, hr9⟩ := hp9
      obtain ⟨x9, rfl, hSQ9⟩ : ∃ x : Int32, v = some (.int x) ∧ SQ S (np S) (-1) (enc 8 (np S) (rm S)) 0 (CGp S wh (fun _ => true)) I1 := by
        have h80 : ∀ c, at8 S 0 c = true := fun c => by unfold at8; rw [Bool.not_eq_true', anyN_false]; intro p hp; rw [Nat.zero_testBit]; rfl
        rcases hr9 with ⟨rfl, cnt, qv, lv, par, lab, hSX⟩ | ⟨cnt, k, qv, lv, par, lab, rfl, hSX, hk, hg⟩
        · have := hSX.2.2.2.2.1 0 hSX.2.2.2.2.2.2.2.2
          unfold Pno at this
          rw [h80] at this; cases this
        · have hk0 : k = 0 := by
            rcases Nat.eq_zero_or_pos k with e | e
            · exact e
            · have := hSX.2.2.2.2.1 0 e
              unfold Pno at this
              rw [h80] at this; cases this
          subst hk0
          obtain ⟨b1, b2, b3, b4, b5, b6⟩ := hSX
          exact ⟨_, rfl, cnt, qv, lv, par, lab, ⟨b1, b2, b3, b4, fun i hi => absurd hi (Nat.not_lt_zero _), b6⟩, Nat.zero_le _⟩
      obtain ⟨-, ⟨pl, pa, dl, da, fa, ps, ds, hK1, hsp⟩, -, -⟩ := id (hV.ix (hm1.nm sr_mut)).1
      have hc0b := (hV.ix (I1 := I1) (hm1.nm sr_mut)).1.1
      refine aw_pop h rfl dX0_caught_35 ?_
      refine aw_iconst h _ ci_1 dX0_caught_36 ?_
      refine aw_aload0 h dX0_caught_37 ?_
      refine aw_getr h fl_X0_12 (gx0 hX) dX0_caught_38 rfl hc0 ?_
      refine aw_callVE0 h hl cl_X0_125 (met_x_many hK1 hok) hK.1 rfl dX0_caught_41 (Nat.le_of_ble_eq_true rfl) rfl (Nat.zero_le _) (Nat.zero_le _) ?_
      rw [← hn.2.2]
      refine aw_ishl h dX0_caught_44 ?_
      rw [bs_shl1 (by omega)]
      refine aw_iconst h _ ci_1 dX0_caught_45 ?_
      refine aw_isub h dX0_caught_46 ?_
      rw [pk_sub (Nat.pow_pos (by decide)), ← msk_all]
      refine aw_istore2 h rfl dX0_caught_47 ?_
      refine aw_iconst h _ ci_0 dX0_caught_48 ?_
      refine aw_istore3 h rfl dX0_caught_49 ?_
      exact key 32769 0 (fun _ => true) I1 L1 (Nat.zero_le _) (by decide) hm1 hSQ9 (fun p _ h => by cases h) _ _
    · refine aw_iconst h _ ci_m1 dX0_caught_17 ?_
      exact aw_iret h hr dX0_caught_18 (⟨by unfold caughtA; rw [c14, Bool.and_false]; rfl, rfl, XM.rf⟩) (Nat.zero_le _) (Nat.zero_le _)
