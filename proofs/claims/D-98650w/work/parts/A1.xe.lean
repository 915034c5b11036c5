/-! The component: aim, send, ahead, comes -/
set_option maxRecDepth 100000
theorem StAt.aim {I : Im} {s : Nat} {S : Nat → Int32} {a : Nat} {r : Int32} (h : StAt I s S) (hS : InvS S) : StAt (upd2 I (s + 1 + 1) a r) s (va_up S (10 + 6 * a + 1) r) := by
  have h4 := iv2b hS
  have en : np (va_up S (10 + 6 * a + 1) r) = np S := by unfold np nv; rw [vup_n _ _ (by omega)]
  have ep : ∀ p k, k < 6 → k ≠ 1 → pv (va_up S (10 + 6 * a + 1) r) p k = pv S p k := fun p k hk h1 => by
    show va_up S (10 + 6 * a + 1) r (10 + 6 * p + k) = _
    rw [vup_n _ _ (by omega)]; rfl
  refine ⟨by rw [upd2_r (by omega), vup_n _ _ (by omega)]; exact h.1, fun p hp => ?_, fun p hp hp4 => ?_⟩
  · rw [en] at hp
    have h1 := h.2.1 p hp
    rw [ep p 0 (by decide) (by decide), ep p 3 (by decide) (by decide), ep p 4 (by decide) (by decide), ep p 5 (by decide) (by decide), upd2_r (by omega), upd2_r (show s + 3 ≠ s + 1 + 1 by omega), upd2_r (show s + 4 ≠ s + 1 + 1 by omega), upd2_r (show s + 5 ≠ s + 1 + 1 by omega)]
    refine ⟨h1.1, ?_, h1.2.2⟩
    show upd2 I (s + 1 + 1) a r (s + 1 + 1) p = va_up S (10 + 6 * a + 1) r (10 + 6 * p + 1)
    rw [upd2_s]
    by_cases e : p = a
    · subst e; rw [vup_s, vup_s]
    · rw [vup_n _ _ e, vup_n _ _ (by omega)]; exact h1.2.1
  · rw [en] at hp
    rw [upd2_r (by omega), upd2_r (by omega)]
    exact h.2.2 p hp hp4
theorem StR.vec {I : Im} {s : Nat} {S : Nat → Int32} {N : Nat → Nat → Int32} (hS : InvS S) (h : StR I s (np S) N) (h5 : I s 5 = S 3) : StAt I s (vecP S N) := by
  have h4 := iv2b hS
  have en : np (vecP S N) = np S := vecP_static.2.2.1
  refine ⟨by rw [h5, vecP_out (by omega)], fun p hp => ?_, fun p hp hp4 => ?_⟩
  · rw [en] at hp
    rw [vecP_pv (by omega) (by decide), vecP_pv (by omega) (by decide), vecP_pv (by omega) (by decide), vecP_pv (by omega) (by decide), vecP_pv (by omega) (by decide)]
    exact h.1 p hp
  · rw [en] at hp
    exact h.2 p hp hp4
theorem StR.out {I1 : Im} {s n k d : Nat} {S : Nat → Int32} {R : Nat → Nat → Int32} {r : Int32} (h : StR I1 s n R) (hk : k < n) (hR : R k = pv S k) (hr : r = nI (farr S d)) : StR (upd2 (upd2 I1 (s + 1 + 0) k r) (s + 1 + 3) k (upd2 I1 (s + 1 + 0) k r (s + 1 + 3) k + nI 1)) s n (va_up R k (rowOut S k d)) := by
  have hrow := h.1 k hk
  rw [hR] at hrow
  refine (h.up (p := k) (Rp := rowOut S k d) (I1 := upd2 (upd2 I1 (s + 1 + 0) k r) (s + 1 + 3) k (upd2 I1 (s + 1 + 0) k r (s + 1 + 3) k + nI 1)) (fun j hj q hq => ?_) ?_ hk)
  · by_cases e3 : s + 1 + j = s + 1 + 3
    · rw [e3, upd2_s, vup_n _ _ hq, upd2_r (by omega)]
    · rw [upd2_r e3]
      by_cases e0 : s + 1 + j = s + 1 + 0
      · rw [e0, upd2_s, vup_n _ _ hq]
      · rw [upd2_r e0]
  · unfold rowOut
    refine ⟨?_, ?_, ?_, ?_, ?_⟩
    · rw [upd2_r (by omega), upd2_s, vup_s, vup_n _ _ (by decide), vup_s, hr]
    · rw [upd2_r (by omega), upd2_r (by omega), vup_n _ _ (by decide), vup_n _ _ (by decide)]; exact hrow.2.1
    · rw [upd2_r (by omega), upd2_r (by omega), vup_n _ _ (by decide), vup_n _ _ (by decide)]; exact hrow.2.2.1
    · rw [upd2_s, vup_s, vup_s, upd2_r (by omega), show I1 (s + 1 + 3) k = pv S k 4 from hrow.2.2.2.1]
    · rw [upd2_r (by omega), upd2_r (by omega), vup_n _ _ (by decide), vup_n _ _ (by decide)]; exact hrow.2.2.2.2
theorem StR.inn {I1 : Im} {s n k d : Nat} {S : Nat → Int32} {R : Nat → Nat → Int32} {r b : Int32} (h : StR I1 s n R) (hk : k < n) (hR : R k = pv S k) (hr : r = nI (near S d)) : StR (upd2 (upd2 (upd2 I1 (s + 1 + 0) k r) (s + 1 + 2) k (upd2 I1 (s + 1 + 0) k r (s + 1 + 2) k + nI 1)) (s + 1 + 4) k b) s n (va_up R k (rowIn S k d b)) := by
  have hrow := h.1 k hk
  rw [hR] at hrow
  refine (h.up (p := k) (Rp := rowIn S k d b) (I1 := upd2 (upd2 (upd2 I1 (s + 1 + 0) k r) (s + 1 + 2) k (upd2 I1 (s + 1 + 0) k r (s + 1 + 2) k + nI 1)) (s + 1 + 4) k b) (fun j hj q hq => ?_) ?_ hk)
  · by_cases e4 : s + 1 + j = s + 1 + 4
    · rw [e4, upd2_s, vup_n _ _ hq, upd2_r (by omega), upd2_r (by omega)]
    · rw [upd2_r e4]
      by_cases e3 : s + 1 + j = s + 1 + 2
      · rw [e3, upd2_s, vup_n _ _ hq, upd2_r (by omega)]
      · rw [upd2_r e3]
        by_cases e0 : s + 1 + j = s + 1 + 0
        · rw [e0, upd2_s, vup_n _ _ hq]
        · rw [upd2_r e0]
  · unfold rowIn
    refine ⟨?_, ?_, ?_, ?_, ?_⟩
    · rw [upd2_r (by omega), upd2_r (by omega), upd2_s, vup_s, vup_n _ _ (by decide), vup_n _ _ (by decide), vup_s, hr]
    · rw [upd2_r (by omega), upd2_r (by omega), upd2_r (by omega), vup_n _ _ (by decide), vup_n _ _ (by decide), vup_n _ _ (by decide)]; exact hrow.2.1
    · rw [upd2_r (by omega), upd2_s, vup_s, vup_n _ _ (by decide), vup_s, upd2_r (by omega), show I1 (s + 1 + 2) k = pv S k 3 from hrow.2.2.1]
    · rw [upd2_r (by omega), upd2_r (by omega), upd2_r (by omega), vup_n _ _ (by decide), vup_n _ _ (by decide), vup_n _ _ (by decide)]; exact hrow.2.2.2.1
    · rw [upd2_s, vup_s, vup_s]
theorem PastX.i {I : Im} {H : List (Nat → Int32)} {n j : Nat} {x : Int32} (h : PastX I H) (h0 : n ≠ 0) (h1 : n < 33 ∨ 152 < n) : PastX (upd2 I n j x) H := by
  obtain ⟨a, ha, b1, b2, b3, b4⟩ := h
  exact ⟨a, ha, (upd2_r (Ne.symm h0)).trans b1, (upd2_r (Ne.symm h0)).trans b2, b3, fun j hj => (b4 j hj).ix7 (fun m p1 p2 => upd2_n _ _ _ (by omega))⟩
theorem vup_comm {α : Type} {f : Nat → α} {a b : Nat} {x y : α} (h : a ≠ b) : va_up (va_up f a x) b y = va_up (va_up f b y) a x := by
  funext q
  by_cases e : q = b
  · subst e; rw [vup_s, vup_n _ _ (Ne.symm h), vup_s]
  · by_cases e2 : q = a
    · subst e2; rw [vup_n _ _ e, vup_s, vup_s]
    · rw [vup_n _ _ e, vup_n _ _ e2, vup_n _ _ e2, vup_n _ _ e]
theorem met_x_aim {w : Wd} {G : Gm} {I : Im} {L : Lm} (hX : XG G) {sl : Nat → Prop} {K : CS} {c : Nat} {S : Nat → Int32} {t : Nat} (hV : XV sl G I K c S t) (hA : StAt I 7 S) {H : List (Nat → Int32)} (hP : PastX I H) {p r : Int32} : AMet w yX0_aim cX0_aim 4 (some .int) 4 101 0 0 [.ref (w.1 + 0), .int p, .int r] G I L (Ans (some (.int (if aimB S p r = true then pv S p.toNatClampNeg 1 else -1))) (XO (if aimB S p r = true then aimS S p r else S) (if aimB S p r = true then keepH H S else H) G I L)) := by
  refine AMet.of (ls0 := [some (.ref (w.1 + 0)), some (.int p), some (.int r), none]) rfl (Nat.le_of_ble_eq_true rfl) rfl (fun q hq => hq) (fun X h hl hr hi => ?_)
  obtain ⟨hC0, hS, hcs, ht, ht2, hdj⟩ := id hV
  have hC := hC0
  obtain ⟨hc0, ⟨pl, pa, dl, da, fa, ps, ds, hK, hsp⟩, hok, hsl⟩ := id hC
  obtain ⟨cp, hLp⟩ := hK.2.2.2.2.2.1
  obtain ⟨cd, hLd⟩ := hK.2.2.2.2.2.2.1
  have hpl := hK.2.2.2.2.2.2.2.1
  have hdl := hK.2.2.2.2.2.2.2.2.1
  have hdk := hK.2.2.2.2.2.2.2.2.2.2.1
  have hpk := hK.2.2.2.2.2.2.2.2.2.1
  have hrm := hK.2.2.2.2.2.2.2.2.2.2.2.1
  have hfr := hK.2.2.2.2.2.2.2.2.2.2.2.2.2
  have hR8 := hok.2.1
  have hD14 := hok.2.2.1
  have hP4 := hok.2.2.2.1
  have hdo := hok.2.2.2.2.1
  have hpo := hok.2.2.2.2.2.1
  have hf9 := hok.2.2.2.2.2.2.2
  have hn := cas_n hcs hok
  refine aw_aload0 h dX0_aim_0 ?_
  refine aw_iload1 h dX0_aim_1 ?_
  refine aw_callVE1 h hl cl_X0_216 (met_x_isPerson hX hC) (gx0 hX) rfl dX0_aim_2 (Nat.le_of_ble_eq_true rfl) rfl (Nat.zero_le _) (Nat.zero_le _) ?_
  rw [← hn.2.2]
  refine aw_if_eqB h (tgt := 29) dX0_aim_5 (by decide) (fun c5 => ?_) (fun c5 => ?_)
  · refine aw_iconst h _ ci_m1 dX0_aim_29 ?_
    exact aw_iret h hr dX0_aim_30 (⟨by rw [show aimB S p r = false from (by unfold aimB; rw [c5]; rfl)]; rfl, rfl, XM.rf, by rw [show aimB S p r = false from (by unfold aimB; rw [c5]; rfl)]; exact hA, by rw [show aimB S p r = false from (by unfold aimB; rw [c5]; rfl)]; exact hP⟩) (Nat.zero_le _) (Nat.zero_le _)
  · refine aw_aload0 h dX0_aim_8 ?_
    refine aw_iload2 h dX0_aim_9 ?_
    refine aw_callVE1 h hl cl_X0_245 (met_x_isRoom hX hC) (gx0 hX) rfl dX0_aim_10 (Nat.le_of_ble_eq_true rfl) rfl (Nat.zero_le _) (Nat.zero_le _) ?_
    rw [← hn.1]
    refine aw_if_eqB h (tgt := 29) dX0_aim_13 (by decide) (fun c13 => ?_) (fun c13 => ?_)
    · refine aw_iconst h _ ci_m1 dX0_aim_29 ?_
      exact aw_iret h hr dX0_aim_30 (⟨by rw [show aimB S p r = false from (by unfold aimB; rw [c5, c13]; rfl)]; rfl, rfl, XM.rf, by rw [show aimB S p r = false from (by unfold aimB; rw [c5, c13]; rfl)]; exact hA, by rw [show aimB S p r = false from (by unfold aimB; rw [c5, c13]; rfl)]; exact hP⟩) (Nat.zero_le _) (Nat.zero_le _)
    · obtain ⟨a, ha, rfl⟩ := of_rng c5 (by have := iv2b hS; omega)
      have hca : (nI a).toNatClampNeg = a := nI_clamp (by have := iv2b hS; omega)
      have h4 := iv2b hS
      have hgl := (hA.2.1 a ha).2.1
      refine aw_aload0 h dX0_aim_16 ?_
      refine aw_getr h fl_X0_19 (gx0 hX) dX0_aim_17 rfl (gxp1 hX) ?_
      refine aw_getr h fl_X0_192 (gxt7 hX).1 dX0_aim_20 rfl ((gxt7 hX).2 1 (by decide)).1 ?_
      refine aw_iload1 h dX0_aim_23 ?_
      refine aw_ialdV h ((gxt7 hX).2 1 (by decide)).2 (by decide) (by omega) dX0_aim_24 (hgl) ?_
      refine aw_iload2 h dX0_aim_25 ?_
      refine aw_icmp_ne h (tgt := 31) dX0_aim_26 (by decide) (fun c26 => ?_) (fun c26 => ?_)
      · refine aw_aload0 h dX0_aim_31 ?_
        refine aw_callVN0 h hl cl_X0_312 (met_x_keeps hX hS hA hP) (gx0 hX) rfl dX0_aim_32 (Nat.le_of_ble_eq_true rfl) rfl (Nat.zero_le _) (Nat.zero_le _) (fun G1 I1 L1 hp9 => ?_)
        obtain ⟨rfl, hm1, hP1⟩ := hp9
        have hV1 : XV sl G I1 K c S t := hV.ix (hm1.nm (fun m hm => act_mut m (past_act m hm)))
        have hA1 : StAt I1 7 S := hA.ix7 (fun m p1 p2 => (hm1.1 m (by omega) (by simp [pastE]; omega)).1)
        refine aw_aload0 h dX0_aim_35 ?_
        refine aw_getr h fl_X0_19 (gx0 hX) dX0_aim_36 rfl (gxp1 hX) ?_
        refine aw_getr h fl_X0_192 (gxt7 hX).1 dX0_aim_39 rfl ((gxt7 hX).2 1 (by decide)).1 ?_
        refine aw_iload1 h dX0_aim_42 ?_
        refine aw_ialdV h ((gxt7 hX).2 1 (by decide)).2 (by decide) (by omega) dX0_aim_43 ((hA1.2.1 a ha).2.1) ?_
        refine aw_istore3 h rfl dX0_aim_44 ?_
        refine aw_aload0 h dX0_aim_45 ?_
        refine aw_getr h fl_X0_19 (gx0 hX) dX0_aim_46 rfl (gxp1 hX) ?_
        refine aw_getr h fl_X0_192 (gxt7 hX).1 dX0_aim_49 rfl ((gxt7 hX).2 1 (by decide)).1 ?_
        refine aw_iload1 h dX0_aim_52 ?_
        refine aw_iload2 h dX0_aim_53 ?_
        refine aw_iastN h ((gxt7 hX).2 1 (by decide)).2 (by decide) (by omega) dX0_aim_54 ?_
        refine aw_iload3 h dX0_aim_55 ?_
        exact aw_iret h hr dX0_aim_56 (⟨by rw [show aimB S (nI a) r = true from (by unfold aimB; rw [c5, c13, hca, decide_eq_false c26]; rfl), hca]; rfl, rfl, (hm1.mono past_act pastf_act).trans (XM.i (by decide) rfl), by rw [show aimB S (nI a) r = true from (by unfold aimB; rw [c5, c13, hca, decide_eq_false c26]; rfl)]; unfold aimS; rw [hca]; exact hA1.aim hS, by rw [show aimB S (nI a) r = true from (by unfold aimB; rw [c5, c13, hca, decide_eq_false c26]; rfl)]; exact hP1.i (by decide) (by decide)⟩) (Nat.zero_le _) (Nat.zero_le _)
      · refine aw_iconst h _ ci_m1 dX0_aim_29 ?_
        exact aw_iret h hr dX0_aim_30 (⟨by rw [show aimB S (nI a) r = false from (by unfold aimB; rw [c5, c13, hca, decide_eq_true c26]; rfl)]; rfl, rfl, XM.rf, by rw [show aimB S (nI a) r = false from (by unfold aimB; rw [c5, c13, hca, decide_eq_true c26]; rfl)]; exact hA, by rw [show aimB S (nI a) r = false from (by unfold aimB; rw [c5, c13, hca, decide_eq_true c26]; rfl)]; exact hP⟩) (Nat.zero_le _) (Nat.zero_le _)
theorem met_x_canPass {w : Wd} {G : Gm} {I : Im} {L : Lm} (hX : XG G) {sl : Nat → Prop} {K : CS} {c : Nat} {S : Nat → Int32} {t : Nat} (hV : XV sl G I K c S t) (hA : StAt I 7 S) {o d i : Int32} : AMet w yX0_canPass cX0_canPass 4 (some .boolean) 6 148 0 0 [.ref (w.1 + 0), .int o, .int d, .int i] G I L (Exact (some (.int (bI (sendB S o d i)))) G I L) := by
  refine AMet.of (ls0 := [some (.ref (w.1 + 0)), some (.int o), some (.int d), some (.int i)]) rfl (Nat.le_of_ble_eq_true rfl) rfl (fun q hq => hq) (fun X h hl hr hi => ?_)
  obtain ⟨hC0, hS, hcs, ht, ht2, hdj⟩ := id hV
  have hC := hC0
  obtain ⟨hc0, ⟨pl, pa, dl, da, fa, ps, ds, hK, hsp⟩, hok, hsl⟩ := id hC
  obtain ⟨cp, hLp⟩ := hK.2.2.2.2.2.1
  obtain ⟨cd, hLd⟩ := hK.2.2.2.2.2.2.1
  have hpl := hK.2.2.2.2.2.2.2.1
  have hdl := hK.2.2.2.2.2.2.2.2.1
  have hdk := hK.2.2.2.2.2.2.2.2.2.2.1
  have hpk := hK.2.2.2.2.2.2.2.2.2.1
  have hrm := hK.2.2.2.2.2.2.2.2.2.2.2.1
  have hfr := hK.2.2.2.2.2.2.2.2.2.2.2.2.2
  have hR8 := hok.2.1
  have hD14 := hok.2.2.1
  have hP4 := hok.2.2.2.1
  have hdo := hok.2.2.2.2.1
  have hpo := hok.2.2.2.2.2.1
  have hf9 := hok.2.2.2.2.2.2.2
  have hn := cas_n hcs hok
  refine aw_aload0 h dX0_canPass_0 ?_
  refine aw_iload1 h dX0_canPass_1 ?_
  refine aw_callVE1 h hl cl_X0_216 (met_x_isPerson hX hC) (gx0 hX) rfl dX0_canPass_2 (Nat.le_of_ble_eq_true rfl) rfl (Nat.zero_le _) (Nat.zero_le _) ?_
  rw [← hn.2.2]
  refine aw_if_eqB h (tgt := 54) dX0_canPass_5 (by decide) (fun c5 => ?_) (fun c5 => ?_)
  · refine aw_iconst h _ ci_0 dX0_canPass_54 ?_
    exact aw_zret h hr dX0_canPass_55 (by first | exact z01_0 | exact z01_1 | exact z01_b _) (ExB0 (by unfold sendB; rw [c5]; rfl)) (Nat.zero_le _) (Nat.zero_le _)
  · refine aw_aload0 h dX0_canPass_8 ?_
    refine aw_iload2 h dX0_canPass_9 ?_
    refine aw_callVE1 h hl cl_X0_257 (met_x_isDoor hX hC) (gx0 hX) rfl dX0_canPass_10 (Nat.le_of_ble_eq_true rfl) rfl (Nat.zero_le _) (Nat.zero_le _) ?_
    rw [← hn.2.1]
    refine aw_if_eqB h (tgt := 54) dX0_canPass_13 (by decide) (fun c13 => ?_) (fun c13 => ?_)
    · refine aw_iconst h _ ci_0 dX0_canPass_54 ?_
      exact aw_zret h hr dX0_canPass_55 (by first | exact z01_0 | exact z01_1 | exact z01_b _) (ExB0 (by unfold sendB; rw [c5, c13]; rfl)) (Nat.zero_le _) (Nat.zero_le _)
    · obtain ⟨a, ha, rfl⟩ := of_rng c5 (by have := iv2b hS; omega)
      obtain ⟨b, hb, rfl⟩ := of_rng c13 (by have := iv1b hS; omega)
      have hb2 : b < (kD K).length := by omega
      have hoa : (nI a).toNatClampNeg = a := nI_clamp (by have := iv2b hS; omega)
      have hdb : (nI b).toNatClampNeg = b := nI_clamp (by have := iv1b hS; omega)
      have hiv := ivp hS ha
      have hx := cas_d hcs hok hb2
      have hlt := inK_lt hok hb2
      have h4 := iv2b hS
      have hop := cas_op hcs hok ht ht2 hb2
      have hra := (hA.2.1 a ha).1.trans hiv.1
      refine aw_aload0 h dX0_canPass_16 ?_
      refine aw_getr h fl_X0_12 (gx0 hX) dX0_canPass_17 rfl hc0 ?_
      refine aw_iload2 h dX0_canPass_20 ?_
      refine aw_aload0 h dX0_canPass_21 ?_
      refine aw_getr h fl_X0_19 (gx0 hX) dX0_canPass_22 rfl (gxp1 hX) ?_
      refine aw_getiV h fl_X0_195 (gxt7 hX).1 dX0_canPass_25 rfl (hA.1.trans ht) ?_
      refine aw_callVE2 h hl cl_X0_175 (met_x_isOpen hK hok hb2 ht2) hK.1 rfl dX0_canPass_28 (Nat.le_of_ble_eq_true rfl) rfl (Nat.zero_le _) (Nat.zero_le _) ?_
      refine aw_if_eqB h (tgt := 54) dX0_canPass_31 (by decide) (fun c31 => ?_) (fun c31 => ?_)
      · refine aw_iconst h _ ci_0 dX0_canPass_54 ?_
        exact aw_zret h hr dX0_canPass_55 (by first | exact z01_0 | exact z01_1 | exact z01_b _) (ExB0 (by unfold sendB; rw [hoa, hdb, c5, c13, hop, c31]; rfl)) (Nat.zero_le _) (Nat.zero_le _)
      · refine aw_aload0 h dX0_canPass_34 ?_
        refine aw_getr h fl_X0_19 (gx0 hX) dX0_canPass_35 rfl (gxp1 hX) ?_
        refine aw_getr h fl_X0_202 (gxt7 hX).1 dX0_canPass_38 rfl ((gxt7 hX).2 0 (by decide)).1 ?_
        refine aw_iload1 h dX0_canPass_41 ?_
        refine aw_ialdV h ((gxt7 hX).2 0 (by decide)).2 (by decide) (by omega) dX0_canPass_42 (hra) ?_
        refine aw_aload0 h dX0_canPass_43 ?_
        refine aw_getr h fl_X0_12 (gx0 hX) dX0_canPass_44 rfl hc0 ?_
        refine aw_iload2 h dX0_canPass_47 ?_
        refine aw_callVE1 h hl cl_X0_179 (met_x_inner hK hok hb2) hK.1 rfl dX0_canPass_48 (Nat.le_of_ble_eq_true rfl) rfl (Nat.zero_le _) (Nat.zero_le _) ?_
        refine aw_icmp_eqN h (tgt := 56) (by omega) (by omega) dX0_canPass_51 (by decide) (fun c51 => ?_) (fun c51 => ?_)
        · refine aw_iload3 h dX0_canPass_56 ?_
          refine aw_iconst h _ ci_m1 dX0_canPass_57 ?_
          refine aw_icmp_eq h (tgt := 89) dX0_canPass_58 (by decide) (fun c58 => ?_) (fun c58 => ?_)
          · refine aw_iconst h _ ci_1 dX0_canPass_89 ?_
            refine aw_goto h (tgt := 94) dX0_canPass_90 (by decide) ?_
            exact aw_zret h hr dX0_canPass_94 (by first | exact z01_0 | exact z01_1 | exact z01_b _) (ExB1 (by unfold sendB; rw [hoa, hdb, c5, c13, hop, c31, hx.1, decide_eq_true c51, decide_eq_true c58]; rfl)) (Nat.zero_le _) (Nat.zero_le _)
          · refine aw_aload0 h dX0_canPass_61 ?_
            refine aw_iload3 h dX0_canPass_62 ?_
            refine aw_callVE1 h hl cl_X0_216 (met_x_isPerson hX hC) (gx0 hX) rfl dX0_canPass_63 (Nat.le_of_ble_eq_true rfl) rfl (Nat.zero_le _) (Nat.zero_le _) ?_
            rw [← hn.2.2]
            refine aw_if_eqB h (tgt := 93) dX0_canPass_66 (by decide) (fun c66 => ?_) (fun c66 => ?_)
            · refine aw_iconst h _ ci_0 dX0_canPass_93 ?_
              exact aw_zret h hr dX0_canPass_94 (by first | exact z01_0 | exact z01_1 | exact z01_b _) (ExB0 (by unfold sendB; rw [hoa, hdb, c5, c13, hop, c31, hx.1, decide_eq_true c51, decide_eq_false c58, c66]; rfl)) (Nat.zero_le _) (Nat.zero_le _)
            · obtain ⟨q, hq, rfl⟩ := of_rng c66 (by have := iv2b hS; omega)
              have hiq := ivp hS hq
              have hqc : (nI q).toNatClampNeg = q := nI_clamp (by omega)
              have hqa : ¬ q = a ∨ rm S q ≠ ouK K b := by
                by_cases e : q = a
                · subst e; exact Or.inr (by omega)
                · exact Or.inl e
              refine aw_aload0 h dX0_canPass_69 ?_
              refine aw_getr h fl_X0_19 (gx0 hX) dX0_canPass_70 rfl (gxp1 hX) ?_
              refine aw_getr h fl_X0_202 (gxt7 hX).1 dX0_canPass_73 rfl ((gxt7 hX).2 0 (by decide)).1 ?_
              refine aw_iload3 h dX0_canPass_76 ?_
              refine aw_ialdV h ((gxt7 hX).2 0 (by decide)).2 (by decide) (by omega) dX0_canPass_77 ((hA.2.1 q hq).1.trans hiq.1) ?_
              refine aw_aload0 h dX0_canPass_78 ?_
              refine aw_getr h fl_X0_12 (gx0 hX) dX0_canPass_79 rfl hc0 ?_
              refine aw_iload2 h dX0_canPass_82 ?_
              refine aw_callVE1 h hl cl_X0_183 (met_x_outer hK hok hb2) hK.1 rfl dX0_canPass_83 (Nat.le_of_ble_eq_true rfl) rfl (Nat.zero_le _) (Nat.zero_le _) ?_
              refine aw_icmp_neN h (tgt := 93) (by omega) (by omega) dX0_canPass_86 (by decide) (fun c86 => ?_) (fun c86 => ?_)
              · refine aw_iconst h _ ci_0 dX0_canPass_93 ?_
                exact aw_zret h hr dX0_canPass_94 (by first | exact z01_0 | exact z01_1 | exact z01_b _) (ExB0 (by unfold sendB; rw [hoa, hdb, hqc, c5, c13, hop, c31, hx.1, hx.2.1, decide_eq_true c51, c66, decide_eq_false c58, decide_eq_false c86]; simp)) (Nat.zero_le _) (Nat.zero_le _)
              · refine aw_iconst h _ ci_1 dX0_canPass_89 ?_
                refine aw_goto h (tgt := 94) dX0_canPass_90 (by decide) ?_
                exact aw_zret h hr dX0_canPass_94 (by first | exact z01_0 | exact z01_1 | exact z01_b _) (ExB1 (by unfold sendB; rw [hoa, hdb, hqc, c5, c13, hop, c31, hx.1, hx.2.1, decide_eq_true c51, c66, decide_eq_false c58, decide_eq_true c86, decide_eq_false (fun z => (hqa.resolve_right (fun y => y c86)) ((nI_eq (by omega) (by omega)).mp z))]; rfl)) (Nat.zero_le _) (Nat.zero_le _)
        · refine aw_iconst h _ ci_0 dX0_canPass_54 ?_
          exact aw_zret h hr dX0_canPass_55 (by first | exact z01_0 | exact z01_1 | exact z01_b _) (ExB0 (by unfold sendB; rw [hoa, hdb, c5, c13, hop, c31, hx.1, decide_eq_false c51]; rfl)) (Nat.zero_le _) (Nat.zero_le _)
theorem send_of {S : Nat → Int32} {o d i : Int32} (hS : InvS S) (h : sendB S o d i = true) : ∃ a b, a < np S ∧ b < nd S ∧ o = nI a ∧ d = nI b ∧ (i = -1 ∨ ∃ q, q < np S ∧ i = nI q ∧ q ≠ a) := by
  have h2 := iv2b hS
  have h1 := iv1b hS
  unfold sendB at h
  obtain ⟨x1, h⟩ := (Bool.and_eq_true _ _).mp h
  obtain ⟨x2, h⟩ := (Bool.and_eq_true _ _).mp h
  obtain ⟨-, h⟩ := (Bool.and_eq_true _ _).mp h
  obtain ⟨-, h⟩ := (Bool.and_eq_true _ _).mp h
  obtain ⟨a, ha, rfl⟩ := of_rng x1 (by omega)
  obtain ⟨b, hb, rfl⟩ := of_rng x2 (by omega)
  refine ⟨a, b, ha, hb, rfl, rfl, ?_⟩
  rcases Bool.or_eq_true _ _ |>.mp h with h | h
  · exact Or.inl (of_decide_eq_true h)
  · obtain ⟨x3, h⟩ := (Bool.and_eq_true _ _).mp h
    obtain ⟨q, hq, rfl⟩ := of_rng x3 (by omega)
    obtain ⟨x4, -⟩ := (Bool.and_eq_true _ _).mp h
    refine Or.inr ⟨q, hq, rfl, fun e => ?_⟩
    subst e
    simp at x4
theorem met_x_send {w : Wd} {G : Gm} {I : Im} {L : Lm} (hX : XG G) {sl : Nat → Prop} {K : CS} {c : Nat} {S : Nat → Int32} {t : Nat} (hV : XV sl G I K c S t) (hA : StAt I 7 S) {H : List (Nat → Int32)} (hP : PastX I H) {o d i : Int32} : AMet w yX0_send cX0_send 4 (some .boolean) 7 171 0 0 [.ref (w.1 + 0), .int o, .int d, .int i] G I L (Ans (some (.int (bI (sendB S o d i)))) (XO (if sendB S o d i = true then sendS S o d i else S) (if sendB S o d i = true then keepH H S else H) G I L)) := by
  refine AMet.of (ls0 := [some (.ref (w.1 + 0)), some (.int o), some (.int d), some (.int i)]) rfl (Nat.le_of_ble_eq_true rfl) rfl (fun q hq => hq) (fun X h hl hr hi => ?_)
  obtain ⟨hC0, hS, hcs, ht, ht2, hdj⟩ := id hV
  have hC := hC0
  obtain ⟨hc0, ⟨pl, pa, dl, da, fa, ps, ds, hK, hsp⟩, hok, hsl⟩ := id hC
  obtain ⟨cp, hLp⟩ := hK.2.2.2.2.2.1
  obtain ⟨cd, hLd⟩ := hK.2.2.2.2.2.2.1
  have hpl := hK.2.2.2.2.2.2.2.1
  have hdl := hK.2.2.2.2.2.2.2.2.1
  have hdk := hK.2.2.2.2.2.2.2.2.2.2.1
  have hpk := hK.2.2.2.2.2.2.2.2.2.1
  have hrm := hK.2.2.2.2.2.2.2.2.2.2.2.1
  have hfr := hK.2.2.2.2.2.2.2.2.2.2.2.2.2
  have hR8 := hok.2.1
  have hD14 := hok.2.2.1
  have hP4 := hok.2.2.2.1
  have hdo := hok.2.2.2.2.1
  have hpo := hok.2.2.2.2.2.1
  have hf9 := hok.2.2.2.2.2.2.2
  have hn := cas_n hcs hok
  refine aw_aload0 h dX0_send_0 ?_
  refine aw_iload1 h dX0_send_1 ?_
  refine aw_iload2 h dX0_send_2 ?_
  refine aw_iload3 h dX0_send_3 ?_
  refine aw_callVE3 h hl cl_X0_319 (met_x_canPass hX hV hA) (gx0 hX) rfl dX0_send_4 (Nat.le_of_ble_eq_true rfl) rfl (Nat.zero_le _) (Nat.zero_le _) ?_
  refine aw_if_neB h (tgt := 12) dX0_send_7 (by decide) (fun c7 => ?_) (fun c7 => ?_)
  · obtain ⟨a, b, ha, hb, rfl, rfl, hxi⟩ := send_of hS c7
    have hoa : (nI a).toNatClampNeg = a := nI_clamp (by have := iv2b hS; omega)
    have hdb : (nI b).toNatClampNeg = b := nI_clamp (by have := iv1b hS; omega)
    have hb2 : b < (kD K).length := by omega
    have h4 := iv2b hS
    have hx := cas_d hcs hok hb2
    have hlt := inK_lt hok hb2
    rcases hxi with rfl | ⟨q, hq, rfl, hqa⟩
    · refine aw_aload0 h dX0_send_12 ?_
      refine aw_callVN0 h hl cl_X0_312 (met_x_keeps hX hS hA hP) (gx0 hX) rfl dX0_send_13 (Nat.le_of_ble_eq_true rfl) rfl (Nat.zero_le _) (Nat.zero_le _) (fun G1 I1 L1 hp9 => ?_)
      obtain ⟨rfl, hm1, hP1⟩ := hp9
      have hV1 : XV sl G I1 K c S t := hV.ix (hm1.nm (fun m hm => act_mut m (past_act m hm)))
      have hA1 : StAt I1 7 S := hA.ix7 (fun m p1 p2 => (hm1.1 m (by omega) (by simp [pastE]; omega)).1)
      obtain ⟨hc0, ⟨pl, pa, dl, da, fa, ps, ds, hK, hsp⟩, -, -⟩ := id hV1.1
      have hRo := hA1.rows
      refine aw_iload3 h dX0_send_16 ?_
      refine aw_iconst h _ ci_m1 dX0_send_17 ?_
      refine aw_icmp_eq h (tgt := 38) dX0_send_18 (by decide) (fun c18 => ?_) (fun c18 => ?_)
      · refine aw_aload0 h dX0_send_38 ?_
        refine aw_getr h fl_X0_19 (gx0 hX) dX0_send_39 rfl (gxp1 hX) ?_
        refine aw_iload1 h dX0_send_42 ?_
        refine aw_aload0 h dX0_send_43 ?_
        refine aw_getr h fl_X0_12 (gx0 hX) dX0_send_44 rfl hc0 ?_
        refine aw_iload2 h dX0_send_47 ?_
        refine aw_callVE1 h hl cl_X0_183 (met_x_outer hK hok hb2) hK.1 rfl dX0_send_48 (Nat.le_of_ble_eq_true rfl) rfl (Nat.zero_le _) (Nat.zero_le _) ?_
        refine aw_callVD2 h hl cl_X0_289 (met_x_goesOut (gxt7 hX) (p := a) (by omega)) (gxt7 hX).1 rfl dX0_send_51 (Nat.le_of_ble_eq_true rfl) rfl (Nat.zero_le _) (Nat.zero_le _) ?_
        refine aw_iconst h _ ci_1 dX0_send_54 ?_
        exact aw_zret h hr dX0_send_55 (by first | exact z01_0 | exact z01_1 | exact z01_b _) (⟨by rw [c7]; rfl, rfl, (hm1.mono past_act pastf_act).trans ((XM.i (by decide) rfl).trans (XM.i (by decide) rfl)), by rw [if_pos c7]; simp only [sendS, if_true]; rw [hoa, hdb]; exact StR.vec hS (hRo.out ha rfl (by rw [hx.2.1])) hA1.1, by rw [if_pos c7]; exact (hP1.i (by decide) (by decide)).i (by decide) (by decide)⟩) (Nat.zero_le _) (Nat.zero_le _)
      · exact absurd rfl c18
    · refine aw_aload0 h dX0_send_12 ?_
      refine aw_callVN0 h hl cl_X0_312 (met_x_keeps hX hS hA hP) (gx0 hX) rfl dX0_send_13 (Nat.le_of_ble_eq_true rfl) rfl (Nat.zero_le _) (Nat.zero_le _) (fun G1 I1 L1 hp9 => ?_)
      obtain ⟨rfl, hm1, hP1⟩ := hp9
      have hV1 : XV sl G I1 K c S t := hV.ix (hm1.nm (fun m hm => act_mut m (past_act m hm)))
      have hA1 : StAt I1 7 S := hA.ix7 (fun m p1 p2 => (hm1.1 m (by omega) (by simp [pastE]; omega)).1)
      obtain ⟨hc0, ⟨pl, pa, dl, da, fa, ps, ds, hK, hsp⟩, -, -⟩ := id hV1.1
      have hRo := hA1.rows
      refine aw_iload3 h dX0_send_16 ?_
      refine aw_iconst h _ ci_m1 dX0_send_17 ?_
      refine aw_icmp_eq h (tgt := 38) dX0_send_18 (by decide) (fun c18 => ?_) (fun c18 => ?_)
      · exact absurd c18 (ne_m1 (by omega))
      · refine aw_aload0 h dX0_send_21 ?_
        refine aw_getr h fl_X0_19 (gx0 hX) dX0_send_22 rfl (gxp1 hX) ?_
        refine aw_iload3 h dX0_send_25 ?_
        refine aw_aload0 h dX0_send_26 ?_
        refine aw_getr h fl_X0_12 (gx0 hX) dX0_send_27 rfl hc0 ?_
        refine aw_iload2 h dX0_send_30 ?_
        refine aw_callVE1 h hl cl_X0_179 (met_x_inner hK hok hb2) hK.1 rfl dX0_send_31 (Nat.le_of_ble_eq_true rfl) rfl (Nat.zero_le _) (Nat.zero_le _) ?_
        refine aw_iload1 h dX0_send_34 ?_
        refine aw_callVD3 h hl cl_X0_292 (met_x_comesIn (gxt7 hX) (p := q) (o := a) (by omega)) (gxt7 hX).1 rfl dX0_send_35 (Nat.le_of_ble_eq_true rfl) rfl (Nat.zero_le _) (Nat.zero_le _) ?_
        have hV2 : XV sl G (upd2 (upd2 (upd2 I1 (7 + 1 + 0) q (nI (inK K b))) (7 + 1 + 2) q (upd2 I1 (7 + 1 + 0) q (nI (inK K b)) (7 + 1 + 2) q + nI 1)) (7 + 1 + 4) q (nI a)) K c S t := hV1.ix (fun m hm => by rw [upd2_n _ _ _ (fun e => by rw [e] at hm; cases hm), upd2_n _ _ _ (fun e => by rw [e] at hm; cases hm), upd2_n _ _ _ (fun e => by rw [e] at hm; cases hm)])
        obtain ⟨hc0, ⟨pl, pa, dl, da, fa, ps, ds, hK2, hsp⟩, -, -⟩ := id hV2.1
        have hRi := hRo.inn (d := b) (b := nI a) hq rfl (r := nI (inK K b)) (by rw [hx.1])
        refine aw_aload0 h dX0_send_38 ?_
        refine aw_getr h fl_X0_19 (gx0 hX) dX0_send_39 rfl (gxp1 hX) ?_
        refine aw_iload1 h dX0_send_42 ?_
        refine aw_aload0 h dX0_send_43 ?_
        refine aw_getr h fl_X0_12 (gx0 hX) dX0_send_44 rfl hc0 ?_
        refine aw_iload2 h dX0_send_47 ?_
        refine aw_callVE1 h hl cl_X0_183 (met_x_outer hK2 hok hb2) hK.1 rfl dX0_send_48 (Nat.le_of_ble_eq_true rfl) rfl (Nat.zero_le _) (Nat.zero_le _) ?_
        refine aw_callVD2 h hl cl_X0_289 (met_x_goesOut (gxt7 hX) (p := a) (by omega)) (gxt7 hX).1 rfl dX0_send_51 (Nat.le_of_ble_eq_true rfl) rfl (Nat.zero_le _) (Nat.zero_le _) ?_
        refine aw_iconst h _ ci_1 dX0_send_54 ?_
        exact aw_zret h hr dX0_send_55 (by first | exact z01_0 | exact z01_1 | exact z01_b _) (⟨by rw [c7]; rfl, rfl, (hm1.mono past_act pastf_act).trans (((((XM.i (by decide) rfl).trans (XM.i (by decide) rfl)).trans (XM.i (by decide) rfl)).trans (XM.i (by decide) rfl)).trans (XM.i (by decide) rfl)), by rw [if_pos c7]; simp only [sendS]; rw [if_neg (ne_m1 (a := q) (by omega)), hoa, hdb, nI_clamp (n := q) (by omega), vup_comm (Ne.symm hqa)]; exact StR.vec hS (hRi.out ha (vup_n _ _ (Ne.symm hqa)) (by rw [hx.2.1])) hA1.1, by rw [if_pos c7]; exact ((((hP1.i (by decide) (by decide)).i (by decide) (by decide)).i (by decide) (by decide)).i (by decide) (by decide)).i (by decide) (by decide)⟩) (Nat.zero_le _) (Nat.zero_le _)
  · refine aw_iconst h _ ci_0 dX0_send_10 ?_
    exact aw_zret h hr dX0_send_11 (by first | exact z01_0 | exact z01_1 | exact z01_b _) (⟨by rw [c7]; rfl, rfl, XM.rf, by rw [c7]; exact hA, by rw [c7]; exact hP⟩) (Nat.zero_le _) (Nat.zero_le _)
/-- what going on with the kept State changes -/
def gtE (m : Nat) : Bool := (decide (13 ≤ m) && decide (m ≤ 18)) || (decide (26 ≤ m) && decide (m ≤ 31))
def noF (j : Nat) : Bool := false
/-- the kept State went on n moments -/
def GTt (S : Nat → Int32) (G : Gm) (I : Im) (L : Lm) : Gm → Im → Lm → Prop := fun G1 I1 L1 => G = G1 ∧ XM gtE noF I L I1 L1 ∧ StAt I1 13 S
theorem scr_mut (m : Nat) (h : scrE m = true) : MutB m = true := act_mut m (scr_act m h)
theorem gt_scr (m : Nat) (h : gtE m = true) : scrE m = true := by
  unfold gtE at h
  unfold scrE
  simp only [Bool.or_eq_true, Bool.and_eq_true, decide_eq_true_eq] at h ⊢
  omega
theorem no_scr (m : Nat) (h : noF m = true) : scrF m = true := by cases h
theorem gt_mut (m : Nat) (h : gtE m = true) : MutB m = true := scr_mut m (gt_scr m h)
theorem GOt.scr {S : Nat → Int32} {fr : Option (List Cl)} {G G1 : Gm} {I I1 : Im} {L L1 : Lm} (h : GOt S fr 13 G I L G1 I1 L1) : XM gtE noF I L I1 L1 := XM.ix h.2.1 (by decide) (by decide)
theorem XV.it {sl : Nat → Prop} {G : Gm} {I I1 : Im} {K : CS} {c : Nat} {S : Nat → Int32} {t : Nat} (h : XV sl G I K c S t) (he : ∀ m, MutB m = false → I1 m = I m) (fr : Option (List Cl)) (k : Nat) (ht : t + k < 2 ^ 30) : XV sl G I1 K c (itP fr k S) (t + k) := by
  induction k with
  | zero => exact h.ix he
  | succ k ih => exact (ih (by omega)).pass (fun _ _ => rfl) ht fr
theorem met_x_goesTill {w : Wd} {G : Gm} {I : Im} {L : Lm} (hX : XG G) {sl : Nat → Prop} {K : CS} {c : Nat} {S : Nat → Int32} {t : Nat} (hV : XV sl G I K c S t) (hA : StAt I 13 S) {RL : List (List Cl)} {fr : Option (List Cl)} (hRu : XRu sl G I RL) (hFr : XFr I RL fr) {n : Nat} (hn1 : t + n < 2 ^ 30) : AMet w yX0_goesTill cX0_goesTill 3 none 414 12391 0 0 [.ref (w.1 + 0), .int (nI n)] G I L (Ans none (GTt (itP fr n S) G I L)) := by
  refine AMet.of (ls0 := [some (.ref (w.1 + 0)), some (.int (nI n)), none]) rfl (Nat.le_of_ble_eq_true rfl) rfl (fun q hq => hq) (fun X h hl hr hi => ?_)
  obtain ⟨hC0, hS, hcs, ht, ht2, hdj⟩ := id hV
  have hC := hC0
  obtain ⟨hc0, ⟨pl, pa, dl, da, fa, ps, ds, hK, hsp⟩, hok, hsl⟩ := id hC
  obtain ⟨cp, hLp⟩ := hK.2.2.2.2.2.1
  obtain ⟨cd, hLd⟩ := hK.2.2.2.2.2.2.1
  have hpl := hK.2.2.2.2.2.2.2.1
  have hdl := hK.2.2.2.2.2.2.2.2.1
  have hdk := hK.2.2.2.2.2.2.2.2.2.2.1
  have hpk := hK.2.2.2.2.2.2.2.2.2.1
  have hrm := hK.2.2.2.2.2.2.2.2.2.2.2.1
  have hfr := hK.2.2.2.2.2.2.2.2.2.2.2.2.2
  have hR8 := hok.2.1
  have hD14 := hok.2.2.1
  have hP4 := hok.2.2.2.1
  have hdo := hok.2.2.2.2.1
  have hpo := hok.2.2.2.2.2.1
  have hf9 := hok.2.2.2.2.2.2.2
  have hn := cas_n hcs hok
  have key : ∀ (fu k : Nat) (I1 : Im) (L1 : Lm), k ≤ n → n < k + fu → XM gtE noF I L I1 L1 → StAt I1 13 (itP fr k S) → AW X 0 0 2 [some (.ref (w.1 + 0)), some (.int (nI n)), some (.int (nI k))] [] G I1 L1 := by
    intro fu
    induction fu with
    | zero => intro k I1 L1 hle hlt; exact absurd hlt (by omega)
    | succ fu ih =>
      intro k I1 L1 hle hlt hm hA1
      refine aw_iload2 h dX0_goesTill_2 ?_
      refine aw_iload1 h dX0_goesTill_3 ?_
      refine aw_icmp_geN h (tgt := 22) (by omega) (by omega) dX0_goesTill_4 (by decide) (fun c4 => ?_) (fun c4 => ?_)
      · exact aw_vret h hr dX0_goesTill_22 (⟨rfl, rfl, hm, (show k = n by omega) ▸ hA1⟩) (Nat.zero_le _) (Nat.zero_le _)
      · have hVk : XV sl G I1 K c (itP fr k S) (t + k) := hV.it (hm.nm gt_mut) fr k (by omega)
        have hR1 : XRu sl G I1 RL := hRu.ix (hm.nm gt_mut)
        have hF1 : XFr I1 RL fr := hFr.f (hm.2.1 4 rfl)
        refine aw_aload0 h dX0_goesTill_7 ?_
        refine aw_aload0 h dX0_goesTill_8 ?_
        refine aw_getr h fl_X0_23 (gx0 hX) dX0_goesTill_9 rfl (gxp2 hX) ?_
        refine aw_callVA1 h hl cl_X0_315 (met_x_goesOn hX hVk (gxt13 hX) hA1 (Or.inr rfl) hR1 hF1) (gx0 hX) rfl dX0_goesTill_12 (Nat.le_of_ble_eq_true rfl) rfl (Nat.zero_le _) (Nat.zero_le _) (fun G1 I2 L2 hp9 => ?_)
        have hm2 := hp9.scr
        obtain ⟨rfl, -, hA2⟩ := hp9
        refine aw_pop h rfl dX0_goesTill_15 ?_
        refine aw_iincN2 h rfl dX0_goesTill_16 ?_
        refine aw_goto h (tgt := 2) dX0_goesTill_19 (by decide) ?_
        exact ih (k + 1) I2 L2 (by omega) (by omega) (hm.trans hm2) hA2
  refine aw_iconst h _ ci_0 dX0_goesTill_0 ?_
  refine aw_istore2 h rfl dX0_goesTill_1 ?_
  exact key (n + 1) 0 I L (Nat.zero_le _) (by omega) XM.rf hA
/-- a question's end -/
def XQ (G : Gm) (I : Im) (L : Lm) : Gm → Im → Lm → Prop := fun G1 I1 L1 => G = G1 ∧ XM gtE noF I L I1 L1
theorem met_x_ahead {w : Wd} {G : Gm} {I : Im} {L : Lm} (hX : XG G) {sl : Nat → Prop} {K : CS} {c : Nat} {S : Nat → Int32} {t : Nat} (hV : XV sl G I K c S t) (ht9 : t ≤ 999) (hA : StAt I 7 S) {RL : List (List Cl)} {fr : Option (List Cl)} (hRu : XRu sl G I RL) (hFr : XFr I RL fr) {p n : Int32} : AMet w yX0_ahead cX0_ahead 3 (some .int) 415 12413 0 0 [.ref (w.1 + 0), .int p, .int n] G I L (Ans (some (.int (aheadA S fr p n))) (XQ G I L)) := by
  refine AMet.of (ls0 := [some (.ref (w.1 + 0)), some (.int p), some (.int n)]) rfl (Nat.le_of_ble_eq_true rfl) rfl (fun q hq => hq) (fun X h hl hr hi => ?_)
  obtain ⟨hC0, hS, hcs, ht, ht2, hdj⟩ := id hV
  have hC := hC0
  obtain ⟨hc0, ⟨pl, pa, dl, da, fa, ps, ds, hK, hsp⟩, hok, hsl⟩ := id hC
  obtain ⟨cp, hLp⟩ := hK.2.2.2.2.2.1
  obtain ⟨cd, hLd⟩ := hK.2.2.2.2.2.2.1
  have hpl := hK.2.2.2.2.2.2.2.1
  have hdl := hK.2.2.2.2.2.2.2.2.1
  have hdk := hK.2.2.2.2.2.2.2.2.2.2.1
  have hpk := hK.2.2.2.2.2.2.2.2.2.1
  have hrm := hK.2.2.2.2.2.2.2.2.2.2.2.1
  have hfr := hK.2.2.2.2.2.2.2.2.2.2.2.2.2
  have hR8 := hok.2.1
  have hD14 := hok.2.2.1
  have hP4 := hok.2.2.2.1
  have hdo := hok.2.2.2.2.1
  have hpo := hok.2.2.2.2.2.1
  have hf9 := hok.2.2.2.2.2.2.2
  have hn := cas_n hcs hok
  refine aw_aload0 h dX0_ahead_0 ?_
  refine aw_iload1 h dX0_ahead_1 ?_
  refine aw_callVE1 h hl cl_X0_216 (met_x_isPerson hX hC) (gx0 hX) rfl dX0_ahead_2 (Nat.le_of_ble_eq_true rfl) rfl (Nat.zero_le _) (Nat.zero_le _) ?_
  rw [← hn.2.2]
  refine aw_if_eqB h (tgt := 20) dX0_ahead_5 (by decide) (fun c5 => ?_) (fun c5 => ?_)
  · refine aw_iconst h _ ci_m1 dX0_ahead_20 ?_
    exact aw_iret h hr dX0_ahead_21 (⟨by rw [show aheadA S fr p n = -1 from ifno1 c5], rfl, XM.rf⟩) (Nat.zero_le _) (Nat.zero_le _)
  · refine aw_iload2 h dX0_ahead_8 ?_
    refine aw_i2l h dX0_ahead_9 ?_
    refine aw_lconst h _ cl_0 dX0_ahead_10 ?_
    refine aw_ldc2 h (v := lN 100) q1147 dX0_ahead_11 ?_
    refine aw_callSE3 h hl cl_X0_129 (met_x_in) dX0_ahead_14 (Nat.le_of_ble_eq_true rfl) rfl (Nat.zero_le _) (Nat.zero_le _) ?_
    rw [inL_I (by decide) (by decide)]
    refine aw_if_neB h (tgt := 22) dX0_ahead_17 (by decide) (fun c17 => ?_) (fun c17 => ?_)
    · obtain ⟨a, ha, rfl⟩ := of_rng c5 (by have := iv2b hS; omega)
      obtain ⟨j, -, hj, rfl⟩ := inI_of c17 (by decide) (by decide)
      have h4 := iv2b hS
      have hans : aheadA S fr (nI a) (nI j) = pv (itP fr j S) a 0 := ifif c5 c17 (by rw [nI_clamp (n := a) (by have := iv2b hS; omega), nI_clamp (n := j) (by omega)])
      refine aw_aload0 h dX0_ahead_22 ?_
      refine aw_getr h fl_X0_23 (gx0 hX) dX0_ahead_23 rfl (gxp2 hX) ?_
      refine aw_aload0 h dX0_ahead_26 ?_
      refine aw_getr h fl_X0_19 (gx0 hX) dX0_ahead_27 rfl (gxp1 hX) ?_
      refine aw_callVN1 h hl cl_X0_309 (met_x_copyFrom (gxt13 hX) (gxt7 hX) (by omega)) (gxt13 hX).1 rfl dX0_ahead_30 (Nat.le_of_ble_eq_true rfl) rfl (Nat.zero_le _) (Nat.zero_le _) (fun G1 I1 L1 hp9 => ?_)
      have hA1 := hp9.st hS hA
      obtain ⟨rfl, hixc, -, -⟩ := hp9
      have hm1 : XM gtE noF I L I1 L1 := XM.ix hixc (by decide) (by decide)
      have hV1 := hV.ix (hm1.nm gt_mut)
      refine aw_aload0 h dX0_ahead_33 ?_
      refine aw_iload2 h dX0_ahead_34 ?_
      refine aw_callVN1 h hl cl_X0_325 (met_x_goesTill hX hV1 hA1 (hRu.ix (hm1.nm gt_mut)) (hFr.f (hm1.2.1 4 rfl)) (n := j) (by omega)) (gx0 hX) rfl dX0_ahead_35 (Nat.le_of_ble_eq_true rfl) rfl (Nat.zero_le _) (Nat.zero_le _) (fun G1 I2 L2 hp9 => ?_)
      obtain ⟨rfl, hm2, hA2⟩ := hp9
      refine aw_aload0 h dX0_ahead_38 ?_
      refine aw_getr h fl_X0_23 (gx0 hX) dX0_ahead_39 rfl (gxp2 hX) ?_
      refine aw_getr h fl_X0_202 (gxt13 hX).1 dX0_ahead_42 rfl ((gxt13 hX).2 0 (by decide)).1 ?_
      refine aw_iload1 h dX0_ahead_45 ?_
      refine aw_ialdV h ((gxt13 hX).2 0 (by decide)).2 (by decide) (by omega) dX0_ahead_46 ((hA2.2.1 a (by rw [it_np]; exact ha)).1) ?_
      exact aw_iret h hr dX0_ahead_47 (⟨by rw [hans], rfl, hm1.trans hm2⟩) (Nat.zero_le _) (Nat.zero_le _)
    · refine aw_iconst h _ ci_m1 dX0_ahead_20 ?_
      exact aw_iret h hr dX0_ahead_21 (⟨by rw [show aheadA S fr p n = -1 from ifno2 c17], rfl, XM.rf⟩) (Nat.zero_le _) (Nat.zero_le _)
theorem met_x_comes {w : Wd} {G : Gm} {I : Im} {L : Lm} (hX : XG G) {sl : Nat → Prop} {K : CS} {c : Nat} {S : Nat → Int32} {t : Nat} (hV : XV sl G I K c S t) (ht9 : t ≤ 999) (hA : StAt I 7 S) {RL : List (List Cl)} {fr : Option (List Cl)} (hRu : XRu sl G I RL) (hFr : XFr I RL fr) {p : Int32} : AMet w yX0_comes cX0_comes 3 (some .int) 414 12391 0 0 [.ref (w.1 + 0), .int p] G I L (Ans (some (.int (comesA S fr p))) (XQ G I L)) := by
  refine AMet.of (ls0 := [some (.ref (w.1 + 0)), some (.int p), none]) rfl (Nat.le_of_ble_eq_true rfl) rfl (fun q hq => hq) (fun X h hl hr hi => ?_)
  obtain ⟨hC0, hS, hcs, ht, ht2, hdj⟩ := id hV
  have hC := hC0
  obtain ⟨hc0, ⟨pl, pa, dl, da, fa, ps, ds, hK, hsp⟩, hok, hsl⟩ := id hC
  obtain ⟨cp, hLp⟩ := hK.2.2.2.2.2.1
  obtain ⟨cd, hLd⟩ := hK.2.2.2.2.2.2.1
  have hpl := hK.2.2.2.2.2.2.2.1
  have hdl := hK.2.2.2.2.2.2.2.2.1
  have hdk := hK.2.2.2.2.2.2.2.2.2.2.1
  have hpk := hK.2.2.2.2.2.2.2.2.2.1
  have hrm := hK.2.2.2.2.2.2.2.2.2.2.2.1
  have hfr := hK.2.2.2.2.2.2.2.2.2.2.2.2.2
  have hR8 := hok.2.1
  have hD14 := hok.2.2.1
  have hP4 := hok.2.2.2.1
  have hdo := hok.2.2.2.2.1
  have hpo := hok.2.2.2.2.2.1
  have hf9 := hok.2.2.2.2.2.2.2
  have hn := cas_n hcs hok
  refine aw_aload0 h dX0_comes_0 ?_
  refine aw_iload1 h dX0_comes_1 ?_
  refine aw_callVE1 h hl cl_X0_216 (met_x_isPerson hX hC) (gx0 hX) rfl dX0_comes_2 (Nat.le_of_ble_eq_true rfl) rfl (Nat.zero_le _) (Nat.zero_le _) ?_
  rw [← hn.2.2]
  refine aw_if_neB h (tgt := 10) dX0_comes_5 (by decide) (fun c5 => ?_) (fun c5 => ?_)
  · obtain ⟨a, ha, rfl⟩ := of_rng c5 (by have := iv2b hS; omega)
    have h4 := iv2b hS
    have hca : (nI a).toNatClampNeg = a := nI_clamp (by have := iv2b hS; omega)
    have hfound : ∀ k, k < 201 → (∀ j, j < k → decide (pv (itP fr j S) a 0 = pv (itP fr j S) a 1) = false) → decide (pv (itP fr k S) a 0 = pv (itP fr k S) a 1) = true → itP fr k S 3 = comesA S fr (nI a) := by
      intro k hk h1 h2
      have h3 := fI_at (p := fun k => decide (pv (itP fr k S) a 0 = pv (itP fr k S) a 1)) h1 hk h2
      have h4 := firstT_of (p := fun k => decide (pv (itP fr k S) a 0 = pv (itP fr k S) a 1)) hk h2
      unfold comesA
      rw [if_pos c5, hca]
      have h5 : comeK S fr a = k := by
        unfold comeK
        unfold fI at h3
        rw [if_pos (by omega)] at h3
        exact (nI_eq (by omega) (by omega)).mp h3
      rw [h5, if_pos hk]
    have hnone : (∀ j, j < 201 → decide (pv (itP fr j S) a 0 = pv (itP fr j S) a 1) = false) → (-2 : Int32) = comesA S fr (nI a) := by
      intro h1
      unfold comesA
      rw [if_pos c5, hca, if_neg]
      intro h2
      have h3 := (firstT_spec (fun k => decide (pv (itP fr k S) a 0 = pv (itP fr k S) a 1)) 201).1 h2
      have h9 := h1 _ h2
      unfold comeK at h9
      rw [h9] at h3
      cases h3
    have key : ∀ (fu k : Nat) (I1 : Im) (L1 : Lm), k ≤ 201 → 201 < k + fu → XM gtE noF I L I1 L1 → StAt I1 13 (itP fr k S) → (∀ j, j < k → decide (pv (itP fr j S) a 0 = pv (itP fr j S) a 1) = false) → AW X 0 0 23 [some (.ref (w.1 + 0)), some (.int (nI a)), some (.int (nI k))] [] G I1 L1 := by
      intro fu
      induction fu with
      | zero => intro k I1 L1 hle hlt; exact absurd hlt (by omega)
      | succ fu ih =>
        intro k I1 L1 hle hlt hm hA1 hno
        have hVk : XV sl G I1 K c (itP fr k S) (t + k) := hV.it (hm.nm gt_mut) fr k (by omega)
        have hR1 : XRu sl G I1 RL := hRu.ix (hm.nm gt_mut)
        have hF1 : XFr I1 RL fr := hFr.f (hm.2.1 4 rfl)
        have hia := ivp hV.2.1 ha
        refine aw_iload2 h dX0_comes_23 ?_
        refine aw_sipush h _ cs_200 dX0_comes_24 ?_
        refine aw_icmp_gtN h (tgt := 74) (by omega) (by decide) dX0_comes_27 (by decide) (fun c27 => ?_) (fun c27 => ?_)
        · refine aw_bipush h _ cb_m2 dX0_comes_74 ?_
          exact aw_iret h hr dX0_comes_76 (⟨by rw [hnone (fun j hj => hno j (by omega))], rfl, hm⟩) (Nat.zero_le _) (Nat.zero_le _)
        · refine aw_aload0 h dX0_comes_30 ?_
          refine aw_getr h fl_X0_23 (gx0 hX) dX0_comes_31 rfl (gxp2 hX) ?_
          refine aw_getr h fl_X0_202 (gxt13 hX).1 dX0_comes_34 rfl ((gxt13 hX).2 0 (by decide)).1 ?_
          refine aw_iload1 h dX0_comes_37 ?_
          refine aw_ialdV h ((gxt13 hX).2 0 (by decide)).2 (by decide) (by omega) dX0_comes_38 ((hA1.2.1 a (by rw [it_np]; exact ha)).1) ?_
          refine aw_aload0 h dX0_comes_39 ?_
          refine aw_getr h fl_X0_23 (gx0 hX) dX0_comes_40 rfl (gxp2 hX) ?_
          refine aw_getr h fl_X0_192 (gxt13 hX).1 dX0_comes_43 rfl ((gxt13 hX).2 1 (by decide)).1 ?_
          refine aw_iload1 h dX0_comes_46 ?_
          refine aw_ialdV h ((gxt13 hX).2 1 (by decide)).2 (by decide) (by omega) dX0_comes_47 ((hA1.2.1 a (by rw [it_np]; exact ha)).2.1) ?_
          refine aw_icmp_ne h (tgt := 59) dX0_comes_48 (by decide) (fun c48 => ?_) (fun c48 => ?_)
          · refine aw_aload0 h dX0_comes_59 ?_
            refine aw_aload0 h dX0_comes_60 ?_
            refine aw_getr h fl_X0_23 (gx0 hX) dX0_comes_61 rfl (gxp2 hX) ?_
            refine aw_callVA1 h hl cl_X0_315 (met_x_goesOn hX hVk (gxt13 hX) hA1 (Or.inr rfl) hR1 hF1) (gx0 hX) rfl dX0_comes_64 (Nat.le_of_ble_eq_true rfl) rfl (Nat.zero_le _) (Nat.zero_le _) (fun G1 I2 L2 hp9 => ?_)
            have hm2 := hp9.scr
            obtain ⟨rfl, -, hA2⟩ := hp9
            refine aw_pop h rfl dX0_comes_67 ?_
            refine aw_iincN2 h rfl dX0_comes_68 ?_
            refine aw_goto h (tgt := 23) dX0_comes_71 (by decide) ?_
            refine ih (k + 1) I2 L2 (by omega) (by omega) (hm.trans hm2) hA2 (fun j hj => ?_)
            by_cases e : j = k
            · subst e; exact decide_eq_false c48
            · exact hno j (by omega)
          · refine aw_aload0 h dX0_comes_51 ?_
            refine aw_getr h fl_X0_23 (gx0 hX) dX0_comes_52 rfl (gxp2 hX) ?_
            refine aw_getiV h fl_X0_195 (gxt13 hX).1 dX0_comes_55 rfl (hA1.1) ?_
            exact aw_iret h hr dX0_comes_58 (⟨by rw [hfound k (by omega) hno (decide_eq_true c48)], rfl, hm⟩) (Nat.zero_le _) (Nat.zero_le _)
    refine aw_aload0 h dX0_comes_10 ?_
    refine aw_getr h fl_X0_23 (gx0 hX) dX0_comes_11 rfl (gxp2 hX) ?_
    refine aw_aload0 h dX0_comes_14 ?_
    refine aw_getr h fl_X0_19 (gx0 hX) dX0_comes_15 rfl (gxp1 hX) ?_
    refine aw_callVN1 h hl cl_X0_309 (met_x_copyFrom (gxt13 hX) (gxt7 hX) (by omega)) (gxt13 hX).1 rfl dX0_comes_18 (Nat.le_of_ble_eq_true rfl) rfl (Nat.zero_le _) (Nat.zero_le _) (fun G1 I1 L1 hp9 => ?_)
    have hA1 := hp9.st hS hA
    obtain ⟨rfl, hixc, -, -⟩ := hp9
    have hm1 : XM gtE noF I L I1 L1 := XM.ix hixc (by decide) (by decide)
    have hV1 := hV.ix (hm1.nm gt_mut)
    refine aw_iconst h _ ci_0 dX0_comes_21 ?_
    refine aw_istore2 h rfl dX0_comes_22 ?_
    exact key 202 0 I1 L1 (Nat.zero_le _) (by omega) hm1 hA1 (fun j hj => absurd hj (Nat.not_lt_zero _))
  · refine aw_iconst h _ ci_m1 dX0_comes_8 ?_
    exact aw_iret h hr dX0_comes_9 (⟨by rw [show comesA S fr p = -1 from ifno1 c5], rfl, XM.rf⟩) (Nat.zero_le _) (Nat.zero_le _)
