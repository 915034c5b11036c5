/-! The component: draws, days -/
set_option maxRecDepth 100000
def f12 (j : Nat) : Bool := j == 12
theorem met_x_draws {w : Wd} {G : Gm} {I : Im} {L : Lm} (hX : XG G) {z n : Nat} (hz : I 0 12 = nI z) (hz2 : z < 2 ^ 31) (hn : n < 2 ^ 31) (hn0 : n ≠ 0) : AMet w yX0_draws cX0_draws 2 (some .int) 1 40 0 0 [.ref (w.1 + 0), .int (nI n)] G I L (Exact (some (.int (nI (drN z / 65536 % n)))) G (upd2 I 0 12 (nI (drN z))) L) := by
  refine AMet.of (ls0 := [some (.ref (w.1 + 0)), some (.int (nI n))]) rfl (Nat.le_of_ble_eq_true rfl) rfl (fun q hq => hq) (fun X h hl hr hi => ?_)
  have hdl := drN_lt z
  have hm : drN z / 65536 % n < n := mod_lt_n hn0
  refine aw_aload0 h dX0_draws_0 ?_
  refine aw_aload0 h dX0_draws_1 ?_
  refine aw_getiV h fl_X0_390 (gx0 hX) dX0_draws_2 rfl (hz) ?_
  refine aw_i2lN h (hz2) dX0_draws_5 ?_
  refine aw_ldc2 h (v := lN 1103515245) q1282 dX0_draws_6 ?_
  refine aw_lmul h dX0_draws_9 ?_
  rw [lN_mul]
  refine aw_ldc2 h (v := lN 12345) q1283 dX0_draws_10 ?_
  refine aw_ladd h dX0_draws_13 ?_
  rw [lN_add]
  refine aw_ldc2 h (v := lN 2147483648) q1284 dX0_draws_14 ?_
  refine aw_lrem h (by decide) dX0_draws_17 ?_
  rw [pk_lRem (by omega) (by decide) (by decide)]
  refine aw_l2i h dX0_draws_18 ?_
  rw [lN_i, show (z * 1103515245 + 12345) % 2147483648 = drN z from rfl]
  refine aw_puti h fl_X0_390 ft_X0_390 (fun z => by cases z) (gx0 hX) dX0_draws_19 rfl ?_
  refine aw_aload0 h dX0_draws_22 ?_
  refine aw_getiV h fl_X0_390 (gx0 hX) dX0_draws_23 rfl ((show upd2 I 0 12 (nI (drN z)) 0 12 = nI (drN z) from rfl)) ?_
  refine aw_ldc_w h (v := nI 65536) q1285 dX0_draws_26 ?_
  refine aw_idivN h (by omega) (by omega) (by omega) dX0_draws_29 ?_
  refine aw_iload1 h dX0_draws_30 ?_
  refine aw_iremN h (by omega) (by omega) (by omega) dX0_draws_31 ?_
  exact aw_iret h hr dX0_draws_32 (⟨rfl, rfl, rfl, rfl⟩) (Nat.zero_le _) (Nat.zero_le _)
/-- a goal is drawn -/
def ADx (S : Nat → Int32) (z : Nat) (G : Gm) (I : Im) (L : Lm) : Gm → Im → Lm → Prop := fun G1 I1 L1 => G = G1 ∧ XM gtE f12 I L I1 L1 ∧ StAt I1 13 (aimD (S, z)).1 ∧ I1 0 12 = nI (aimD (S, z)).2
theorem XV.aim {sl : Nat → Prop} {G : Gm} {I I1 : Im} {K : CS} {c : Nat} {S : Nat → Int32} {t : Nat} (h : XV sl G I K c S t) (he : ∀ m, MutB m = false → I1 m = I m) (z : Nat) : XV sl G I1 K c (aimD (S, z)).1 t := by
  obtain ⟨h1, h2, h3, h4, h5, h6⟩ := h
  have ho := aimD_ok (a := (S, z)) h2
  have hok := h1.2.2.1
  have hn := cas_n h3 hok
  refine ⟨h1.ix he, ho.1, h3.of hok (fun i hi => ho.2 i (by omega)) (fun p hp => ?_), (ho.2 3 (by omega)).trans h4, h5, h6⟩
  unfold aimD
  split
  · rfl
  · exact vup_n _ _ (by omega)
theorem XV.dit {sl : Nat → Prop} {G : Gm} {I I1 : Im} {K : CS} {c : Nat} {S : Nat → Int32} {t : Nat} (h : XV sl G I K c S t) (he : ∀ m, MutB m = false → I1 m = I m) (fr : Option (List Cl)) (z k : Nat) (ht : t + k < 2 ^ 30) : XV sl G I1 K c (dit fr k (S, z)).1 (t + k) := by
  induction k with
  | zero => exact h.ix he
  | succ k ih => exact ((ih (by omega)).aim (fun _ _ => rfl) _).pass (fun _ _ => rfl) ht fr
theorem dayT_z (fr : Option (List Cl)) (S : Nat → Int32) (n c c2 z y : Nat) : (dayT fr S n c z y).2 = (dayT fr S n c2 z y).2 := by
  induction y with
  | zero => rfl
  | succ y ih => show (dit fr n (S, (dayT fr S n c z y).2)).2 = _; rw [ih]; rfl
theorem met_x_drawsAim {w : Wd} {G : Gm} {I : Im} {L : Lm} (hX : XG G) {sl : Nat → Prop} {K : CS} {c : Nat} {S : Nat → Int32} {t : Nat} (hV : XV sl G I K c S t) (hA : StAt I 13 S) {z : Nat} (hz : I 0 12 = nI z) (hz2 : z < 2 ^ 31) : AMet w yX0_drawsAim cX0_drawsAim 2 none 3 80 0 0 [.ref (w.1 + 0)] G I L (Ans none (ADx S z G I L)) := by
  refine AMet.of (ls0 := [some (.ref (w.1 + 0)), none]) rfl (Nat.le_of_ble_eq_true rfl) rfl (fun q hq => hq) (fun X h hl hr hi => ?_)
  obtain ⟨hC0, hS, hcs, ht, ht2, hdj⟩ := id hV
  have hC := hC0
  obtain ⟨hc0, ⟨pl, pa, dl, da, fa, ps, ds, hK, hsp⟩, hok, hsl⟩ := id hC
  obtain ⟨cp, hLp⟩ := hK.2.2.2.2.2.1
  obtain ⟨cd, hLd⟩ := hK.2.2.2.2.2.2.1
  have hpl := hK.2.2.2.2.2.2.2.1
  have hdl := hK.2.2.2.2.2.2.2.2.1
  have hdk := hK.2.2.2.2.2.2.2.2.2.2.1
  have hpk := hK.2.2.2.2.2.2.2.2.2.1
  have hrm := hK.2.2.2.2.2.2.2.2.2.2.2.1
  have hfr := hK.2.2.2.2.2.2.2.2.2.2.2.2.2
  have hR8 := hok.2.1
  have hD14 := hok.2.2.1
  have hP4 := hok.2.2.2.1
  have hdo := hok.2.2.2.2.1
  have hpo := hok.2.2.2.2.2.1
  have hf9 := hok.2.2.2.2.2.2.2
  have hn := cas_n hcs hok
  have b0 := iv0b hS
  have b2 := iv2b hS
  have hc0n : c ≠ 0 := fun e => by have := (hC.2.2.2 c (hsp c (by simp [KC]))); rw [e] at this; cases this
  refine aw_aload0 h dX0_drawsAim_0 ?_
  refine aw_getr h fl_X0_12 (gx0 hX) dX0_drawsAim_1 rfl hc0 ?_
  refine aw_callVE0 h hl cl_X0_125 (met_x_many hK hok) hK.1 rfl dX0_drawsAim_4 (Nat.le_of_ble_eq_true rfl) rfl (Nat.zero_le _) (Nat.zero_le _) ?_
  rw [← hn.2.2]
  refine aw_if_neN h (tgt := 11) (by omega) dX0_drawsAim_7 (by decide) (fun c7 => ?_) (fun c7 => ?_)
  · have hn0 : np S ≠ 0 := c7
    have hpl := mod_lt_n (a := drN z / 65536) hn0
    have h0 := (ivp hS hpl).2.1
    have e1 : aimD (S, z) = (va_up S (10 + 6 * (drN z / 65536 % np S) + 1) (nI (drN (drN z) / 65536 % nr S)), drN (drN z)) := if_neg hn0
    refine aw_aload0 h dX0_drawsAim_11 ?_
    refine aw_aload0 h dX0_drawsAim_12 ?_
    refine aw_getr h fl_X0_12 (gx0 hX) dX0_drawsAim_13 rfl hc0 ?_
    refine aw_callVE0 h hl cl_X0_125 (met_x_many hK hok) hK.1 rfl dX0_drawsAim_16 (Nat.le_of_ble_eq_true rfl) rfl (Nat.zero_le _) (Nat.zero_le _) ?_
    rw [← hn.2.2]
    refine aw_callVE1 h hl cl_X0_400 (met_x_draws hX hz hz2 (n := np S) (by omega) hn0) (gx0 hX) rfl dX0_drawsAim_19 (Nat.le_of_ble_eq_true rfl) rfl (Nat.zero_le _) (Nat.zero_le _) ?_
    refine aw_istore1 h rfl dX0_drawsAim_22 ?_
    refine aw_aload0 h dX0_drawsAim_23 ?_
    refine aw_getr h fl_X0_23 (gx0 hX) dX0_drawsAim_24 rfl (gxp2 hX) ?_
    refine aw_getr h fl_X0_192 (gxt13 hX).1 dX0_drawsAim_27 rfl ((gxt13 hX).2 1 (by decide)).1 ?_
    refine aw_iload1 h dX0_drawsAim_30 ?_
    refine aw_aload0 h dX0_drawsAim_31 ?_
    refine aw_aload0 h dX0_drawsAim_32 ?_
    refine aw_getr h fl_X0_12 (gx0 hX) dX0_drawsAim_33 rfl hc0 ?_
    refine aw_getiV h fl_X0_123 hK.1 dX0_drawsAim_36 rfl (((upd2_n I 12 (nI (drN z)) hc0n ▸ hrm : upd2 I 0 12 (nI (drN z)) c 3 = nI (kR K)).trans (congrArg nI hn.1.symm))) ?_
    refine aw_callVE1 h hl cl_X0_400 (met_x_draws hX (z := drN z) (n := nr S) (show upd2 I 0 12 (nI (drN z)) 0 12 = nI (drN z) from rfl) (drN_lt z) (by omega) (by omega)) (gx0 hX) rfl dX0_drawsAim_39 (Nat.le_of_ble_eq_true rfl) rfl (Nat.zero_le _) (Nat.zero_le _) ?_
    refine aw_iastN h ((gxt13 hX).2 1 (by decide)).2 (by decide) (by omega) dX0_drawsAim_42 ?_
    exact aw_vret h hr dX0_drawsAim_43 (⟨rfl, rfl, ((XM.f rfl).trans (XM.f rfl)).trans (XM.i (by decide) rfl), by rw [e1]; exact ((hA.ix7 (fun m a b => (upd2_n _ _ _ (by omega)).trans (upd2_n _ _ _ (by omega)))).aim hS), by rw [e1]; rfl⟩) (Nat.zero_le _) (Nat.zero_le _)
  · exact aw_vret h hr dX0_drawsAim_10 (⟨rfl, rfl, XM.rf, by rw [show aimD (S, z) = (S, z) from if_pos c7]; exact hA, by rw [show aimD (S, z) = (S, z) from if_pos c7]; exact hz⟩) (Nat.zero_le _) (Nat.zero_le _)
def dyF (j : Nat) : Bool := j == 12
theorem XM.back12 {I I1 : Im} {L L1 : Lm} (h : XM gtE f12 I L I1 L1) : XM gtE noF I L (upd2 I1 0 12 (I 0 12)) L1 := by
  refine ⟨fun m a b => ?_, fun j _ => ?_, h.2.2⟩
  · rw [upd2_n _ _ _ a]; exact h.1 m a b
  · rw [upd2_s]
    by_cases e : j = 12
    · subst e; rw [vup_s]
    · rw [vup_n _ _ e]
      exact h.2.1 j (by unfold f12; simpa using e)
theorem gt_f12 {I I1 : Im} {L L1 : Lm} (h : XM gtE noF I L I1 L1) : XM gtE f12 I L I1 L1 := h.mono (fun _ q => q) (fun _ q => by cases q)
theorem met_x_days {w : Wd} {G : Gm} {I : Im} {L : Lm} (hX : XG G) {sl : Nat → Prop} {K : CS} {c : Nat} {S : Nat → Int32} {t : Nat} (hV : XV sl G I K c S t) (ht9 : t ≤ 999) (hA : StAt I 7 S) {RL : List (List Cl)} {fr : Option (List Cl)} (hRu : XRu sl G I RL) (hFr : XFr I RL fr) {z0 : Nat} (hzI : I 0 12 = nI z0) (hz0 : z0 < 2 ^ 31) {mm nn w2 : Int32} : AMet w yX0_days cX0_days 9 (some .int) 414 12391 0 0 [.ref (w.1 + 0), .int mm, .int nn, .int w2] G I L (Ans (some (.int (daysA fr S z0 mm nn w2))) (XQ G I L)) := by
  refine AMet.of (ls0 := [some (.ref (w.1 + 0)), some (.int mm), some (.int nn), some (.int w2), none, none, none, none, none]) rfl (Nat.le_of_ble_eq_true rfl) rfl (fun q hq => hq) (fun X h hl hr hi => ?_)
  obtain ⟨hC0, hS, hcs, ht, ht2, hdj⟩ := id hV
  have hC := hC0
  obtain ⟨hc0, ⟨pl, pa, dl, da, fa, ps, ds, hK, hsp⟩, hok, hsl⟩ := id hC
  obtain ⟨cp, hLp⟩ := hK.2.2.2.2.2.1
  obtain ⟨cd, hLd⟩ := hK.2.2.2.2.2.2.1
  have hpl := hK.2.2.2.2.2.2.2.1
  have hdl := hK.2.2.2.2.2.2.2.2.1
  have hdk := hK.2.2.2.2.2.2.2.2.2.2.1
  have hpk := hK.2.2.2.2.2.2.2.2.2.1
  have hrm := hK.2.2.2.2.2.2.2.2.2.2.2.1
  have hfr := hK.2.2.2.2.2.2.2.2.2.2.2.2.2
  have hR8 := hok.2.1
  have hD14 := hok.2.2.1
  have hP4 := hok.2.2.2.1
  have hdo := hok.2.2.2.2.1
  have hpo := hok.2.2.2.2.2.1
  have hf9 := hok.2.2.2.2.2.2.2
  have hn := cas_n hcs hok
  refine aw_aload0 h dX0_days_0 ?_
  refine aw_callVE0 h hl cl_X0_139 (met_x_isCastle hX hC) (gx0 hX) rfl dX0_days_1 (Nat.le_of_ble_eq_true rfl) rfl (Nat.zero_le _) (Nat.zero_le _) ?_
  rw [← hn.1]
  refine aw_if_eqB h (tgt := 41) dX0_days_4 (by decide) (fun c4 => ?_) (fun c4 => ?_)
  · refine aw_iconst h _ ci_m1 dX0_days_41 ?_
    exact aw_iret h hr dX0_days_42 (⟨by unfold daysA; rw [show daysB S mm nn w2 = false from (by unfold daysB; rw [c4]; rfl)]; rfl, rfl, XM.rf⟩) (Nat.zero_le _) (Nat.zero_le _)
  · refine aw_iload1 h dX0_days_7 ?_
    refine aw_i2l h dX0_days_8 ?_
    refine aw_lconst h _ cl_1 dX0_days_9 ?_
    refine aw_ldc2 h (v := lN 10) q1273 dX0_days_10 ?_
    refine aw_callSE3 h hl cl_X0_129 (met_x_in) dX0_days_13 (Nat.le_of_ble_eq_true rfl) rfl (Nat.zero_le _) (Nat.zero_le _) ?_
    rw [inL_I (by decide) (by decide)]
    refine aw_if_eqB h (tgt := 41) dX0_days_16 (by decide) (fun c16 => ?_) (fun c16 => ?_)
    · refine aw_iconst h _ ci_m1 dX0_days_41 ?_
      exact aw_iret h hr dX0_days_42 (⟨by unfold daysA; rw [show daysB S mm nn w2 = false from (by unfold daysB; rw [c16, Bool.false_and, Bool.and_false])]; rfl, rfl, XM.rf⟩) (Nat.zero_le _) (Nat.zero_le _)
    · refine aw_iload2 h dX0_days_19 ?_
      refine aw_i2l h dX0_days_20 ?_
      refine aw_lconst h _ cl_1 dX0_days_21 ?_
      refine aw_ldc2 h (v := lN 60) q1239 dX0_days_22 ?_
      refine aw_callSE3 h hl cl_X0_129 (met_x_in) dX0_days_25 (Nat.le_of_ble_eq_true rfl) rfl (Nat.zero_le _) (Nat.zero_le _) ?_
      rw [inL_I (by decide) (by decide)]
      refine aw_if_eqB h (tgt := 41) dX0_days_28 (by decide) (fun c28 => ?_) (fun c28 => ?_)
      · refine aw_iconst h _ ci_m1 dX0_days_41 ?_
        exact aw_iret h hr dX0_days_42 (⟨by unfold daysA; rw [show daysB S mm nn w2 = false from (by unfold daysB; rw [c28, Bool.false_and, Bool.and_false, Bool.and_false])]; rfl, rfl, XM.rf⟩) (Nat.zero_le _) (Nat.zero_le _)
      · refine aw_iload3 h dX0_days_31 ?_
        refine aw_i2l h dX0_days_32 ?_
        refine aw_lconst h _ cl_0 dX0_days_33 ?_
        refine aw_lconst h _ cl_1 dX0_days_34 ?_
        refine aw_callSE3 h hl cl_X0_129 (met_x_in) dX0_days_35 (Nat.le_of_ble_eq_true rfl) rfl (Nat.zero_le _) (Nat.zero_le _) ?_
        rw [inL_I (by decide) (by decide)]
        refine aw_if_neB h (tgt := 43) dX0_days_38 (by decide) (fun c38 => ?_) (fun c38 => ?_)
        · obtain ⟨m, hm1, hm2, rfl⟩ := inI_of c16 (by decide) (by decide)
          obtain ⟨n, hn1, hn2, rfl⟩ := inI_of c28 (by decide) (by decide)
          obtain ⟨ww, hw1, hw2, rfl⟩ := inI_of c38 (by decide) (by decide)
          have hans : daysA fr S z0 (nI m) (nI n) (nI ww) = (dayT fr S n (3 + ww) z0 m).1 := by
            unfold daysA
            rw [show daysB S (nI m) (nI n) (nI ww) = true by unfold daysB; rw [c4, c16, c28, c38]; rfl, if_pos rfl, nI_clamp (n := m) (by omega), nI_clamp (n := n) (by omega), nI_clamp (n := ww) (by omega)]
          have keyy : ∀ (fy y : Nat) (I1 : Im) (L1 : Lm), y ≤ m → m < y + fy → XM gtE f12 I L I1 L1 → I1 0 12 = nI (dayT fr S n 3 z0 y).2 → ∀ o8 : Option Value, AW X 0 0 58 [some (.ref (w.1 + 0)), some (.int (nI m)), some (.int (nI n)), some (.int (nI ww)), some (.int (nI z0)), some (.int ((dayT fr S n 3 z0 y).1)), some (.int ((dayT fr S n 4 z0 y).1)), some (.int (nI y)), o8] [] G I1 L1 := by
            intro fy
            induction fy with
            | zero => intro y I1 L1 hle hlt; exact absurd hlt (by omega)
            | succ fy ihy =>
              intro y I1 L1 hle hlt hmA hz1
              intro o8
              have hzy : (dayT fr S n 3 z0 y).2 < 2 ^ 31 := by
                have : ∀ y, (dayT fr S n 3 z0 y).2 < 2 ^ 31 := fun y => by
                  induction y with
                  | zero => exact hz0
                  | succ y ihz => exact dit_z (a := (S, (dayT fr S n 3 z0 y).2)) ihz n
                exact this y
              have hA1 : StAt I1 7 S := hA.ix7 (fun m a b => (hmA.1 m (by omega) (by unfold gtE; simp; omega)).1)
              refine aw_iload7 h dX0_days_58 ?_
              refine aw_iload1 h dX0_days_60 ?_
              refine aw_icmp_geN h (tgt := 149) (by omega) (by omega) dX0_days_61 (by decide) (fun c61 => ?_) (fun c61 => ?_)
              · obtain rfl : y = m := by omega
                rw [← hzI]
                refine aw_aload0 h dX0_days_149 ?_
                refine aw_iload4 h dX0_days_150 ?_
                refine aw_puti h fl_X0_390 ft_X0_390 (fun z => by cases z) (gx0 hX) dX0_days_152 rfl ?_
                refine aw_iload3 h dX0_days_155 ?_
                refine aw_if_neN h (tgt := 164) (by omega) dX0_days_156 (by decide) (fun c156 => ?_) (fun c156 => ?_)
                · refine aw_iload6 h dX0_days_164 ?_
                  exact aw_iret h hr dX0_days_166 (⟨by rw [hans, show ww = 1 by omega], rfl, hmA.back12⟩) (Nat.zero_le _) (Nat.zero_le _)
                · refine aw_iload5 h dX0_days_159 ?_
                  refine aw_goto h (tgt := 166) dX0_days_161 (by decide) ?_
                  exact aw_iret h hr dX0_days_166 (⟨by rw [hans, c156], rfl, hmA.back12⟩) (Nat.zero_le _) (Nat.zero_le _)
              · refine aw_aload0 h dX0_days_64 ?_
                refine aw_getr h fl_X0_23 (gx0 hX) dX0_days_65 rfl (gxp2 hX) ?_
                refine aw_aload0 h dX0_days_68 ?_
                refine aw_getr h fl_X0_19 (gx0 hX) dX0_days_69 rfl (gxp1 hX) ?_
                refine aw_callVN1 h hl cl_X0_309 (met_x_copyFrom (gxt13 hX) (gxt7 hX) (by omega)) (gxt13 hX).1 rfl dX0_days_72 (Nat.le_of_ble_eq_true rfl) rfl (Nat.zero_le _) (Nat.zero_le _) (fun G1 I3 L3 hp9 => ?_)
                have hA0 := hp9.st hS hA1
                obtain ⟨rfl, hixc, -, -⟩ := hp9
                have hm0 : XM gtE noF I1 L1 I3 L3 := XM.ix hixc (by decide) (by decide)
                have keyk : ∀ (fk2 k : Nat) (I2 : Im) (L2 : Lm), k ≤ n → n < k + fk2 → XM gtE f12 I L I2 L2 → StAt I2 13 (dit fr k (S, (dayT fr S n 3 z0 y).2)).1 → I2 0 12 = nI (dit fr k (S, (dayT fr S n 3 z0 y).2)).2 → AW X 0 0 78 [some (.ref (w.1 + 0)), some (.int (nI m)), some (.int (nI n)), some (.int (nI ww)), some (.int (nI z0)), some (.int ((dayT fr S n 3 z0 y).1)), some (.int ((dayT fr S n 4 z0 y).1)), some (.int (nI y)), some (.int (nI k))] [] G I2 L2 := by
                  intro fk2
                  induction fk2 with
                  | zero => intro k I2 L2 hle hlt; exact absurd hlt (by omega)
                  | succ fk2 ihk =>
                    intro k I2 L2 hle hlt hm2 hA2 hz2
                    have hVk : XV sl G I2 K c (dit fr k (S, (dayT fr S n 3 z0 y).2)).1 (t + k) := hV.dit (hm2.nm gt_mut) fr _ k (by omega)
                    have hzk := dit_z (fr := fr) (a := (S, (dayT fr S n 3 z0 y).2)) hzy k
                    have hR2 : XRu sl G I2 RL := hRu.ix (hm2.nm gt_mut)
                    have hF2 : XFr I2 RL fr := hFr.f (hm2.2.1 4 rfl)
                    refine aw_iload8 h dX0_days_78 ?_
                    refine aw_iload2 h dX0_days_80 ?_
                    refine aw_icmp_geN h (tgt := 103) (by omega) (by omega) dX0_days_81 (by decide) (fun c81 => ?_) (fun c81 => ?_)
                    · obtain rfl : k = n := by omega
                      have hV7 := hV.2.1
                      have hA7 : StAt I2 7 S := hA.ix7 (fun m a b => (hm2.1 m (by omega) (by unfold gtE; simp; omega)).1)
                      refine aw_iload5 h dX0_days_103 ?_
                      refine aw_aload0 h dX0_days_105 ?_
                      refine aw_getr h fl_X0_23 (gx0 hX) dX0_days_106 rfl (gxp2 hX) ?_
                      refine aw_callVE0 h hl cl_X0_408 (met_x_cameAll (gxt13 hX)) (gxt13 hX).1 rfl dX0_days_109 (Nat.le_of_ble_eq_true rfl) rfl (Nat.zero_le _) (Nat.zero_le _) ?_
                      rw [hA2.came hVk.2.1]
                      refine aw_aload0 h dX0_days_112 ?_
                      refine aw_getr h fl_X0_19 (gx0 hX) dX0_days_113 rfl (gxp1 hX) ?_
                      refine aw_callVE0 h hl cl_X0_408 (met_x_cameAll (gxt7 hX)) (gxt7 hX).1 rfl dX0_days_116 (Nat.le_of_ble_eq_true rfl) rfl (Nat.zero_le _) (Nat.zero_le _) ?_
                      rw [hA7.came hS]
                      refine aw_isub h dX0_days_119 ?_
                      refine aw_iadd h dX0_days_120 ?_
                      refine aw_istore5 h rfl dX0_days_121 ?_
                      refine aw_iload6 h dX0_days_123 ?_
                      refine aw_aload0 h dX0_days_125 ?_
                      refine aw_getr h fl_X0_23 (gx0 hX) dX0_days_126 rfl (gxp2 hX) ?_
                      refine aw_callVE0 h hl cl_X0_411 (met_x_wentAll (gxt13 hX)) (gxt13 hX).1 rfl dX0_days_129 (Nat.le_of_ble_eq_true rfl) rfl (Nat.zero_le _) (Nat.zero_le _) ?_
                      rw [hA2.went hVk.2.1]
                      refine aw_aload0 h dX0_days_132 ?_
                      refine aw_getr h fl_X0_19 (gx0 hX) dX0_days_133 rfl (gxp1 hX) ?_
                      refine aw_callVE0 h hl cl_X0_411 (met_x_wentAll (gxt7 hX)) (gxt7 hX).1 rfl dX0_days_136 (Nat.le_of_ble_eq_true rfl) rfl (Nat.zero_le _) (Nat.zero_le _) ?_
                      rw [hA7.went hS]
                      refine aw_isub h dX0_days_139 ?_
                      refine aw_iadd h dX0_days_140 ?_
                      refine aw_istore6 h rfl dX0_days_141 ?_
                      refine aw_iincN7 h rfl dX0_days_143 ?_
                      refine aw_goto h (tgt := 58) dX0_days_146 (by decide) ?_
                      have h9 := ihy (y + 1) I2 L2 (by omega) (by omega) hm2 hz2 (some (.int (nI k)))
                      rw [show (dayT fr S k 4 z0 (y + 1)).1 = (dayT fr S k 4 z0 y).1 + (cntA (dit fr k (S, (dayT fr S k 4 z0 y).2)).1 4 - cntA S 4) from rfl, dayT_z fr S k 4 3 z0 y] at h9
                      exact h9
                    · refine aw_aload0 h dX0_days_84 ?_
                      refine aw_callVN0 h hl cl_X0_405 (met_x_drawsAim hX hVk hA2 hz2 hzk) (gx0 hX) rfl dX0_days_85 (Nat.le_of_ble_eq_true rfl) rfl (Nat.zero_le _) (Nat.zero_le _) (fun G1 I3 L3 hp9 => ?_)
                      obtain ⟨rfl, hm3, hA3, hz3⟩ := hp9
                      refine aw_aload0 h dX0_days_88 ?_
                      refine aw_aload0 h dX0_days_89 ?_
                      refine aw_getr h fl_X0_23 (gx0 hX) dX0_days_90 rfl (gxp2 hX) ?_
                      refine aw_callVA1 h hl cl_X0_315 (met_x_goesOn hX (hVk.aim (hm3.nm gt_mut) _) (gxt13 hX) hA3 (Or.inr rfl) (hR2.ix (hm3.nm gt_mut)) (hF2.f (hm3.2.1 4 rfl))) (gx0 hX) rfl dX0_days_93 (Nat.le_of_ble_eq_true rfl) rfl (Nat.zero_le _) (Nat.zero_le _) (fun G1 I4 L4 hp9 => ?_)
                      have hm4 := hp9.scr
                      obtain ⟨rfl, -, hA4⟩ := hp9
                      refine aw_pop h rfl dX0_days_96 ?_
                      refine aw_iincN8 h rfl dX0_days_97 ?_
                      refine aw_goto h (tgt := 78) dX0_days_100 (by decide) ?_
                      exact ihk (k + 1) I4 L4 (by omega) (by omega) (hm2.trans (hm3.trans (gt_f12 hm4))) hA4 ((hm4.2.1 12 rfl).trans hz3)
                refine aw_iconst h _ ci_0 dX0_days_75 ?_
                refine aw_istore8 h rfl dX0_days_76 ?_
                exact keyk (n + 1) 0 I3 L3 (Nat.zero_le _) (by omega) (hmA.trans (gt_f12 hm0)) hA0 ((hm0.2.1 12 rfl).trans hz1)
          refine aw_aload0 h dX0_days_43 ?_
          refine aw_getiV h fl_X0_390 (gx0 hX) dX0_days_44 rfl (hzI) ?_
          refine aw_istore4 h rfl dX0_days_47 ?_
          refine aw_iconst h _ ci_0 dX0_days_49 ?_
          refine aw_istore5 h rfl dX0_days_50 ?_
          refine aw_iconst h _ ci_0 dX0_days_52 ?_
          refine aw_istore6 h rfl dX0_days_53 ?_
          refine aw_iconst h _ ci_0 dX0_days_55 ?_
          refine aw_istore7 h rfl dX0_days_56 ?_
          exact keyy (m + 1) 0 I L (Nat.zero_le _) (by omega) XM.rf hzI _
        · refine aw_iconst h _ ci_m1 dX0_days_41 ?_
          exact aw_iret h hr dX0_days_42 (⟨by unfold daysA; rw [show daysB S mm nn w2 = false from (by unfold daysB; rw [c38, Bool.and_false, Bool.and_false, Bool.and_false])]; rfl, rfl, XM.rf⟩) (Nat.zero_le _) (Nat.zero_le _)
