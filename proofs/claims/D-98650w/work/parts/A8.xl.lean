/-! The component: who would swap; are these people -/
set_option maxRecDepth 100000
def rowX (S : Nat → Int32) (a b : Nat) : List (Nat × Nat) := ((List.range' (a + 1) (b - (a + 1))).filter (swB S a)).map (fun c => (a, c))
def PLs (S : Nat → Int32) (a b : Nat) : List (Nat × Nat) := (List.range' 0 a).flatMap (fun c => rowF S c (c + 1)) ++ rowX S a b
theorem rowX_0 {S : Nat → Int32} {a : Nat} : rowX S a (a + 1) = [] := by unfold rowX; rw [Nat.sub_self]; rfl
theorem range_s {a b : Nat} (h : a ≤ b) : List.range' a (b + 1 - a) = List.range' a (b - a) ++ [b] := by
  rw [show b + 1 - a = (b - a) + 1 by omega, List.range'_concat, Nat.one_mul, show a + (b - a) = b by omega]
theorem PLs_yes {S : Nat → Int32} {a b : Nat} (h : a < b) (hs : swB S a b = true) : PLs S a (b + 1) = PLs S a b ++ [(a, b)] := by
  unfold PLs rowX
  rw [range_s h, List.filter_append, List.filter_cons_of_pos hs, List.map_append, List.append_assoc]; rfl
theorem PLs_no {S : Nat → Int32} {a b : Nat} (h : a < b) (hs : swB S a b = false) : PLs S a (b + 1) = PLs S a b := by
  unfold PLs rowX
  rw [range_s h, List.filter_append, List.filter_cons_of_neg (by rw [hs]; exact Bool.false_ne_true)]; simp
theorem PLs_next {S : Nat → Int32} {a : Nat} : PLs S a (np S) = PLs S (a + 1) (a + 2) := by
  unfold PLs
  rw [rowX_0, List.append_nil, show List.range' 0 (a + 1) = List.range' 0 a ++ [a] by rw [List.range'_concat]; simp, List.flatMap_append]
  unfold rowX rowF
  simp
theorem PLs_row0 {S : Nat → Int32} {a : Nat} : PLs S a (a + 1) = (List.range' 0 a).flatMap (fun c => rowF S c (c + 1)) := by unfold PLs; rw [rowX_0, List.append_nil]
theorem PLs_end {S : Nat → Int32} : PLs S (np S) (np S + 1) = allF S 0 := by rw [PLs_row0]; rfl
theorem hd1_app {l : List (Nat × Nat)} {p : Nat × Nat} : hd1 (l ++ [p]) = if l.length = 0 then nI p.1 else hd1 l := by cases l <;> rfl
theorem hd2_app {l : List (Nat × Nat)} {p : Nat × Nat} : hd2 (l ++ [p]) = if l.length = 0 then nI p.2 else hd2 l := by cases l <;> rfl
theorem len_app2 {l : List (Nat × Nat)} {p : Nat × Nat} : (l ++ [p]).length = l.length + 1 := by simp
theorem row_len {S : Nat → Int32} {a b : Nat} : (rowX S a b).length ≤ b := by
  unfold rowX
  rw [List.length_map]
  have := List.length_filter_le (swB S a) (List.range' (a + 1) (b - (a + 1)))
  rw [List.length_range'] at this; omega
theorem PLs_len {S : Nat → Int32} : ∀ a b, a ≤ 4 → b ≤ 5 → np S ≤ 4 → (PLs S a b).length ≤ 5 * a + 5 := by
  intro a
  induction a with
  | zero =>
    intro b _ hb _
    have := row_len (S := S) (a := 0) (b := b)
    unfold PLs
    rw [List.length_append]; simp; omega
  | succ a ih =>
    intro b ha hb hn
    have h1 := ih (np S) (by omega) (by omega) hn
    rw [PLs_next, PLs_row0] at h1
    have := row_len (S := S) (a := a + 1) (b := b)
    unfold PLs
    rw [List.length_append]; omega
theorem XV.r26 {sl : Nat → Prop} {G : Gm} {I : Im} {K : CS} {c : Nat} {S : Nat → Int32} {t : Nat} (h : XV sl G I K c S t) (f : Nat → Int32) : XV sl G (va_up I 26 f) K c S t := h.ix (fun m hm => vup_n _ _ (fun e => by rw [e] at hm; cases hm))
theorem StAt.r26 {I : Im} {S : Nat → Int32} (h : StAt I 7 S) (f : Nat → Int32) : StAt (va_up I 26 f) 7 S := h.ix7 (fun m a b => vup_n _ _ (by omega))
theorem met_x_wouldSwap {w : Wd} {G : Gm} {I : Im} {L : Lm} (hX : XG G) {sl : Nat → Prop} {K : CS} {c : Nat} {S : Nat → Int32} {t : Nat} (hV : XV sl G I K c S t) (hA : StAt I 7 S) {a b : Nat} (ha : a < np S) (hb : b < np S) : AMet w yX0_wouldSwap cX0_wouldSwap 4 (some .boolean) 8 198 0 0 [.ref (w.1 + 0), .int (nI a), .int (nI b)] G I L (Ans (some (.int (bI (swB S a b)))) (PX 26 G I L)) := by
  refine AMet.of (ls0 := [some (.ref (w.1 + 0)), some (.int (nI a)), some (.int (nI b)), none]) rfl (Nat.le_of_ble_eq_true rfl) rfl (fun q hq => hq) (fun X h hl hr hi => ?_)
  obtain ⟨hC0, hS, hcs, ht, ht2, hdj⟩ := id hV
  have hC := hC0
  obtain ⟨hc0, ⟨pl, pa, dl, da, fa, ps, ds, hK, hsp⟩, hok, hsl⟩ := id hC
  obtain ⟨cp, hLp⟩ := hK.2.2.2.2.2.1
  obtain ⟨cd, hLd⟩ := hK.2.2.2.2.2.2.1
  have hpl := hK.2.2.2.2.2.2.2.1
  have hdl := hK.2.2.2.2.2.2.2.2.1
  have hdk := hK.2.2.2.2.2.2.2.2.2.2.1
  have hpk := hK.2.2.2.2.2.2.2.2.2.1
  have hrm := hK.2.2.2.2.2.2.2.2.2.2.2.1
  have hfr := hK.2.2.2.2.2.2.2.2.2.2.2.2.2
  have hR8 := hok.2.1
  have hD14 := hok.2.2.1
  have hP4 := hok.2.2.2.1
  have hdo := hok.2.2.2.2.1
  have hpo := hok.2.2.2.2.2.1
  have hf9 := hok.2.2.2.2.2.2.2
  have hn := cas_n hcs hok
  refine aw_aload0 h dX0_wouldSwap_0 ?_
  refine aw_aload0 h dX0_wouldSwap_1 ?_
  refine aw_getr h fl_X0_19 (gx0 hX) dX0_wouldSwap_2 rfl (gxp1 hX) ?_
  refine aw_iload1 h dX0_wouldSwap_5 ?_
  refine aw_aload0 h dX0_wouldSwap_6 ?_
  refine aw_getr h fl_X0_19 (gx0 hX) dX0_wouldSwap_7 rfl (gxp1 hX) ?_
  refine aw_getr h fl_X0_202 (gxt7 hX).1 dX0_wouldSwap_10 rfl ((gxt7 hX).2 0 (by decide)).1 ?_
  refine aw_iload2 h dX0_wouldSwap_13 ?_
  refine aw_ialdV h ((gxt7 hX).2 0 (by decide)).2 (by decide) (by omega) dX0_wouldSwap_14 ((hA.2.1 b hb).1.trans (ivp hS hb).1) ?_
  refine aw_callVA3 h hl cl_X0_205 (met_x_leftFrom hX hV (gxt7 hX) hA (Or.inl rfl) ha (ivp hS hb).2.1) (gx0 hX) rfl dX0_wouldSwap_15 (Nat.le_of_ble_eq_true rfl) rfl (Nat.zero_le _) (Nat.zero_le _) (fun G1 I1 L1 hp9 => ?_)
  obtain ⟨rfl, rfl, f1, rfl, -⟩ := hp9
  refine aw_aload0 h dX0_wouldSwap_18 ?_
  refine aw_aload0 h dX0_wouldSwap_19 ?_
  refine aw_getr h fl_X0_19 (gx0 hX) dX0_wouldSwap_20 rfl (gxp1 hX) ?_
  refine aw_iload1 h dX0_wouldSwap_23 ?_
  refine aw_aload0 h dX0_wouldSwap_24 ?_
  refine aw_getr h fl_X0_19 (gx0 hX) dX0_wouldSwap_25 rfl (gxp1 hX) ?_
  refine aw_getr h fl_X0_202 (gxt7 hX).1 dX0_wouldSwap_28 rfl ((gxt7 hX).2 0 (by decide)).1 ?_
  refine aw_iload1 h dX0_wouldSwap_31 ?_
  refine aw_ialdV h ((gxt7 hX).2 0 (by decide)).2 (by decide) (by omega) dX0_wouldSwap_32 (((hA.r26 f1).2.1 a ha).1.trans (ivp hS ha).1) ?_
  refine aw_callVA3 h hl cl_X0_205 (met_x_leftFrom hX (hV.r26 f1) (gxt7 hX) (hA.r26 f1) (Or.inl rfl) ha (ivp hS ha).2.1) (gx0 hX) rfl dX0_wouldSwap_33 (Nat.le_of_ble_eq_true rfl) rfl (Nat.zero_le _) (Nat.zero_le _) (fun G1 I1 L1 hp9 => ?_)
  obtain ⟨rfl, rfl, f2, rfl, -⟩ := hp9
  refine aw_icmp_geN h (tgt := 43) (by have := dist_le S (gl S a) (rm S b); omega) (by have := dist_le S (gl S a) (rm S a); omega) dX0_wouldSwap_36 (by decide) (fun c36 => ?_) (fun c36 => ?_)
  · refine aw_iconst h _ ci_0 dX0_wouldSwap_43 ?_
    refine aw_istore3 h rfl dX0_wouldSwap_44 ?_
    refine aw_iload3 h dX0_wouldSwap_45 ?_
    refine aw_if_eqN h (tgt := 92) (by omega) dX0_wouldSwap_46 (by decide) (fun c46 => ?_) (fun c46 => ?_)
    · refine aw_iconst h _ ci_0 dX0_wouldSwap_92 ?_
      exact aw_zret h hr dX0_wouldSwap_93 (by first | exact z01_0 | exact z01_1 | exact z01_b _) (⟨by unfold swB nearB; rw [decide_eq_false (by omega)]; rfl, rfl, rfl, _, (vup_vup I 26 f1 f2).symm⟩) (Nat.zero_le _) (Nat.zero_le _)
    · exact absurd rfl c46
  · refine aw_iconst h _ ci_1 dX0_wouldSwap_39 ?_
    refine aw_goto h (tgt := 44) dX0_wouldSwap_40 (by decide) ?_
    refine aw_istore3 h rfl dX0_wouldSwap_44 ?_
    have c36x : distV S (gl S a) (rm S b) < distV S (gl S a) (rm S a) := by omega
    refine aw_iload3 h dX0_wouldSwap_45 ?_
    refine aw_if_eqN h (tgt := 92) (by omega) dX0_wouldSwap_46 (by decide) (fun c46 => ?_) (fun c46 => ?_)
    · exact absurd c46 (by decide)
    · refine aw_aload0 h dX0_wouldSwap_49 ?_
      refine aw_aload0 h dX0_wouldSwap_50 ?_
      refine aw_getr h fl_X0_19 (gx0 hX) dX0_wouldSwap_51 rfl (gxp1 hX) ?_
      refine aw_iload2 h dX0_wouldSwap_54 ?_
      refine aw_aload0 h dX0_wouldSwap_55 ?_
      refine aw_getr h fl_X0_19 (gx0 hX) dX0_wouldSwap_56 rfl (gxp1 hX) ?_
      refine aw_getr h fl_X0_202 (gxt7 hX).1 dX0_wouldSwap_59 rfl ((gxt7 hX).2 0 (by decide)).1 ?_
      refine aw_iload1 h dX0_wouldSwap_62 ?_
      refine aw_ialdV h ((gxt7 hX).2 0 (by decide)).2 (by decide) (by omega) dX0_wouldSwap_63 ((((hA.r26 f1).r26 f2).2.1 a ha).1.trans (ivp hS ha).1) ?_
      refine aw_callVA3 h hl cl_X0_205 (met_x_leftFrom hX ((hV.r26 f1).r26 f2) (gxt7 hX) ((hA.r26 f1).r26 f2) (Or.inl rfl) hb (ivp hS ha).2.1) (gx0 hX) rfl dX0_wouldSwap_64 (Nat.le_of_ble_eq_true rfl) rfl (Nat.zero_le _) (Nat.zero_le _) (fun G1 I1 L1 hp9 => ?_)
      obtain ⟨rfl, rfl, f3, rfl, -⟩ := hp9
      refine aw_aload0 h dX0_wouldSwap_67 ?_
      refine aw_aload0 h dX0_wouldSwap_68 ?_
      refine aw_getr h fl_X0_19 (gx0 hX) dX0_wouldSwap_69 rfl (gxp1 hX) ?_
      refine aw_iload2 h dX0_wouldSwap_72 ?_
      refine aw_aload0 h dX0_wouldSwap_73 ?_
      refine aw_getr h fl_X0_19 (gx0 hX) dX0_wouldSwap_74 rfl (gxp1 hX) ?_
      refine aw_getr h fl_X0_202 (gxt7 hX).1 dX0_wouldSwap_77 rfl ((gxt7 hX).2 0 (by decide)).1 ?_
      refine aw_iload2 h dX0_wouldSwap_80 ?_
      refine aw_ialdV h ((gxt7 hX).2 0 (by decide)).2 (by decide) (by omega) dX0_wouldSwap_81 (((((hA.r26 f1).r26 f2).r26 f3).2.1 b hb).1.trans (ivp hS hb).1) ?_
      refine aw_callVA3 h hl cl_X0_205 (met_x_leftFrom hX (((hV.r26 f1).r26 f2).r26 f3) (gxt7 hX) (((hA.r26 f1).r26 f2).r26 f3) (Or.inl rfl) hb (ivp hS hb).2.1) (gx0 hX) rfl dX0_wouldSwap_82 (Nat.le_of_ble_eq_true rfl) rfl (Nat.zero_le _) (Nat.zero_le _) (fun G1 I1 L1 hp9 => ?_)
      obtain ⟨rfl, rfl, f4, rfl, -⟩ := hp9
      refine aw_icmp_geN h (tgt := 92) (by have := dist_le S (gl S b) (rm S a); omega) (by have := dist_le S (gl S b) (rm S b); omega) dX0_wouldSwap_85 (by decide) (fun c85 => ?_) (fun c85 => ?_)
      · refine aw_iconst h _ ci_0 dX0_wouldSwap_92 ?_
        exact aw_zret h hr dX0_wouldSwap_93 (by first | exact z01_0 | exact z01_1 | exact z01_b _) (⟨by unfold swB nearB; rw [decide_eq_true c36x, decide_eq_false (by omega)]; rfl, rfl, rfl, f4, by rw [vup_vup, vup_vup, vup_vup]⟩) (Nat.zero_le _) (Nat.zero_le _)
      · refine aw_iconst h _ ci_1 dX0_wouldSwap_88 ?_
        refine aw_goto h (tgt := 93) dX0_wouldSwap_89 (by decide) ?_
        exact aw_zret h hr dX0_wouldSwap_93 (by first | exact z01_0 | exact z01_1 | exact z01_b _) (⟨by unfold swB nearB; rw [decide_eq_true c36x, decide_eq_true (by omega)]; rfl, rfl, rfl, f4, by rw [vup_vup, vup_vup, vup_vup]⟩) (Nat.zero_le _) (Nat.zero_le _)
theorem PX26.nm {G G1 : Gm} {I I1 : Im} {L L1 : Lm} (h : PX 26 G I L G1 I1 L1) : XM gtE noF I L I1 L1 := by
  obtain ⟨-, rfl, f, rfl⟩ := h
  exact ⟨fun m a b => ⟨vup_n _ _ (fun e => by subst e; cases b), rfl⟩, fun j _ => by rw [vup_n _ _ (by decide)], rfl⟩
theorem PX.trans {n : Nat} {G G1 G2 : Gm} {I I1 I2 : Im} {L L1 L2 : Lm} (h : PX n G I L G1 I1 L1) (h2 : PX n G1 I1 L1 G2 I2 L2) : PX n G I L G2 I2 L2 := by
  obtain ⟨rfl, rfl, f, rfl⟩ := h
  obtain ⟨rfl, rfl, f2, rfl⟩ := h2
  exact ⟨rfl, rfl, f2, (vup_vup I n f f2).symm⟩
theorem met_x_swap {w : Wd} {G : Gm} {I : Im} {L : Lm} (hX : XG G) {sl : Nat → Prop} {K : CS} {c : Nat} {S : Nat → Int32} {t : Nat} (hV : XV sl G I K c S t) (hA : StAt I 7 S) {wh : Int32} : AMet w yX0_swap cX0_swap 7 (some .int) 9 221 0 0 [.ref (w.1 + 0), .int wh] G I L (Ans (some (.int (swA S wh))) (XQ G I L)) := by
  refine AMet.of (ls0 := [some (.ref (w.1 + 0)), some (.int wh), none, none, none, none, none]) rfl (Nat.le_of_ble_eq_true rfl) rfl (fun q hq => hq) (fun X h hl hr hi => ?_)
  obtain ⟨hC0, hS, hcs, ht, ht2, hdj⟩ := id hV
  have hC := hC0
  obtain ⟨hc0, ⟨pl, pa, dl, da, fa, ps, ds, hK, hsp⟩, hok, hsl⟩ := id hC
  obtain ⟨cp, hLp⟩ := hK.2.2.2.2.2.1
  obtain ⟨cd, hLd⟩ := hK.2.2.2.2.2.2.1
  have hpl := hK.2.2.2.2.2.2.2.1
  have hdl := hK.2.2.2.2.2.2.2.2.1
  have hdk := hK.2.2.2.2.2.2.2.2.2.2.1
  have hpk := hK.2.2.2.2.2.2.2.2.2.1
  have hrm := hK.2.2.2.2.2.2.2.2.2.2.2.1
  have hfr := hK.2.2.2.2.2.2.2.2.2.2.2.2.2
  have hR8 := hok.2.1
  have hD14 := hok.2.2.1
  have hP4 := hok.2.2.2.1
  have hdo := hok.2.2.2.2.1
  have hpo := hok.2.2.2.2.2.1
  have hf9 := hok.2.2.2.2.2.2.2
  have hn := cas_n hcs hok
  have b2 := iv2b hS
  refine aw_aload0 h dX0_swap_0 ?_
  refine aw_callVE0 h hl cl_X0_139 (met_x_isCastle hX hC) (gx0 hX) rfl dX0_swap_1 (Nat.le_of_ble_eq_true rfl) rfl (Nat.zero_le _) (Nat.zero_le _) ?_
  rw [← hn.1]
  refine aw_if_eqB h (tgt := 19) dX0_swap_4 (by decide) (fun c4 => ?_) (fun c4 => ?_)
  · refine aw_iconst h _ ci_m1 dX0_swap_19 ?_
    exact aw_iret h hr dX0_swap_20 (⟨by unfold swA; rw [c4]; rfl, rfl, XM.rf⟩) (Nat.zero_le _) (Nat.zero_le _)
  · refine aw_iload1 h dX0_swap_7 ?_
    refine aw_i2l h dX0_swap_8 ?_
    refine aw_lconst h _ cl_0 dX0_swap_9 ?_
    refine aw_ldc2 h (v := lN 2) q1201 dX0_swap_10 ?_
    refine aw_callSE3 h hl cl_X0_129 (met_x_in) dX0_swap_13 (Nat.le_of_ble_eq_true rfl) rfl (Nat.zero_le _) (Nat.zero_le _) ?_
    rw [inL_I (by decide) (by decide)]
    refine aw_if_neB h (tgt := 21) dX0_swap_16 (by decide) (fun c16 => ?_) (fun c16 => ?_)
    · have hans : swA S wh = if wh = 0 then nI (allF S 0).length else if wh = nI 1 then hd1 (allF S 0) else hd2 (allF S 0) := by unfold swA; rw [c4, c16]; rfl
      have key : ∀ (fu a : Nat) (I1 : Im) (L1 : Lm), a ≤ np S → np S < a + fu → XM gtE noF I L I1 L1 → ∀ o6 : Option Value, AW X 0 0 33 [some (.ref (w.1 + 0)), some (.int (wh)), some (.int (nI (PLs S a (a + 1)).length)), some (.int (hd1 (PLs S a (a + 1)))), some (.int (hd2 (PLs S a (a + 1)))), some (.int (nI a)), o6] [] G I1 L1 := by
        intro fu
        induction fu with
        | zero => intro a I1 L1 hle hlt; exact absurd hlt (by omega)
        | succ fu ih =>
          intro a I1 L1 hle hlt hm
          intro o6
          have hV1 : XV sl G I1 K c S t := hV.ix (hm.nm gt_mut)
          obtain ⟨-, ⟨pl, pa, dl, da, fa, ps, ds, hK, hsp⟩, -, -⟩ := id hV1.1
          obtain ⟨cp, hLp⟩ := hK.2.2.2.2.2.1
          refine aw_iload5 h dX0_swap_33 ?_
          refine aw_aload0 h dX0_swap_35 ?_
          refine aw_getr h fl_X0_12 (gx0 hX) dX0_swap_36 rfl hc0 ?_
          refine aw_callVE0 h hl cl_X0_125 (met_x_many hK hok) hK.1 rfl dX0_swap_39 (Nat.le_of_ble_eq_true rfl) rfl (Nat.zero_le _) (Nat.zero_le _) ?_
          refine aw_icmp_geN h (tgt := 116) (by omega) (by omega) dX0_swap_42 (by decide) (fun c42 => ?_) (fun c42 => ?_)
          · obtain rfl : a = np S := by omega
            rw [PLs_end]
            refine aw_iload1 h dX0_swap_116 ?_
            refine aw_if_ne h (tgt := 124) dX0_swap_117 (by decide) (fun c117 => ?_) (fun c117 => ?_)
            · refine aw_iload1 h dX0_swap_124 ?_
              refine aw_iconst h _ ci_1 dX0_swap_125 ?_
              refine aw_icmp_ne h (tgt := 133) dX0_swap_126 (by decide) (fun c126 => ?_) (fun c126 => ?_)
              · refine aw_iload4 h dX0_swap_133 ?_
                exact aw_iret h hr dX0_swap_135 (⟨by rw [hans, if_neg c117, if_neg c126], rfl, hm⟩) (Nat.zero_le _) (Nat.zero_le _)
              · refine aw_iload3 h dX0_swap_129 ?_
                refine aw_goto h (tgt := 135) dX0_swap_130 (by decide) ?_
                exact aw_iret h hr dX0_swap_135 (⟨by rw [hans, if_neg c117, if_pos c126], rfl, hm⟩) (Nat.zero_le _) (Nat.zero_le _)
            · refine aw_iload2 h dX0_swap_120 ?_
              refine aw_goto h (tgt := 135) dX0_swap_121 (by decide) ?_
              exact aw_iret h hr dX0_swap_135 (⟨by rw [hans, if_pos c117], rfl, hm⟩) (Nat.zero_le _) (Nat.zero_le _)
          · have keyb : ∀ (fb b : Nat) (I1 : Im) (L1 : Lm), b ≤ np S → np S < b + fb → XM gtE noF I L I1 L1 → a < b → AW X 0 0 51 [some (.ref (w.1 + 0)), some (.int (wh)), some (.int (nI (PLs S a b).length)), some (.int (hd1 (PLs S a b))), some (.int (hd2 (PLs S a b))), some (.int (nI a)), some (.int (nI b))] [] G I1 L1 := by
              intro fb
              induction fb with
              | zero => intro b I1 L1 hle hlt; exact absurd hlt (by omega)
              | succ fb ihb =>
                intro b I1 L1 hle hlt hm hab
                have hV1 : XV sl G I1 K c S t := hV.ix (hm.nm gt_mut)
                obtain ⟨-, ⟨pl, pa, dl, da, fa, ps, ds, hK, hsp⟩, -, -⟩ := id hV1.1
                obtain ⟨cp, hLp⟩ := hK.2.2.2.2.2.1
                have hA1 : StAt I1 7 S := hA.ix7 (fun m q1 q2 => (hm.1 m (by omega) (by unfold gtE; simp; omega)).1)
                have hpl := PLs_len (S := S) a b (by omega) (by omega) b2
                refine aw_iload6 h dX0_swap_51 ?_
                refine aw_aload0 h dX0_swap_53 ?_
                refine aw_getr h fl_X0_12 (gx0 hX) dX0_swap_54 rfl hc0 ?_
                refine aw_callVE0 h hl cl_X0_125 (met_x_many hK hok) hK.1 rfl dX0_swap_57 (Nat.le_of_ble_eq_true rfl) rfl (Nat.zero_le _) (Nat.zero_le _) ?_
                refine aw_icmp_geN h (tgt := 110) (by omega) (by omega) dX0_swap_60 (by decide) (fun c60 => ?_) (fun c60 => ?_)
                · refine aw_iincN5 h rfl dX0_swap_110 ?_
                  refine aw_goto h (tgt := 33) dX0_swap_113 (by decide) ?_
                  obtain rfl : b = np S := by omega
                  rw [PLs_next]
                  have h9 := ih (a + 1) I1 L1 (by omega) (by omega) hm
                  exact h9 _
                · refine aw_aload0 h dX0_swap_63 ?_
                  refine aw_iload5 h dX0_swap_64 ?_
                  refine aw_iload6 h dX0_swap_66 ?_
                  refine aw_callVA2 h hl cl_X0_370 (met_x_wouldSwap hX hV1 hA1 (a := a) (b := b) (by omega) (by omega)) (gx0 hX) rfl dX0_swap_68 (Nat.le_of_ble_eq_true rfl) rfl (Nat.zero_le _) (Nat.zero_le _) (fun G1 I2 L2 hp9 => ?_)
                  have hm2 : XM gtE noF I L I2 L2 := hm.trans (PX26.nm hp9)
                  obtain rfl := hp9.1
                  refine aw_if_neB h (tgt := 77) dX0_swap_71 (by decide) (fun c71 => ?_) (fun c71 => ?_)
                  · refine aw_iload2 h dX0_swap_77 ?_
                    refine aw_if_neN h (tgt := 86) (by omega) dX0_swap_78 (by decide) (fun c78 => ?_) (fun c78 => ?_)
                    · refine aw_iload3 h dX0_swap_86 ?_
                      refine aw_istore3 h rfl dX0_swap_87 ?_
                      refine aw_iload2 h dX0_swap_88 ?_
                      refine aw_if_neN h (tgt := 97) (by omega) dX0_swap_89 (by decide) (fun c89 => ?_) (fun c89 => ?_)
                      · refine aw_iload4 h dX0_swap_97 ?_
                        refine aw_istore4 h rfl dX0_swap_99 ?_
                        refine aw_iincN2 h rfl dX0_swap_101 ?_
                        refine aw_iincN6 h rfl dX0_swap_104 ?_
                        refine aw_goto h (tgt := 51) dX0_swap_107 (by decide) ?_
                        have h9 := ihb (b + 1) I2 L2 (by omega) (by omega) hm2 (by omega)
                        rw [PLs_yes (by omega) c71, len_app2, hd1_app, hd2_app, if_neg c78, if_neg c78] at h9
                        exact h9
                      · omega
                    · refine aw_iload5 h dX0_swap_81 ?_
                      refine aw_goto h (tgt := 87) dX0_swap_83 (by decide) ?_
                      refine aw_istore3 h rfl dX0_swap_87 ?_
                      have hz78 : (PLs S a b).length = 0 := by omega
                      refine aw_iload2 h dX0_swap_88 ?_
                      refine aw_if_neN h (tgt := 97) (by omega) dX0_swap_89 (by decide) (fun c89 => ?_) (fun c89 => ?_)
                      · omega
                      · refine aw_iload6 h dX0_swap_92 ?_
                        refine aw_goto h (tgt := 99) dX0_swap_94 (by decide) ?_
                        refine aw_istore4 h rfl dX0_swap_99 ?_
                        refine aw_iincN2 h rfl dX0_swap_101 ?_
                        refine aw_iincN6 h rfl dX0_swap_104 ?_
                        refine aw_goto h (tgt := 51) dX0_swap_107 (by decide) ?_
                        have h9 := ihb (b + 1) I2 L2 (by omega) (by omega) hm2 (by omega)
                        rw [PLs_yes (by omega) c71, len_app2, hd1_app, hd2_app, if_pos hz78, if_pos hz78] at h9
                        exact h9
                  · refine aw_goto h (tgt := 104) dX0_swap_74 (by decide) ?_
                    refine aw_iincN6 h rfl dX0_swap_104 ?_
                    refine aw_goto h (tgt := 51) dX0_swap_107 (by decide) ?_
                    have h9 := ihb (b + 1) I2 L2 (by omega) (by omega) hm2 (by omega)
                    rw [PLs_no (by omega) c71] at h9
                    exact h9
            refine aw_iload5 h dX0_swap_45 ?_
            refine aw_iconst h _ ci_1 dX0_swap_47 ?_
            refine aw_iaddN h dX0_swap_48 ?_
            refine aw_istore6 h rfl dX0_swap_49 ?_
            have h9 := keyb (np S + 1) (a + 1) I1 L1 (by omega) (by omega) hm (by omega)
            exact h9
      refine aw_iconst h _ ci_0 dX0_swap_21 ?_
      refine aw_istore2 h rfl dX0_swap_22 ?_
      refine aw_bipush h _ cb_m2 dX0_swap_23 ?_
      refine aw_istore3 h rfl dX0_swap_25 ?_
      refine aw_bipush h _ cb_m2 dX0_swap_26 ?_
      refine aw_istore4 h rfl dX0_swap_28 ?_
      refine aw_iconst h _ ci_0 dX0_swap_30 ?_
      refine aw_istore5 h rfl dX0_swap_31 ?_
      exact key (np S + 1) 0 I L (Nat.zero_le _) (by omega) XM.rf _
    · refine aw_iconst h _ ci_m1 dX0_swap_19 ?_
      exact aw_iret h hr dX0_swap_20 (⟨by unfold swA; rw [c16, Bool.and_false]; rfl, rfl, XM.rf⟩) (Nat.zero_le _) (Nat.zero_le _)
theorem set_rng {p : Int32} {n : Nat} (hn : n < 2 ^ 31) (h1 : 1 ≤ n) : (decide ((lN 0) ≤ p.toInt64) && decide (p.toInt64 ≤ (nI n - nI 1).toInt64)) = (decide (0 ≤ p) && decide (p < nI n)) := in_rng hn
theorem met_x_isPeople {w : Wd} {G : Gm} {I : Im} {L : Lm} (hX : XG G) {sl : Nat → Prop} {K : CS} {c : Nat} {S : Nat → Int32} {t : Nat} (hV : XV sl G I K c S t) {m : Int32} : AMet w yX0_isPeople cX0_isPeople 2 (some .boolean) 3 80 0 0 [.ref (w.1 + 0), .int m] G I L (Exact (some (.int (bI (setB S m)))) G I L) := by
  refine AMet.of (ls0 := [some (.ref (w.1 + 0)), some (.int m)]) rfl (Nat.le_of_ble_eq_true rfl) rfl (fun q hq => hq) (fun X h hl hr hi => ?_)
  obtain ⟨hC0, hS, hcs, ht, ht2, hdj⟩ := id hV
  have hC := hC0
  obtain ⟨hc0, ⟨pl, pa, dl, da, fa, ps, ds, hK, hsp⟩, hok, hsl⟩ := id hC
  obtain ⟨cp, hLp⟩ := hK.2.2.2.2.2.1
  obtain ⟨cd, hLd⟩ := hK.2.2.2.2.2.2.1
  have hpl := hK.2.2.2.2.2.2.2.1
  have hdl := hK.2.2.2.2.2.2.2.2.1
  have hdk := hK.2.2.2.2.2.2.2.2.2.2.1
  have hpk := hK.2.2.2.2.2.2.2.2.2.1
  have hrm := hK.2.2.2.2.2.2.2.2.2.2.2.1
  have hfr := hK.2.2.2.2.2.2.2.2.2.2.2.2.2
  have hR8 := hok.2.1
  have hD14 := hok.2.2.1
  have hP4 := hok.2.2.2.1
  have hdo := hok.2.2.2.2.1
  have hpo := hok.2.2.2.2.2.1
  have hf9 := hok.2.2.2.2.2.2.2
  have hn := cas_n hcs hok
  have b2 := iv2b hS
  have h24 : 2 ^ np S ≤ 2 ^ 4 := Nat.pow_le_pow_right (by decide) b2
  refine aw_aload0 h dX0_isPeople_0 ?_
  refine aw_callVE0 h hl cl_X0_139 (met_x_isCastle hX hC) (gx0 hX) rfl dX0_isPeople_1 (Nat.le_of_ble_eq_true rfl) rfl (Nat.zero_le _) (Nat.zero_le _) ?_
  rw [← hn.1]
  refine aw_if_eqB h (tgt := 32) dX0_isPeople_4 (by decide) (fun c4 => ?_) (fun c4 => ?_)
  · refine aw_iconst h _ ci_0 dX0_isPeople_32 ?_
    exact aw_zret h hr dX0_isPeople_33 (by first | exact z01_0 | exact z01_1 | exact z01_b _) (ExB0 (by unfold setB; rw [c4]; rfl)) (Nat.zero_le _) (Nat.zero_le _)
  · refine aw_iload1 h dX0_isPeople_7 ?_
    refine aw_i2l h dX0_isPeople_8 ?_
    refine aw_lconst h _ cl_0 dX0_isPeople_9 ?_
    refine aw_iconst h _ ci_1 dX0_isPeople_10 ?_
    refine aw_aload0 h dX0_isPeople_11 ?_
    refine aw_getr h fl_X0_12 (gx0 hX) dX0_isPeople_12 rfl hc0 ?_
    refine aw_callVE0 h hl cl_X0_125 (met_x_many hK hok) hK.1 rfl dX0_isPeople_15 (Nat.le_of_ble_eq_true rfl) rfl (Nat.zero_le _) (Nat.zero_le _) ?_
    rw [← hn.2.2]
    refine aw_ishl h dX0_isPeople_18 ?_
    rw [bs_shl1 (by omega)]
    refine aw_iconst h _ ci_1 dX0_isPeople_19 ?_
    refine aw_isub h dX0_isPeople_20 ?_
    refine aw_i2l h dX0_isPeople_21 ?_
    refine aw_callSE3 h hl cl_X0_129 (met_x_in) dX0_isPeople_22 (Nat.le_of_ble_eq_true rfl) rfl (Nat.zero_le _) (Nat.zero_le _) ?_
    rw [in_rng (by omega)]
    refine aw_if_eqB h (tgt := 32) dX0_isPeople_25 (by decide) (fun c25 => ?_) (fun c25 => ?_)
    · refine aw_iconst h _ ci_0 dX0_isPeople_32 ?_
      exact aw_zret h hr dX0_isPeople_33 (by first | exact z01_0 | exact z01_1 | exact z01_b _) (ExB0 (by unfold setB; rw [c4, c25]; rfl)) (Nat.zero_le _) (Nat.zero_le _)
    · refine aw_iconst h _ ci_1 dX0_isPeople_28 ?_
      refine aw_goto h (tgt := 33) dX0_isPeople_29 (by decide) ?_
      exact aw_zret h hr dX0_isPeople_33 (by first | exact z01_0 | exact z01_1 | exact z01_b _) (ExB1 (by unfold setB; rw [c4, c25]; rfl)) (Nat.zero_le _) (Nat.zero_le _)
