/-! The component: who will go where -/
set_option maxRecDepth 100000
theorem sgn_neg (v : Int64) : sgn64 v < 0 ↔ v < lN 0 := by
  unfold sgn64
  by_cases h : v < lN 0
  · rw [if_pos h]; exact ⟨fun _ => h, fun _ => by decide⟩
  · rw [if_neg h]
    refine ⟨fun q => ?_, fun q => absurd q h⟩
    split at q
    · exact absurd q (by decide)
    · exact absurd q (by decide)
theorem sgn_zero (v : Int64) : sgn64 v = 0 ↔ ¬ v < lN 0 ∧ ¬ lN 0 < v := by
  unfold sgn64
  by_cases h : v < lN 0
  · rw [if_pos h]; exact ⟨fun q => absurd q (by decide), fun q => absurd h q.1⟩
  · rw [if_neg h]
    by_cases h2 : lN 0 < v
    · rw [if_pos h2]; exact ⟨fun q => absurd q (by decide), fun q => absurd h2 q.2⟩
    · rw [if_neg h2]; exact ⟨fun _ => ⟨h, h2⟩, fun _ => rfl⟩
theorem XV.ix {sl : Nat → Prop} {G : Gm} {I I1 : Im} {K : CS} {c : Nat} {S : Nat → Int32} {t : Nat} (h : XV sl G I K c S t) (he : ∀ m, MutB m = false → I1 m = I m) : XV sl G I1 K c S t := ⟨h.1.ix he, h.2⟩
def WXt (G : Gm) (I : Im) (L : Lm) : Gm → Im → Lm → Prop := fun G1 I1 L1 => G = G1 ∧ I = I1 ∧ ∃ W : Nat → Int64, va_up L 27 W = L1
theorem WXt.rf {G : Gm} {I : Im} {L : Lm} : WXt G I L G I L := ⟨rfl, rfl, L 27, vup_id L 27⟩
theorem met_x_willOf {w : Wd} {G : Gm} {I : Im} {L : Lm} (hX : XG G) {sl : Nat → Prop} {K : CS} {c : Nat} {S : Nat → Int32} {t : Nat} (hV : XV sl G I K c S t) {s : Nat} (hs : StSh G s) (hA : StAt I s S) (hs7 : s = 7 ∨ s = 13) (hst : ∀ q, q < np S → I 28 q = stepI S (gl S q) (rm S q)) {p : Nat} (hp : p < np S) (hlf : I 30 p = nI (distV S (gl S p) (rm S p))) {RL : List (List Cl)} {fr : Option (List Cl)} (hRu : XRu sl G I RL) (hFr : XFr I RL fr) : AMet w yX0_willOf cX0_willOf 4 (some .int) 411 12322 0 0 [.ref (w.1 + 0), .ref (w.1 + s), .int (nI p)] G I L (Ans (some (.int (willI S fr p))) (WXt G I L)) := by
  refine AMet.of (ls0 := [some (.ref (w.1 + 0)), some (.ref (w.1 + s)), some (.int (nI p)), none]) rfl (Nat.le_of_ble_eq_true rfl) rfl (fun q hq => hq) (fun X h hl hr hi => ?_)
  obtain ⟨hC0, hS, hcs, ht, ht2, hdj⟩ := id hV
  have hC := hC0
  obtain ⟨hc0, ⟨pl, pa, dl, da, fa, ps, ds, hK, hsp⟩, hok, hsl⟩ := id hC
  obtain ⟨cp, hLp⟩ := hK.2.2.2.2.2.1
  obtain ⟨cd, hLd⟩ := hK.2.2.2.2.2.2.1
  have hpl := hK.2.2.2.2.2.2.2.1
  have hdl := hK.2.2.2.2.2.2.2.2.1
  have hdk := hK.2.2.2.2.2.2.2.2.2.2.1
  have hpk := hK.2.2.2.2.2.2.2.2.2.1
  have hrm := hK.2.2.2.2.2.2.2.2.2.2.2.1
  have hfr := hK.2.2.2.2.2.2.2.2.2.2.2.2.2
  have hR8 := hok.2.1
  have hD14 := hok.2.2.1
  have hP4 := hok.2.2.2.1
  have hdo := hok.2.2.2.2.1
  have hpo := hok.2.2.2.2.2.1
  have hf9 := hok.2.2.2.2.2.2.2
  have hn := cas_n hcs hok
  have hivp := ivp hS hp
  have hpa := hA.2.1 p hp
  have key38 : ∀ (L1 : Lm), WXt G I L G I L1 → AW X 0 0 38 [some (.ref (w.1 + 0)), some (.ref (w.1 + s)), some (.int (nI p)), some (.int (sgn64 (nW S fr p)))] [] G I L1 := by
    intro L1 hL1
    have hneg := sgn_neg (nW S fr p)
    have hzer := sgn_zero (nW S fr p)
    refine aw_iload3 h dX0_willOf_38 ?_
    refine aw_if_ge h (tgt := 60) dX0_willOf_39 (by decide) (fun c39 => ?_) (fun c39 => ?_)
    · refine aw_iload3 h dX0_willOf_60 ?_
      refine aw_if_eq h (tgt := 74) dX0_willOf_61 (by decide) (fun c61 => ?_) (fun c61 => ?_)
      · refine aw_iconst h _ ci_m1 dX0_willOf_74 ?_
        refine aw_goto h (tgt := 101) dX0_willOf_75 (by decide) ?_
        exact aw_iret h hr dX0_willOf_101 (⟨by unfold willI stepW; rw [if_neg (fun q => Int32.not_lt.mpr c39 (hneg.mpr q)), if_neg (fun q => (hzer.mp c61).2 q), if_pos (show (-1 : Int32) < 0 by decide)], hL1⟩) (Nat.zero_le _) (Nat.zero_le _)
      · have hpos : lN 0 < nW S fr p := by
          rcases Decidable.em (lN 0 < nW S fr p) with q | q
          · exact q
          · exact absurd (hzer.mpr ⟨fun z => Int32.not_lt.mpr c39 (hneg.mpr z), q⟩) c61
        refine aw_aload0 h dX0_willOf_64 ?_
        refine aw_getr h fl_X0_71 (gx0 hX) dX0_willOf_65 rfl (gxp15 hX) ?_
        refine aw_iload2 h dX0_willOf_68 ?_
        refine aw_ialdV h (gxs28 hX) (by decide) (by omega) dX0_willOf_69 (hst p hp) ?_
        refine aw_iconst h _ ci_m1 dX0_willOf_70 ?_
        refine aw_icmp_ne h (tgt := 78) dX0_willOf_71 (by decide) (fun c71 => ?_) (fun c71 => ?_)
        · rcases step_cases S (gl S p) (rm S p) with e9 | ⟨r, hr9, er, hadj⟩
          · exact absurd e9 c71
          refine aw_aload0 h dX0_willOf_78 ?_
          refine aw_getr h fl_X0_12 (gx0 hX) dX0_willOf_79 rfl hc0 ?_
          refine aw_aload1 h dX0_willOf_82 ?_
          refine aw_getr h fl_X0_202 hs.1 dX0_willOf_83 rfl (hs.2 0 (by decide)).1 ?_
          refine aw_iload2 h dX0_willOf_86 ?_
          refine aw_ialdV h (hs.2 0 (by decide)).2 (by decide) (by omega) dX0_willOf_87 (hpa.1.trans hivp.1) ?_
          refine aw_aload0 h dX0_willOf_88 ?_
          refine aw_getr h fl_X0_71 (gx0 hX) dX0_willOf_89 rfl (gxp15 hX) ?_
          refine aw_iload2 h dX0_willOf_92 ?_
          refine aw_ialdV h (gxs28 hX) (by decide) (by omega) dX0_willOf_93 ((hst p hp).trans er) ?_
          refine aw_aload1 h dX0_willOf_94 ?_
          refine aw_getiV h fl_X0_195 hs.1 dX0_willOf_95 rfl (hA.1.trans ht) ?_
          refine aw_callVE3 h hl cl_X0_209 (met_x_between hK hok (a := rm S p) (b := r) (by omega) (by omega) ht2) hK.1 rfl dX0_willOf_98 (Nat.le_of_ble_eq_true rfl) rfl (Nat.zero_le _) (Nat.zero_le _) ?_
          rw [beK_S hcs hok hdj ht ht2 hadj]
          exact aw_iret h hr dX0_willOf_101 (⟨by unfold willI stepW; rw [if_neg (fun q => Int32.not_lt.mpr c39 (hneg.mpr q)), if_pos hpos, er, if_neg (by exact Int32.not_lt.mpr (nI_pos' (by omega))), nI_clamp (by omega)], hL1⟩) (Nat.zero_le _) (Nat.zero_le _)
        · refine aw_iconst h _ ci_m1 dX0_willOf_74 ?_
          refine aw_goto h (tgt := 101) dX0_willOf_75 (by decide) ?_
          exact aw_iret h hr dX0_willOf_101 (⟨by unfold willI stepW; rw [if_neg (fun q => Int32.not_lt.mpr c39 (hneg.mpr q)), if_pos hpos, c71, if_pos (show (-1 : Int32) < 0 by decide)], hL1⟩) (Nat.zero_le _) (Nat.zero_le _)
    · refine aw_aload0 h dX0_willOf_42 ?_
      refine aw_getr h fl_X0_12 (gx0 hX) dX0_willOf_43 rfl hc0 ?_
      refine aw_aload1 h dX0_willOf_46 ?_
      refine aw_getr h fl_X0_202 hs.1 dX0_willOf_47 rfl (hs.2 0 (by decide)).1 ?_
      refine aw_iload2 h dX0_willOf_50 ?_
      refine aw_ialdV h (hs.2 0 (by decide)).2 (by decide) (by omega) dX0_willOf_51 (hpa.1.trans hivp.1) ?_
      refine aw_aload1 h dX0_willOf_52 ?_
      refine aw_getiV h fl_X0_195 hs.1 dX0_willOf_53 rfl (hA.1.trans ht) ?_
      refine aw_callVE2 h hl cl_X0_283 (met_x_firstOut hK hok (a := rm S p) (by omega) ht2) hK.1 rfl dX0_willOf_56 (Nat.le_of_ble_eq_true rfl) rfl (Nat.zero_le _) (Nat.zero_le _) ?_
      rw [foK_S hcs hok ht ht2]
      exact aw_iret h hr dX0_willOf_59 (⟨by unfold willI; rw [if_pos (hneg.mp (Int32.not_le.mp c39))], hL1⟩) (Nat.zero_le _) (Nat.zero_le _)
  rcases hFr with ⟨rfl, hf⟩ | ⟨r, hrl, hf, rfl⟩
  · refine aw_iconst h _ ci_1 dX0_willOf_0 ?_
    refine aw_istore3 h rfl dX0_willOf_1 ?_
    refine aw_aload0 h dX0_willOf_2 ?_
    refine aw_getiV h fl_X0_35 (gx0 hX) dX0_willOf_3 rfl (hf) ?_
    refine aw_iconst h _ ci_m1 dX0_willOf_6 ?_
    refine aw_icmp_eq h (tgt := 38) dX0_willOf_7 (by decide) (fun c7 => ?_) (fun c7 => ?_)
    · exact key38 L WXt.rf
    · exact absurd rfl c7
  · obtain ⟨a, cap, els, hAl, hel, hr6, -, -, hslm, hRu2⟩ := id hRu
    have hRr := hRu2 r hrl
    have hRl := hAl
    refine aw_iconst h _ ci_1 dX0_willOf_0 ?_
    refine aw_istore3 h rfl dX0_willOf_1 ?_
    refine aw_aload0 h dX0_willOf_2 ?_
    refine aw_getiV h fl_X0_35 (gx0 hX) dX0_willOf_3 rfl (hf) ?_
    refine aw_iconst h _ ci_m1 dX0_willOf_6 ?_
    refine aw_icmp_eq h (tgt := 38) dX0_willOf_7 (by decide) (fun c7 => ?_) (fun c7 => ?_)
    · exact absurd c7 (ne_m1 (by omega))
    · refine aw_aload0 h dX0_willOf_10 ?_
      refine aw_aload1 h dX0_willOf_11 ?_
      refine aw_iload2 h dX0_willOf_12 ?_
      refine aw_callVN2 h hl cl_X0_273 (met_x_asks hX hV hs hA hs7 hst hp hlf) (gx0 hX) rfl dX0_willOf_13 (Nat.le_of_ble_eq_true rfl) rfl (Nat.zero_le _) (Nat.zero_le _) (fun G1 I1 L1 hp9 => ?_)
      obtain ⟨rfl, rfl, W, rfl, hW⟩ := hp9
      refine aw_aload0 h dX0_willOf_16 ?_
      refine aw_getr h fl_X0_31 (gx0 hX) dX0_willOf_17 rfl (gxp3 hX) ?_
      refine aw_aload0 h dX0_willOf_20 ?_
      refine aw_getiV h fl_X0_35 (gx0 hX) dX0_willOf_21 rfl (hf) ?_
      refine aw_callVE1 h hl cl_X0_223 (met_j_get hAl (i := r) (by omega)) hRl.1 rfl dX0_willOf_24 (Nat.le_of_ble_eq_true rfl) rfl (Nat.zero_le _) (Nat.zero_le _) ?_
      refine aw_cast h hRr.2.1 (by decide) rfl q1068 (Or.inl rfl) dX0_willOf_27 ?_
      refine aw_aload0 h dX0_willOf_30 ?_
      refine aw_getr h fl_X0_67 (gx0 hX) dX0_willOf_31 rfl (gxp14 hX) ?_
      refine aw_callVE1 h hl cl_X0_279 (met_x_goes (gxs27 hX) hRr) hRr.2.1 rfl dX0_willOf_34 (Nat.le_of_ble_eq_true rfl) rfl (Nat.zero_le _) (Nat.zero_le _) ?_
      rw [show goesV (va_up L 27 W 27) (RL.getD r []) = nW S (some (RL.getD r [])) p from (congrArg (fun z => goesV z (RL.getD r [])) (vup_s L 27 W)).trans (hRr.cg hW)]
      refine aw_istore3 h rfl dX0_willOf_37 ?_
      exact key38 (va_up L 27 W) ⟨rfl, rfl, W, rfl⟩
/-- steps, lefts, wills are laid -/
def WIt (S : Nat → Int32) (fr : Option (List Cl)) (G : Gm) (I : Im) (L : Lm) : Gm → Im → Lm → Prop := fun G1 I1 L1 => G = G1 ∧ IX [26, 27, 28, 29, 30] I L I1 L1 ∧ ∀ q, q < np S → I1 29 q = willI S fr q
theorem XFr.ix {I I1 : Im} {RL : List (List Cl)} {fr : Option (List Cl)} (h : XFr I RL fr) (he : I1 0 = I 0) : XFr I1 RL fr := by
  unfold XFr
  rw [he]; exact h
theorem met_x_wills {w : Wd} {G : Gm} {I : Im} {L : Lm} (hX : XG G) {sl : Nat → Prop} {K : CS} {c : Nat} {S : Nat → Int32} {t : Nat} (hV : XV sl G I K c S t) {s : Nat} (hs : StSh G s) (hA : StAt I s S) (hs7 : s = 7 ∨ s = 13) {RL : List (List Cl)} {fr : Option (List Cl)} (hRu : XRu sl G I RL) (hFr : XFr I RL fr) : AMet w yX0_wills cX0_wills 3 none 412 12345 0 0 [.ref (w.1 + 0), .ref (w.1 + s)] G I L (Ans none (WIt S fr G I L)) := by
  refine AMet.of (ls0 := [some (.ref (w.1 + 0)), some (.ref (w.1 + s)), none]) rfl (Nat.le_of_ble_eq_true rfl) rfl (fun q hq => hq) (fun X h hl hr hi => ?_)
  obtain ⟨hC0, hS, hcs, ht, ht2, hdj⟩ := id hV
  have hC := hC0
  obtain ⟨hc0, ⟨pl, pa, dl, da, fa, ps, ds, hK, hsp⟩, hok, hsl⟩ := id hC
  obtain ⟨cp, hLp⟩ := hK.2.2.2.2.2.1
  obtain ⟨cd, hLd⟩ := hK.2.2.2.2.2.2.1
  have hpl := hK.2.2.2.2.2.2.2.1
  have hdl := hK.2.2.2.2.2.2.2.2.1
  have hdk := hK.2.2.2.2.2.2.2.2.2.2.1
  have hpk := hK.2.2.2.2.2.2.2.2.2.1
  have hrm := hK.2.2.2.2.2.2.2.2.2.2.2.1
  have hfr := hK.2.2.2.2.2.2.2.2.2.2.2.2.2
  have hR8 := hok.2.1
  have hD14 := hok.2.2.1
  have hP4 := hok.2.2.2.1
  have hdo := hok.2.2.2.2.1
  have hpo := hok.2.2.2.2.2.1
  have hf9 := hok.2.2.2.2.2.2.2
  have hn := cas_n hcs hok
  have key2 : ∀ (fu k : Nat) (I1 : Im) (L1 : Lm), k ≤ np S → np S < k + fu → IX [26, 27, 28, 29, 30] I L I1 L1 → (∀ q, q < np S → I1 28 q = stepI S (gl S q) (rm S q)) → (∀ q, q < np S → I1 30 q = nI (distV S (gl S q) (rm S q))) → (∀ q, q < k → I1 29 q = willI S fr q) → AW X 0 0 51 [some (.ref (w.1 + 0)), some (.ref (w.1 + s)), some (.int (nI k))] [] G I1 L1 := by
    intro fu
    induction fu with
    | zero => intro k I1 L1 hle hlt; exact absurd hlt (by omega)
    | succ fu ih =>
      intro k I1 L1 hle hlt hix h28 h30 h29
      have hV1 : XV sl G I1 K c S t := hV.ix (hix.nm (by decide))
      have hA1 : StAt I1 s S := hA.ix (fun m hm => (hix m (by simp [SCs] at hm; simp; omega)).1)
      have hR1 : XRu sl G I1 RL := hRu.ix (hix.nm (by decide))
      have hF1 : XFr I1 RL fr := hFr.ix (hix 0 (by decide)).1
      obtain ⟨hc0, ⟨pl, pa, dl, da, fa, ps, ds, hK, hsp⟩, -, -⟩ := id hV1.1
      obtain ⟨cp, hLp⟩ := hK.2.2.2.2.2.1
      refine aw_iload2 h dX0_wills_51 ?_
      refine aw_aload0 h dX0_wills_52 ?_
      refine aw_getr h fl_X0_12 (gx0 hX) dX0_wills_53 rfl hc0 ?_
      refine aw_callVE0 h hl cl_X0_125 (met_x_many hK hok) hK.1 rfl dX0_wills_56 (Nat.le_of_ble_eq_true rfl) rfl (Nat.zero_le _) (Nat.zero_le _) ?_
      refine aw_icmp_geN h (tgt := 80) (by omega) (by omega) dX0_wills_59 (by decide) (fun c59 => ?_) (fun c59 => ?_)
      · exact aw_vret h hr dX0_wills_80 (⟨rfl, rfl, hix, fun q hq => h29 q (by omega)⟩) (Nat.zero_le _) (Nat.zero_le _)
      · have hkn : k < np S := by omega
        have gsh := hs
        refine aw_aload0 h dX0_wills_62 ?_
        refine aw_getr h fl_X0_74 (gx0 hX) dX0_wills_63 rfl (gxp16 hX) ?_
        refine aw_iload2 h dX0_wills_66 ?_
        refine aw_aload0 h dX0_wills_67 ?_
        refine aw_aload1 h dX0_wills_68 ?_
        refine aw_iload2 h dX0_wills_69 ?_
        refine aw_callVA2 h hl cl_X0_286 (met_x_willOf hX hV1 gsh hA1 hs7 h28 hkn (h30 k hkn) hR1 hF1) (gx0 hX) rfl dX0_wills_70 (Nat.le_of_ble_eq_true rfl) rfl (Nat.zero_le _) (Nat.zero_le _) (fun G1 I2 L2 hp9 => ?_)
        obtain ⟨rfl, rfl, W, rfl⟩ := hp9
        refine aw_iastN h (gxs29 hX) (by decide) (by omega) dX0_wills_73 ?_
        refine aw_iincN2 h rfl dX0_wills_74 ?_
        refine aw_goto h (tgt := 51) dX0_wills_77 (by decide) ?_
        refine ih (k + 1) (upd2 I1 29 k (willI S fr k)) (va_up L1 27 W) (by omega) (by omega) ((hix.trans (IX.i (L := L1) (by decide))).trans (fun m hm => ⟨rfl, vup_n _ _ (fun e => by subst e; exact hm (by decide))⟩)) (fun q hq => ?_) (fun q hq => ?_) (fun q hq => ?_)
        · rw [upd2_r (by decide)]; exact h28 q hq
        · rw [upd2_r (by decide)]; exact h30 q hq
        · rw [upd2_s]
          by_cases e : q = k
          · subst e; rw [vup_s]
          · rw [vup_n _ _ e]; exact h29 q (by omega)
  have k49 : ∀ (I1 : Im), IX [26, 27, 28, 29, 30] I L I1 L → (∀ q, q < np S → I1 28 q = stepI S (gl S q) (rm S q)) → (∀ q, q < np S → I1 30 q = nI (distV S (gl S q) (rm S q))) → ∀ o2 : Option Value, AW X 0 0 49 [some (.ref (w.1 + 0)), some (.ref (w.1 + s)), o2] [] G I1 L := by
    intro I1 hix h28 h30 o2
    refine aw_iconst h _ ci_0 dX0_wills_49 ?_
    refine aw_istore2 h rfl dX0_wills_50 ?_
    exact key2 (np S + 1) 0 I1 L (Nat.zero_le _) (by omega) hix h28 h30 (fun q hq => absurd hq (Nat.not_lt_zero _))
  have key1 : ∀ (fu k : Nat) (I1 : Im), k ≤ np S → np S < k + fu → IX [26, 27, 28, 29, 30] I L I1 L → (∀ q, q < k → I1 28 q = stepI S (gl S q) (rm S q)) → (∀ q, q < k → I1 30 q = nI (distV S (gl S q) (rm S q))) → AW X 0 0 2 [some (.ref (w.1 + 0)), some (.ref (w.1 + s)), some (.int (nI k))] [] G I1 L := by
    intro fu
    induction fu with
    | zero => intro k I1 hle hlt; exact absurd hlt (by omega)
    | succ fu ih =>
      intro k I1 hle hlt hix h28 h30
      have hV1 : XV sl G I1 K c S t := hV.ix (hix.nm (by decide))
      have hA1 : StAt I1 s S := hA.ix (fun m hm => (hix m (by simp [SCs] at hm; simp; omega)).1)
      have hR1 : XRu sl G I1 RL := hRu.ix (hix.nm (by decide))
      have hF1 : XFr I1 RL fr := hFr.ix (hix 0 (by decide)).1
      obtain ⟨hc0, ⟨pl, pa, dl, da, fa, ps, ds, hK, hsp⟩, -, -⟩ := id hV1.1
      obtain ⟨cp, hLp⟩ := hK.2.2.2.2.2.1
      refine aw_iload2 h dX0_wills_2 ?_
      refine aw_aload0 h dX0_wills_3 ?_
      refine aw_getr h fl_X0_12 (gx0 hX) dX0_wills_4 rfl hc0 ?_
      refine aw_callVE0 h hl cl_X0_125 (met_x_many hK hok) hK.1 rfl dX0_wills_7 (Nat.le_of_ble_eq_true rfl) rfl (Nat.zero_le _) (Nat.zero_le _) ?_
      refine aw_icmp_geN h (tgt := 49) (by omega) (by omega) dX0_wills_10 (by decide) (fun c10 => ?_) (fun c10 => ?_)
      · exact k49 I1 hix (fun q hq => h28 q (by omega)) (fun q hq => h30 q (by omega)) _
      · have hkn : k < np S := by omega
        have hivk := ivp hS hkn
        have gsh := hs
        refine aw_aload0 h dX0_wills_13 ?_
        refine aw_getr h fl_X0_71 (gx0 hX) dX0_wills_14 rfl (gxp15 hX) ?_
        refine aw_iload2 h dX0_wills_17 ?_
        refine aw_aload0 h dX0_wills_18 ?_
        refine aw_aload1 h dX0_wills_19 ?_
        refine aw_iload2 h dX0_wills_20 ?_
        refine aw_callVA2 h hl cl_X0_232 (met_x_stepOf hX hV1 (gsh) hA1 hs7 hkn) (gx0 hX) rfl dX0_wills_21 (Nat.le_of_ble_eq_true rfl) rfl (Nat.zero_le _) (Nat.zero_le _) (fun G1 I2 L2 hp9 => ?_)
        obtain ⟨rfl, rfl, f, rfl, hf⟩ := hp9
        refine aw_iastN h (gxs28 hX) (by decide) (by omega) dX0_wills_24 ?_
        have hix2 : IX [26, 27, 28, 29, 30] I L (upd2 (va_up I1 26 f) 28 k (stepI S (gl S k) (rm S k))) L := (hix.trans (IX.r (by decide))).trans (IX.i (by decide))
        have hV2 : XV sl G (upd2 (va_up I1 26 f) 28 k (stepI S (gl S k) (rm S k))) K c S t := hV.ix (hix2.nm (by decide))
        have hA2 : StAt (upd2 (va_up I1 26 f) 28 k (stepI S (gl S k) (rm S k))) s S := hA.ix (fun m hm => (hix2 m (by simp [SCs] at hm; simp; omega)).1)
        refine aw_aload0 h dX0_wills_25 ?_
        refine aw_getr h fl_X0_77 (gx0 hX) dX0_wills_26 rfl (gxp17 hX) ?_
        refine aw_iload2 h dX0_wills_29 ?_
        refine aw_aload0 h dX0_wills_30 ?_
        refine aw_aload1 h dX0_wills_31 ?_
        refine aw_iload2 h dX0_wills_32 ?_
        refine aw_aload1 h dX0_wills_33 ?_
        refine aw_getr h fl_X0_202 hs.1 dX0_wills_34 rfl (hs.2 0 (by decide)).1 ?_
        refine aw_iload2 h dX0_wills_37 ?_
        refine aw_ialdV h (hs.2 0 (by decide)).2 (by decide) (by omega) dX0_wills_38 ((hA2.2.1 k hkn).1.trans hivk.1) ?_
        refine aw_callVA3 h hl cl_X0_205 (met_x_leftFrom hX hV2 gsh hA2 hs7 hkn (ivp hS hkn).2.1) (gx0 hX) rfl dX0_wills_39 (Nat.le_of_ble_eq_true rfl) rfl (Nat.zero_le _) (Nat.zero_le _) (fun G1 I3 L3 hp9 => ?_)
        obtain ⟨rfl, rfl, f2, rfl, hf2⟩ := hp9
        refine aw_iastN h (gxs30 hX) (by decide) (by omega) dX0_wills_42 ?_
        refine aw_iincN2 h rfl dX0_wills_43 ?_
        refine aw_goto h (tgt := 2) dX0_wills_46 (by decide) ?_
        refine ih (k + 1) _ (by omega) (by omega) ((hix2.trans (IX.r (by decide))).trans (IX.i (by decide))) (fun q hq => ?_) (fun q hq => ?_)
        · rw [upd2_r (by decide), show va_up (upd2 (va_up I1 26 f) 28 k (stepI S (gl S k) (rm S k))) 26 f2 28 = (upd2 (va_up I1 26 f) 28 k (stepI S (gl S k) (rm S k))) 28 from vup_n _ _ (by decide), upd2_s, show va_up I1 26 f 28 = I1 28 from vup_n _ _ (by decide)]
          by_cases e : q = k
          · subst e; rw [vup_s]
          · rw [vup_n _ _ e]; exact h28 q (by omega)
        · rw [upd2_s, show va_up (upd2 (va_up I1 26 f) 28 k (stepI S (gl S k) (rm S k))) 26 f2 30 = (upd2 (va_up I1 26 f) 28 k (stepI S (gl S k) (rm S k))) 30 from vup_n _ _ (by decide), upd2_n _ _ _ (by decide), show va_up I1 26 f 30 = I1 30 from vup_n _ _ (by decide)]
          by_cases e : q = k
          · subst e; rw [vup_s]
          · rw [vup_n _ _ e]; exact h30 q (by omega)
  refine aw_iconst h _ ci_0 dX0_wills_0 ?_
  refine aw_istore2 h rfl dX0_wills_1 ?_
  exact key1 (np S + 1) 0 I (Nat.zero_le _) (by omega) IX.rf (fun q hq => absurd hq (Nat.not_lt_zero _)) (fun q hq => absurd hq (Nat.not_lt_zero _))
theorem met_x_goesOutB {w : Wd} {G : Gm} {I : Im} {L : Lm} (hX : XG G) {sl : Nat → Prop} {K : CS} {c : Nat} {S : Nat → Int32} {t : Nat} (hV : XV sl G I K c S t) {s : Nat} (hs : StSh G s) (hA : StAt I s S) (hs7 : s = 7 ∨ s = 13) {fr : Option (List Cl)} (hw : ∀ q, q < np S → I 29 q = willI S fr q) {p : Nat} (hp : p < np S) : AMet w yX0_goesOut cX0_goesOut 3 (some .boolean) 5 126 0 0 [.ref (w.1 + 0), .ref (w.1 + s), .int (nI p)] G I L (Exact (some (.int (bI (outB S fr p)))) G I L) := by
  refine AMet.of (ls0 := [some (.ref (w.1 + 0)), some (.ref (w.1 + s)), some (.int (nI p))]) rfl (Nat.le_of_ble_eq_true rfl) rfl (fun q hq => hq) (fun X h hl hr hi => ?_)
  obtain ⟨hC0, hS, hcs, ht, ht2, hdj⟩ := id hV
  have hC := hC0
  obtain ⟨hc0, ⟨pl, pa, dl, da, fa, ps, ds, hK, hsp⟩, hok, hsl⟩ := id hC
  obtain ⟨cp, hLp⟩ := hK.2.2.2.2.2.1
  obtain ⟨cd, hLd⟩ := hK.2.2.2.2.2.2.1
  have hpl := hK.2.2.2.2.2.2.2.1
  have hdl := hK.2.2.2.2.2.2.2.2.1
  have hdk := hK.2.2.2.2.2.2.2.2.2.2.1
  have hpk := hK.2.2.2.2.2.2.2.2.2.1
  have hrm := hK.2.2.2.2.2.2.2.2.2.2.2.1
  have hfr := hK.2.2.2.2.2.2.2.2.2.2.2.2.2
  have hR8 := hok.2.1
  have hD14 := hok.2.2.1
  have hP4 := hok.2.2.2.1
  have hdo := hok.2.2.2.2.1
  have hpo := hok.2.2.2.2.2.1
  have hf9 := hok.2.2.2.2.2.2.2
  have hn := cas_n hcs hok
  have hwp := hw p hp
  have hpa := hA.2.1 p hp
  have hivp := ivp hS hp
  rcases will_cases S fr p with e9 | ⟨d, hd9, e9⟩
  · refine aw_aload0 h dX0_goesOut_0 ?_
    refine aw_getr h fl_X0_74 (gx0 hX) dX0_goesOut_1 rfl (gxp16 hX) ?_
    refine aw_iload2 h dX0_goesOut_4 ?_
    refine aw_ialdV h (gxs29 hX) (by decide) (by omega) dX0_goesOut_5 (hwp.trans e9) ?_
    refine aw_iconst h _ ci_m1 dX0_goesOut_6 ?_
    refine aw_icmp_eq h (tgt := 36) dX0_goesOut_7 (by decide) (fun c7 => ?_) (fun c7 => ?_)
    · refine aw_iconst h _ ci_0 dX0_goesOut_36 ?_
      exact aw_zret h hr dX0_goesOut_37 (by first | exact z01_0 | exact z01_1 | exact z01_b _) (ExB0 (by unfold outB; rw [e9]; rfl)) (Nat.zero_le _) (Nat.zero_le _)
    · exact absurd rfl c7
  · have hdd : d < (kD K).length := by omega
    have hx := cas_d hcs hok hdd
    have hlt := inK_lt hok hdd
    have hob : outB S fr p = decide (inK K d = rm S p) := by
      unfold outB
      rw [e9, decide_eq_true (nI_pos' (by omega)), Bool.true_and, nI_clamp (by omega), hx.1]
    refine aw_aload0 h dX0_goesOut_0 ?_
    refine aw_getr h fl_X0_74 (gx0 hX) dX0_goesOut_1 rfl (gxp16 hX) ?_
    refine aw_iload2 h dX0_goesOut_4 ?_
    refine aw_ialdV h (gxs29 hX) (by decide) (by omega) dX0_goesOut_5 (hwp.trans e9) ?_
    refine aw_iconst h _ ci_m1 dX0_goesOut_6 ?_
    refine aw_icmp_eq h (tgt := 36) dX0_goesOut_7 (by decide) (fun c7 => ?_) (fun c7 => ?_)
    · exact absurd c7 (ne_m1 (by omega))
    · refine aw_aload0 h dX0_goesOut_10 ?_
      refine aw_getr h fl_X0_12 (gx0 hX) dX0_goesOut_11 rfl hc0 ?_
      refine aw_aload0 h dX0_goesOut_14 ?_
      refine aw_getr h fl_X0_74 (gx0 hX) dX0_goesOut_15 rfl (gxp16 hX) ?_
      refine aw_iload2 h dX0_goesOut_18 ?_
      refine aw_ialdV h (gxs29 hX) (by decide) (by omega) dX0_goesOut_19 (hwp.trans e9) ?_
      refine aw_callVE1 h hl cl_X0_179 (met_x_inner hK hok hdd) hK.1 rfl dX0_goesOut_20 (Nat.le_of_ble_eq_true rfl) rfl (Nat.zero_le _) (Nat.zero_le _) ?_
      refine aw_aload1 h dX0_goesOut_23 ?_
      refine aw_getr h fl_X0_202 hs.1 dX0_goesOut_24 rfl (hs.2 0 (by decide)).1 ?_
      refine aw_iload2 h dX0_goesOut_27 ?_
      refine aw_ialdV h (hs.2 0 (by decide)).2 (by decide) (by omega) dX0_goesOut_28 (hpa.1.trans hivp.1) ?_
      refine aw_icmp_neN h (tgt := 36) (by omega) (by omega) dX0_goesOut_29 (by decide) (fun c29 => ?_) (fun c29 => ?_)
      · refine aw_iconst h _ ci_0 dX0_goesOut_36 ?_
        exact aw_zret h hr dX0_goesOut_37 (by first | exact z01_0 | exact z01_1 | exact z01_b _) (ExB0 (by rw [hob, decide_eq_false c29])) (Nat.zero_le _) (Nat.zero_le _)
      · refine aw_iconst h _ ci_1 dX0_goesOut_32 ?_
        refine aw_goto h (tgt := 37) dX0_goesOut_33 (by decide) ?_
        exact aw_zret h hr dX0_goesOut_37 (by first | exact z01_0 | exact z01_1 | exact z01_b _) (ExB1 (by rw [hob, decide_eq_true c29])) (Nat.zero_le _) (Nat.zero_le _)
