/-! The component: are the notes so; could a rule be -/
set_option maxRecDepth 100000
theorem InvN.noteB {S : Nat → Int32} (h : InvN S) {j : Nat} (hj : j < nn S) : ∃ b, b < np S ∧ S (84 + 3 * j + 1) = nI b := (h.2.2 j hj).1
/-- all notes are so under a force -/
def fitF (S : Nat → Int32) (fr : Option (List Cl)) (m : Nat) : Bool := !anyN m (fun j => !notesB (itP fr j (begS S)))
theorem it3 {fr : Option (List Cl)} {S : Nat → Int32} {t : Nat} (h : S 3 = nI t) (k : Nat) : itP fr k S 3 = nI (t + k) := by
  induction k with
  | zero => exact h
  | succ k ih =>
    show passS (itP fr k S) fr 3 = _
    unfold passS
    rw [vup_s, ih]
    exact nI_add (t + k) 1
theorem beg3 (S : Nat → Int32) : begS S 3 = nI 0 := by
  show begP S _ 3 = _
  unfold begP; rw [if_pos rfl]
theorem itb_hi {fr : Option (List Cl)} {S : Nat → Int32} (hS : InvS S) (k : Nat) : ∀ i, 34 ≤ i ∨ (i < 10 ∧ i ≠ 3) → itP fr k (begS S) i = S i := fun i hi => (it_hi hi k).trans (begP_hi (iv2b hS) hi)
theorem notesB_it {fr : Option (List Cl)} {S : Nat → Int32} (hS : InvS S) (m : Nat) : notesB (itP fr m (begS S)) = !anyN (nn S) (fun k => decide (S (84 + 3 * k) = nI m) && !decide (pv (itP fr m (begS S)) (S (84 + 3 * k + 1)).toNatClampNeg 0 = S (84 + 3 * k + 2))) := by
  have hv := itb_hi (fr := fr) hS m
  unfold notesB
  rw [show nn (itP fr m (begS S)) = nn S by unfold nn nv; rw [hv 114 (by omega)], it3 (beg3 S) m, Nat.zero_add]
  congr 2
  funext k
  rw [hv _ (by omega), hv _ (by omega), hv _ (by omega)]
theorem fitF_no {fr : Option (List Cl)} {S : Nat → Int32} {m n : Nat} (hm : m < n) (h : notesB (itP fr m (begS S)) = false) : fitF S fr n = false := by
  unfold fitF
  rw [Bool.not_eq_false', anyN_iff]
  exact ⟨m, hm, by rw [h]; rfl⟩
theorem fitF_yes {fr : Option (List Cl)} {S : Nat → Int32} {n : Nat} (h : ∀ m, m < n → notesB (itP fr m (begS S)) = true) : fitF S fr n = true := by
  unfold fitF
  rw [Bool.not_eq_true', anyN_false]
  intro j hj
  rw [h j hj]; rfl
theorem NoteX.xm {ex exf : Nat → Bool} {I I1 : Im} {L L1 : Lm} {S : Nat → Int32} (h : NoteX I S) (hm : XM ex exf I L I1 L1) (h1 : ex 23 = false) (h2 : ex 24 = false) (h3 : ex 25 = false) (h4 : exf 11 = false) : NoteX I1 S := by
  refine ⟨(hm.2.1 11 h4).trans h.1, fun j hj => ?_⟩
  rw [(hm.1 23 (by decide) h1).1, (hm.1 24 (by decide) h2).1, (hm.1 25 (by decide) h3).1]
  exact h.2 j hj
theorem met_x_areNotesSo {w : Wd} {G : Gm} {I : Im} {L : Lm} (hX : XG G) {sl : Nat → Prop} {K : CS} {c : Nat} {S : Nat → Int32} {t : Nat} (hV : XV sl G I K c S t) (hT : TolS S K) (hN : InvN S) (hNx : NoteX I S) {RL : List (List Cl)} {fr : Option (List Cl)} (hRu : XRu sl G I RL) (hFr : XFr I RL fr) : AMet w yX0_areNotesSo cX0_areNotesSo 3 (some .boolean) 414 12391 0 0 [.ref (w.1 + 0)] G I L (Ans (some (.int (bI (fitF S fr 61)))) (XQ G I L)) := by
  refine AMet.of (ls0 := [some (.ref (w.1 + 0)), none, none]) rfl (Nat.le_of_ble_eq_true rfl) rfl (fun q hq => hq) (fun X h hl hr hi => ?_)
  obtain ⟨hC0, hS, hcs, ht, ht2, hdj⟩ := id hV
  have hC := hC0
  obtain ⟨hc0, ⟨pl, pa, dl, da, fa, ps, ds, hK, hsp⟩, hok, hsl⟩ := id hC
  obtain ⟨cp, hLp⟩ := hK.2.2.2.2.2.1
  obtain ⟨cd, hLd⟩ := hK.2.2.2.2.2.2.1
  have hpl := hK.2.2.2.2.2.2.2.1
  have hdl := hK.2.2.2.2.2.2.2.2.1
  have hdk := hK.2.2.2.2.2.2.2.2.2.2.1
  have hpk := hK.2.2.2.2.2.2.2.2.2.1
  have hrm := hK.2.2.2.2.2.2.2.2.2.2.2.1
  have hfr := hK.2.2.2.2.2.2.2.2.2.2.2.2.2
  have hR8 := hok.2.1
  have hD14 := hok.2.2.1
  have hP4 := hok.2.2.2.1
  have hdo := hok.2.2.2.2.1
  have hpo := hok.2.2.2.2.2.1
  have hf9 := hok.2.2.2.2.2.2.2
  have hn := cas_n hcs hok
  have h4 := iv2b hS
  have hN1 := hN.2.1
  have key : ∀ (fu m : Nat) (I1 : Im) (L1 : Lm), m ≤ 61 → 61 < m + fu → XM gtE noF I L I1 L1 → StAt I1 13 (itP fr m (begS S)) → (∀ j, j < m → notesB (itP fr j (begS S)) = true) → ∀ o2 : Option Value, AW X 0 0 13 [some (.ref (w.1 + 0)), some (.int (nI m)), o2] [] G I1 L1 := by
    intro fu
    induction fu with
    | zero => intro m I1 L1 hle hlt; exact absurd hlt (by omega)
    | succ fu ih =>
      intro m I1 L1 hle hlt hm1 hA1 hall
      intro o2
      have hVm : XV sl G I1 K c (itP fr m (begS S)) (0 + m) := (hV.beg (hm1.nm gt_mut) hT).it (fun _ _ => rfl) fr m (by omega)
      have hR1 : XRu sl G I1 RL := hRu.ix (hm1.nm gt_mut)
      have hF1 : XFr I1 RL fr := hFr.f (hm1.2.1 4 rfl)
      have hNx1 : NoteX I1 S := hNx.xm hm1 rfl rfl rfl rfl
      have hnn : I1 0 11 = nI (nn S) := hNx1.1.trans hN.1
      have hnpi : np (itP fr m (begS S)) = np S := (it_np m).trans (np_beg hS)
      have hnb := notesB_it (fr := fr) hS m
      refine aw_iload1 h dX0_areNotesSo_13 ?_
      refine aw_bipush h _ cb_60 dX0_areNotesSo_14 ?_
      refine aw_icmp_gtN h (tgt := 85) (by omega) (by decide) dX0_areNotesSo_16 (by decide) (fun c16 => ?_) (fun c16 => ?_)
      · refine aw_iconst h _ ci_1 dX0_areNotesSo_85 ?_
        exact aw_zret h hr dX0_areNotesSo_86 (by first | exact z01_0 | exact z01_1 | exact z01_b _) (⟨by rw [fitF_yes (fun j hj => hall j (by omega))]; rfl, rfl, hm1⟩) (Nat.zero_le _) (Nat.zero_le _)
      · have k70 : (∀ j, j < nn S → (decide (S (84 + 3 * j) = nI m) && !decide (pv (itP fr m (begS S)) (S (84 + 3 * j + 1)).toNatClampNeg 0 = S (84 + 3 * j + 2))) = false) → ∀ o2 : Option Value, AW X 0 0 70 [some (.ref (w.1 + 0)), some (.int (nI m)), o2] [] G I1 L1 := by
          intro hno o2
          refine aw_aload0 h dX0_areNotesSo_70 ?_
          refine aw_aload0 h dX0_areNotesSo_71 ?_
          refine aw_getr h fl_X0_23 (gx0 hX) dX0_areNotesSo_72 rfl (gxp2 hX) ?_
          refine aw_callVA1 h hl cl_X0_315 (met_x_goesOn hX hVm (gxt13 hX) hA1 (Or.inr rfl) hR1 hF1) (gx0 hX) rfl dX0_areNotesSo_75 (Nat.le_of_ble_eq_true rfl) rfl (Nat.zero_le _) (Nat.zero_le _) (fun G1 I2 L2 hp9 => ?_)
          have hm2 := hp9.scr
          obtain ⟨rfl, -, hA2⟩ := hp9
          refine aw_pop h rfl dX0_areNotesSo_78 ?_
          refine aw_iincN1 h rfl dX0_areNotesSo_79 ?_
          refine aw_goto h (tgt := 13) dX0_areNotesSo_82 (by decide) ?_
          refine ih (m + 1) I2 L2 (by omega) (by omega) (hm1.trans hm2) hA2 (fun j hj => ?_) _
          by_cases e : j = m
          · subst e; rw [hnb, Bool.not_eq_true', anyN_false]; exact hno
          · exact hall j (by omega)
        have keyk : ∀ (fk kk : Nat), kk ≤ nn S → nn S < kk + fk → (∀ j, j < kk → (decide (S (84 + 3 * j) = nI m) && !decide (pv (itP fr m (begS S)) (S (84 + 3 * j + 1)).toNatClampNeg 0 = S (84 + 3 * j + 2))) = false) → AW X 0 0 21 [some (.ref (w.1 + 0)), some (.int (nI m)), some (.int (nI kk))] [] G I1 L1 := by
          intro fk
          induction fk with
          | zero => intro kk hle hlt; exact absurd hlt (by omega)
          | succ fk ihk =>
            intro kk hle hlt hno
            have hnk : kk < nn S → ∃ b, b < np S ∧ S (84 + 3 * kk + 1) = nI b := fun q => hN.noteB q
            refine aw_iload2 h dX0_areNotesSo_21 ?_
            refine aw_aload0 h dX0_areNotesSo_22 ?_
            refine aw_getiV h fl_X0_164 (gx0 hX) dX0_areNotesSo_23 rfl (hnn) ?_
            refine aw_icmp_geN h (tgt := 70) (by omega) (by omega) dX0_areNotesSo_26 (by decide) (fun c26 => ?_) (fun c26 => ?_)
            · exact k70 (fun j hj => hno j (by omega)) _
            · refine aw_aload0 h dX0_areNotesSo_29 ?_
              refine aw_getr h fl_X0_50 (gx0 hX) dX0_areNotesSo_30 rfl (gxp8 hX) ?_
              refine aw_iload2 h dX0_areNotesSo_33 ?_
              refine aw_ialdV h (gxs23 hX) (by decide) (by omega) dX0_areNotesSo_34 ((hNx1.2 kk (by omega)).1) ?_
              refine aw_iload1 h dX0_areNotesSo_35 ?_
              refine aw_icmp_ne h (tgt := 64) dX0_areNotesSo_36 (by decide) (fun c36 => ?_) (fun c36 => ?_)
              · refine aw_iincN2 h rfl dX0_areNotesSo_64 ?_
                refine aw_goto h (tgt := 21) dX0_areNotesSo_67 (by decide) ?_
                refine ihk (kk + 1) (by omega) (by omega) (fun j hj => ?_)
                by_cases e : j = kk
                · subst e; rw [decide_eq_false c36]; rfl
                · exact hno j (by omega)
              · obtain ⟨b, hb, hbe⟩ := hnk (by omega)
                refine aw_aload0 h dX0_areNotesSo_39 ?_
                refine aw_getr h fl_X0_23 (gx0 hX) dX0_areNotesSo_40 rfl (gxp2 hX) ?_
                refine aw_getr h fl_X0_202 (gxt13 hX).1 dX0_areNotesSo_43 rfl ((gxt13 hX).2 0 (by decide)).1 ?_
                refine aw_aload0 h dX0_areNotesSo_46 ?_
                refine aw_getr h fl_X0_54 (gx0 hX) dX0_areNotesSo_47 rfl (gxp9 hX) ?_
                refine aw_iload2 h dX0_areNotesSo_50 ?_
                refine aw_ialdV h (gxs24 hX) (by decide) (by omega) dX0_areNotesSo_51 ((((hNx1.2 kk (by omega)).2.1).trans hbe)) ?_
                refine aw_ialdV h ((gxt13 hX).2 0 (by decide)).2 (by decide) (by omega) dX0_areNotesSo_52 ((hA1.2.1 b (by omega)).1) ?_
                refine aw_aload0 h dX0_areNotesSo_53 ?_
                refine aw_getr h fl_X0_57 (gx0 hX) dX0_areNotesSo_54 rfl (gxp10 hX) ?_
                refine aw_iload2 h dX0_areNotesSo_57 ?_
                refine aw_ialdV h (gxs25 hX) (by decide) (by omega) dX0_areNotesSo_58 ((hNx1.2 kk (by omega)).2.2) ?_
                refine aw_icmp_eq h (tgt := 64) dX0_areNotesSo_59 (by decide) (fun c59 => ?_) (fun c59 => ?_)
                · refine aw_iincN2 h rfl dX0_areNotesSo_64 ?_
                  refine aw_goto h (tgt := 21) dX0_areNotesSo_67 (by decide) ?_
                  refine ihk (kk + 1) (by omega) (by omega) (fun j hj => ?_)
                  by_cases e : j = kk
                  · subst e; rw [decide_eq_true c36, hbe, nI_clamp (by omega), decide_eq_true c59]; rfl
                  · exact hno j (by omega)
                · refine aw_iconst h _ ci_0 dX0_areNotesSo_62 ?_
                  exact aw_zret h hr dX0_areNotesSo_63 (by first | exact z01_0 | exact z01_1 | exact z01_b _) (⟨by rw [fitF_no (m := m) (by omega) (by rw [hnb, Bool.not_eq_false', anyN_iff]; exact ⟨kk, by omega, by rw [decide_eq_true c36, hbe, nI_clamp (by omega), decide_eq_false c59]; rfl⟩)]; rfl, rfl, hm1⟩) (Nat.zero_le _) (Nat.zero_le _)
        refine aw_iconst h _ ci_0 dX0_areNotesSo_19 ?_
        refine aw_istore2 h rfl dX0_areNotesSo_20 ?_
        exact keyk (nn S + 1) 0 (Nat.zero_le _) (by omega) (fun j hj => absurd hj (Nat.not_lt_zero _))
  refine aw_aload0 h dX0_areNotesSo_0 ?_
  refine aw_getr h fl_X0_23 (gx0 hX) dX0_areNotesSo_1 rfl (gxp2 hX) ?_
  refine aw_aload0 h dX0_areNotesSo_4 ?_
  refine aw_getr h fl_X0_12 (gx0 hX) dX0_areNotesSo_5 rfl hc0 ?_
  refine aw_callVN1 h hl cl_X0_160 (met_x_begin hX hV (gxt13 hX) (Or.inr rfl) hT) (gxt13 hX).1 rfl dX0_areNotesSo_8 (Nat.le_of_ble_eq_true rfl) rfl (Nat.zero_le _) (Nat.zero_le _) (fun G1 I1 L1 hp9 => ?_)
  obtain ⟨rfl, hix0, hA0⟩ := hp9
  have hm0 : XM gtE noF I L I1 L1 := XM.ix hix0 (by decide) (by decide)
  refine aw_iconst h _ ci_0 dX0_areNotesSo_11 ?_
  refine aw_istore1 h rfl dX0_areNotesSo_12 ?_
  exact key 62 0 I1 L1 (Nat.zero_le _) (by decide) hm0 hA0 (fun j hj => absurd hj (Nat.not_lt_zero _)) _
theorem fitF_o (S : Nat → Int32) (RL : List (List Cl)) (k m : Nat) : fitF S (frO RL k) m = fitB S RL k m := rfl
theorem XFr.o {I : Im} {RL : List (List Cl)} {k : Nat} (h6 : RL.length ≤ 6) (hk : k ≤ RL.length) (h : I 0 4 = qI k) : XFr I RL (frO RL k) := by
  unfold frO
  by_cases e : k = 0
  · subst e; rw [if_pos rfl]; exact Or.inl ⟨rfl, h⟩
  · rw [if_neg e]
    exact Or.inr ⟨k - 1, by omega, by rw [h, qI_p e], rfl⟩
def fr4 (j : Nat) : Bool := j == 4
theorem XM.back4 {I I1 : Im} {L L1 : Lm} (h : XM gtE fr4 I L I1 L1) : XM gtE noF I L (upd2 I1 0 4 (I 0 4)) L1 := by
  refine ⟨fun m a b => ?_, fun j a => ?_, h.2.2⟩
  · rw [upd2_n _ _ _ a]; exact h.1 m a b
  · rw [upd2_s]
    by_cases e : j = 4
    · subst e; rw [vup_s]
    · rw [vup_n _ _ e]
      exact h.2.1 j (by unfold fr4; simpa using e)
theorem met_x_couldRule {w : Wd} {G : Gm} {I : Im} {L : Lm} (hX : XG G) {sl : Nat → Prop} {K : CS} {c : Nat} {S : Nat → Int32} {t : Nat} (hV : XV sl G I K c S t) (hT : TolS S K) (hN : InvN S) (hNx : NoteX I S) {RL : List (List Cl)} (hRu : XRu sl G I RL) {kk : Nat} (hk : kk ≤ RL.length) : AMet w yX0_couldRule cX0_couldRule 4 (some .boolean) 415 12413 0 0 [.ref (w.1 + 0), .int (qI kk)] G I L (Ans (some (.int (bI (fitB S RL kk 61)))) (XQ G I L)) := by
  refine AMet.of (ls0 := [some (.ref (w.1 + 0)), some (.int (qI kk)), none, none]) rfl (Nat.le_of_ble_eq_true rfl) rfl (fun q hq => hq) (fun X h hl hr hi => ?_)
  obtain ⟨hC0, hS, hcs, ht, ht2, hdj⟩ := id hV
  have hC := hC0
  obtain ⟨hc0, ⟨pl, pa, dl, da, fa, ps, ds, hK, hsp⟩, hok, hsl⟩ := id hC
  obtain ⟨cp, hLp⟩ := hK.2.2.2.2.2.1
  obtain ⟨cd, hLd⟩ := hK.2.2.2.2.2.2.1
  have hpl := hK.2.2.2.2.2.2.2.1
  have hdl := hK.2.2.2.2.2.2.2.2.1
  have hdk := hK.2.2.2.2.2.2.2.2.2.2.1
  have hpk := hK.2.2.2.2.2.2.2.2.2.1
  have hrm := hK.2.2.2.2.2.2.2.2.2.2.2.1
  have hfr := hK.2.2.2.2.2.2.2.2.2.2.2.2.2
  have hR8 := hok.2.1
  have hD14 := hok.2.2.1
  have hP4 := hok.2.2.2.1
  have hdo := hok.2.2.2.2.1
  have hpo := hok.2.2.2.2.2.1
  have hf9 := hok.2.2.2.2.2.2.2
  have hn := cas_n hcs hok
  obtain ⟨ra, capr, els, hAl, hel, hr6, -, -, hslm, hRu2⟩ := id hRu
  have hm4 : XM gtE fr4 I L (upd2 I 0 4 (qI kk)) L := XM.f rfl
  have hV1 : XV sl G (upd2 I 0 4 (qI kk)) K c S t := hV.ix (hm4.nm gt_mut)
  refine aw_aload0 h dX0_couldRule_0 ?_
  refine aw_geti h fl_X0_35 (gx0 hX) dX0_couldRule_1 rfl ?_
  refine aw_istore2 h rfl dX0_couldRule_4 ?_
  refine aw_aload0 h dX0_couldRule_5 ?_
  refine aw_iload1 h dX0_couldRule_6 ?_
  refine aw_puti h fl_X0_35 ft_X0_35 (fun z => by cases z) (gx0 hX) dX0_couldRule_7 rfl ?_
  refine aw_aload0 h dX0_couldRule_10 ?_
  refine aw_callVA0 h hl cl_X0_375 (met_x_areNotesSo hX hV1 hT hN (hNx.xm hm4 rfl rfl rfl rfl) (hRu.ix (hm4.nm gt_mut)) (XFr.o hr6 hk (show upd2 I 0 4 (qI kk) 0 4 = qI kk from rfl))) (gx0 hX) rfl dX0_couldRule_11 (Nat.le_of_ble_eq_true rfl) rfl (Nat.zero_le _) (Nat.zero_le _) (fun G1 I1 L1 hp9 => ?_)
  obtain ⟨rfl, hm5⟩ := hp9
  refine aw_istore3 h rfl dX0_couldRule_14 ?_
  refine aw_aload0 h dX0_couldRule_15 ?_
  refine aw_iload2 h dX0_couldRule_16 ?_
  refine aw_puti h fl_X0_35 ft_X0_35 (fun z => by cases z) (gx0 hX) dX0_couldRule_17 rfl ?_
  refine aw_iload3 h dX0_couldRule_20 ?_
  exact aw_zret h hr dX0_couldRule_21 (by first | exact z01_0 | exact z01_1 | exact z01_b _) (⟨rfl, rfl, (hm4.trans (hm5.mono (fun _ q => q) (fun j q => by cases q))).back4⟩) (Nat.zero_le _) (Nat.zero_le _)
