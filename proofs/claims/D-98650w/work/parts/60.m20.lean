/-! The reference's answers ruled, look -/
set_option maxRecDepth 100000
def begR (S : Nat → Int32) (p k : Nat) : Int32 := if k = 0 then S (115 + 2 * p) else if k = 1 then S (115 + 2 * p + 1) else if k = 2 then pv S p 2 else if k = 5 then -1 else nI 0
def begP (S : Nat → Int32) (n : Nat) : Nat → Int32 := fun i => if i = 3 then nI 0 else if 10 ≤ i ∧ i < 10 + 6 * n then begR S ((i - 10) / 6) ((i - 10) % 6) else S i
def begS (S : Nat → Int32) : Nat → Int32 := begP S (np S)
/-- what always holds of what was told -/
def InvT (S : Nat → Int32) : Prop := ∀ p, p < np S → (∃ r, r < nr S ∧ S (115 + 2 * p) = nI r) ∧ ∃ g, g < nr S ∧ S (115 + 2 * p + 1) = nI g
theorem begP_hi {S : Nat → Int32} {n i : Nat} (hn : n ≤ 4) (h : 34 ≤ i ∨ (i < 10 ∧ i ≠ 3)) : begP S n i = S i := by
  unfold begP
  rw [if_neg (by omega), if_neg (by omega)]
theorem begP_0 (S : Nat → Int32) : begP S 0 = va_up S 3 (nI 0) := by
  funext i
  unfold begP
  by_cases e : i = 3
  · subst e; rw [vup_s, if_pos rfl]
  · rw [vup_n _ _ e, if_neg e, if_neg (by omega)]
theorem begP_s {S : Nat → Int32} {k : Nat} : va_up (va_up (va_up (va_up (va_up (begP S k) (10 + 6 * k) (S (115 + 2 * k))) (10 + 6 * k + 1) (S (115 + 2 * k + 1))) (10 + 6 * k + 3) (nI 0)) (10 + 6 * k + 4) (nI 0)) (10 + 6 * k + 5) (-1) = begP S (k + 1) := by
  funext i
  have key : ∀ j, j < 6 → begP S (k + 1) (10 + 6 * k + j) = begR S k j := by
    intro j hj
    unfold begP
    rw [if_neg (by omega), if_pos (by omega), show (10 + 6 * k + j - 10) / 6 = k by omega, show (10 + 6 * k + j - 10) % 6 = j by omega]
  by_cases e5 : i = 10 + 6 * k + 5
  · subst e5; rw [vup_s, key 5 (by omega)]; rfl
  rw [vup_n _ _ e5]
  by_cases e4 : i = 10 + 6 * k + 4
  · subst e4; rw [vup_s, key 4 (by omega)]; rfl
  rw [vup_n _ _ e4]
  by_cases e3 : i = 10 + 6 * k + 3
  · subst e3; rw [vup_s, key 3 (by omega)]; rfl
  rw [vup_n _ _ e3]
  by_cases e1 : i = 10 + 6 * k + 1
  · subst e1; rw [vup_s, key 1 (by omega)]; rfl
  rw [vup_n _ _ e1]
  by_cases e0 : i = 10 + 6 * k
  · subst e0; rw [vup_s]; exact (key 0 (by omega)).symm
  rw [vup_n _ _ e0]
  by_cases e2 : i = 10 + 6 * k + 2
  · subst e2
    rw [key 2 (by omega)]
    unfold begP
    rw [if_neg (by omega), if_neg (by omega)]; rfl
  · unfold begP
    by_cases q3 : i = 3
    · rw [if_pos q3, if_pos q3]
    · rw [if_neg q3, if_neg q3]
      by_cases q : 10 ≤ i ∧ i < 10 + 6 * k
      · rw [if_pos q, if_pos (by omega)]
      · rw [if_neg q, if_neg (by omega)]
theorem InvS.beg {S : Nat → Int32} (h : InvS S) (hT : InvT S) : InvS (begS S) := by
  have b2 := iv2b h
  have hi : ∀ i, 34 ≤ i ∨ (i < 10 ∧ i ≠ 3) → begS S i = S i := fun i hi => begP_hi b2 hi
  have e0 : nr (begS S) = nr S := by unfold nr nv; rw [hi 0 (by omega)]
  have e1 : nd (begS S) = nd S := by unfold nd nv; rw [hi 1 (by omega)]
  have e2 : np (begS S) = np S := by unfold np nv; rw [hi 2 (by omega)]
  have ed : ∀ d k, dv (begS S) d k = dv S d k := fun d k => hi _ (by omega)
  have ep : ∀ p k, p < np S → k < 2 → pv (begS S) p k = S (115 + 2 * p + k) := fun p k hp hk => by
    unfold pv begS begP
    rw [if_neg (by omega), if_pos (by omega), show (10 + 6 * p + k - 10) / 6 = p by omega, show (10 + 6 * p + k - 10) % 6 = k by omega]
    unfold begR
    rcases (by omega : k = 0 ∨ k = 1) with rfl | rfl
    · rfl
    · rfl
  refine ⟨by rw [e0, hi 0 (by omega)]; exact iv0 h, by rw [e0]; exact iv0b h, by rw [e1, hi 1 (by omega)]; exact iv1 h, by rw [e1]; exact iv1b h, by rw [e2, hi 2 (by omega)]; exact iv2 h, by rw [e2]; exact b2, fun d hd => ?_, fun p hp => ?_⟩
  · rw [e1] at hd
    unfold near farr
    rw [ed, ed, e0]
    exact ivd h hd
  · rw [e2] at hp
    obtain ⟨⟨r, hr, h1⟩, g, hg, h2⟩ := hT p hp
    have b0 := iv0b h
    have h1 : S (115 + 2 * p + 0) = nI r := h1
    unfold rm gl
    rw [ep p 0 hp (by omega), ep p 1 hp (by omega), h1, h2, nI_clamp (by omega), nI_clamp (by omega), e0]
    exact ⟨rfl, hr, rfl, hg⟩
def notesB (S : Nat → Int32) : Bool := !anyN (nn S) (fun k => decide (S (84 + 3 * k) = S 3) && !decide (pv S (S (84 + 3 * k + 1)).toNatClampNeg 0 = S (84 + 3 * k + 2)))
theorem InvN.of {S V : Nat → Int32} (h : InvN S) (hv : ∀ i, 34 ≤ i ∨ (i < 10 ∧ i ≠ 3) → V i = S i) : InvN V ∧ nn V = nn S ∧ np V = np S ∧ nr V = nr S := by
  have e0 : nr V = nr S := by unfold nr nv; rw [hv 0 (by omega)]
  have e2 : np V = np S := by unfold np nv; rw [hv 2 (by omega)]
  have e3 : nn V = nn S := by unfold nn nv; rw [hv 114 (by omega)]
  refine ⟨⟨by rw [e3, hv 114 (by omega)]; exact h.1, by rw [e3]; exact h.2.1, fun j hj => ?_⟩, e3, e2, e0⟩
  rw [e3] at hj
  rw [hv _ (by omega), hv _ (by omega), e2, e0]
  exact h.2.2 j hj
theorem met_m_begins {w : Wd} {G : Gm} {I : Im} {L : Lm} (hG : GM G) {S : Nat → Int32} (hE : I 171 = S) (hS : InvS S) : AMet w yX4_begins cX4_begins 3 none 1 40 0 0 [.ref (w.1 + 161)] G I L (Exact none G (va_up I 171 (begS S)) L) := by
  refine AMet.of (ls0 := [some (.ref (w.1 + 161)), none, none]) rfl (Nat.le_of_ble_eq_true rfl) rfl (fun q hq => hq) (fun X h hl hr hi => ?_)
  have b2 := iv2b hS
  have key : ∀ (fu p : Nat), p ≤ np S → np S < p + fu → ∀ o2 : Option Value, AW X 0 0 9 [some (.ref (w.1 + 161)), some (.int (nI p)), o2] [] G (va_up I 171 (begP S p)) L := by
    intro fu
    induction fu with
    | zero => intro p hle hlt; exact absurd hlt (by omega)
    | succ fu ih =>
      intro p hle hlt
      intro o2
      refine aw_iload1 h dX4_begins_9 ?_
      refine aw_aload0 h dX4_begins_10 ?_
      refine aw_getr h fl_X4_39 (gmt hG) dX4_begins_11 rfl (gmp20 hG) ?_
      refine aw_iconst h _ ci_2 dX4_begins_14 ?_
      refine aw_ialdV h (gms171 hG) (by decide) (by omega) dX4_begins_15 ((show va_up I 171 (begP S p) 171 2 = nI (np S) by rw [vup_s, begP_hi (by omega) (by omega)]; exact iv2 hS)) ?_
      refine aw_icmp_geN h (tgt := 98) (by omega) (by omega) dX4_begins_16 (by decide) (fun c16 => ?_) (fun c16 => ?_)
      · exact aw_vret h hr dX4_begins_98 (by rw [show p = np S by omega]; exact ⟨rfl, rfl, rfl, rfl⟩) (Nat.zero_le _) (Nat.zero_le _)
      · refine aw_bipush h _ cb_10 dX4_begins_19 ?_
        refine aw_bipush h _ cb_6 dX4_begins_21 ?_
        refine aw_iload1 h dX4_begins_23 ?_
        refine aw_imulN h dX4_begins_24 ?_
        refine aw_iaddN h dX4_begins_25 ?_
        refine aw_istore2 h rfl dX4_begins_26 ?_
        refine aw_aload0 h dX4_begins_27 ?_
        refine aw_getr h fl_X4_39 (gmt hG) dX4_begins_28 rfl (gmp20 hG) ?_
        refine aw_iload2 h dX4_begins_31 ?_
        refine aw_aload0 h dX4_begins_32 ?_
        refine aw_getr h fl_X4_39 (gmt hG) dX4_begins_33 rfl (gmp20 hG) ?_
        refine aw_bipush h _ cb_115 dX4_begins_36 ?_
        refine aw_iconst h _ ci_2 dX4_begins_38 ?_
        refine aw_iload1 h dX4_begins_39 ?_
        refine aw_imulN h dX4_begins_40 ?_
        refine aw_iaddN h dX4_begins_41 ?_
        refine aw_ialdV h (gms171 hG) (by decide) (by omega) dX4_begins_42 ((show va_up I 171 (begP S p) 171 (115 + 2 * p) = S (115 + 2 * p) by rw [vup_s, begP_hi (by omega) (by omega)])) ?_
        refine aw_iastN h (gms171 hG) (by decide) (by omega) dX4_begins_43 ?_
        rw [upd2_vup]
        refine aw_aload0 h dX4_begins_44 ?_
        refine aw_getr h fl_X4_39 (gmt hG) dX4_begins_45 rfl (gmp20 hG) ?_
        refine aw_iload2 h dX4_begins_48 ?_
        refine aw_iconst h _ ci_1 dX4_begins_49 ?_
        refine aw_iaddN h dX4_begins_50 ?_
        refine aw_aload0 h dX4_begins_51 ?_
        refine aw_getr h fl_X4_39 (gmt hG) dX4_begins_52 rfl (gmp20 hG) ?_
        refine aw_bipush h _ cb_115 dX4_begins_55 ?_
        refine aw_iconst h _ ci_2 dX4_begins_57 ?_
        refine aw_iload1 h dX4_begins_58 ?_
        refine aw_imulN h dX4_begins_59 ?_
        refine aw_iaddN h dX4_begins_60 ?_
        refine aw_iconst h _ ci_1 dX4_begins_61 ?_
        refine aw_iaddN h dX4_begins_62 ?_
        refine aw_ialdV h (gms171 hG) (by decide) (by omega) dX4_begins_63 ((show va_up I 171 (va_up (begP S p) (10 + 6 * p) (S (115 + 2 * p))) 171 (115 + 2 * p + 1) = S (115 + 2 * p + 1) by rw [vup_s, vup_n _ _ (by omega), begP_hi (by omega) (by omega)])) ?_
        refine aw_iastN h (gms171 hG) (by decide) (by omega) dX4_begins_64 ?_
        rw [upd2_vup]
        refine aw_aload0 h dX4_begins_65 ?_
        refine aw_getr h fl_X4_39 (gmt hG) dX4_begins_66 rfl (gmp20 hG) ?_
        refine aw_iload2 h dX4_begins_69 ?_
        refine aw_iconst h _ ci_3 dX4_begins_70 ?_
        refine aw_iaddN h dX4_begins_71 ?_
        refine aw_iconst h _ ci_0 dX4_begins_72 ?_
        refine aw_iastN h (gms171 hG) (by decide) (by omega) dX4_begins_73 ?_
        rw [upd2_vup]
        refine aw_aload0 h dX4_begins_74 ?_
        refine aw_getr h fl_X4_39 (gmt hG) dX4_begins_75 rfl (gmp20 hG) ?_
        refine aw_iload2 h dX4_begins_78 ?_
        refine aw_iconst h _ ci_4 dX4_begins_79 ?_
        refine aw_iaddN h dX4_begins_80 ?_
        refine aw_iconst h _ ci_0 dX4_begins_81 ?_
        refine aw_iastN h (gms171 hG) (by decide) (by omega) dX4_begins_82 ?_
        rw [upd2_vup]
        refine aw_aload0 h dX4_begins_83 ?_
        refine aw_getr h fl_X4_39 (gmt hG) dX4_begins_84 rfl (gmp20 hG) ?_
        refine aw_iload2 h dX4_begins_87 ?_
        refine aw_iconst h _ ci_5 dX4_begins_88 ?_
        refine aw_iaddN h dX4_begins_89 ?_
        refine aw_iconst h _ ci_m1 dX4_begins_90 ?_
        refine aw_iastN h (gms171 hG) (by decide) (by omega) dX4_begins_91 ?_
        rw [upd2_vup, begP_s]
        refine aw_iincN1 h rfl dX4_begins_92 ?_
        refine aw_goto h (tgt := 9) dX4_begins_95 (by decide) ?_
        exact ih (p + 1) (by omega) (by omega) _
  refine aw_aload0 h dX4_begins_0 ?_
  refine aw_getr h fl_X4_39 (gmt hG) dX4_begins_1 rfl (gmp20 hG) ?_
  refine aw_iconst h _ ci_3 dX4_begins_4 ?_
  refine aw_iconst h _ ci_0 dX4_begins_5 ?_
  refine aw_iastN h (gms171 hG) (by decide) (by omega) dX4_begins_6 ?_
  refine aw_iconst h _ ci_0 dX4_begins_7 ?_
  refine aw_istore1 h rfl dX4_begins_8 ?_
  have h9 := key (np S + 1) 0 (Nat.zero_le _) (by omega) none
  rw [begP_0, ← hE] at h9
  exact h9
theorem met_m_areNotesSo {w : Wd} {G : Gm} {I : Im} {L : Lm} (hG : GM G) {S : Nat → Int32} (hE : I 171 = S) (hS : InvS S) (hN : InvN S) : AMet w yX4_areNotesSo cX4_areNotesSo 3 (some .boolean) 2 62 0 0 [.ref (w.1 + 161)] G I L (Exact (some (.int (bI (notesB S)))) G I L) := by
  refine AMet.of (ls0 := [some (.ref (w.1 + 161)), none, none]) rfl (Nat.le_of_ble_eq_true rfl) rfl (fun q hq => hq) (fun X h hl hr hi => ?_)
  have b2 := iv2b hS
  have hN1 := hN.2.1
  have key : ∀ (fu k : Nat), k ≤ nn S → nn S < k + fu → (∀ j, j < k → (decide (S (84 + 3 * j) = S 3) && !decide (pv S (S (84 + 3 * j + 1)).toNatClampNeg 0 = S (84 + 3 * j + 2))) = false) → ∀ o2 : Option Value, AW X 0 0 2 [some (.ref (w.1 + 161)), some (.int (nI k)), o2] [] G I L := by
    intro fu
    induction fu with
    | zero => intro k hle hlt; exact absurd hlt (by omega)
    | succ fu ih =>
      intro k hle hlt hno
      intro o2
      have hnk : k < nn S → ∃ b, b < np S ∧ S (84 + 3 * k + 1) = nI b := fun h => (hN.2.2 k h).1
      refine aw_iload1 h dX4_areNotesSo_2 ?_
      refine aw_aload0 h dX4_areNotesSo_3 ?_
      refine aw_getr h fl_X4_39 (gmt hG) dX4_areNotesSo_4 rfl (gmp20 hG) ?_
      refine aw_bipush h _ cb_114 dX4_areNotesSo_7 ?_
      refine aw_ialdV h (gms171 hG) (by decide) (by omega) dX4_areNotesSo_9 ((congrFun hE 114).trans hN.1) ?_
      refine aw_icmp_geN h (tgt := 67) (by omega) (by omega) dX4_areNotesSo_10 (by decide) (fun c10 => ?_) (fun c10 => ?_)
      · refine aw_iconst h _ ci_1 dX4_areNotesSo_67 ?_
        exact aw_zret h hr dX4_areNotesSo_68 (by first | exact z01_0 | exact z01_1 | exact z01_b _) (ExB1 (by unfold notesB; rw [Bool.not_eq_true', anyN_false]; intro j hj; exact hno j (by omega))) (Nat.zero_le _) (Nat.zero_le _)
      · refine aw_bipush h _ cb_84 dX4_areNotesSo_13 ?_
        refine aw_iconst h _ ci_3 dX4_areNotesSo_15 ?_
        refine aw_iload1 h dX4_areNotesSo_16 ?_
        refine aw_imulN h dX4_areNotesSo_17 ?_
        refine aw_iaddN h dX4_areNotesSo_18 ?_
        refine aw_istore2 h rfl dX4_areNotesSo_19 ?_
        refine aw_aload0 h dX4_areNotesSo_20 ?_
        refine aw_getr h fl_X4_39 (gmt hG) dX4_areNotesSo_21 rfl (gmp20 hG) ?_
        refine aw_iload2 h dX4_areNotesSo_24 ?_
        refine aw_ialdV h (gms171 hG) (by decide) (by omega) dX4_areNotesSo_25 (congrFun hE (84 + 3 * k)) ?_
        refine aw_aload0 h dX4_areNotesSo_26 ?_
        refine aw_getr h fl_X4_39 (gmt hG) dX4_areNotesSo_27 rfl (gmp20 hG) ?_
        refine aw_iconst h _ ci_3 dX4_areNotesSo_30 ?_
        refine aw_ialdV h (gms171 hG) (by decide) (by omega) dX4_areNotesSo_31 (congrFun hE 3) ?_
        refine aw_icmp_ne h (tgt := 61) dX4_areNotesSo_32 (by decide) (fun c32 => ?_) (fun c32 => ?_)
        · refine aw_iincN1 h rfl dX4_areNotesSo_61 ?_
          refine aw_goto h (tgt := 2) dX4_areNotesSo_64 (by decide) ?_
          refine ih (k + 1) (by omega) (by omega) (fun j hj => ?_) _
          by_cases e : j = k
          · subst e; rw [decide_eq_false c32]; rfl
          · exact hno j (by omega)
        · obtain ⟨b, hb, hbe⟩ := hnk (by omega)
          refine aw_aload0 h dX4_areNotesSo_35 ?_
          refine aw_aload0 h dX4_areNotesSo_36 ?_
          refine aw_getr h fl_X4_39 (gmt hG) dX4_areNotesSo_37 rfl (gmp20 hG) ?_
          refine aw_iload2 h dX4_areNotesSo_40 ?_
          refine aw_iconst h _ ci_1 dX4_areNotesSo_41 ?_
          refine aw_iaddN h dX4_areNotesSo_42 ?_
          refine aw_ialdV h (gms171 hG) (by decide) (by omega) dX4_areNotesSo_43 ((congrFun hE _).trans hbe) ?_
          refine aw_iconst h _ ci_0 dX4_areNotesSo_44 ?_
          refine aw_callVE2 h hl cl_X4_279 (met_m_personOf hG hE (by omega)) (gmt hG) rfl dX4_areNotesSo_45 (Nat.le_of_ble_eq_true rfl) rfl (Nat.zero_le _) (Nat.zero_le _) ?_
          refine aw_aload0 h dX4_areNotesSo_48 ?_
          refine aw_getr h fl_X4_39 (gmt hG) dX4_areNotesSo_49 rfl (gmp20 hG) ?_
          refine aw_iload2 h dX4_areNotesSo_52 ?_
          refine aw_iconst h _ ci_2 dX4_areNotesSo_53 ?_
          refine aw_iaddN h dX4_areNotesSo_54 ?_
          refine aw_ialdV h (gms171 hG) (by decide) (by omega) dX4_areNotesSo_55 (congrFun hE (84 + 3 * k + 2)) ?_
          refine aw_icmp_eq h (tgt := 61) dX4_areNotesSo_56 (by decide) (fun c56 => ?_) (fun c56 => ?_)
          · refine aw_iincN1 h rfl dX4_areNotesSo_61 ?_
            refine aw_goto h (tgt := 2) dX4_areNotesSo_64 (by decide) ?_
            refine ih (k + 1) (by omega) (by omega) (fun j hj => ?_) _
            by_cases e : j = k
            · subst e; rw [hbe, nI_clamp (by omega), decide_eq_true c56]; exact Bool.and_false _
            · exact hno j (by omega)
          · refine aw_iconst h _ ci_0 dX4_areNotesSo_59 ?_
            exact aw_zret h hr dX4_areNotesSo_60 (by first | exact z01_0 | exact z01_1 | exact z01_b _) (ExB0 (by unfold notesB; rw [Bool.not_eq_false', anyN_iff]; exact ⟨k, by omega, by rw [decide_eq_true c32, hbe, nI_clamp (by omega), decide_eq_false c56]; rfl⟩)) (Nat.zero_le _) (Nat.zero_le _)
  refine aw_iconst h _ ci_0 dX4_areNotesSo_0 ?_
  refine aw_istore1 h rfl dX4_areNotesSo_1 ?_
  exact key (nn S + 1) 0 (Nat.zero_le _) (by omega) (fun j hj => absurd hj (by omega)) _
