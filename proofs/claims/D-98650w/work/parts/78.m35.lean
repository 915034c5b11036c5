/-! The reference's parser: all of a castle's text -/
set_option maxRecDepth 100000
theorem clP_e {T : Nat → Int32} {n i e : Nat} {K : CS} (hi : i ≤ n) (h : clP T n i K = .inl e) : EOK n e := by
  have hl : i + lrun T n i ≤ n := run_le (f := letB T n) hi
  have hw : ∀ wn, wdP T n i wn K = .inl e → EOK n e := by
    intro wn h
    unfold wdP at h
    split at h
    · cases h; exact EOK.e (by decide) hi
    · split at h
      · rename_i e1 he1; cases h; exact numP_e hl he1
      · rename_i q hq
        have h1 := numP_ok hl hq
        have hs := skip_le (T := T) h1.2.1
        split at h
        · rename_i e1 he1; cases h; exact numP_e hs.2 he1
        · split at h
          · cases h; exact EOK.e (by decide) hs.2
          · cases h
  unfold clP at h
  split at h
  · unfold wcP at h
    split at h
    · cases h; exact EOK.e (by decide) hi
    · split at h
      · rename_i e1 he1; cases h; exact numP_e hl he1
      · cases h
  · split at h
    · cases h; exact EOK.e (by decide) hi
    · split at h
      · unfold wfP at h
        split at h
        · rename_i e1 he1; cases h; exact numP_e hl he1
        · rename_i q hq
          split at h
          · rename_i e1 he1; cases h; exact numP_e (numP_ok hl hq).2.1 he1
          · cases h
      · split at h
        · exact hw 0 h
        · split at h
          · exact hw 1 h
          · split at h
            · unfold wnP at h
              split at h
              · cases h; exact EOK.e (by decide) hi
              · split at h
                · rename_i e1 he1; cases h; exact numP_e hl he1
                · rename_i q hq
                  split at h
                  · rename_i e1 he1; cases h; exact numP_e (numP_ok hl hq).2.1 he1
                  · cases h
            · unfold wpP at h
              split at h
              · cases h; exact EOK.e (by decide) hi
              · split at h
                · rename_i e1 he1; cases h; exact numP_e hl he1
                · rename_i q hq
                  split at h
                  · rename_i e1 he1; cases h; exact numP_e (numP_ok hl hq).2.1 he1
                  · rename_i v hv
                    split at h
                    · rename_i e1 he1; cases h; exact numP_e (numP_ok (numP_ok hl hq).2.1 hv).2.1 he1
                    · cases h
theorem ccP_e {T : Nat → Int32} {n i ln e : Nat} {K : CS} (hi : i ≤ n) (h : ccP T n i ln K = .inl e) : EOK n e := by
  have hs := skip_le (T := T) hi
  unfold ccP at h
  split at h
  · split at h
    · cases h; exact EOK.e (by decide) hs.2
    · exact clP_e hs.2 h
  · cases h; exact EOK.e (by decide) hs.2
theorem gcP_e {T : Nat → Int32} {n i ln md e : Nat} (hi : i ≤ n) (hmd : md ≤ 60) (h : gcP T n i ln md = .inl e) : EOK n e := by
  have hs := skip_le (T := T) hi
  unfold gcP at h
  split at h
  · split at h
    · cases h; exact EOK.e (by decide) hs.2
    · exact goP_e hs.2 hmd h
  · cases h; exact EOK.e (by decide) hs.2
/-- the clauses of a castle behind the first; how many ahead of the last -/
def rcP (T : Nat → Int32) (n : Nat) : Nat → Nat → CRes → Sum Nat CS
  | 0, _, _ => .inl 1
  | f + 1, ln, r => match r with
    | .inl e => .inl e
    | .inr q => if chV T n (skip T n q.1) = nI 59 then rcP T n f (ln + 1) (ccP T n (skip T n q.1 + 1) (ln + 1) q.2) else if chV T n (skip T n q.1) = -1 then .inr q.2 else .inl (errN 0 (skip T n q.1))
def K0 : CS := (0, fun r => r, [], none, [])
def castleP (T : Nat → Int32) (n : Nat) : Sum Nat CS := rcP T n 41 0 (ccP T n 0 0 K0)
def CQt (r : Sum Nat CS) (G : Gm) (I : Im) (L : Lm) : Gm → Im → Lm → Prop := fun G1 I1 L1 => G = G1 ∧ L = L1 ∧ (∀ m, m ∉ [161, 164, 167] → I1 m = I m) ∧ (∀ j, j ∉ [1, 8, 9, 10, 12, 14] → I1 161 j = I 161 j) ∧ I1 161 1 = nI 0 ∧ match r with
  | .inl e => I1 161 9 = nI e
  | .inr K => LayC (I1 167) K ∧ CSok K
theorem chV_m1 {T : Nat → Int32} {n j : Nat} : ¬ (nI 59 : Int32) = -1 := by decide
theorem met_m_readsC {w : Wd} {G : Gm} {I : Im} {L : Lm} (hG : GM G) {T : Nat → Int32} {n : Nat} {K : CS} (hK : K = K0) (hT : I 162 = T) (hn : I 161 1 = nI n) (hn4 : n ≤ 400) (h11 : I 161 11 = nI 6) (hlay : LayC (I 167) K) (hok : CSok K) : AMet w yX4_readsAll cX4_readsAll 2 (some .boolean) 12 281 0 0 [.ref (w.1 + 161)] G I L (Ans (some (.int (bI (okF (castleP T n))))) (CQt (castleP T n) G I L)) := by
  refine AMet.of (ls0 := [some (.ref (w.1 + 161)), none]) rfl (Nat.le_of_ble_eq_true rfl) rfl (fun q hq => hq) (fun X h hl hr hi => ?_)
  have fr : ∀ (I1 : Im) (L1 : Lm) (x : Int32), CG (upd2 (upd2 (upd2 (upd2 (upd2 I 164 6 (nI 0)) 161 14 (nI 0)) 161 8 (nI 0)) 161 9 (nI 0)) 161 12 (nI 0)) L I1 L1 → (∀ m, m ∉ [161, 164, 167] → (upd2 I1 161 1 x) m = I m) ∧ (∀ j, j ∉ [1, 8, 9, 10, 12, 14] → (upd2 I1 161 1 x) 161 j = I 161 j) ∧ L = L1 := by
    intro I1 L1 x h
    refine ⟨fun m hm => ?_, fun j hj => ?_, h.1⟩
    · simp only [List.mem_cons, List.not_mem_nil, or_false, not_or] at hm
      rw [show (upd2 I1 161 1 x) m = I1 m from vup_n _ _ hm.1, h.2.1 m hm.1 hm.2.2]
      rw [upd2_n _ _ _ hm.1, upd2_n _ _ _ hm.1, upd2_n _ _ _ hm.1, upd2_n _ _ _ hm.1, upd2_n _ _ _ hm.2.1]
    · simp only [List.mem_cons, List.not_mem_nil, or_false, not_or] at hj
      show va_up (I1 161) 1 x j = _
      rw [vup_n _ _ hj.1, h.2.2 j (by simp only [List.mem_cons, List.not_mem_nil, or_false, not_or]; omega)]
      show va_up (va_up (va_up (va_up (I 161) 14 _) 8 _) 9 _) 12 _ j = _
      rw [vup_n _ _ hj.2.2.2.2.1, vup_n _ _ hj.2.2.1, vup_n _ _ hj.2.1, vup_n _ _ hj.2.2.2.2.2]
  have key : ∀ (f ln : Nat) (r : CRes) (I1 : Im) (L1 : Lm), 40 < ln + f → ln ≤ 40 → CG (upd2 (upd2 (upd2 (upd2 (upd2 I 164 6 (nI 0)) 161 14 (nI 0)) 161 8 (nI 0)) 161 9 (nI 0)) 161 12 (nI 0)) L I1 L1 → (∀ e, r = .inl e → I1 161 9 = nI e ∧ EOK n e) → (∀ q, r = .inr q → CZ I1 T n q.1 q.2 ∧ I1 161 14 = nI (ln + 1) ∧ ln < 40) → rcP T n f ln r = castleP T n → AW X 0 0 35 [some (.ref (w.1 + 161)), some (.int (bI (okF r)))] [] G I1 L1 := by
    intro f
    induction f with
    | zero => intro ln r I1 L1 h1 h2; omega
    | succ f ih =>
      intro ln r I1 L1 h1 h2 hF hE hQ hR
      cases r with
      | inl e =>
        obtain ⟨he, hok⟩ := hE e rfl
        have hR : .inl e = castleP T n := hR
        have hez := hok.z hn4
        have h3 := fr I1 L1 (nI 0) hF
        refine aw_iload1 h dX4_readsAll_35 ?_
        refine aw_if_eqB h (tgt := 66) dX4_readsAll_36 (by decide) (fun c36 => ?_) (fun c36 => ?_)
        · refine aw_iload1 h dX4_readsAll_66 ?_
          refine aw_if_eqB h (tgt := 88) dX4_readsAll_67 (by decide) (fun c67 => ?_) (fun c67 => ?_)
          · refine aw_aload0 h dX4_readsAll_88 ?_
            refine aw_iconst h _ ci_0 dX4_readsAll_89 ?_
            refine aw_puti h fl_X4_90 ft_X4_90 (fun z => by cases z) (gmt hG) dX4_readsAll_90 rfl ?_
            refine aw_aload0 h dX4_readsAll_93 ?_
            refine aw_getiV h fl_X4_97 (gmt hG) dX4_readsAll_94 rfl ((show (upd2 I1 161 1 (nI 0)) 161 9 = nI e from he)) ?_
            refine aw_if_ne h (tgt := 104) dX4_readsAll_97 (by decide) (fun c97 => ?_) (fun c97 => ?_)
            · refine aw_iconst h _ ci_0 dX4_readsAll_104 ?_
              exact aw_zret h hr dX4_readsAll_105 (by first | exact z01_0 | exact z01_1 | exact z01_b _) (⟨by rw [← hR]; rfl, rfl, h3.2.2, h3.1, h3.2.1, rfl, by rw [← hR]; exact he⟩) (Nat.zero_le _) (Nat.zero_le _)
            · exact absurd c97 hez
          · exact absurd c67 Bool.false_ne_true
        · exact absurd c36 Bool.false_ne_true
      | inr q =>
        obtain ⟨hZ, h14, hl40⟩ := hQ q rfl
        have hR : (if chV T n (skip T n q.1) = nI 59 then rcP T n f (ln + 1) (ccP T n (skip T n q.1 + 1) (ln + 1) q.2) else if chV T n (skip T n q.1) = -1 then .inr q.2 else .inl (errN 0 (skip T n q.1))) = castleP T n := hR
        have hsk := skip_le (T := T) hZ.1.2.2.2.2
        have hj2 := skip_idem (T := T) hZ.1.2.2.2.2
        refine aw_iload1 h dX4_readsAll_35 ?_
        refine aw_if_eqB h (tgt := 66) dX4_readsAll_36 (by decide) (fun c36 => ?_) (fun c36 => ?_)
        · exact absurd c36.symm Bool.false_ne_true
        · refine aw_aload0 h dX4_readsAll_39 ?_
          refine aw_callVE0 h hl cl_X4_103 (met_m_see hG hZ.1) (gmt hG) rfl dX4_readsAll_40 (Nat.le_of_ble_eq_true rfl) rfl (Nat.zero_le _) (Nat.zero_le _) ?_
          generalize hjj : skip T n q.1 = j at *
          have hZ2 : CZ (upd2 I1 161 8 (nI j)) T n j q.2 := hZ.at hsk.2
          have hF2 : CG (upd2 (upd2 (upd2 (upd2 (upd2 I 164 6 (nI 0)) 161 14 (nI 0)) 161 8 (nI 0)) 161 9 (nI 0)) 161 12 (nI 0)) L (upd2 I1 161 8 (nI j)) L1 := hF.trans (CG.f (by decide))
          refine aw_bipush h _ cb_59 dX4_readsAll_43 ?_
          refine aw_icmp_ne h (tgt := 66) dX4_readsAll_45 (by decide) (fun c45 => ?_) (fun c45 => ?_)
          · rw [if_neg c45] at hR
            refine aw_iload1 h dX4_readsAll_66 ?_
            refine aw_if_eqB h (tgt := 88) dX4_readsAll_67 (by decide) (fun c67 => ?_) (fun c67 => ?_)
            · exact absurd c67.symm Bool.false_ne_true
            · refine aw_aload0 h dX4_readsAll_70 ?_
              refine aw_callVE0 h hl cl_X4_103 (met_m_see0 hG hZ2.1 hj2) (gmt hG) rfl dX4_readsAll_71 (Nat.le_of_ble_eq_true rfl) rfl (Nat.zero_le _) (Nat.zero_le _) ?_
              refine aw_iconst h _ ci_m1 dX4_readsAll_74 ?_
              refine aw_icmp_eq h (tgt := 88) dX4_readsAll_75 (by decide) (fun c75 => ?_) (fun c75 => ?_)
              · rw [if_pos c75] at hR
                have h3 := fr (upd2 I1 161 8 (nI j)) L1 (nI 0) hF2
                refine aw_aload0 h dX4_readsAll_88 ?_
                refine aw_iconst h _ ci_0 dX4_readsAll_89 ?_
                refine aw_puti h fl_X4_90 ft_X4_90 (fun z => by cases z) (gmt hG) dX4_readsAll_90 rfl ?_
                refine aw_aload0 h dX4_readsAll_93 ?_
                refine aw_getiV h fl_X4_97 (gmt hG) dX4_readsAll_94 rfl ((show (upd2 (upd2 I1 161 8 (nI j)) 161 1 (nI 0)) 161 9 = 0 from hZ.2.1)) ?_
                refine aw_if_ne h (tgt := 104) dX4_readsAll_97 (by decide) (fun c97 => ?_) (fun c97 => ?_)
                · exact absurd rfl c97
                · refine aw_iconst h _ ci_1 dX4_readsAll_100 ?_
                  refine aw_goto h (tgt := 105) dX4_readsAll_101 (by decide) ?_
                  exact aw_zret h hr dX4_readsAll_105 (by first | exact z01_0 | exact z01_1 | exact z01_b _) (⟨by rw [← hR]; rfl, rfl, h3.2.2, h3.1, h3.2.1, rfl, by rw [← hR]; exact ⟨hZ.2.2.2.1, hZ.2.2.2.2⟩⟩) (Nat.zero_le _) (Nat.zero_le _)
              · rw [if_neg c75] at hR
                have hw9 : (upd2 (upd2 I1 161 8 (nI j)) 161 9 (failW ((upd2 I1 161 8 (nI j)) 161 9) 0 j)) 161 9 = nI (errN 0 j) := by show failW (I1 161 9) 0 j = _; rw [hZ.2.1]; rfl
                have h3 := fr (upd2 (upd2 I1 161 8 (nI j)) 161 9 (failW ((upd2 I1 161 8 (nI j)) 161 9) 0 j)) L1 (nI 0) (hF2.trans (CG.f (by decide)))
                have hez := (EOK.e (n := n) (kd := 0) (at2 := j) (by decide) hsk.2).z hn4
                refine aw_aload0 h dX4_readsAll_78 ?_
                refine aw_iconst h _ ci_0 dX4_readsAll_79 ?_
                refine aw_aload0 h dX4_readsAll_80 ?_
                refine aw_getiV h fl_X4_100 (gmt hG) dX4_readsAll_81 rfl ((rfl : (upd2 I1 161 8 (nI j)) 161 8 = nI j)) ?_
                refine aw_callVE2 h hl cl_X4_121 (met_m_fails hG (kd := 0) (at2 := j)) (gmt hG) rfl dX4_readsAll_84 (Nat.le_of_ble_eq_true rfl) rfl (Nat.zero_le _) (Nat.zero_le _) ?_
                refine aw_pop h rfl dX4_readsAll_87 ?_
                refine aw_aload0 h dX4_readsAll_88 ?_
                refine aw_iconst h _ ci_0 dX4_readsAll_89 ?_
                refine aw_puti h fl_X4_90 ft_X4_90 (fun z => by cases z) (gmt hG) dX4_readsAll_90 rfl ?_
                refine aw_aload0 h dX4_readsAll_93 ?_
                refine aw_getiV h fl_X4_97 (gmt hG) dX4_readsAll_94 rfl ((show (upd2 (upd2 (upd2 I1 161 8 (nI j)) 161 9 (failW ((upd2 I1 161 8 (nI j)) 161 9) 0 j)) 161 1 (nI 0)) 161 9 = nI (errN 0 j) from hw9)) ?_
                refine aw_if_ne h (tgt := 104) dX4_readsAll_97 (by decide) (fun c97 => ?_) (fun c97 => ?_)
                · refine aw_iconst h _ ci_0 dX4_readsAll_104 ?_
                  exact aw_zret h hr dX4_readsAll_105 (by first | exact z01_0 | exact z01_1 | exact z01_b _) (⟨by rw [← hR]; rfl, rfl, h3.2.2, h3.1, h3.2.1, rfl, by rw [← hR]; exact hw9⟩) (Nat.zero_le _) (Nat.zero_le _)
                · exact absurd c97 hez
          · rw [if_pos c45] at hR
            have hjn : j < n := chV_lt c45 (by decide)
            have hZ3 : CZ (upd2 I1 161 8 (nI (j + 1))) T n (j + 1) q.2 := hZ.at hjn
            refine aw_aload0 h dX4_readsAll_48 ?_
            refine aw_dup h rfl dX4_readsAll_49 ?_
            refine aw_getiV h fl_X4_100 (gmt hG) dX4_readsAll_50 rfl ((rfl : (upd2 I1 161 8 (nI j)) 161 8 = nI j)) ?_
            refine aw_iconst h _ ci_1 dX4_readsAll_53 ?_
            refine aw_iaddN h dX4_readsAll_54 ?_
            refine aw_puti h fl_X4_100 ft_X4_100 (fun z => by cases z) (gmt hG) dX4_readsAll_55 rfl ?_
            rw [upd2_upd2]
            refine aw_aload0 h dX4_readsAll_58 ?_
            refine aw_callVA0 h hl cl_X4_267 (met_m_clauseC hG (I := (upd2 I1 161 8 (nI (j + 1)))) (T := T) (n := n) (i := j + 1) (ln := ln + 1) (K := q.2) hZ3 h14 (by omega)) (gmt hG) rfl dX4_readsAll_59 (Nat.le_of_ble_eq_true rfl) rfl (Nat.zero_le _) (Nat.zero_le _) (fun G1 I5 L5 hp => ?_)
            obtain ⟨rfl, hF5, hpt⟩ := hp
            refine aw_istore1 h rfl dX4_readsAll_62 ?_
            refine aw_goto h (tgt := 35) dX4_readsAll_63 (by decide) ?_
            refine ih (ln + 1) (ccP T n (j + 1) (ln + 1) q.2) I5 L5 (by omega) (by omega) ((hF.trans (CG.f (by decide))).trans hF5) (fun e he => ?_) (fun q5 hq5 => ?_) hR
            · rw [he] at hpt; exact ⟨hpt, ccP_e hjn he⟩
            · rw [hq5] at hpt; exact hpt
  have hZ0 : CZ (upd2 (upd2 (upd2 (upd2 (upd2 I 164 6 (nI 0)) 161 14 (nI 0)) 161 8 (nI 0)) 161 9 (nI 0)) 161 12 (nI 0)) T n 0 K := ⟨⟨hT, hn, hn4, rfl, Nat.zero_le _⟩, rfl, h11, hlay, hok⟩
  refine aw_aload0 h dX4_readsAll_0 ?_
  refine aw_getr h fl_X4_17 (gmt hG) dX4_readsAll_1 rfl (gmp4 hG) ?_
  refine aw_aload0 h dX4_readsAll_4 ?_
  refine aw_getiV h fl_X4_156 (gmt hG) dX4_readsAll_5 rfl (h11) ?_
  refine aw_iconst h _ ci_0 dX4_readsAll_8 ?_
  refine aw_iastN h (gms164 hG) (by decide) (by decide) dX4_readsAll_9 ?_
  refine aw_aload0 h dX4_readsAll_10 ?_
  refine aw_iconst h _ ci_0 dX4_readsAll_11 ?_
  refine aw_puti h fl_X4_258 ft_X4_258 (fun z => by cases z) (gmt hG) dX4_readsAll_12 rfl ?_
  refine aw_aload0 h dX4_readsAll_15 ?_
  refine aw_iconst h _ ci_0 dX4_readsAll_16 ?_
  refine aw_puti h fl_X4_100 ft_X4_100 (fun z => by cases z) (gmt hG) dX4_readsAll_17 rfl ?_
  refine aw_aload0 h dX4_readsAll_20 ?_
  refine aw_iconst h _ ci_0 dX4_readsAll_21 ?_
  refine aw_puti h fl_X4_97 ft_X4_97 (fun z => by cases z) (gmt hG) dX4_readsAll_22 rfl ?_
  refine aw_aload0 h dX4_readsAll_25 ?_
  refine aw_iconst h _ ci_0 dX4_readsAll_26 ?_
  refine aw_puti h fl_X4_159 ft_X4_159 (fun z => by cases z) (gmt hG) dX4_readsAll_27 rfl ?_
  refine aw_aload0 h dX4_readsAll_30 ?_
  refine aw_callVA0 h hl cl_X4_267 (met_m_clauseC hG (I := (upd2 (upd2 (upd2 (upd2 (upd2 I 164 6 (nI 0)) 161 14 (nI 0)) 161 8 (nI 0)) 161 9 (nI 0)) 161 12 (nI 0))) (T := T) (n := n) (i := 0) (ln := 0) (K := K) hZ0 rfl (by decide)) (gmt hG) rfl dX4_readsAll_31 (Nat.le_of_ble_eq_true rfl) rfl (Nat.zero_le _) (Nat.zero_le _) (fun G1 I5 L5 hp => ?_)
  obtain ⟨rfl, hF5, hpt⟩ := hp
  refine aw_istore1 h rfl dX4_readsAll_34 ?_
  subst hK
  refine key 41 0 (ccP T n 0 0 K0) I5 L5 (by decide) (by decide) hF5 (fun e he => ?_) (fun q5 hq5 => ?_) rfl
  · rw [he] at hpt; exact ⟨hpt, ccP_e (Nat.zero_le _) he⟩
  · rw [hq5] at hpt; exact hpt
