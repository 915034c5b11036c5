/-! The reference's parser: a comparison -/
set_option maxRecDepth 100000
def isCmp (T : Nat → Int32) (n j : Nat) : Bool := decide (chV T n j = nI 60) || (decide (chV T n j = nI 61) || decide (chV T n j = nI 62))
def alsoB (T : Nat → Int32) (n j : Nat) : Bool := !decide (chV T n j = nI 61) && (decide (j + 1 < n) && decide (T (j + 1) = nI 61))
def cmpS (T : Nat → Int32) (n j : Nat) : Nat := if chV T n j = nI 60 then (if alsoB T n j = true then 1 else 0) else if chV T n j = nI 61 then 2 else if alsoB T n j = true then 3 else 4
def cmpI (T : Nat → Int32) (n j : Nat) : Nat := if alsoB T n j = true then j + 2 else j + 1
def cmpQ (T : Nat → Int32) (n j md : Nat) (code : List Sg) : PRes := if isCmp T n j = true then (if md = 60 then .inl (errN 3 j) else match sumP T n (cmpI T n j) (md + 1) with
  | .inl e => .inl e
  | .inr r => .inr (r.1, r.2.1, code ++ r.2.2 ++ [(6 + cmpS T n j, 0)])) else .inl (errN 0 j)
def compareP (T : Nat → Int32) (n i md : Nat) : PRes := match sumP T n i md with
  | .inl e => .inl e
  | .inr q => cmpQ T n (skip T n q.1) q.2.1 q.2.2
theorem isCmp_lt {T : Nat → Int32} {n j : Nat} (h : isCmp T n j = true) : j < n := by
  simp only [isCmp, Bool.or_eq_true, decide_eq_true_eq] at h
  rcases h with e | e | e <;> exact chV_lt e (by decide)
theorem cmpI_le {T : Nat → Int32} {n j : Nat} (h : j < n) : j < cmpI T n j ∧ cmpI T n j ≤ n := by
  unfold cmpI
  split
  · rename_i e
    unfold alsoB at e
    simp only [Bool.and_eq_true, decide_eq_true_eq] at e
    omega
  · omega
theorem compareP_ok (T : Nat → Int32) (n : Nat) : SubOK n (compareP T n) := by
  intro i md q hi hmd h
  unfold compareP at h
  split at h
  · cases h
  · rename_i q1 hq1
    have h1 := sumP_ok T n _ _ _ hi hmd hq1
    have hs := skip_le (T := T) h1.2.1
    unfold cmpQ at h
    split at h
    · rename_i hc
      have hj := isCmp_lt hc
      have hi2 := cmpI_le (T := T) hj
      split at h
      · cases h
      · split at h
        · cases h
        · rename_i r hr
          have h2 := sumP_ok T n _ _ _ hi2.2 (by omega) hr
          cases h
          refine ⟨?_, h2.2⟩
          show (q1.2.2 ++ r.2.2 ++ [(6 + cmpS T n (skip T n q1.1), 0)]).length + i ≤ r.1
          rw [List.length_append, List.length_append, show ([(6 + cmpS T n (skip T n q1.1), 0)] : List Sg).length = 1 from rfl]
          omega
    · cases h
theorem met_m_compare {w : Wd} {G : Gm} {I : Im} {L : Lm} (hG : GM G) {T : Nat → Int32} {n t i md : Nat} {cs : List Sg} (hZ : PZ I T n t i md cs) (hci : cs.length ≤ i) : AMet w yX4_compare cX4_compare 5 (some .boolean) 7 170 0 0 [.ref (w.1 + 161)] G I L (Ans (some (.int (bI (okP (compareP T n i md))))) (PPt (compareP T n i md) T n t cs G I L)) := by
  refine AMet.of (ls0 := [some (.ref (w.1 + 161)), none, none, none, none]) rfl (Nat.le_of_ble_eq_true rfl) rfl (fun q hq => hq) (fun X h hl hr hi => ?_)
  cases hv : sumP T n i md with
  | inl e =>
    have hcp : compareP T n i md = .inl e := by unfold compareP; rw [hv]
    refine aw_aload0 h dX4_compare_0 ?_
    refine aw_callVA0 h hl cl_X4_193 (met_m_sum hG hZ hci) (gmt hG) rfl dX4_compare_1 (Nat.le_of_ble_eq_true rfl) rfl (Nat.zero_le _) (Nat.zero_le _) (fun G1 I1 L1 hp => ?_)
    obtain ⟨rfl, hF, hpt⟩ := hp
    rw [hv] at hpt
    rw [hv]
    refine aw_if_neB h (tgt := 9) dX4_compare_4 (by decide) (fun c4 => ?_) (fun c4 => ?_)
    · exact absurd c4 Bool.false_ne_true
    · refine aw_iconst h _ ci_0 dX4_compare_7 ?_
      exact aw_zret h hr dX4_compare_8 (by first | exact z01_0 | exact z01_1 | exact z01_b _) (⟨by rw [hcp]; rfl, rfl, by rw [hcp]; exact ⟨hF, hpt⟩⟩) (Nat.zero_le _) (Nat.zero_le _)
  | inr q =>
    have hcp : compareP T n i md = cmpQ T n (skip T n q.1) q.2.1 q.2.2 := by unfold compareP; rw [hv]
    have hsb1 := sumP_ok T n _ _ _ hZ.1.2.2.2.2 hZ.2.2.2.2.2.1 hv
    have hn4 := hZ.1.2.2.1
    refine aw_aload0 h dX4_compare_0 ?_
    refine aw_callVA0 h hl cl_X4_193 (met_m_sum hG hZ hci) (gmt hG) rfl dX4_compare_1 (Nat.le_of_ble_eq_true rfl) rfl (Nat.zero_le _) (Nat.zero_le _) (fun G1 I1 L1 hp => ?_)
    obtain ⟨rfl, hF, hpt⟩ := hp
    rw [hv] at hpt
    rw [hv]
    refine aw_if_neB h (tgt := 9) dX4_compare_4 (by decide) (fun c4 => ?_) (fun c4 => ?_)
    · have hpt : PZ I1 T n t q.1 q.2.1 (cs ++ q.2.2) := hpt
      have hsk := skip_le (T := T) hpt.1.2.2.2.2
      have hj2 := skip_idem (T := T) hpt.1.2.2.2.2
      refine aw_aload0 h dX4_compare_9 ?_
      refine aw_callVE0 h hl cl_X4_103 (met_m_see hG hpt.1) (gmt hG) rfl dX4_compare_10 (Nat.le_of_ble_eq_true rfl) rfl (Nat.zero_le _) (Nat.zero_le _) ?_
      generalize hjj : skip T n q.1 = j at *
      have hT2 := hpt.1.to hsk.2
      have hno : isCmp T n j = false → cmpQ T n j q.2.1 q.2.2 = .inl (errN 0 j) := fun e => by unfold cmpQ; rw [if_neg (by rw [e]; exact Bool.false_ne_true)]
      have key44 : ∀ (o3 o4 : Option Value), isCmp T n j = true → AW X 0 0 44 [some (.ref (w.1 + 161)), some (.int (chV T n j)), some (.int (nI j)), o3, o4] [] G (upd2 I1 161 8 (nI j)) L1 := by
        intro o3 o4 hm
        have hjn := isCmp_lt hm
        have hcI := cmpI_le (T := T) hjn
        have key105 : ∀ (al : Bool) (o4 : Option Value), alsoB T n j = al → AW X 0 0 105 [some (.ref (w.1 + 161)), some (.int (chV T n j)), some (.int (nI j)), some (.int (bI al)), o4] [] G (upd2 I1 161 8 (nI (cmpI T n j))) L1 := by
          intro al o4 hal
          refine aw_aload0 h dX4_compare_105 ?_
          refine aw_iload2 h dX4_compare_106 ?_
          refine aw_callVE1 h hl cl_X4_180 (met_m_makes hG (I := (upd2 I1 161 8 (nI (cmpI T n j)))) (md := q.2.1) (at2 := j) hpt.2.2.2.2.1 hpt.2.2.2.2.2.1) (gmt hG) rfl dX4_compare_107 (Nat.le_of_ble_eq_true rfl) rfl (Nat.zero_le _) (Nat.zero_le _) ?_
          refine aw_if_neB h (tgt := 115) dX4_compare_110 (by decide) (fun c110 => ?_) (fun c110 => ?_)
          · have hmd : q.2.1 ≠ 60 := by simpa using c110
            rw [if_neg hmd]
            have hZ4 : PZ (upd2 (upd2 I1 161 8 (nI (cmpI T n j))) 161 12 (nI (q.2.1 + 1))) T n t (cmpI T n j) (q.2.1 + 1) (cs ++ q.2.2) := hpt.f ⟨hpt.1.1, hpt.1.2.1, hpt.1.2.2.1, rfl, hcI.2⟩ hpt.2.1 rfl (by have := hpt.2.2.2.2.2.1; omega) rfl rfl rfl
            have hF4 : PF0 t I L (upd2 (upd2 I1 161 8 (nI (cmpI T n j))) 161 12 (nI (q.2.1 + 1))) L1 := (hF.trans (PF0.f (j := 8) (by decide))).trans (PF0.f (j := 12) (by decide))
            have key152 : ∀ sv : Nat, cmpS T n j = sv → AW X 0 0 152 [some (.ref (w.1 + 161)), some (.int (chV T n j)), some (.int (nI j)), some (.int (bI al)), o4] [.int (nI sv)] G (upd2 (upd2 I1 161 8 (nI (cmpI T n j))) 161 12 (nI (q.2.1 + 1))) L1 := by
              intro sv hsv
              subst hsv
              cases hv2 : sumP T n (cmpI T n j) (q.2.1 + 1) with
              | inl e =>
                have hcq : compareP T n i md = .inl e := by rw [hcp]; unfold cmpQ; rw [if_pos hm, if_neg hmd, hv2]
                refine aw_istore4 h rfl dX4_compare_152 ?_
                refine aw_aload0 h dX4_compare_154 ?_
                refine aw_callVA0 h hl cl_X4_193 (met_m_sum hG hZ4 (by rw [List.length_append]; omega)) (gmt hG) rfl dX4_compare_155 (Nat.le_of_ble_eq_true rfl) rfl (Nat.zero_le _) (Nat.zero_le _) (fun G1 I5 L5 hp => ?_)
                obtain ⟨rfl, hF5, hpt5⟩ := hp
                rw [hv2] at hpt5
                rw [hv2]
                refine aw_if_neB h (tgt := 163) dX4_compare_158 (by decide) (fun c158 => ?_) (fun c158 => ?_)
                · exact absurd c158 Bool.false_ne_true
                · refine aw_iconst h _ ci_0 dX4_compare_161 ?_
                  exact aw_zret h hr dX4_compare_162 (by first | exact z01_0 | exact z01_1 | exact z01_b _) (⟨by rw [hcq]; rfl, rfl, by rw [hcq]; exact ⟨hF4.trans hF5, hpt5⟩⟩) (Nat.zero_le _) (Nat.zero_le _)
              | inr r =>
                have hcq : compareP T n i md = .inr (r.1, r.2.1, q.2.2 ++ r.2.2 ++ [(6 + cmpS T n j, 0)]) := by rw [hcp]; unfold cmpQ; rw [if_pos hm, if_neg hmd, hv2]
                refine aw_istore4 h rfl dX4_compare_152 ?_
                refine aw_aload0 h dX4_compare_154 ?_
                refine aw_callVA0 h hl cl_X4_193 (met_m_sum hG hZ4 (by rw [List.length_append]; omega)) (gmt hG) rfl dX4_compare_155 (Nat.le_of_ble_eq_true rfl) rfl (Nat.zero_le _) (Nat.zero_le _) (fun G1 I5 L5 hp => ?_)
                obtain ⟨rfl, hF5, hpt5⟩ := hp
                rw [hv2] at hpt5
                rw [hv2]
                refine aw_if_neB h (tgt := 163) dX4_compare_158 (by decide) (fun c158 => ?_) (fun c158 => ?_)
                · have hZ5 : PZ I5 T n t r.1 r.2.1 (cs ++ q.2.2 ++ r.2.2) := hpt5
                  have hsb := sumP_ok T n _ _ _ hcI.2 (by omega) hv2
                  have hl5 : (cs ++ q.2.2 ++ r.2.2).length = cs.length + q.2.2.length + r.2.2.length := by rw [List.length_append, List.length_append]
                  have hpu := hZ5.put (6 + cmpS T n j, 0)
                  have e9 : cs ++ q.2.2 ++ r.2.2 ++ [(6 + cmpS T n j, 0)] = cs ++ (q.2.2 ++ r.2.2 ++ [(6 + cmpS T n j, 0)]) := by simp [List.append_assoc]
                  rw [e9] at hpu
                  refine aw_aload0 h dX4_compare_163 ?_
                  refine aw_bipush h _ cb_6 dX4_compare_164 ?_
                  refine aw_iload4 h dX4_compare_166 ?_
                  refine aw_iaddN h dX4_compare_168 ?_
                  refine aw_iconst h _ ci_0 dX4_compare_169 ?_
                  refine aw_callVD2 h hl cl_X4_172 (met_m_puts hG hZ5 (s := 6 + cmpS T n j) (v := 0) (by omega)) (gmt hG) rfl dX4_compare_170 (Nat.le_of_ble_eq_true rfl) rfl (Nat.zero_le _) (Nat.zero_le _) ?_
                  refine aw_iconst h _ ci_1 dX4_compare_173 ?_
                  exact aw_zret h hr dX4_compare_174 (by first | exact z01_0 | exact z01_1 | exact z01_b _) (⟨by rw [hcq]; rfl, rfl, by rw [hcq]; exact ⟨(hF4.trans hF5).trans PF0.put, hpu⟩⟩) (Nat.zero_le _) (Nat.zero_le _)
                · exact absurd c158.symm Bool.false_ne_true
            refine aw_iload1 h dX4_compare_115 ?_
            refine aw_bipush h _ cb_60 dX4_compare_116 ?_
            refine aw_icmp_ne h (tgt := 133) dX4_compare_118 (by decide) (fun c118 => ?_) (fun c118 => ?_)
            · refine aw_iload1 h dX4_compare_133 ?_
              refine aw_bipush h _ cb_61 dX4_compare_134 ?_
              refine aw_icmp_ne h (tgt := 143) dX4_compare_136 (by decide) (fun c136 => ?_) (fun c136 => ?_)
              · refine aw_iload3 h dX4_compare_143 ?_
                refine aw_if_eqB h (tgt := 151) dX4_compare_144 (by decide) (fun c144 => ?_) (fun c144 => ?_)
                · refine aw_iconst h _ ci_4 dX4_compare_151 ?_
                  exact key152 _ (by unfold cmpS; rw [hal]; first | (rw [if_neg c118, if_pos c136]) | simp [*])
                · refine aw_iconst h _ ci_3 dX4_compare_147 ?_
                  refine aw_goto h (tgt := 152) dX4_compare_148 (by decide) ?_
                  exact key152 _ (by unfold cmpS; rw [hal]; first | (rw [if_neg c118, if_pos c136]) | simp [*])
              · refine aw_iconst h _ ci_2 dX4_compare_139 ?_
                refine aw_goto h (tgt := 152) dX4_compare_140 (by decide) ?_
                exact key152 _ (by unfold cmpS; rw [hal]; first | (rw [if_neg c118, if_pos c136]) | simp [*])
            · refine aw_iload3 h dX4_compare_121 ?_
              refine aw_if_eqB h (tgt := 129) dX4_compare_122 (by decide) (fun c122 => ?_) (fun c122 => ?_)
              · refine aw_iconst h _ ci_0 dX4_compare_129 ?_
                refine aw_goto h (tgt := 152) dX4_compare_130 (by decide) ?_
                exact key152 _ (by unfold cmpS; rw [hal]; first | (rw [if_neg c118, if_pos c136]) | simp [*])
              · refine aw_iconst h _ ci_1 dX4_compare_125 ?_
                refine aw_goto h (tgt := 152) dX4_compare_126 (by decide) ?_
                exact key152 _ (by unfold cmpS; rw [hal]; first | (rw [if_neg c118, if_pos c136]) | simp [*])
          · have hmd : q.2.1 = 60 := by simpa using c110
            rw [if_pos hmd]
            have hcq : compareP T n i md = .inl (errN 3 j) := by rw [hcp]; unfold cmpQ; rw [if_pos hm, if_pos hmd]
            refine aw_iconst h _ ci_0 dX4_compare_113 ?_
            exact aw_zret h hr dX4_compare_114 (by first | exact z01_0 | exact z01_1 | exact z01_b _) (⟨by rw [hcq]; rfl, rfl, by rw [hcq]; exact ⟨(hF.trans (PF0.f (j := 8) (by decide))).trans (PF0.f (j := 9) (by decide)), by show failW (I1 161 9) 3 j = nI (errN 3 j); rw [hpt.2.1]; rfl⟩⟩) (Nat.zero_le _) (Nat.zero_le _)
        have key90 : ∀ (al : Bool) (o3 o4 : Option Value), alsoB T n j = al → AW X 0 0 90 [some (.ref (w.1 + 161)), some (.int (chV T n j)), some (.int (nI j)), o3, o4] [.int (bI al)] G (upd2 I1 161 8 (nI (j + 1))) L1 := by
          intro al o3 o4 hal
          cases al with
          | false =>
            refine aw_istore3 h rfl dX4_compare_90 ?_
            refine aw_iload3 h dX4_compare_91 ?_
            refine aw_if_eqB h (tgt := 105) dX4_compare_92 (by decide) (fun c92 => ?_) (fun c92 => ?_)
            · have h9 := key105 false o4 hal
              rw [show cmpI T n j = j + 1 by unfold cmpI; rw [hal]; rfl] at h9
              exact h9
            · exact absurd c92 Bool.false_ne_true
          | true =>
            refine aw_istore3 h rfl dX4_compare_90 ?_
            refine aw_iload3 h dX4_compare_91 ?_
            refine aw_if_eqB h (tgt := 105) dX4_compare_92 (by decide) (fun c92 => ?_) (fun c92 => ?_)
            · exact absurd c92.symm Bool.false_ne_true
            · refine aw_aload0 h dX4_compare_95 ?_
              refine aw_dup h rfl dX4_compare_96 ?_
              refine aw_getiV h fl_X4_100 (gmt hG) dX4_compare_97 rfl ((rfl : (upd2 I1 161 8 (nI (j + 1))) 161 8 = nI (j + 1))) ?_
              refine aw_iconst h _ ci_1 dX4_compare_100 ?_
              refine aw_iaddN h dX4_compare_101 ?_
              refine aw_puti h fl_X4_100 ft_X4_100 (fun z => by cases z) (gmt hG) dX4_compare_102 rfl ?_
              rw [upd2_upd2]
              have h9 := key105 true o4 hal
              rw [show cmpI T n j = j + 1 + 1 by unfold cmpI; rw [hal]; rfl] at h9
              exact h9
        refine aw_aload0 h dX4_compare_44 ?_
        refine aw_dup h rfl dX4_compare_45 ?_
        refine aw_getiV h fl_X4_100 (gmt hG) dX4_compare_46 rfl ((rfl : (upd2 I1 161 8 (nI j)) 161 8 = nI j)) ?_
        refine aw_iconst h _ ci_1 dX4_compare_49 ?_
        refine aw_iaddN h dX4_compare_50 ?_
        refine aw_puti h fl_X4_100 ft_X4_100 (fun z => by cases z) (gmt hG) dX4_compare_51 rfl ?_
        rw [upd2_upd2]
        refine aw_iload1 h dX4_compare_54 ?_
        refine aw_bipush h _ cb_61 dX4_compare_55 ?_
        refine aw_icmp_eq h (tgt := 89) dX4_compare_57 (by decide) (fun c57 => ?_) (fun c57 => ?_)
        · refine aw_iconst h _ ci_0 dX4_compare_89 ?_
          exact key90 false _ _ (by unfold alsoB; rw [decide_eq_true c57, Bool.not_true, Bool.false_and])
        · refine aw_aload0 h dX4_compare_60 ?_
          refine aw_getiV h fl_X4_100 (gmt hG) dX4_compare_61 rfl ((rfl : (upd2 I1 161 8 (nI (j + 1))) 161 8 = nI (j + 1))) ?_
          refine aw_aload0 h dX4_compare_64 ?_
          refine aw_getiV h fl_X4_90 (gmt hG) dX4_compare_65 rfl (hpt.1.2.1) ?_
          refine aw_icmp_geN h (tgt := 89) (by omega) (by omega) dX4_compare_68 (by decide) (fun c68 => ?_) (fun c68 => ?_)
          · refine aw_iconst h _ ci_0 dX4_compare_89 ?_
            exact key90 false _ _ (by unfold alsoB; rw [decide_eq_false (p := j + 1 < n) (by omega), Bool.false_and, Bool.and_false])
          · refine aw_aload0 h dX4_compare_71 ?_
            refine aw_getr h fl_X4_7 (gmt hG) dX4_compare_72 rfl (gmp0 hG) ?_
            refine aw_aload0 h dX4_compare_75 ?_
            refine aw_getiV h fl_X4_100 (gmt hG) dX4_compare_76 rfl ((rfl : (upd2 I1 161 8 (nI (j + 1))) 161 8 = nI (j + 1))) ?_
            refine aw_baldN h (gms162 hG) (by decide) (by omega) dX4_compare_79 ?_
            rw [show (upd2 I1 161 8 (nI (j + 1))) 162 (j + 1) = T (j + 1) from congrFun hpt.1.1 (j + 1)]
            refine aw_bipush h _ cb_61 dX4_compare_80 ?_
            refine aw_icmp_ne h (tgt := 89) dX4_compare_82 (by decide) (fun c82 => ?_) (fun c82 => ?_)
            · refine aw_iconst h _ ci_0 dX4_compare_89 ?_
              exact key90 false _ _ (by unfold alsoB; rw [decide_eq_false c82, Bool.and_false, Bool.and_false])
            · refine aw_iconst h _ ci_1 dX4_compare_85 ?_
              refine aw_goto h (tgt := 90) dX4_compare_86 (by decide) ?_
              exact key90 true _ _ (by unfold alsoB; rw [decide_eq_false c57, decide_eq_true (p := j + 1 < n) (by omega), decide_eq_true c82]; rfl)
      refine aw_istore1 h rfl dX4_compare_13 ?_
      refine aw_aload0 h dX4_compare_14 ?_
      refine aw_getiV h fl_X4_100 (gmt hG) dX4_compare_15 rfl ((rfl : (upd2 I1 161 8 (nI j)) 161 8 = nI j)) ?_
      refine aw_istore2 h rfl dX4_compare_18 ?_
      refine aw_iload1 h dX4_compare_19 ?_
      refine aw_bipush h _ cb_60 dX4_compare_20 ?_
      refine aw_icmp_eq h (tgt := 44) dX4_compare_22 (by decide) (fun c22 => ?_) (fun c22 => ?_)
      · exact key44 _ _ (by unfold isCmp; rw [decide_eq_true c22]; simp)
      · refine aw_iload1 h dX4_compare_25 ?_
        refine aw_bipush h _ cb_61 dX4_compare_26 ?_
        refine aw_icmp_eq h (tgt := 44) dX4_compare_28 (by decide) (fun c28 => ?_) (fun c28 => ?_)
        · exact key44 _ _ (by unfold isCmp; rw [decide_eq_true c28]; simp)
        · refine aw_iload1 h dX4_compare_31 ?_
          refine aw_bipush h _ cb_62 dX4_compare_32 ?_
          refine aw_icmp_eq h (tgt := 44) dX4_compare_34 (by decide) (fun c34 => ?_) (fun c34 => ?_)
          · exact key44 _ _ (by unfold isCmp; rw [decide_eq_true c34]; simp)
          · refine aw_aload0 h dX4_compare_37 ?_
            refine aw_iconst h _ ci_0 dX4_compare_38 ?_
            refine aw_iload2 h dX4_compare_39 ?_
            refine aw_callVE2 h hl cl_X4_121 (met_m_fails hG (kd := 0) (at2 := j)) (gmt hG) rfl dX4_compare_40 (Nat.le_of_ble_eq_true rfl) rfl (Nat.zero_le _) (Nat.zero_le _) ?_
            exact aw_zret h hr dX4_compare_43 (by first | exact z01_0 | exact z01_1 | exact z01_b _) (⟨by rw [hcp, hno (by unfold isCmp; rw [decide_eq_false c22, decide_eq_false c28, decide_eq_false c34]; rfl)]; rfl, rfl, by rw [hcp, hno (by unfold isCmp; rw [decide_eq_false c22, decide_eq_false c28, decide_eq_false c34]; rfl)]; exact ⟨(hF.trans (PF0.f (j := 8) (by decide))).trans (PF0.f (j := 9) (by decide)), by show failW (I1 161 9) 0 j = nI (errN 0 j); rw [hpt.2.1]; rfl⟩⟩) (Nat.zero_le _) (Nat.zero_le _)
    · exact absurd c4.symm Bool.false_ne_true
