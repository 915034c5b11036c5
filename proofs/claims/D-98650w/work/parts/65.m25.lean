/-! The reference's parser: terms, sums -/
set_option maxRecDepth 100000
def loopB (T : Nat → Int32) (n : Nat) (opk : Nat → Nat) (sub : Nat → Nat → PRes) : Nat → Nat → Nat → List Sg → PRes
  | 0, _, _, _ => .inl 1
  | f + 1, i, md, code => if opk (skip T n i) = 0 then .inr (skip T n i, md, code) else match sub (skip T n i + 1) md with
    | .inl e => .inl e
    | .inr q => loopB T n opk sub f q.1 q.2.1 (code ++ q.2.2 ++ [(opk (skip T n i), 0)])
def binP (T : Nat → Int32) (n : Nat) (opk : Nat → Nat) (sub : Nat → Nat → PRes) (i md : Nat) : PRes := match sub i md with
  | .inl e => .inl e
  | .inr q => loopB T n opk sub (n + 1) q.1 q.2.1 q.2.2
def isMul (T : Nat → Int32) (n j : Nat) : Bool := decide (chV T n j = nI 42) || (decide (chV T n j = nI 47) || decide (chV T n j = nI 37))
def mulK (T : Nat → Int32) (n j : Nat) : Nat := if isMul T n j = true then (if T j = nI 42 then 4 else if T j = nI 47 then 5 else 14) else 0
def isAdd (T : Nat → Int32) (n j : Nat) : Bool := decide (chV T n j = nI 43) || decide (chV T n j = nI 45)
def addK (T : Nat → Int32) (n j : Nat) : Nat := if isAdd T n j = true then (if T j = nI 43 then 2 else 3) else 0
def termP (T : Nat → Int32) (n : Nat) : Nat → Nat → PRes := binP T n (mulK T n) (valueP T n)
def sumP (T : Nat → Int32) (n : Nat) : Nat → Nat → PRes := binP T n (addK T n) (termP T n)
/-- code is never longer than what is read -/
def SubOK (n : Nat) (sub : Nat → Nat → PRes) : Prop := ∀ i md q, i ≤ n → md ≤ 60 → sub i md = .inr q → q.2.2.length + i ≤ q.1 ∧ q.1 ≤ n ∧ q.2.1 ≤ 60
theorem mkP_ok {md j : Nat} {r : Nat × List Sg} {q : Nat × Nat × List Sg} (hmd : md ≤ 60) (h : mkP md j r = .inr q) : q.1 = r.1 ∧ q.2.2 = r.2 ∧ q.2.1 ≤ 60 := by
  unfold mkP at h
  split at h
  · cases h
  · cases h
    exact ⟨rfl, rfl, by show md + 1 ≤ 60; omega⟩
theorem valueP_ok (T : Nat → Int32) (n : Nat) : SubOK n (valueP T n) := by
  intro i md q hi hmd h
  have hs := skip_le (T := T) hi
  simp only [valueP] at h
  split at h
  · rename_i hD
    split at h
    · have h1 := mkP_ok hmd h
      have h2 := drun_pos hD
      have h3 : skip T n i + drun T n (skip T n i) ≤ n := run_le (f := digB T n) hs.2
      rw [h1.1, h1.2.1]
      exact ⟨by show 1 + i ≤ _; omega, h3, h1.2.2⟩
    · cases h
  · split at h
    · rename_i hW
      have h1 := mkP_ok hmd h
      have h2 := lrun_pos hW
      have h3 : skip T n i + lrun T n (skip T n i) ≤ n := run_le (f := letB T n) hs.2
      rw [h1.1, h1.2.1]
      exact ⟨by show 1 + i ≤ _; omega, h3, h1.2.2⟩
    · cases h
theorem chV_lt {T : Nat → Int32} {n j c : Nat} (h : chV T n j = nI c) (hc : c < 2 ^ 31) : j < n := by
  rcases Nat.lt_or_ge j n with q | q
  · exact q
  · unfold chV at h
    rw [if_neg (by omega)] at h
    have h2 : (0 : Int32) ≤ nI c := nI_pos' hc
    rw [← h] at h2; exact absurd h2 (by decide)
theorem mulK_lt {T : Nat → Int32} {n j : Nat} (h : mulK T n j ≠ 0) : j < n := by
  unfold mulK at h
  by_cases e : isMul T n j = true
  · simp only [isMul, Bool.or_eq_true, decide_eq_true_eq] at e
    rcases e with e | e | e <;> exact chV_lt e (by decide)
  · rw [if_neg e] at h; exact absurd rfl h
theorem addK_lt {T : Nat → Int32} {n j : Nat} (h : addK T n j ≠ 0) : j < n := by
  unfold addK at h
  by_cases e : isAdd T n j = true
  · simp only [isAdd, Bool.or_eq_true, decide_eq_true_eq] at e
    rcases e with e | e <;> exact chV_lt e (by decide)
  · rw [if_neg e] at h; exact absurd rfl h
theorem loopB_ok {T : Nat → Int32} {n : Nat} {opk : Nat → Nat} {sub : Nat → Nat → PRes} (hs : SubOK n sub) (ho : ∀ j, opk j ≠ 0 → j < n) : ∀ f i md code q, i ≤ n → md ≤ 60 → loopB T n opk sub f i md code = .inr q → q.2.2.length + i ≤ q.1 + code.length ∧ q.1 ≤ n ∧ q.2.1 ≤ 60 := by
  intro f
  induction f with
  | zero => intro i md code q _ _ h; cases h
  | succ f ih =>
    intro i md code q hi hmd h
    have hsk := skip_le (T := T) hi
    rw [loopB] at h
    split at h
    · cases h
      exact ⟨by show code.length + i ≤ skip T n i + code.length; omega, hsk.2, hmd⟩
    · rename_i hk
      have hj := ho _ hk
      split at h
      · cases h
      · rename_i q1 hq1
        have h1 := hs _ _ _ (by omega) hmd hq1
        have h2 := ih _ _ _ _ h1.2.1 h1.2.2 h
        rw [List.length_append, List.length_append] at h2
        have e1 : [(opk (skip T n i), 0)].length = 1 := rfl
        rw [show ([(opk (skip T n i), 0)] : List Sg).length = 1 from rfl] at h2
        exact ⟨by omega, h2.2⟩
theorem binP_ok {T : Nat → Int32} {n : Nat} {opk : Nat → Nat} {sub : Nat → Nat → PRes} (hs : SubOK n sub) (ho : ∀ j, opk j ≠ 0 → j < n) : SubOK n (binP T n opk sub) := by
  intro i md q hi hmd h
  unfold binP at h
  split at h
  · cases h
  · rename_i q1 hq1
    have h1 := hs _ _ _ hi hmd hq1
    have h2 := loopB_ok hs ho _ _ _ _ _ h1.2.1 h1.2.2 h
    exact ⟨by omega, h2.2⟩
theorem termP_ok (T : Nat → Int32) (n : Nat) : SubOK n (termP T n) := binP_ok (valueP_ok T n) (fun _ h => mulK_lt h)
theorem sumP_ok (T : Nat → Int32) (n : Nat) : SubOK n (sumP T n) := binP_ok (termP_ok T n) (fun _ h => addK_lt h)
theorem met_m_term {w : Wd} {G : Gm} {I : Im} {L : Lm} (hG : GM G) {T : Nat → Int32} {n t i md : Nat} {cs : List Sg} (hZ : PZ I T n t i md cs) (hci : cs.length ≤ i) : AMet w yX4_term cX4_term 2 (some .boolean) 5 128 0 0 [.ref (w.1 + 161)] G I L (Ans (some (.int (bI (okP (termP T n i md))))) (PPt (termP T n i md) T n t cs G I L)) := by
  refine AMet.of (ls0 := [some (.ref (w.1 + 161)), none]) rfl (Nat.le_of_ble_eq_true rfl) rfl (fun q hq => hq) (fun X h hl hr hi => ?_)
  cases hv : valueP T n i md with
  | inl e =>
    have hbp : termP T n i md = .inl e := by unfold termP binP; rw [hv]
    refine aw_aload0 h dX4_term_0 ?_
    refine aw_callVA0 h hl cl_X4_186 (met_m_value hG hZ hci) (gmt hG) rfl dX4_term_1 (Nat.le_of_ble_eq_true rfl) rfl (Nat.zero_le _) (Nat.zero_le _) (fun G1 I1 L1 hp => ?_)
    obtain ⟨rfl, hF, hpt⟩ := hp
    rw [hv] at hpt
    rw [hv]
    refine aw_if_neB h (tgt := 9) dX4_term_4 (by decide) (fun c4 => ?_) (fun c4 => ?_)
    · exact absurd c4 Bool.false_ne_true
    · refine aw_iconst h _ ci_0 dX4_term_7 ?_
      exact aw_zret h hr dX4_term_8 (by first | exact z01_0 | exact z01_1 | exact z01_b _) (⟨by rw [hbp]; rfl, rfl, by rw [hbp]; exact ⟨hF, hpt⟩⟩) (Nat.zero_le _) (Nat.zero_le _)
  | inr q =>
    have hbp : termP T n i md = loopB T n (mulK T n) (valueP T n) (n + 1) q.1 q.2.1 q.2.2 := by unfold termP binP; rw [hv]
    refine aw_aload0 h dX4_term_0 ?_
    refine aw_callVA0 h hl cl_X4_186 (met_m_value hG hZ hci) (gmt hG) rfl dX4_term_1 (Nat.le_of_ble_eq_true rfl) rfl (Nat.zero_le _) (Nat.zero_le _) (fun G1 I1 L1 hp => ?_)
    obtain ⟨rfl, hF, hpt⟩ := hp
    rw [hv] at hpt
    rw [hv]
    refine aw_if_neB h (tgt := 9) dX4_term_4 (by decide) (fun c4 => ?_) (fun c4 => ?_)
    · have key : ∀ (fu i1 md1 : Nat) (code : List Sg) (I1 : Im) (L1 : Lm) (o1 : Option Value), n < i1 + fu → PZ I1 T n t i1 md1 (cs ++ code) → PF0 t I L I1 L1 → (cs ++ code).length ≤ i1 → termP T n i md = loopB T n (mulK T n) (valueP T n) fu i1 md1 code → AW X 0 0 9 [some (.ref (w.1 + 161)), o1] [] G I1 L1 := by
        intro fu
        induction fu with
        | zero => intro i1 md1 code I1 L1 o1 hlt hZ1; have := hZ1.1.2.2.2.2; omega
        | succ fu ih =>
          intro i1 md1 code I1 L1 o1 hlt hZ1 hF1 hcl hres
          have hn4 := hZ1.1.2.2.1
          have hsk := skip_le (T := T) hZ1.1.2.2.2.2
          have hj2 := skip_idem (T := T) hZ1.1.2.2.2.2
          rw [loopB] at hres
          refine aw_aload0 h dX4_term_9 ?_
          refine aw_callVE0 h hl cl_X4_103 (met_m_see hG hZ1.1) (gmt hG) rfl dX4_term_10 (Nat.le_of_ble_eq_true rfl) rfl (Nat.zero_le _) (Nat.zero_le _) ?_
          generalize hjj : skip T n i1 = j at *
          have hT2 := hZ1.1.to hsk.2
          have hZ2 : PZ (upd2 I1 161 8 (nI j)) T n t j md1 (cs ++ code) := hZ1.f hT2 hZ1.2.1 hZ1.2.2.2.2.1 hZ1.2.2.2.2.2.1 rfl rfl rfl
          have hF2 : PF0 t I L (upd2 I1 161 8 (nI j)) L1 := hF1.trans (PF0.f (by decide))
          have key74 : ∀ s : Nat, mulK T n j = s → s ≠ 0 → AW X 0 0 74 [some (.ref (w.1 + 161)), o1] [.int (nI s)] G (upd2 I1 161 8 (nI j)) L1 := by
            intro s hs hs0
            have hjn : j < n := mulK_lt (by rw [hs]; exact hs0)
            rw [hs, if_neg hs0] at hres
            cases hv2 : valueP T n (j + 1) md1 with
            | inl e =>
              have hZj : PZ (upd2 I1 161 8 (nI (j + 1))) T n t (j + 1) md1 (cs ++ code) := hZ1.f (hZ1.1.to (by omega)) hZ1.2.1 hZ1.2.2.2.2.1 hZ1.2.2.2.2.2.1 rfl rfl rfl
              have hFj : PF0 t I L (upd2 I1 161 8 (nI (j + 1))) L1 := hF1.trans (PF0.f (by decide))
              rw [hv2] at hres
              refine aw_istore1 h rfl dX4_term_74 ?_
              refine aw_aload0 h dX4_term_75 ?_
              refine aw_dup h rfl dX4_term_76 ?_
              refine aw_getiV h fl_X4_100 (gmt hG) dX4_term_77 rfl ((rfl : (upd2 I1 161 8 (nI j)) 161 8 = nI j)) ?_
              refine aw_iconst h _ ci_1 dX4_term_80 ?_
              refine aw_iaddN h dX4_term_81 ?_
              refine aw_puti h fl_X4_100 ft_X4_100 (fun z => by cases z) (gmt hG) dX4_term_82 rfl ?_
              rw [upd2_upd2]
              refine aw_aload0 h dX4_term_85 ?_
              refine aw_callVA0 h hl cl_X4_186 (met_m_value hG hZj (by omega)) (gmt hG) rfl dX4_term_86 (Nat.le_of_ble_eq_true rfl) rfl (Nat.zero_le _) (Nat.zero_le _) (fun G1 I3 L3 hp => ?_)
              obtain ⟨rfl, hF3, hpt⟩ := hp
              rw [hv2] at hpt
              rw [hv2]
              refine aw_if_neB h (tgt := 94) dX4_term_89 (by decide) (fun c89 => ?_) (fun c89 => ?_)
              · exact absurd c89 Bool.false_ne_true
              · refine aw_iconst h _ ci_0 dX4_term_92 ?_
                exact aw_zret h hr dX4_term_93 (by first | exact z01_0 | exact z01_1 | exact z01_b _) (⟨by rw [hres]; rfl, rfl, by rw [hres]; exact ⟨hFj.trans hF3, hpt⟩⟩) (Nat.zero_le _) (Nat.zero_le _)
            | inr q =>
              have hZj : PZ (upd2 I1 161 8 (nI (j + 1))) T n t (j + 1) md1 (cs ++ code) := hZ1.f (hZ1.1.to (by omega)) hZ1.2.1 hZ1.2.2.2.2.1 hZ1.2.2.2.2.2.1 rfl rfl rfl
              have hFj : PF0 t I L (upd2 I1 161 8 (nI (j + 1))) L1 := hF1.trans (PF0.f (by decide))
              rw [hv2] at hres
              refine aw_istore1 h rfl dX4_term_74 ?_
              refine aw_aload0 h dX4_term_75 ?_
              refine aw_dup h rfl dX4_term_76 ?_
              refine aw_getiV h fl_X4_100 (gmt hG) dX4_term_77 rfl ((rfl : (upd2 I1 161 8 (nI j)) 161 8 = nI j)) ?_
              refine aw_iconst h _ ci_1 dX4_term_80 ?_
              refine aw_iaddN h dX4_term_81 ?_
              refine aw_puti h fl_X4_100 ft_X4_100 (fun z => by cases z) (gmt hG) dX4_term_82 rfl ?_
              rw [upd2_upd2]
              refine aw_aload0 h dX4_term_85 ?_
              refine aw_callVA0 h hl cl_X4_186 (met_m_value hG hZj (by omega)) (gmt hG) rfl dX4_term_86 (Nat.le_of_ble_eq_true rfl) rfl (Nat.zero_le _) (Nat.zero_le _) (fun G1 I3 L3 hp => ?_)
              obtain ⟨rfl, hF3, hpt⟩ := hp
              rw [hv2] at hpt
              rw [hv2]
              refine aw_if_neB h (tgt := 94) dX4_term_89 (by decide) (fun c89 => ?_) (fun c89 => ?_)
              · have hZ3 : PZ I3 T n t q.1 q.2.1 (cs ++ code ++ q.2.2) := hpt
                have hsb := valueP_ok T n (j + 1) md1 q (by omega) hZ1.2.2.2.2.2.1 hv2
                have hl3 : (cs ++ code ++ q.2.2).length = (cs ++ code).length + q.2.2.length := List.length_append
                refine aw_aload0 h dX4_term_94 ?_
                refine aw_iload1 h dX4_term_95 ?_
                refine aw_iconst h _ ci_0 dX4_term_96 ?_
                refine aw_callVD2 h hl cl_X4_172 (met_m_puts hG hZ3 (by omega)) (gmt hG) rfl dX4_term_97 (Nat.le_of_ble_eq_true rfl) rfl (Nat.zero_le _) (Nat.zero_le _) ?_
                refine aw_goto h (tgt := 9) dX4_term_100 (by decide) ?_
                have hpu := hZ3.put (s, 0)
                have e9 : cs ++ code ++ q.2.2 ++ [(s, 0)] = cs ++ (code ++ q.2.2 ++ [(s, 0)]) := by simp [List.append_assoc]
                have hl4 : (cs ++ code ++ q.2.2 ++ [(s, 0)]).length = (cs ++ code ++ q.2.2).length + 1 := List.length_append
                rw [e9] at hpu hl4
                exact ih q.1 q.2.1 _ _ L3 _ (by omega) hpu ((hFj.trans hF3).trans PF0.put) (by omega) hres
              · exact absurd c89.symm Bool.false_ne_true
          have key36 : isMul T n j = true → AW X 0 0 36 [some (.ref (w.1 + 161)), o1] [] G (upd2 I1 161 8 (nI j)) L1 := by
            intro hm
            have hjn : j < n := mulK_lt (by unfold mulK; rw [if_pos hm]; split <;> first | decide | (split <;> decide))
            refine aw_aload0 h dX4_term_36 ?_
            refine aw_getr h fl_X4_7 (gmt hG) dX4_term_37 rfl (gmp0 hG) ?_
            refine aw_aload0 h dX4_term_40 ?_
            refine aw_getiV h fl_X4_100 (gmt hG) dX4_term_41 rfl ((rfl : (upd2 I1 161 8 (nI j)) 161 8 = nI j)) ?_
            refine aw_baldN h (gms162 hG) (by decide) (by omega) dX4_term_44 ?_
            rw [show (upd2 I1 161 8 (nI j)) 162 j = T j from congrFun hZ1.1.1 j]
            refine aw_bipush h _ cb_42 dX4_term_45 ?_
            refine aw_icmp_ne h (tgt := 54) dX4_term_47 (by decide) (fun c47 => ?_) (fun c47 => ?_)
            · refine aw_aload0 h dX4_term_54 ?_
              refine aw_getr h fl_X4_7 (gmt hG) dX4_term_55 rfl (gmp0 hG) ?_
              refine aw_aload0 h dX4_term_58 ?_
              refine aw_getiV h fl_X4_100 (gmt hG) dX4_term_59 rfl ((rfl : (upd2 I1 161 8 (nI j)) 161 8 = nI j)) ?_
              refine aw_baldN h (gms162 hG) (by decide) (by omega) dX4_term_62 ?_
              rw [show (upd2 I1 161 8 (nI j)) 162 j = T j from congrFun hZ1.1.1 j]
              refine aw_bipush h _ cb_47 dX4_term_63 ?_
              refine aw_icmp_ne h (tgt := 72) dX4_term_65 (by decide) (fun c65 => ?_) (fun c65 => ?_)
              · refine aw_bipush h _ cb_14 dX4_term_72 ?_
                exact key74 14 (by unfold mulK; rw [if_pos hm, if_neg c47, if_neg c65]) (by decide)
              · refine aw_iconst h _ ci_5 dX4_term_68 ?_
                refine aw_goto h (tgt := 74) dX4_term_69 (by decide) ?_
                exact key74 5 (by unfold mulK; rw [if_pos hm, if_neg c47, if_pos c65]) (by decide)
            · refine aw_iconst h _ ci_4 dX4_term_50 ?_
              refine aw_goto h (tgt := 74) dX4_term_51 (by decide) ?_
              exact key74 4 (by unfold mulK; rw [if_pos hm, if_pos c47]) (by decide)
          refine aw_bipush h _ cb_42 dX4_term_13 ?_
          refine aw_icmp_eq h (tgt := 36) dX4_term_15 (by decide) (fun c15 => ?_) (fun c15 => ?_)
          · exact key36 (by unfold isMul; rw [decide_eq_true c15]; simp)
          · refine aw_aload0 h dX4_term_18 ?_
            refine aw_callVE0 h hl cl_X4_103 (met_m_see0 hG hT2 hj2) (gmt hG) rfl dX4_term_19 (Nat.le_of_ble_eq_true rfl) rfl (Nat.zero_le _) (Nat.zero_le _) ?_
            refine aw_bipush h _ cb_47 dX4_term_22 ?_
            refine aw_icmp_eq h (tgt := 36) dX4_term_24 (by decide) (fun c24 => ?_) (fun c24 => ?_)
            · exact key36 (by unfold isMul; rw [decide_eq_true c24]; simp)
            · refine aw_aload0 h dX4_term_27 ?_
              refine aw_callVE0 h hl cl_X4_103 (met_m_see0 hG hT2 hj2) (gmt hG) rfl dX4_term_28 (Nat.le_of_ble_eq_true rfl) rfl (Nat.zero_le _) (Nat.zero_le _) ?_
              refine aw_bipush h _ cb_37 dX4_term_31 ?_
              refine aw_icmp_ne h (tgt := 103) dX4_term_33 (by decide) (fun c33 => ?_) (fun c33 => ?_)
              · have hz : mulK T n j = 0 := by unfold mulK isMul; rw [decide_eq_false c15, decide_eq_false c24, decide_eq_false c33]; rfl
                rw [hz, if_pos rfl] at hres
                refine aw_iconst h _ ci_1 dX4_term_103 ?_
                exact aw_zret h hr dX4_term_104 (by first | exact z01_0 | exact z01_1 | exact z01_b _) (⟨by rw [hres]; rfl, rfl, by rw [hres]; exact ⟨hF2, hZ2⟩⟩) (Nat.zero_le _) (Nat.zero_le _)
              · exact key36 (by unfold isMul; rw [decide_eq_true c33]; simp)
      exact key (n + 1) q.1 q.2.1 q.2.2 I1 L1 _ (by omega) hpt hF (by rw [List.length_append]; have := (valueP_ok T n i md q hZ.1.2.2.2.2 hZ.2.2.2.2.2.1 hv).1; omega) hbp
    · exact absurd c4.symm Bool.false_ne_true
theorem met_m_sum {w : Wd} {G : Gm} {I : Im} {L : Lm} (hG : GM G) {T : Nat → Int32} {n t i md : Nat} {cs : List Sg} (hZ : PZ I T n t i md cs) (hci : cs.length ≤ i) : AMet w yX4_sum cX4_sum 2 (some .boolean) 6 149 0 0 [.ref (w.1 + 161)] G I L (Ans (some (.int (bI (okP (sumP T n i md))))) (PPt (sumP T n i md) T n t cs G I L)) := by
  refine AMet.of (ls0 := [some (.ref (w.1 + 161)), none]) rfl (Nat.le_of_ble_eq_true rfl) rfl (fun q hq => hq) (fun X h hl hr hi => ?_)
  cases hv : termP T n i md with
  | inl e =>
    have hbp : sumP T n i md = .inl e := by unfold sumP binP; rw [hv]
    refine aw_aload0 h dX4_sum_0 ?_
    refine aw_callVA0 h hl cl_X4_190 (met_m_term hG hZ hci) (gmt hG) rfl dX4_sum_1 (Nat.le_of_ble_eq_true rfl) rfl (Nat.zero_le _) (Nat.zero_le _) (fun G1 I1 L1 hp => ?_)
    obtain ⟨rfl, hF, hpt⟩ := hp
    rw [hv] at hpt
    rw [hv]
    refine aw_if_neB h (tgt := 9) dX4_sum_4 (by decide) (fun c4 => ?_) (fun c4 => ?_)
    · exact absurd c4 Bool.false_ne_true
    · refine aw_iconst h _ ci_0 dX4_sum_7 ?_
      exact aw_zret h hr dX4_sum_8 (by first | exact z01_0 | exact z01_1 | exact z01_b _) (⟨by rw [hbp]; rfl, rfl, by rw [hbp]; exact ⟨hF, hpt⟩⟩) (Nat.zero_le _) (Nat.zero_le _)
  | inr q =>
    have hbp : sumP T n i md = loopB T n (addK T n) (termP T n) (n + 1) q.1 q.2.1 q.2.2 := by unfold sumP binP; rw [hv]
    refine aw_aload0 h dX4_sum_0 ?_
    refine aw_callVA0 h hl cl_X4_190 (met_m_term hG hZ hci) (gmt hG) rfl dX4_sum_1 (Nat.le_of_ble_eq_true rfl) rfl (Nat.zero_le _) (Nat.zero_le _) (fun G1 I1 L1 hp => ?_)
    obtain ⟨rfl, hF, hpt⟩ := hp
    rw [hv] at hpt
    rw [hv]
    refine aw_if_neB h (tgt := 9) dX4_sum_4 (by decide) (fun c4 => ?_) (fun c4 => ?_)
    · have key : ∀ (fu i1 md1 : Nat) (code : List Sg) (I1 : Im) (L1 : Lm) (o1 : Option Value), n < i1 + fu → PZ I1 T n t i1 md1 (cs ++ code) → PF0 t I L I1 L1 → (cs ++ code).length ≤ i1 → sumP T n i md = loopB T n (addK T n) (termP T n) fu i1 md1 code → AW X 0 0 9 [some (.ref (w.1 + 161)), o1] [] G I1 L1 := by
        intro fu
        induction fu with
        | zero => intro i1 md1 code I1 L1 o1 hlt hZ1; have := hZ1.1.2.2.2.2; omega
        | succ fu ih =>
          intro i1 md1 code I1 L1 o1 hlt hZ1 hF1 hcl hres
          have hn4 := hZ1.1.2.2.1
          have hsk := skip_le (T := T) hZ1.1.2.2.2.2
          have hj2 := skip_idem (T := T) hZ1.1.2.2.2.2
          rw [loopB] at hres
          refine aw_aload0 h dX4_sum_9 ?_
          refine aw_callVE0 h hl cl_X4_103 (met_m_see hG hZ1.1) (gmt hG) rfl dX4_sum_10 (Nat.le_of_ble_eq_true rfl) rfl (Nat.zero_le _) (Nat.zero_le _) ?_
          generalize hjj : skip T n i1 = j at *
          have hT2 := hZ1.1.to hsk.2
          have hZ2 : PZ (upd2 I1 161 8 (nI j)) T n t j md1 (cs ++ code) := hZ1.f hT2 hZ1.2.1 hZ1.2.2.2.2.1 hZ1.2.2.2.2.2.1 rfl rfl rfl
          have hF2 : PF0 t I L (upd2 I1 161 8 (nI j)) L1 := hF1.trans (PF0.f (by decide))
          have key74 : ∀ s : Nat, addK T n j = s → s ≠ 0 → AW X 0 0 46 [some (.ref (w.1 + 161)), o1] [.int (nI s)] G (upd2 I1 161 8 (nI j)) L1 := by
            intro s hs hs0
            have hjn : j < n := addK_lt (by rw [hs]; exact hs0)
            rw [hs, if_neg hs0] at hres
            cases hv2 : termP T n (j + 1) md1 with
            | inl e =>
              have hZj : PZ (upd2 I1 161 8 (nI (j + 1))) T n t (j + 1) md1 (cs ++ code) := hZ1.f (hZ1.1.to (by omega)) hZ1.2.1 hZ1.2.2.2.2.1 hZ1.2.2.2.2.2.1 rfl rfl rfl
              have hFj : PF0 t I L (upd2 I1 161 8 (nI (j + 1))) L1 := hF1.trans (PF0.f (by decide))
              rw [hv2] at hres
              refine aw_istore1 h rfl dX4_sum_46 ?_
              refine aw_aload0 h dX4_sum_47 ?_
              refine aw_dup h rfl dX4_sum_48 ?_
              refine aw_getiV h fl_X4_100 (gmt hG) dX4_sum_49 rfl ((rfl : (upd2 I1 161 8 (nI j)) 161 8 = nI j)) ?_
              refine aw_iconst h _ ci_1 dX4_sum_52 ?_
              refine aw_iaddN h dX4_sum_53 ?_
              refine aw_puti h fl_X4_100 ft_X4_100 (fun z => by cases z) (gmt hG) dX4_sum_54 rfl ?_
              rw [upd2_upd2]
              refine aw_aload0 h dX4_sum_57 ?_
              refine aw_callVA0 h hl cl_X4_190 (met_m_term hG hZj (by omega)) (gmt hG) rfl dX4_sum_58 (Nat.le_of_ble_eq_true rfl) rfl (Nat.zero_le _) (Nat.zero_le _) (fun G1 I3 L3 hp => ?_)
              obtain ⟨rfl, hF3, hpt⟩ := hp
              rw [hv2] at hpt
              rw [hv2]
              refine aw_if_neB h (tgt := 66) dX4_sum_61 (by decide) (fun c61 => ?_) (fun c61 => ?_)
              · exact absurd c61 Bool.false_ne_true
              · refine aw_iconst h _ ci_0 dX4_sum_64 ?_
                exact aw_zret h hr dX4_sum_65 (by first | exact z01_0 | exact z01_1 | exact z01_b _) (⟨by rw [hres]; rfl, rfl, by rw [hres]; exact ⟨hFj.trans hF3, hpt⟩⟩) (Nat.zero_le _) (Nat.zero_le _)
            | inr q =>
              have hZj : PZ (upd2 I1 161 8 (nI (j + 1))) T n t (j + 1) md1 (cs ++ code) := hZ1.f (hZ1.1.to (by omega)) hZ1.2.1 hZ1.2.2.2.2.1 hZ1.2.2.2.2.2.1 rfl rfl rfl
              have hFj : PF0 t I L (upd2 I1 161 8 (nI (j + 1))) L1 := hF1.trans (PF0.f (by decide))
              rw [hv2] at hres
              refine aw_istore1 h rfl dX4_sum_46 ?_
              refine aw_aload0 h dX4_sum_47 ?_
              refine aw_dup h rfl dX4_sum_48 ?_
              refine aw_getiV h fl_X4_100 (gmt hG) dX4_sum_49 rfl ((rfl : (upd2 I1 161 8 (nI j)) 161 8 = nI j)) ?_
              refine aw_iconst h _ ci_1 dX4_sum_52 ?_
              refine aw_iaddN h dX4_sum_53 ?_
              refine aw_puti h fl_X4_100 ft_X4_100 (fun z => by cases z) (gmt hG) dX4_sum_54 rfl ?_
              rw [upd2_upd2]
              refine aw_aload0 h dX4_sum_57 ?_
              refine aw_callVA0 h hl cl_X4_190 (met_m_term hG hZj (by omega)) (gmt hG) rfl dX4_sum_58 (Nat.le_of_ble_eq_true rfl) rfl (Nat.zero_le _) (Nat.zero_le _) (fun G1 I3 L3 hp => ?_)
              obtain ⟨rfl, hF3, hpt⟩ := hp
              rw [hv2] at hpt
              rw [hv2]
              refine aw_if_neB h (tgt := 66) dX4_sum_61 (by decide) (fun c61 => ?_) (fun c61 => ?_)
              · have hZ3 : PZ I3 T n t q.1 q.2.1 (cs ++ code ++ q.2.2) := hpt
                have hsb := termP_ok T n (j + 1) md1 q (by omega) hZ1.2.2.2.2.2.1 hv2
                have hl3 : (cs ++ code ++ q.2.2).length = (cs ++ code).length + q.2.2.length := List.length_append
                refine aw_aload0 h dX4_sum_66 ?_
                refine aw_iload1 h dX4_sum_67 ?_
                refine aw_iconst h _ ci_0 dX4_sum_68 ?_
                refine aw_callVD2 h hl cl_X4_172 (met_m_puts hG hZ3 (by omega)) (gmt hG) rfl dX4_sum_69 (Nat.le_of_ble_eq_true rfl) rfl (Nat.zero_le _) (Nat.zero_le _) ?_
                refine aw_goto h (tgt := 9) dX4_sum_72 (by decide) ?_
                have hpu := hZ3.put (s, 0)
                have e9 : cs ++ code ++ q.2.2 ++ [(s, 0)] = cs ++ (code ++ q.2.2 ++ [(s, 0)]) := by simp [List.append_assoc]
                have hl4 : (cs ++ code ++ q.2.2 ++ [(s, 0)]).length = (cs ++ code ++ q.2.2).length + 1 := List.length_append
                rw [e9] at hpu hl4
                exact ih q.1 q.2.1 _ _ L3 _ (by omega) hpu ((hFj.trans hF3).trans PF0.put) (by omega) hres
              · exact absurd c61.symm Bool.false_ne_true
          have key36 : isAdd T n j = true → AW X 0 0 27 [some (.ref (w.1 + 161)), o1] [] G (upd2 I1 161 8 (nI j)) L1 := by
            intro hm
            have hjn : j < n := addK_lt (by unfold addK; rw [if_pos hm]; split <;> first | decide | (split <;> decide))
            refine aw_aload0 h dX4_sum_27 ?_
            refine aw_getr h fl_X4_7 (gmt hG) dX4_sum_28 rfl (gmp0 hG) ?_
            refine aw_aload0 h dX4_sum_31 ?_
            refine aw_getiV h fl_X4_100 (gmt hG) dX4_sum_32 rfl ((rfl : (upd2 I1 161 8 (nI j)) 161 8 = nI j)) ?_
            refine aw_baldN h (gms162 hG) (by decide) (by omega) dX4_sum_35 ?_
            rw [show (upd2 I1 161 8 (nI j)) 162 j = T j from congrFun hZ1.1.1 j]
            refine aw_bipush h _ cb_43 dX4_sum_36 ?_
            refine aw_icmp_ne h (tgt := 45) dX4_sum_38 (by decide) (fun c38 => ?_) (fun c38 => ?_)
            · refine aw_iconst h _ ci_3 dX4_sum_45 ?_
              exact key74 3 (by unfold addK; rw [if_pos hm, if_neg c38]) (by decide)
            · refine aw_iconst h _ ci_2 dX4_sum_41 ?_
              refine aw_goto h (tgt := 46) dX4_sum_42 (by decide) ?_
              exact key74 2 (by unfold addK; rw [if_pos hm, if_pos c38]) (by decide)
          refine aw_bipush h _ cb_43 dX4_sum_13 ?_
          refine aw_icmp_eq h (tgt := 27) dX4_sum_15 (by decide) (fun c15 => ?_) (fun c15 => ?_)
          · exact key36 (by unfold isAdd; rw [decide_eq_true c15]; simp)
          · refine aw_aload0 h dX4_sum_18 ?_
            refine aw_callVE0 h hl cl_X4_103 (met_m_see0 hG hT2 hj2) (gmt hG) rfl dX4_sum_19 (Nat.le_of_ble_eq_true rfl) rfl (Nat.zero_le _) (Nat.zero_le _) ?_
            refine aw_bipush h _ cb_45 dX4_sum_22 ?_
            refine aw_icmp_ne h (tgt := 75) dX4_sum_24 (by decide) (fun c24 => ?_) (fun c24 => ?_)
            · have hz : addK T n j = 0 := by unfold addK isAdd; rw [decide_eq_false c15, decide_eq_false c24]; rfl
              rw [hz, if_pos rfl] at hres
              refine aw_iconst h _ ci_1 dX4_sum_75 ?_
              exact aw_zret h hr dX4_sum_76 (by first | exact z01_0 | exact z01_1 | exact z01_b _) (⟨by rw [hres]; rfl, rfl, by rw [hres]; exact ⟨hF2, hZ2⟩⟩) (Nat.zero_le _) (Nat.zero_le _)
            · exact key36 (by unfold isAdd; rw [decide_eq_true c24]; simp)
      exact key (n + 1) q.1 q.2.1 q.2.2 I1 L1 _ (by omega) hpt hF (by rw [List.length_append]; have := (termP_ok T n i md q hZ.1.2.2.2.2 hZ.2.2.2.2.2.1 hv).1; omega) hbp
    · exact absurd c4.symm Bool.false_ne_true
