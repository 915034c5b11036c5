/-! The reference's parser: a test -/
set_option maxRecDepth 100000
def andB (T : Nat → Int32) (n j : Nat) : Bool := wordB T n j (lN 6385252)
def orB (T : Nat → Int32) (n j : Nat) : Bool := wordB T n j (lN 28530)
/-- the sign that goes on, and its strength; none -/
def goK (T : Nat → Int32) (n j : Nat) : Nat := if andB T n j = true then 12 else if orB T n j = true then 13 else 0
def tstP (T : Nat → Int32) (n : Nat) : Nat → Nat → Nat → List Sg → List Nat → PRes
  | 0, _, _, _, _ => .inl 1
  | f + 1, i, md, code, ops => match factP T n i md ops with
    | .inl e => .inl e
    | .inr x => if goK T n (closeP T n x.1.1 x.2).1 = 0 then (if insO (closeP T n x.1.1 x.2).2.2 = true then .inl (errN 0 (closeP T n x.1.1 x.2).1) else .inr ((closeP T n x.1.1 x.2).1, x.1.2.1, code ++ x.1.2.2 ++ (closeP T n x.1.1 x.2).2.1 ++ (settleP 1 (closeP T n x.1.1 x.2).2.2).1))
      else tstP T n f ((closeP T n x.1.1 x.2).1 + lrun T n (closeP T n x.1.1 x.2).1) x.1.2.1 (code ++ x.1.2.2 ++ (closeP T n x.1.1 x.2).2.1 ++ (settleP (strN (goK T n (closeP T n x.1.1 x.2).1)) (closeP T n x.1.1 x.2).2.2).1) (goK T n (closeP T n x.1.1 x.2).1 :: (settleP (strN (goK T n (closeP T n x.1.1 x.2).1)) (closeP T n x.1.1 x.2).2.2).2)
def testedP (T : Nat → Int32) (n i md : Nat) : PRes := tstP T n (n + 1) i md [] []
theorem goK_lr {T : Nat → Int32} {n j : Nat} (h : goK T n j ≠ 0) : 0 < lrun T n j := by
  unfold goK andB orB at h
  split at h
  · rename_i e; exact of_decide_eq_true ((Bool.and_eq_true _ _).mp e).1
  · split at h
    · rename_i e; exact of_decide_eq_true ((Bool.and_eq_true _ _).mp e).1
    · exact absurd rfl h
theorem PO.pushN {I : Im} {ops : List Nat} {o : Nat} (h : PO I ops (dpN ops)) (ho : o = 12 ∨ o = 13) (hl : ops.length < 400) : PO (upd2 (upd2 I 168 ops.length (nI o)) 161 16 (nI (ops.length + 1))) (o :: ops) (dpN (o :: ops)) := by
  have e : dpN (o :: ops) = dpN ops := by
    show (if o = 11 ∨ o = 91 then 1 else 0) + dpN ops = _
    rw [if_neg (by omega), Nat.zero_add]
  refine ⟨rfl, hl, ⟨?_, h.2.2.1.of (fun j hj => ?_)⟩, by rw [e]; exact h.2.2.2.1, by rw [e]; exact h.2.2.2.2.1, fun x hx => ?_⟩
  · show va_up (I 168) ops.length (nI o) ops.length = _
    exact vup_s _ _ _
  · show va_up (I 168) ops.length (nI o) j = _
    exact vup_n _ _ (by omega)
  · rcases List.mem_cons.mp hx with q | q
    · subst q; omega
    · exact h.2.2.2.2.2 x q
/-- what comes of a test -/
def TPt (r : PRes) (T : Nat → Int32) (n t : Nat) (cs : List Sg) (G : Gm) (I : Im) (L : Lm) : Gm → Im → Lm → Prop := fun G1 I1 L1 => G = G1 ∧ PF1 t I L I1 L1 ∧ match r with
  | .inl e => I1 161 9 = nI e
  | .inr q => PZ I1 T n t q.1 q.2.1 (cs ++ q.2.2) ∧ (cs ++ q.2.2).length ≤ q.1 ∧ skip T n q.1 = q.1
theorem skip_ge (T : Nat → Int32) (n i : Nat) : i ≤ skip T n i := Nat.le_add_right _ _
theorem openP_ge {T : Nat → Int32} {n : Nat} : ∀ f i ops q, openP T n f i ops = .inr q → i ≤ q.1 := by
  intro f
  induction f with
  | zero => intro i ops q h; cases h
  | succ f ih =>
    intro i ops q h
    have hs := skip_ge T n i
    rw [openP] at h
    split at h
    · split at h
      · cases h
      · have := ih _ _ _ h; omega
    · split at h
      · split at h
        · cases h
        · have := ih _ _ _ h; omega
      · cases h; exact hs
theorem clsP_ge {T : Nat → Int32} {n : Nat} : ∀ f i code ops, i ≤ (clsP T n f i code ops).1 := by
  intro f
  induction f with
  | zero => intro i code ops; exact Nat.le_refl _
  | succ f ih =>
    intro i code ops
    have hs := skip_ge T n i
    rw [clsP]
    split
    · have := ih (skip T n i + 1) (code ++ (settleP 1 ops).1 ++ (settleP 3 (settleP 1 ops).2.tail).1) (settleP 3 (settleP 1 ops).2.tail).2; omega
    · exact hs
theorem openP_le {T : Nat → Int32} {n : Nat} : ∀ f i ops q, i ≤ n → openP T n f i ops = .inr q → q.1 ≤ n := by
  intro f
  induction f with
  | zero => intro i ops q _ h; cases h
  | succ f ih =>
    intro i ops q hi h
    have hs := skip_le (T := T) hi
    rw [openP] at h
    split at h
    · split at h
      · cases h
      · exact ih _ _ _ (run_le (f := letB T n) hs.2) h
    · split at h
      · rename_i hc
        split at h
        · cases h
        · exact ih _ _ _ (chV_lt hc (by decide)) h
      · cases h; exact hs.2
theorem factP_ge {T : Nat → Int32} {n i md : Nat} {ops : List Nat} {x : (Nat × Nat × List Sg) × List Nat} (hi : i ≤ n) (hmd : md ≤ 60) (h : factP T n i md ops = .inr x) : i ≤ x.1.1 := by
  unfold factP at h
  split at h
  · cases h
  · rename_i q hq
    split at h
    · cases h
    · rename_i r hr
      cases h
      have h1 := openP_ge _ _ _ _ hq
      have h2 := (compareP_ok T n _ _ _ (openP_le _ _ _ _ hi hq) hmd hr).1
      show i ≤ r.1
      omega
theorem met_m_tested {w : Wd} {G : Gm} {I : Im} {L : Lm} (hG : GM G) {T : Nat → Int32} {n t i md : Nat} {cs : List Sg} (hZ : PZ I T n t i md cs) (hci : cs.length ≤ i) : AMet w yX4_tested cX4_tested 3 (some .boolean) 9 216 0 0 [.ref (w.1 + 161)] G I L (Ans (some (.int (bI (okP (testedP T n i md))))) (TPt (testedP T n i md) T n t cs G I L)) := by
  refine AMet.of (ls0 := [some (.ref (w.1 + 161)), none, none]) rfl (Nat.le_of_ble_eq_true rfl) rfl (fun q hq => hq) (fun X h hl hr hi => ?_)
  have key : ∀ (fu i1 md1 : Nat) (code : List Sg) (ops1 : List Nat) (I1 : Im) (L1 : Lm) (o2 : Option Value), n < i1 + fu → PZ I1 T n t i1 md1 (cs ++ code) → PO I1 ops1 (dpN ops1) → PF1 t I L I1 L1 → (cs ++ code).length + ops1.length ≤ i1 → tstP T n fu i1 md1 code ops1 = testedP T n i md → AW X 0 0 12 [some (.ref (w.1 + 161)), some (.int (nI 1)), o2] [] G I1 L1 := by
    intro fu
    induction fu with
    | zero => intro i1 md1 code ops1 I1 L1 o2 hlt hZ1; have := hZ1.1.2.2.2.2; omega
    | succ fu ih =>
      intro i1 md1 code ops1 I1 L1 o2 hlt hZ1 hO1 hF1 hbd hop
      rw [tstP] at hop
      cases hv : factP T n i1 md1 ops1 with
      | inl e =>
        rw [hv] at hop
        refine aw_iload1 h dX4_tested_12 ?_
        refine aw_if_eqN h (tgt := 112) (by decide) dX4_tested_13 (by decide) (fun c13 => ?_) (fun c13 => ?_)
        · exact absurd c13 (by decide)
        · refine aw_aload0 h dX4_tested_16 ?_
          refine aw_callVA0 h hl cl_X4_210 (met_m_fact hG hZ1 hO1 hbd) (gmt hG) rfl dX4_tested_17 (Nat.le_of_ble_eq_true rfl) rfl (Nat.zero_le _) (Nat.zero_le _) (fun G1 I2 L2 hp => ?_)
          obtain ⟨rfl, hF0, hpt⟩ := hp
          rw [hv] at hpt
          have hF2 := hF1.trans hF0
          rw [hv]
          refine aw_if_neB h (tgt := 25) dX4_tested_20 (by decide) (fun c20 => ?_) (fun c20 => ?_)
          · exact absurd c20 Bool.false_ne_true
          · refine aw_iconst h _ ci_0 dX4_tested_23 ?_
            exact aw_zret h hr dX4_tested_24 (by first | exact z01_0 | exact z01_1 | exact z01_b _) (⟨by rw [← hop]; rfl, rfl, by rw [← hop]; exact ⟨hF2, hpt⟩⟩) (Nat.zero_le _) (Nat.zero_le _)
      | inr x =>
        rw [hv] at hop
        dsimp only at hop
        have hge := factP_ge hZ1.1.2.2.2.2 hZ1.2.2.2.2.2.1 hv
        have hge2 : x.1.1 ≤ (closeP T n x.1.1 x.2).1 := clsP_ge _ _ _ _
        refine aw_iload1 h dX4_tested_12 ?_
        refine aw_if_eqN h (tgt := 112) (by decide) dX4_tested_13 (by decide) (fun c13 => ?_) (fun c13 => ?_)
        · exact absurd c13 (by decide)
        · refine aw_aload0 h dX4_tested_16 ?_
          refine aw_callVA0 h hl cl_X4_210 (met_m_fact hG hZ1 hO1 hbd) (gmt hG) rfl dX4_tested_17 (Nat.le_of_ble_eq_true rfl) rfl (Nat.zero_le _) (Nat.zero_le _) (fun G1 I2 L2 hp => ?_)
          obtain ⟨rfl, hF0, hpt⟩ := hp
          rw [hv] at hpt
          have hF2 := hF1.trans hF0
          rw [hv]
          refine aw_if_neB h (tgt := 25) dX4_tested_20 (by decide) (fun c20 => ?_) (fun c20 => ?_)
          · refine aw_aload0 h dX4_tested_25 ?_
            refine aw_callVN0 h hl cl_X4_213 (met_m_closes hG hpt.1 hpt.2.1 hpt.2.2) (gmt hG) rfl dX4_tested_26 (Nat.le_of_ble_eq_true rfl) rfl (Nat.zero_le _) (Nat.zero_le _) (fun G1 I3 L3 hp3 => ?_)
            generalize hcv : closeP T n x.1.1 x.2 = V at *
            obtain ⟨y, vc, vo⟩ := V
            obtain ⟨rfl, hF3, hZ3, hO3, hb3, hy⟩ := hp3
            have hZ3 : PZ I3 T n t y x.1.2.1 (cs ++ code ++ x.1.2.2 ++ vc) := hZ3
            have hO3 : PO I3 vo (dpN vo) := hO3
            have hb3 : (cs ++ code ++ x.1.2.2 ++ vc).length + vo.length ≤ y := hb3
            have hy : skip T n y = y := hy
            have hge2 : x.1.1 ≤ y := hge2
            dsimp only at hop
            refine aw_aload0 h dX4_tested_29 ?_
            refine aw_ldc2 h (v := lN 6385252) q1660 dX4_tested_30 ?_
            refine aw_callVE1 h hl cl_X4_111 (met_m_isWord0 hG hZ3.1 hy) (gmt hG) rfl dX4_tested_33 (Nat.le_of_ble_eq_true rfl) rfl (Nat.zero_le _) (Nat.zero_le _) ?_
            refine aw_if_neB h (tgt := 49) dX4_tested_36 (by decide) (fun c36 => ?_) (fun c36 => ?_)
            · refine aw_iconst h _ ci_1 dX4_tested_49 ?_
              refine aw_goto h (tgt := 54) dX4_tested_50 (by decide) ?_
              refine aw_istore1 h rfl dX4_tested_54 ?_
              refine aw_iload1 h dX4_tested_55 ?_
              refine aw_if_eqN h (tgt := 12) (by decide) dX4_tested_56 (by decide) (fun c56 => ?_) (fun c56 => ?_)
              · exact absurd c56 (by decide)
              · refine aw_aload0 h dX4_tested_59 ?_
                refine aw_ldc2 h (v := lN 6385252) q1660 dX4_tested_60 ?_
                refine aw_callVE1 h hl cl_X4_111 (met_m_isWord0 hG hZ3.1 hy) (gmt hG) rfl dX4_tested_63 (Nat.le_of_ble_eq_true rfl) rfl (Nat.zero_le _) (Nat.zero_le _) ?_
                refine aw_if_eqB h (tgt := 74) dX4_tested_66 (by decide) (fun c66 => ?_) (fun c66 => ?_)
                · exact absurd (c36.symm.trans c66) (fun q => by cases q)
                · refine aw_bipush h _ cb_12 dX4_tested_69 ?_
                  refine aw_goto h (tgt := 76) dX4_tested_71 (by decide) ?_
                  have hgk : goK T n y = 12 := by unfold goK; exact if_pos c36
                  have hlp := goK_lr (show goK T n y ≠ 0 by rw [hgk]; decide)
                  have hln : y + lrun T n y ≤ n := run_le (f := letB T n) hZ3.1.2.2.2.2
                  rw [if_neg (show ¬ goK T n y = 0 by rw [hgk]; decide), hgk, show strN 12 = 2 from rfl] at hop
                  have hZ4 := hZ3.at hln
                  have hO4 : PO (upd2 I3 161 8 (nI (y + lrun T n y))) vo (dpN vo) := hO3.of rfl rfl rfl
                  refine aw_istore2 h rfl dX4_tested_76 ?_
                  refine aw_aload0 h dX4_tested_77 ?_
                  refine aw_callVD0 h hl cl_X4_115 (met_m_passWord hG hZ3.1) (gmt hG) rfl dX4_tested_78 (Nat.le_of_ble_eq_true rfl) rfl (Nat.zero_le _) (Nat.zero_le _) ?_
                  refine aw_aload0 h dX4_tested_81 ?_
                  refine aw_iload2 h dX4_tested_82 ?_
                  refine aw_callSE1 h hl cl_X4_168 (met_m_strength (s := 12) (by decide)) dX4_tested_83 (Nat.le_of_ble_eq_true rfl) rfl (Nat.zero_le _) (Nat.zero_le _) ?_
                  refine aw_callVN1 h hl cl_X4_204 (met_m_settles (least := 2) hG hZ4 hO4 (by omega) (by decide) (by decide)) (gmt hG) rfl dX4_tested_86 (Nat.le_of_ble_eq_true rfl) rfl (Nat.zero_le _) (Nat.zero_le _) (fun G1 I5 L5 hp => ?_)
                  obtain ⟨rfl, hF5, hZ5, hO5⟩ := hp
                  have hsl := settle_len 2 vo
                  have hl8 : (cs ++ code ++ x.1.2.2 ++ vc ++ (settleP 2 vo).1).length = (cs ++ code ++ x.1.2.2 ++ vc).length + (settleP 2 vo).1.length := List.length_append
                  have hn4 := hZ5.1.2.2.1
                  refine aw_aload0 h dX4_tested_89 ?_
                  refine aw_getr h fl_X4_29 (gmt hG) dX4_tested_90 rfl (gmp15 hG) ?_
                  refine aw_aload0 h dX4_tested_93 ?_
                  refine aw_getiV h fl_X4_165 (gmt hG) dX4_tested_94 rfl (hO5.1) ?_
                  refine aw_iload2 h dX4_tested_97 ?_
                  refine aw_iastN h (gms168 hG) (by decide) (by omega) dX4_tested_98 ?_
                  refine aw_aload0 h dX4_tested_99 ?_
                  refine aw_dup h rfl dX4_tested_100 ?_
                  refine aw_getiV h fl_X4_165 (gmt hG) dX4_tested_101 rfl ((show (upd2 I5 168 (settleP 2 vo).2.length (nI 12)) 161 16 = nI (settleP 2 vo).2.length from hO5.1)) ?_
                  refine aw_iconst h _ ci_1 dX4_tested_104 ?_
                  refine aw_iaddN h dX4_tested_105 ?_
                  refine aw_puti h fl_X4_165 ft_X4_165 (fun z => by cases z) (gmt hG) dX4_tested_106 rfl ?_
                  refine aw_goto h (tgt := 12) dX4_tested_109 (by decide) ?_
                  have e9 : cs ++ code ++ x.1.2.2 ++ vc ++ (settleP 2 vo).1 = cs ++ (code ++ x.1.2.2 ++ vc ++ (settleP 2 vo).1) := by simp [List.append_assoc]
                  rw [e9] at hZ5 hl8
                  exact ih (y + lrun T n y) x.1.2.1 _ (12 :: (settleP 2 vo).2) (upd2 (upd2 I5 168 (settleP 2 vo).2.length (nI 12)) 161 16 (nI ((settleP 2 vo).2.length + 1))) L5 _ (by omega) (hZ5.f ⟨hZ5.1.1, hZ5.1.2.1, hZ5.1.2.2.1, hZ5.1.2.2.2.1, hZ5.1.2.2.2.2⟩ hZ5.2.1 hZ5.2.2.2.2.1 hZ5.2.2.2.2.2.1 rfl rfl rfl) (hO5.pushN (by decide) (by omega)) ((((hF2.trans hF3).trans (PF1.f (j := 8) (by decide))).trans hF5).trans (PF1.o.trans (PF1.f (j := 16) (by decide)))) (by rw [List.length_cons]; omega) hop
            · refine aw_aload0 h dX4_tested_39 ?_
              refine aw_ldc2 h (v := lN 28530) q1661 dX4_tested_40 ?_
              refine aw_callVE1 h hl cl_X4_111 (met_m_isWord0 hG hZ3.1 hy) (gmt hG) rfl dX4_tested_43 (Nat.le_of_ble_eq_true rfl) rfl (Nat.zero_le _) (Nat.zero_le _) ?_
              refine aw_if_eqB h (tgt := 53) dX4_tested_46 (by decide) (fun c46 => ?_) (fun c46 => ?_)
              · refine aw_iconst h _ ci_0 dX4_tested_53 ?_
                refine aw_istore1 h rfl dX4_tested_54 ?_
                refine aw_iload1 h dX4_tested_55 ?_
                refine aw_if_eqN h (tgt := 12) (by decide) dX4_tested_56 (by decide) (fun c56 => ?_) (fun c56 => ?_)
                · have hgk : goK T n y = 0 := by
                    unfold goK
                    rw [if_neg (show ¬ andB T n y = true from fun q => by rw [show andB T n y = false from c36] at q; exact Bool.false_ne_true q), if_neg (show ¬ orB T n y = true from fun q => by rw [show orB T n y = false from c46] at q; exact Bool.false_ne_true q)]
                  rw [if_pos hgk] at hop
                  refine aw_iload1 h dX4_tested_12 ?_
                  refine aw_if_eqN h (tgt := 112) (by omega) dX4_tested_13 (by decide) (fun c13 => ?_) (fun c13 => ?_)
                  · refine aw_aload0 h dX4_tested_112 ?_
                    refine aw_callVE0 h hl cl_X4_207 (met_m_isInside hG hO3) (gmt hG) rfl dX4_tested_113 (Nat.le_of_ble_eq_true rfl) rfl (Nat.zero_le _) (Nat.zero_le _) ?_
                    refine aw_if_eqB h (tgt := 134) dX4_tested_116 (by decide) (fun c116 => ?_) (fun c116 => ?_)
                    · rw [if_neg (by rw [c116]; exact Bool.false_ne_true)] at hop
                      refine aw_aload0 h dX4_tested_134 ?_
                      refine aw_iconst h _ ci_1 dX4_tested_135 ?_
                      refine aw_callVN1 h hl cl_X4_204 (met_m_settles (least := 1) hG hZ3 hO3 hb3 (by decide) (by decide)) (gmt hG) rfl dX4_tested_136 (Nat.le_of_ble_eq_true rfl) rfl (Nat.zero_le _) (Nat.zero_le _) (fun G1 I5 L5 hp => ?_)
                      obtain ⟨rfl, hF5, hZ5, hO5⟩ := hp
                      have hsl := settle_len 1 vo
                      have hl8 : (cs ++ code ++ x.1.2.2 ++ vc ++ (settleP 1 vo).1).length = (cs ++ code ++ x.1.2.2 ++ vc).length + (settleP 1 vo).1.length := List.length_append
                      have e9 : cs ++ code ++ x.1.2.2 ++ vc ++ (settleP 1 vo).1 = cs ++ (code ++ x.1.2.2 ++ vc ++ (settleP 1 vo).1) := by simp [List.append_assoc]
                      rw [e9] at hZ5 hl8
                      refine aw_iconst h _ ci_1 dX4_tested_139 ?_
                      exact aw_zret h hr dX4_tested_140 (by first | exact z01_0 | exact z01_1 | exact z01_b _) (⟨by rw [← hop]; rfl, rfl, by rw [← hop]; exact ⟨(hF2.trans hF3).trans hF5, hZ5, by show (cs ++ (code ++ x.1.2.2 ++ vc ++ (settleP 1 vo).1)).length ≤ y; omega, hy⟩⟩) (Nat.zero_le _) (Nat.zero_le _)
                    · rw [if_pos c116] at hop
                      refine aw_aload0 h dX4_tested_119 ?_
                      refine aw_callVE0 h hl cl_X4_103 (met_m_see0 hG hZ3.1 hy) (gmt hG) rfl dX4_tested_120 (Nat.le_of_ble_eq_true rfl) rfl (Nat.zero_le _) (Nat.zero_le _) ?_
                      refine aw_pop h rfl dX4_tested_123 ?_
                      refine aw_aload0 h dX4_tested_124 ?_
                      refine aw_iconst h _ ci_0 dX4_tested_125 ?_
                      refine aw_aload0 h dX4_tested_126 ?_
                      refine aw_getiV h fl_X4_100 (gmt hG) dX4_tested_127 rfl (hZ3.1.2.2.2.1) ?_
                      refine aw_callVE2 h hl cl_X4_121 (met_m_fails hG (kd := 0) (at2 := y)) (gmt hG) rfl dX4_tested_130 (Nat.le_of_ble_eq_true rfl) rfl (Nat.zero_le _) (Nat.zero_le _) ?_
                      exact aw_zret h hr dX4_tested_133 (by first | exact z01_0 | exact z01_1 | exact z01_b _) (⟨by rw [← hop]; rfl, rfl, by rw [← hop]; exact ⟨(hF2.trans hF3).trans (PF1.f (by decide)), by show failW (I3 161 9) 0 y = nI (errN 0 y); rw [hZ3.2.1]; rfl⟩⟩) (Nat.zero_le _) (Nat.zero_le _)
                  · exact absurd c13 (by decide)
                · exact absurd rfl c56
              · refine aw_iconst h _ ci_1 dX4_tested_49 ?_
                refine aw_goto h (tgt := 54) dX4_tested_50 (by decide) ?_
                refine aw_istore1 h rfl dX4_tested_54 ?_
                refine aw_iload1 h dX4_tested_55 ?_
                refine aw_if_eqN h (tgt := 12) (by decide) dX4_tested_56 (by decide) (fun c56 => ?_) (fun c56 => ?_)
                · exact absurd c56 (by decide)
                · refine aw_aload0 h dX4_tested_59 ?_
                  refine aw_ldc2 h (v := lN 6385252) q1660 dX4_tested_60 ?_
                  refine aw_callVE1 h hl cl_X4_111 (met_m_isWord0 hG hZ3.1 hy) (gmt hG) rfl dX4_tested_63 (Nat.le_of_ble_eq_true rfl) rfl (Nat.zero_le _) (Nat.zero_le _) ?_
                  refine aw_if_eqB h (tgt := 74) dX4_tested_66 (by decide) (fun c66 => ?_) (fun c66 => ?_)
                  · refine aw_bipush h _ cb_13 dX4_tested_74 ?_
                    have hgk : goK T n y = 13 := by unfold goK; rw [if_neg (show ¬ andB T n y = true from fun q => by rw [show andB T n y = false from c36] at q; exact Bool.false_ne_true q)]; exact if_pos c46
                    have hlp := goK_lr (show goK T n y ≠ 0 by rw [hgk]; decide)
                    have hln : y + lrun T n y ≤ n := run_le (f := letB T n) hZ3.1.2.2.2.2
                    rw [if_neg (show ¬ goK T n y = 0 by rw [hgk]; decide), hgk, show strN 13 = 1 from rfl] at hop
                    have hZ4 := hZ3.at hln
                    have hO4 : PO (upd2 I3 161 8 (nI (y + lrun T n y))) vo (dpN vo) := hO3.of rfl rfl rfl
                    refine aw_istore2 h rfl dX4_tested_76 ?_
                    refine aw_aload0 h dX4_tested_77 ?_
                    refine aw_callVD0 h hl cl_X4_115 (met_m_passWord hG hZ3.1) (gmt hG) rfl dX4_tested_78 (Nat.le_of_ble_eq_true rfl) rfl (Nat.zero_le _) (Nat.zero_le _) ?_
                    refine aw_aload0 h dX4_tested_81 ?_
                    refine aw_iload2 h dX4_tested_82 ?_
                    refine aw_callSE1 h hl cl_X4_168 (met_m_strength (s := 13) (by decide)) dX4_tested_83 (Nat.le_of_ble_eq_true rfl) rfl (Nat.zero_le _) (Nat.zero_le _) ?_
                    refine aw_callVN1 h hl cl_X4_204 (met_m_settles (least := 1) hG hZ4 hO4 (by omega) (by decide) (by decide)) (gmt hG) rfl dX4_tested_86 (Nat.le_of_ble_eq_true rfl) rfl (Nat.zero_le _) (Nat.zero_le _) (fun G1 I5 L5 hp => ?_)
                    obtain ⟨rfl, hF5, hZ5, hO5⟩ := hp
                    have hsl := settle_len 1 vo
                    have hl8 : (cs ++ code ++ x.1.2.2 ++ vc ++ (settleP 1 vo).1).length = (cs ++ code ++ x.1.2.2 ++ vc).length + (settleP 1 vo).1.length := List.length_append
                    have hn4 := hZ5.1.2.2.1
                    refine aw_aload0 h dX4_tested_89 ?_
                    refine aw_getr h fl_X4_29 (gmt hG) dX4_tested_90 rfl (gmp15 hG) ?_
                    refine aw_aload0 h dX4_tested_93 ?_
                    refine aw_getiV h fl_X4_165 (gmt hG) dX4_tested_94 rfl (hO5.1) ?_
                    refine aw_iload2 h dX4_tested_97 ?_
                    refine aw_iastN h (gms168 hG) (by decide) (by omega) dX4_tested_98 ?_
                    refine aw_aload0 h dX4_tested_99 ?_
                    refine aw_dup h rfl dX4_tested_100 ?_
                    refine aw_getiV h fl_X4_165 (gmt hG) dX4_tested_101 rfl ((show (upd2 I5 168 (settleP 1 vo).2.length (nI 13)) 161 16 = nI (settleP 1 vo).2.length from hO5.1)) ?_
                    refine aw_iconst h _ ci_1 dX4_tested_104 ?_
                    refine aw_iaddN h dX4_tested_105 ?_
                    refine aw_puti h fl_X4_165 ft_X4_165 (fun z => by cases z) (gmt hG) dX4_tested_106 rfl ?_
                    refine aw_goto h (tgt := 12) dX4_tested_109 (by decide) ?_
                    have e9 : cs ++ code ++ x.1.2.2 ++ vc ++ (settleP 1 vo).1 = cs ++ (code ++ x.1.2.2 ++ vc ++ (settleP 1 vo).1) := by simp [List.append_assoc]
                    rw [e9] at hZ5 hl8
                    exact ih (y + lrun T n y) x.1.2.1 _ (13 :: (settleP 1 vo).2) (upd2 (upd2 I5 168 (settleP 1 vo).2.length (nI 13)) 161 16 (nI ((settleP 1 vo).2.length + 1))) L5 _ (by omega) (hZ5.f ⟨hZ5.1.1, hZ5.1.2.1, hZ5.1.2.2.1, hZ5.1.2.2.2.1, hZ5.1.2.2.2.2⟩ hZ5.2.1 hZ5.2.2.2.2.1 hZ5.2.2.2.2.2.1 rfl rfl rfl) (hO5.pushN (by decide) (by omega)) ((((hF2.trans hF3).trans (PF1.f (j := 8) (by decide))).trans hF5).trans (PF1.o.trans (PF1.f (j := 16) (by decide)))) (by rw [List.length_cons]; omega) hop
                  · exact absurd (c36.symm.trans c66) (fun q => by cases q)
          · exact absurd c20.symm Bool.false_ne_true
  refine aw_aload0 h dX4_tested_0 ?_
  refine aw_iconst h _ ci_0 dX4_tested_1 ?_
  refine aw_puti h fl_X4_165 ft_X4_165 (fun z => by cases z) (gmt hG) dX4_tested_2 rfl ?_
  refine aw_aload0 h dX4_tested_5 ?_
  refine aw_iconst h _ ci_0 dX4_tested_6 ?_
  refine aw_puti h fl_X4_162 ft_X4_162 (fun z => by cases z) (gmt hG) dX4_tested_7 rfl ?_
  refine aw_iconst h _ ci_1 dX4_tested_10 ?_
  refine aw_istore1 h rfl dX4_tested_11 ?_
  exact key (n + 1) i md [] [] (upd2 (upd2 I 161 16 (nI 0)) 161 13 (nI 0)) L _ (by omega) (by rw [List.append_nil]; exact hZ.f ⟨hZ.1.1, hZ.1.2.1, hZ.1.2.2.1, hZ.1.2.2.2.1, hZ.1.2.2.2.2⟩ hZ.2.1 hZ.2.2.2.2.1 hZ.2.2.2.2.2.1 rfl rfl rfl) ⟨rfl, by decide, trivial, rfl, by decide, fun o ho => by cases ho⟩ ((PF1.f (j := 16) (by decide)).trans (PF1.f (j := 13) (by decide))) (by rw [List.append_nil]; exact hci) rfl
