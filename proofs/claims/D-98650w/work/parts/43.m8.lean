/-! The reference: passes, the moment itself -/
set_option maxRecDepth 100000
def WPk (S : Nat → Int32) (fr : Option (List Cl)) (k : Nat) (I : Im) (L : Lm) (I1 : Im) (L1 : Lm) : Prop := (∀ n, n ≠ 161 → n ≠ 172 → n ≠ 173 → n ≠ 174 → I1 n = I n) ∧ (∀ j, j ≠ 18 → I1 161 j = I 161 j) ∧ (∀ q, q < k → I1 173 q = willI S fr q ∧ I1 174 q = bI (outB S fr q)) ∧ ∀ n, n ≠ 169 → n ≠ 170 → L1 n = L n
theorem WPk.step {S : Nat → Int32} {fr : Option (List Cl)} {k : Nat} {I I1 I2 : Im} {L L1 L2 : Lm} {G G1 : Gm} (h : WPk S fr k I L I1 L1) (h2 : WP S fr k G I1 L1 G1 I2 L2) : WPk S fr (k + 1) I L I2 L2 := by
  obtain ⟨-, a, b, c, d, e⟩ := h2
  refine ⟨fun n h1 h2 h3 h4 => (a n h1 h2 h3 h4).trans (h.1 n h1 h2 h3 h4), fun j hj => (b j hj).trans (h.2.1 j hj), fun q hq => ?_, fun n h1 h2 => (e n h1 h2).trans (h.2.2.2 n h1 h2)⟩
  rw [c, d]
  by_cases e1 : q = k
  · subst e1; rw [vup_s, vup_s]; exact ⟨rfl, rfl⟩
  · rw [vup_n _ _ e1, vup_n _ _ e1]; exact h.2.2.1 q (by omega)
/-- a moment has passed: the vector is the next, scratch rows are changed, no more -/
def PP (S : Nat → Int32) (fr : Option (List Cl)) (G : Gm) (I : Im) (L : Lm) : Gm → Im → Lm → Prop := fun G1 I1 L1 => G = G1 ∧ I1 171 = passS S fr ∧ (∀ n, n ≠ 161 → n ≠ 171 → n ≠ 172 → n ≠ 173 → n ≠ 174 → I1 n = I n) ∧ (∀ j, j ≠ 18 → I1 161 j = I 161 j) ∧ ∀ n, n ≠ 169 → n ≠ 170 → L1 n = L n
theorem passN_le {S : Nat → Int32} {fr : Option (List Cl)} (hS : InvS S) : passN S fr ≤ 8 := by
  have h1 := cntB_le (outB S fr) (np S)
  have h2 := cntB_le (comesB S fr) (np S)
  have := iv2b hS
  unfold passN; omega
theorem met_m_passes {w : Wd} {G : Gm} {I : Im} {L : Lm} (hG : GM G) {S : Nat → Int32} (hE : I 171 = S) (hS : InvS S) {fr : Option (List Cl)} (hF : FR I fr) : AMet w yX4_passes cX4_passes 4 (some .int) 10 247 0 0 [.ref (w.1 + 161)] G I L (Ans (some (.int (nI (passN S fr)))) (PP S fr G I L)) := by
  refine AMet.of (ls0 := [some (.ref (w.1 + 161)), none, none, none]) rfl (Nat.le_of_ble_eq_true rfl) rfl (fun q hq => hq) (fun X h hl hr hi => ?_)
  have keyM : ∀ (I1 : Im) (L1 : Lm), WPk S fr (np S) I L I1 L1 → AW X 0 0 27 [some (.ref (w.1 + 161)), some (.int (nI (0))), some (.int (nI (0))), none] [] G I1 L1 := by
    intro I1 L1 hP
    have hE1 : I1 171 = S := (hP.1 171 (by decide) (by decide) (by decide) (by decide)).trans hE
    have keyE : ∀ (o3 : Option Value), AW X 0 0 80 [some (.ref (w.1 + 161)), some (.int (nI (cntB (outB S fr) (np S) + cntB (doneB S fr (nd S) 0) (np S)))), some (.int (nI (nd S))), o3] [] G (va_up I1 171 (vecP S (N2 S fr (nd S) 0))) L1 := by
      intro o3
      refine aw_iload2 h dX4_passes_80 ?_
      refine aw_aload0 h dX4_passes_81 ?_
      refine aw_getr h fl_X4_39 (gmt hG) dX4_passes_82 rfl (gmp20 hG) ?_
      refine aw_iconst h _ ci_1 dX4_passes_85 ?_
      refine aw_ialdV h (gms171 hG) (by decide) (by omega) dX4_passes_86 (show va_up I1 171 (vecP S (N2 S fr (nd S) 0)) 171 1 = nI (nd S) from (vecP_out (N := N2 S fr (nd S) 0) (by omega)).trans (iv1 hS)) ?_
      refine aw_icmp_geN h (tgt := 146) (by have := iv1b hS; omega) (by have := iv1b hS; omega) dX4_passes_87 (by decide) (fun c87 => ?_) (fun c87 => ?_)
      · refine aw_aload0 h dX4_passes_146 ?_
        refine aw_getr h fl_X4_39 (gmt hG) dX4_passes_147 rfl (gmp20 hG) ?_
        refine aw_iconst h _ ci_3 dX4_passes_150 ?_
        refine aw_dup2 h rfl rfl dX4_passes_151 ?_
        refine aw_ialdV h (gms171 hG) (by decide) (by omega) dX4_passes_152 (show va_up I1 171 (vecP S (N2 S fr (nd S) 0)) 171 3 = S 3 from vecP_out (N := N2 S fr (nd S) 0) (show (3 : Nat) < 10 ∨ 34 ≤ 3 by omega)) ?_
        refine aw_iconst h _ ci_1 dX4_passes_153 ?_
        refine aw_iadd h dX4_passes_154 ?_
        refine aw_iastN h (gms171 hG) (by decide) (by omega) dX4_passes_155 ?_
        rw [upd2_vup]
        refine aw_iload1 h dX4_passes_156 ?_
        exact aw_iret h hr dX4_passes_157 (⟨by rw [passN_eq hS], rfl, by rw [vup_s, passS_eq hS], fun n h1 h2 h3 h4 h5 => by rw [vup_n _ _ h2]; exact hP.1 n h1 h3 h4 h5, fun j hj => hP.2.1 j hj, hP.2.2.2⟩) (Nat.zero_le _) (Nat.zero_le _)
      · exact absurd (Nat.le_refl _) c87
    have key2 : ∀ (n d : Nat) (o3 : Option Value), d ≤ nd S → nd S < d + n → AW X 0 0 80 [some (.ref (w.1 + 161)), some (.int (nI (cntB (outB S fr) (np S) + cntB (doneB S fr d 0) (np S)))), some (.int (nI (d))), o3] [] G (va_up I1 171 (vecP S (N2 S fr d 0))) L1 := by
      intro n
      induction n with
      | zero => intro d o3 h1 h2; exact absurd h2 (by omega)
      | succ n ih =>
        intro d o3 h1 h2
        have hinner : d < nd S → ∀ (m kk : Nat), cntB (outsB S fr d) (np S) < kk + m → kk ≤ cntB (outsB S fr d) (np S) → kk ≤ cntB (insB S fr d) (np S) → AW X 0 0 92 [some (.ref (w.1 + 161)), some (.int (nI (cntB (outB S fr) (np S) + cntB (doneB S fr d kk) (np S)))), some (.int (nI (d))), some (.int (nI kk))] [] G (va_up I1 171 (vecP S (N2 S fr d kk))) L1 := by
          intro hd m
          induction m with
          | zero => intro kk h3 h4 h5; exact absurd h3 (by omega)
          | succ m ih2 =>
            intro kk h3 h4 h5
            have hc4 := cntB_le (outsB S fr d) (np S)
            have hc5 := iv2b hS
            have hEv : va_up I1 171 (vecP S (N2 S fr d kk)) 171 = vecP S (N2 S fr d kk) := vup_s _ _ _
            have hSv : InvS (vecP S (N2 S fr d kk)) := hS.vec (okN2 hS d kk)
            have hnpv : np (vecP S (N2 S fr d kk)) = np S := vecP_static.2.2.1
            have hndv : nd (vecP S (N2 S fr d kk)) = nd S := vecP_static.2.1
            have hWd : ∀ q, q < np (vecP S (N2 S fr d kk)) → va_up I1 171 (vecP S (N2 S fr d kk)) 173 q = willI S fr q := fun q hq => (hP.2.2.1 q (by omega)).1
            have hOt : ∀ q, q < np (vecP S (N2 S fr d kk)) → va_up I1 171 (vecP S (N2 S fr d kk)) 174 q = bI (outB S fr q) := fun q hq => (hP.2.2.1 q (by omega)).2
            have kx : (kk = cntB (outsB S fr d) (np S) ∨ kk = cntB (insB S fr d) (np S)) → AW X 0 0 80 [some (.ref (w.1 + 161)), some (.int (nI (cntB (outB S fr) (np S) + cntB (doneB S fr d kk) (np S)))), some (.int (nI (d + 1))), some (.int (nI kk))] [] G (va_up I1 171 (vecP S (N2 S fr d kk))) L1 := by
              intro hx
              rw [N2_ext (fun q hq => done_next hS h4 hx hq), cntB_same (fun q hq => done_next hS h4 hx hq)]
              exact ih (d + 1) _ (by omega) (by omega)
            by_cases hk1 : kk < cntB (outsB S fr d) (np S)
            · obtain ⟨qo, hqo1, hqo, -, -⟩ := nthI_of hk1
              by_cases hk2 : kk < cntB (insB S fr d) (np S)
              · obtain ⟨qi, hqi1, hqi, hqi2, hqi3⟩ := nthI_of hk2
                have hN := N2_step (fr := fr) hS hd hqi1 hqi2 hqi3
                refine aw_aload0 h dX4_passes_92 ?_
                refine aw_iload2 h dX4_passes_93 ?_
                refine aw_iconst h _ ci_1 dX4_passes_94 ?_
                refine aw_iload3 h dX4_passes_95 ?_
                refine aw_callVE3 h hl cl_X4_381 (met_m_willer (WD := willI S fr) (OT := outB S fr) (o := true) hG hEv hSv hWd hOt (by rw [hndv]; exact hd) (by omega)) (gmt hG) rfl dX4_passes_96 (Nat.le_of_ble_eq_true rfl) rfl (Nat.zero_le _) (Nat.zero_le _) ?_
                rw [hnpv, sel_t, hqo]
                refine aw_if_ltN h (tgt := 140) (by have := iv2b hS; omega) dX4_passes_99 (by decide) (fun c99 => ?_) (fun c99 => ?_)
                · exact absurd c99 (by omega)
                · refine aw_aload0 h dX4_passes_102 ?_
                  refine aw_iload2 h dX4_passes_103 ?_
                  refine aw_iconst h _ ci_0 dX4_passes_104 ?_
                  refine aw_iload3 h dX4_passes_105 ?_
                  refine aw_callVE3 h hl cl_X4_381 (met_m_willer (WD := willI S fr) (OT := outB S fr) (o := false) hG hEv hSv hWd hOt (by rw [hndv]; exact hd) (by omega)) (gmt hG) rfl dX4_passes_106 (Nat.le_of_ble_eq_true rfl) rfl (Nat.zero_le _) (Nat.zero_le _) ?_
                  rw [hnpv, sel_f, hqi]
                  refine aw_if_ltN h (tgt := 140) (by have := iv2b hS; omega) dX4_passes_109 (by decide) (fun c109 => ?_) (fun c109 => ?_)
                  · exact absurd c109 (by omega)
                  · refine aw_aload0 h dX4_passes_112 ?_
                    refine aw_aload0 h dX4_passes_113 ?_
                    refine aw_iload2 h dX4_passes_114 ?_
                    refine aw_iconst h _ ci_0 dX4_passes_115 ?_
                    refine aw_iload3 h dX4_passes_116 ?_
                    refine aw_callVE3 h hl cl_X4_381 (met_m_willer (WD := willI S fr) (OT := outB S fr) (o := false) hG hEv hSv hWd hOt (by rw [hndv]; exact hd) (by omega)) (gmt hG) rfl dX4_passes_117 (Nat.le_of_ble_eq_true rfl) rfl (Nat.zero_le _) (Nat.zero_le _) ?_
                    rw [hnpv, sel_f, hqi]
                    refine aw_iload2 h dX4_passes_120 ?_
                    refine aw_aload0 h dX4_passes_121 ?_
                    refine aw_iload2 h dX4_passes_122 ?_
                    refine aw_iconst h _ ci_1 dX4_passes_123 ?_
                    refine aw_iload3 h dX4_passes_124 ?_
                    refine aw_callVE3 h hl cl_X4_381 (met_m_willer (WD := willI S fr) (OT := outB S fr) (o := true) hG hEv hSv hWd hOt (by rw [hndv]; exact hd) (by omega)) (gmt hG) rfl dX4_passes_125 (Nat.le_of_ble_eq_true rfl) rfl (Nat.zero_le _) (Nat.zero_le _) ?_
                    rw [hnpv, sel_t, hqo]
                    refine aw_callVD3 h hl cl_X4_385 (met_m_comesIn hG hEv hSv (by have := iv2b hS; omega) (by rw [hndv]; exact hd)) (gmt hG) rfl dX4_passes_128 (Nat.le_of_ble_eq_true rfl) rfl (Nat.zero_le _) (Nat.zero_le _) ?_
                    rw [vup_vup, comes_vec (by have := iv2b hS; omega) hN.2.1, ← hqo, ← hN.1]
                    refine aw_iincN1 h rfl dX4_passes_131 ?_
                    refine aw_iincN3 h rfl dX4_passes_134 ?_
                    refine aw_goto h (tgt := 92) dX4_passes_137 (by decide) ?_
                    have e : cntB (outB S fr) (np S) + cntB (doneB S fr d (kk + 1)) (np S) = cntB (outB S fr) (np S) + cntB (doneB S fr d kk) (np S) + 1 := by rw [hN.2.2]; omega
                    rw [← e]
                    exact ih2 (kk + 1) (by omega) (by omega) (by omega)
              · have hqi : nthI (insB S fr d) (np S) kk = -1 := nthI_no (by omega)
                refine aw_aload0 h dX4_passes_92 ?_
                refine aw_iload2 h dX4_passes_93 ?_
                refine aw_iconst h _ ci_1 dX4_passes_94 ?_
                refine aw_iload3 h dX4_passes_95 ?_
                refine aw_callVE3 h hl cl_X4_381 (met_m_willer (WD := willI S fr) (OT := outB S fr) (o := true) hG hEv hSv hWd hOt (by rw [hndv]; exact hd) (by omega)) (gmt hG) rfl dX4_passes_96 (Nat.le_of_ble_eq_true rfl) rfl (Nat.zero_le _) (Nat.zero_le _) ?_
                rw [hnpv, sel_t, hqo]
                refine aw_if_ltN h (tgt := 140) (by have := iv2b hS; omega) dX4_passes_99 (by decide) (fun c99 => ?_) (fun c99 => ?_)
                · exact absurd c99 (by omega)
                · refine aw_aload0 h dX4_passes_102 ?_
                  refine aw_iload2 h dX4_passes_103 ?_
                  refine aw_iconst h _ ci_0 dX4_passes_104 ?_
                  refine aw_iload3 h dX4_passes_105 ?_
                  refine aw_callVE3 h hl cl_X4_381 (met_m_willer (WD := willI S fr) (OT := outB S fr) (o := false) hG hEv hSv hWd hOt (by rw [hndv]; exact hd) (by omega)) (gmt hG) rfl dX4_passes_106 (Nat.le_of_ble_eq_true rfl) rfl (Nat.zero_le _) (Nat.zero_le _) ?_
                  rw [hnpv, sel_f, hqi]
                  refine aw_if_lt h (tgt := 140) dX4_passes_109 (by decide) (fun c109 => ?_) (fun c109 => ?_)
                  · refine aw_iincN2 h rfl dX4_passes_140 ?_
                    refine aw_goto h (tgt := 80) dX4_passes_143 (by decide) ?_
                    exact kx (by omega)
                  · exact absurd (show (-1 : Int32) < 0 by decide) c109
            · have hqo : nthI (outsB S fr d) (np S) kk = -1 := nthI_no (by omega)
              refine aw_aload0 h dX4_passes_92 ?_
              refine aw_iload2 h dX4_passes_93 ?_
              refine aw_iconst h _ ci_1 dX4_passes_94 ?_
              refine aw_iload3 h dX4_passes_95 ?_
              refine aw_callVE3 h hl cl_X4_381 (met_m_willer (WD := willI S fr) (OT := outB S fr) (o := true) hG hEv hSv hWd hOt (by rw [hndv]; exact hd) (by omega)) (gmt hG) rfl dX4_passes_96 (Nat.le_of_ble_eq_true rfl) rfl (Nat.zero_le _) (Nat.zero_le _) ?_
              rw [hnpv, sel_t, hqo]
              refine aw_if_lt h (tgt := 140) dX4_passes_99 (by decide) (fun c99 => ?_) (fun c99 => ?_)
              · refine aw_iincN2 h rfl dX4_passes_140 ?_
                refine aw_goto h (tgt := 80) dX4_passes_143 (by decide) ?_
                exact kx (by omega)
              · exact absurd (show (-1 : Int32) < 0 by decide) c99
        by_cases hdn : d < nd S
        · have hd0 := hdn
          refine aw_iload2 h dX4_passes_80 ?_
          refine aw_aload0 h dX4_passes_81 ?_
          refine aw_getr h fl_X4_39 (gmt hG) dX4_passes_82 rfl (gmp20 hG) ?_
          refine aw_iconst h _ ci_1 dX4_passes_85 ?_
          refine aw_ialdV h (gms171 hG) (by decide) (by omega) dX4_passes_86 (show va_up I1 171 (vecP S (N2 S fr d 0)) 171 1 = nI (nd S) from (vecP_out (N := N2 S fr d 0) (by omega)).trans (iv1 hS)) ?_
          refine aw_icmp_geN h (tgt := 146) (by have := iv1b hS; omega) (by have := iv1b hS; omega) dX4_passes_87 (by decide) (fun c87 => ?_) (fun c87 => ?_)
          · exact absurd c87 (by omega)
          · refine aw_iconst h _ ci_0 dX4_passes_90 ?_
            refine aw_istore3 h rfl dX4_passes_91 ?_
            exact hinner hdn (cntB (outsB S fr d) (np S) + 1) 0 (by omega) (Nat.zero_le _) (Nat.zero_le _)
        · rw [show d = nd S by omega]
          exact keyE o3
    have key1 : ∀ (n k : Nat) (o3 : Option Value), k ≤ np S → np S < k + n → AW X 0 0 27 [some (.ref (w.1 + 161)), some (.int (nI (cntB (outB S fr) k))), some (.int (nI (k))), o3] [] G (va_up I1 171 (vecP S (N1 S fr k))) L1 := by
      intro n
      induction n with
      | zero => intro k o3 h1 h2; exact absurd h2 (by omega)
      | succ n ih =>
        intro k o3 h1 h2
        refine aw_iload2 h dX4_passes_27 ?_
        refine aw_aload0 h dX4_passes_28 ?_
        refine aw_getr h fl_X4_39 (gmt hG) dX4_passes_29 rfl (gmp20 hG) ?_
        refine aw_iconst h _ ci_2 dX4_passes_32 ?_
        refine aw_ialdV h (gms171 hG) (by decide) (by omega) dX4_passes_33 (show va_up I1 171 (vecP S (N1 S fr k)) 171 2 = nI (np S) from (vecP_out (N := N1 S fr k) (by omega)).trans (iv2 hS)) ?_
        refine aw_icmp_geN h (tgt := 78) (by have := iv2b hS; omega) (by have := iv2b hS; omega) dX4_passes_34 (by decide) (fun c34 => ?_) (fun c34 => ?_)
        · refine aw_iconst h _ ci_0 dX4_passes_78 ?_
          refine aw_istore2 h rfl dX4_passes_79 ?_
          rw [show k = np S by omega, ← N2_0]
          have e : cntB (outB S fr) (np S) = cntB (outB S fr) (np S) + cntB (doneB S fr 0 0) (np S) := by
            have : cntB (doneB S fr 0 0) (np S) = 0 := by
              rw [cntB_same (g := fun _ => false) (fun q _ => by simp [doneB])]
              generalize np S = m
              induction m with
              | zero => rfl
              | succ m ihm => rw [cntB_s, ihm]; rfl
            omega
          rw [e]
          exact key2 (nd S + 1) 0 _ (Nat.zero_le _) (by omega)
        · refine aw_aload0 h dX4_passes_37 ?_
          refine aw_getr h fl_X4_49 (gmt hG) dX4_passes_38 rfl (gmp24 hG) ?_
          refine aw_iload2 h dX4_passes_41 ?_
          refine aw_ialdV h (gms173 hG) (by decide) (by have := iv2b hS; omega) dX4_passes_42 ((hP.2.2.1 k (by omega)).1) ?_
          refine aw_if_lt h (tgt := 72) dX4_passes_43 (by decide) (fun c43 => ?_) (fun c43 => ?_)
          · refine aw_iincN2 h rfl dX4_passes_72 ?_
            refine aw_goto h (tgt := 27) dX4_passes_75 (by decide) ?_
            have hb : outB S fr k = false := by unfold outB; rw [decide_eq_false (Int32.not_le.mpr c43), Bool.false_and]
            have e : cntB (outB S fr) (k + 1) = cntB (outB S fr) k := by rw [cntB_s]; simp [hb]
            rw [← e, ← N1_skip hb]
            exact ih (k + 1) _ (by omega) (by omega)
          · refine aw_aload0 h dX4_passes_46 ?_
            refine aw_getr h fl_X4_52 (gmt hG) dX4_passes_47 rfl (gmp25 hG) ?_
            refine aw_iload2 h dX4_passes_50 ?_
            refine aw_zaldN h (gms174 hG) (by decide) (by have := iv2b hS; omega) dX4_passes_51 ?_
            rw [show va_up I1 171 (vecP S (N1 S fr k)) 174 k = bI (outB S fr k) from (hP.2.2.1 k (by omega)).2]
            refine aw_if_neB h (tgt := 58) dX4_passes_52 (by decide) (fun c52 => ?_) (fun c52 => ?_)
            · obtain ⟨hwd, hd⟩ := wdn_of (Int32.not_lt.mp c43) hS
              have hEv : va_up I1 171 (vecP S (N1 S fr k)) 171 = vecP S (N1 S fr k) := vup_s _ _ _
              have hSv : InvS (vecP S (N1 S fr k)) := hS.vec (okN1 hS k)
              have hndv : nd (vecP S (N1 S fr k)) = nd S := vecP_static.2.1
              refine aw_aload0 h dX4_passes_58 ?_
              refine aw_iload2 h dX4_passes_59 ?_
              refine aw_aload0 h dX4_passes_60 ?_
              refine aw_getr h fl_X4_49 (gmt hG) dX4_passes_61 rfl (gmp24 hG) ?_
              refine aw_iload2 h dX4_passes_64 ?_
              refine aw_ialdV h (gms173 hG) (by decide) (by have := iv2b hS; omega) dX4_passes_65 ((hP.2.2.1 k (by omega)).1.trans hwd) ?_
              refine aw_callVD2 h hl cl_X4_378 (met_m_goesOut hG hEv hSv (by have := iv2b hS; omega) (by rw [hndv]; exact hd)) (gmt hG) rfl dX4_passes_66 (Nat.le_of_ble_eq_true rfl) rfl (Nat.zero_le _) (Nat.zero_le _) ?_
              rw [vup_vup, goes_vec (by have := iv2b hS; omega) N1_at, ← N1_step c52]
              refine aw_iincN1 h rfl dX4_passes_69 ?_
              refine aw_iincN2 h rfl dX4_passes_72 ?_
              refine aw_goto h (tgt := 27) dX4_passes_75 (by decide) ?_
              have e : cntB (outB S fr) (k + 1) = cntB (outB S fr) k + 1 := by rw [cntB_s]; simp [c52]
              rw [← e]
              exact ih (k + 1) _ (by omega) (by omega)
            · refine aw_goto h (tgt := 72) dX4_passes_55 (by decide) ?_
              refine aw_iincN2 h rfl dX4_passes_72 ?_
              refine aw_goto h (tgt := 27) dX4_passes_75 (by decide) ?_
              have e : cntB (outB S fr) (k + 1) = cntB (outB S fr) k := by rw [cntB_s]; simp [c52]
              rw [← e, ← N1_skip c52]
              exact ih (k + 1) _ (by omega) (by omega)
    have h6 := key1 (np S + 1) 0 none (Nat.zero_le _) (by omega)
    rw [N1_0, vecP_id, ← hE1, vup_id] at h6
    exact h6
  have key0 : ∀ (n k : Nat) (I1 : Im) (L1 : Lm), k ≤ np S → np S < k + n → WPk S fr k I L I1 L1 → AW X 0 0 4 [some (.ref (w.1 + 161)), some (.int (nI (0))), some (.int (nI (k))), none] [] G I1 L1 := by
    intro n
    induction n with
    | zero => intro k I1 L1 h1 h2; exact absurd h2 (by omega)
    | succ n ih =>
      intro k I1 L1 h1 h2 hP
      have hE1 : I1 171 = S := (hP.1 171 (by decide) (by decide) (by decide) (by decide)).trans hE
      have hF1 : FR I1 fr := hF.of (hP.2.1 21 (by decide)) (hP.1 163 (by decide) (by decide) (by decide) (by decide)) (hP.1 165 (by decide) (by decide) (by decide) (by decide)) (hP.1 166 (by decide) (by decide) (by decide) (by decide))
      refine aw_iload2 h dX4_passes_4 ?_
      refine aw_aload0 h dX4_passes_5 ?_
      refine aw_getr h fl_X4_39 (gmt hG) dX4_passes_6 rfl (gmp20 hG) ?_
      refine aw_iconst h _ ci_2 dX4_passes_9 ?_
      refine aw_ialdV h (gms171 hG) (by decide) (by omega) dX4_passes_10 (iv2e hE1 hS) ?_
      refine aw_icmp_geN h (tgt := 25) (by have := iv2b hS; omega) (by have := iv2b hS; omega) dX4_passes_11 (by decide) (fun c11 => ?_) (fun c11 => ?_)
      · refine aw_iconst h _ ci_0 dX4_passes_25 ?_
        refine aw_istore2 h rfl dX4_passes_26 ?_
        have hPn := hP
        rw [show k = np S by omega] at hPn
        have h5 := keyM I1 L1 hPn
        exact h5
      · refine aw_aload0 h dX4_passes_14 ?_
        refine aw_iload2 h dX4_passes_15 ?_
        refine aw_callVN1 h hl cl_X4_375 (met_m_wills hG hE1 hS hF1 (by omega)) (gmt hG) rfl dX4_passes_16 (Nat.le_of_ble_eq_true rfl) rfl (Nat.zero_le _) (Nat.zero_le _) (fun G1 I1 L1 hp => ?_)
        obtain rfl := hp.1
        have hP2 := hP.step hp
        refine aw_iincN2 h rfl dX4_passes_19 ?_
        refine aw_goto h (tgt := 4) dX4_passes_22 (by decide) ?_
        exact ih (k + 1) _ _ (by omega) (by omega) hP2
  refine aw_iconst h _ ci_0 dX4_passes_0 ?_
  refine aw_istore1 h rfl dX4_passes_1 ?_
  refine aw_iconst h _ ci_0 dX4_passes_2 ?_
  refine aw_istore2 h rfl dX4_passes_3 ?_
  exact key0 (np S + 1) 0 I L (Nat.zero_le _) (by omega) ⟨fun _ _ _ _ _ => rfl, fun _ _ => rfl, fun q hq => absurd hq (by omega), fun _ _ _ => rfl⟩
