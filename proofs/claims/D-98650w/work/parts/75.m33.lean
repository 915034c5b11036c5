/-! The reference's parser: a person, a door -/
set_option maxRecDepth 100000
theorem rowP {f g : Nat → Int32} {p : Nat} {x0 x1 x2 x3 x4 x5 y : Int32} (hp : 10 ≤ p) (hg : g = va_up (va_up (va_up (va_up (va_up (va_up (va_up f p x0) (p + 1) x1) (p + 2) x2) (p + 3) x3) (p + 4) x4) (p + 5) x5) 2 y) : (g p = x0 ∧ g (p + 1) = x1 ∧ g (p + 2) = x2 ∧ g (p + 3) = x3 ∧ g (p + 4) = x4 ∧ g (p + 5) = x5) ∧ g 2 = y ∧ ∀ j, j ≠ 2 → j < p ∨ p + 6 ≤ j → g j = f j := by
  subst hg
  refine ⟨⟨?_, ?_, ?_, ?_, ?_, ?_⟩, vup_s _ _ _, fun j h1 h2 => ?_⟩
  · rw [vup_n _ _ (by omega), vup_n _ _ (by omega), vup_n _ _ (by omega), vup_n _ _ (by omega), vup_n _ _ (by omega), vup_n _ _ (by omega), vup_s]
  · rw [vup_n _ _ (by omega), vup_n _ _ (by omega), vup_n _ _ (by omega), vup_n _ _ (by omega), vup_n _ _ (by omega), vup_s]
  · rw [vup_n _ _ (by omega), vup_n _ _ (by omega), vup_n _ _ (by omega), vup_n _ _ (by omega), vup_s]
  · rw [vup_n _ _ (by omega), vup_n _ _ (by omega), vup_n _ _ (by omega), vup_s]
  · rw [vup_n _ _ (by omega), vup_n _ _ (by omega), vup_s]
  · rw [vup_n _ _ (by omega), vup_s]
  · rw [vup_n _ _ (by omega), vup_n _ _ (by omega), vup_n _ _ (by omega), vup_n _ _ (by omega), vup_n _ _ (by omega), vup_n _ _ (by omega), vup_n _ _ (by omega)]
theorem rowD {f g : Nat → Int32} {p : Nat} {x0 x1 x2 y : Int32} (hp : 10 ≤ p) (hg : g = va_up (va_up (va_up (va_up f p x0) (p + 1) x1) (p + 2) x2) 1 y) : (g p = x0 ∧ g (p + 1) = x1 ∧ g (p + 2) = x2) ∧ g 1 = y ∧ ∀ j, j ≠ 1 → j < p → g j = f j := by
  subst hg
  refine ⟨⟨?_, ?_, ?_⟩, vup_s _ _ _, fun j h1 h2 => ?_⟩
  · rw [vup_n _ _ (by omega), vup_n _ _ (by omega), vup_n _ _ (by omega), vup_s]
  · rw [vup_n _ _ (by omega), vup_n _ _ (by omega), vup_s]
  · rw [vup_n _ _ (by omega), vup_s]
  · rw [vup_n _ _ (by omega), vup_n _ _ (by omega), vup_n _ _ (by omega), vup_n _ _ (by omega)]
theorem met_m_isPersonHere {w : Wd} {G : Gm} {I : Im} {L : Lm} (hG : GM G) {T : Nat → Int32} {n i : Nat} {K : CS} (hZ : CZ I T n i K) (hR : 2 ≤ kR K) : AMet w yX4_isPersonHere cX4_isPersonHere 3 (some .boolean) 4 112 0 0 [.ref (w.1 + 161), .int (nI i)] G I L (Ans (some (.int (bI (okF (wpP T n i K))))) (KPt (wpP T n i K) T n G I L)) := by
  refine AMet.of (ls0 := [some (.ref (w.1 + 161)), some (.int (nI i)), none]) rfl (Nat.le_of_ble_eq_true rfl) rfl (fun q hq => hq) (fun X h hl hr hi => ?_)
  have hn4 := hZ.1.2.2.1
  have hln0 : i + lrun T n i ≤ n := run_le (f := letB T n) hZ.1.2.2.2.2
  have hok := hZ.2.2.2.2
  have hR8 := hok.2.1
  have hD14 := hok.2.2.1
  have hP4 := hok.2.2.2.1
  have hlay := hZ.2.2.2.1
  rcases Nat.lt_or_ge (kP K).length 4 with hp4 | hp4
  · have hcp : wpP T n i K = match numP T n (i + lrun T n i) 0 (kR K - 1) with
      | .inl e => .inl e
      | .inr q => match numP T n q.1 0 (kR K - 1) with
        | .inl e => .inl e
        | .inr v => match numP T n v.1 0 50 with
          | .inl e => .inl e
          | .inr u => .inr (u.1, kR K, kF K, kD K, kN K, kP K ++ [(q.2, v.2, u.2)]) := by unfold wpP; rw [if_neg (by omega)] <;> rfl
    cases hv : numP T n (i + lrun T n i) 0 (kR K - 1) with
    | inl e =>
      rw [hv] at hcp
      refine aw_aload0 h dX4_isPersonHere_0 ?_
      refine aw_getr h fl_X4_26 (gmt hG) dX4_isPersonHere_1 rfl (gmp7 hG) ?_
      refine aw_iconst h _ ci_2 dX4_isPersonHere_4 ?_
      refine aw_ialdV h (gms167 hG) (by decide) (by omega) dX4_isPersonHere_5 (hlay.2.2.1) ?_
      refine aw_iconst h _ ci_4 dX4_isPersonHere_6 ?_
      refine aw_icmp_neN h (tgt := 17) (by omega) (by omega) dX4_isPersonHere_7 (by decide) (fun c7 => ?_) (fun c7 => ?_)
      · refine aw_aload0 h dX4_isPersonHere_17 ?_
        refine aw_callVD0 h hl cl_X4_115 (met_m_passWord hG hZ.1) (gmt hG) rfl dX4_isPersonHere_18 (Nat.le_of_ble_eq_true rfl) rfl (Nat.zero_le _) (Nat.zero_le _) ?_
        refine aw_bipush h _ cb_10 dX4_isPersonHere_21 ?_
        refine aw_bipush h _ cb_6 dX4_isPersonHere_23 ?_
        refine aw_aload0 h dX4_isPersonHere_25 ?_
        refine aw_getr h fl_X4_26 (gmt hG) dX4_isPersonHere_26 rfl (gmp7 hG) ?_
        refine aw_iconst h _ ci_2 dX4_isPersonHere_29 ?_
        refine aw_ialdV h (gms167 hG) (by decide) (by omega) dX4_isPersonHere_30 (hlay.2.2.1) ?_
        refine aw_imulN h dX4_isPersonHere_31 ?_
        refine aw_iaddN h dX4_isPersonHere_32 ?_
        refine aw_istore2 h rfl dX4_isPersonHere_33 ?_
        refine aw_aload0 h dX4_isPersonHere_34 ?_
        refine aw_iload2 h dX4_isPersonHere_35 ?_
        refine aw_iconst h _ ci_0 dX4_isPersonHere_36 ?_
        refine aw_aload0 h dX4_isPersonHere_37 ?_
        refine aw_getr h fl_X4_26 (gmt hG) dX4_isPersonHere_38 rfl (gmp7 hG) ?_
        refine aw_iconst h _ ci_0 dX4_isPersonHere_41 ?_
        refine aw_ialdV h (gms167 hG) (by decide) (by omega) dX4_isPersonHere_42 (hlay.1) ?_
        refine aw_iconst h _ ci_1 dX4_isPersonHere_43 ?_
        refine aw_isubN h (by omega) dX4_isPersonHere_44 ?_
        refine aw_callVA3 h hl cl_X4_228 (met_m_cellHere hG (hZ.1.to hln0) hZ.2.1 (cell := 10 + 6 * (kP K).length) (mn := 0) (mx := kR K - 1) (by omega) (by decide) (by omega)) (gmt hG) rfl dX4_isPersonHere_45 (Nat.le_of_ble_eq_true rfl) rfl (Nat.zero_le _) (Nat.zero_le _) (fun G1 I1 L1 hp => ?_)
        obtain ⟨rfl, hF, hpt⟩ := hp
        rw [hv] at hpt
        rw [hv]
        refine aw_if_eqB h (tgt := 83) dX4_isPersonHere_48 (by decide) (fun c48 => ?_) (fun c48 => ?_)
        · refine aw_iconst h _ ci_0 dX4_isPersonHere_83 ?_
          exact aw_zret h hr dX4_isPersonHere_84 (by first | exact z01_0 | exact z01_1 | exact z01_b _) (⟨by rw [hcp]; rfl, rfl, by rw [hcp]; exact ⟨(CF.f (j := 8) (by decide)).trans hF, hpt⟩⟩) (Nat.zero_le _) (Nat.zero_le _)
        · exact absurd c48 Bool.false_ne_true
      · exact absurd c7 (by omega)
    | inr q =>
      rw [hv] at hcp
      dsimp only at hcp
      have hq := numP_ok hln0 hv
      cases hv2 : numP T n q.1 0 (kR K - 1) with
      | inl e =>
        rw [hv2] at hcp
        refine aw_aload0 h dX4_isPersonHere_0 ?_
        refine aw_getr h fl_X4_26 (gmt hG) dX4_isPersonHere_1 rfl (gmp7 hG) ?_
        refine aw_iconst h _ ci_2 dX4_isPersonHere_4 ?_
        refine aw_ialdV h (gms167 hG) (by decide) (by omega) dX4_isPersonHere_5 (hlay.2.2.1) ?_
        refine aw_iconst h _ ci_4 dX4_isPersonHere_6 ?_
        refine aw_icmp_neN h (tgt := 17) (by omega) (by omega) dX4_isPersonHere_7 (by decide) (fun c7 => ?_) (fun c7 => ?_)
        · refine aw_aload0 h dX4_isPersonHere_17 ?_
          refine aw_callVD0 h hl cl_X4_115 (met_m_passWord hG hZ.1) (gmt hG) rfl dX4_isPersonHere_18 (Nat.le_of_ble_eq_true rfl) rfl (Nat.zero_le _) (Nat.zero_le _) ?_
          refine aw_bipush h _ cb_10 dX4_isPersonHere_21 ?_
          refine aw_bipush h _ cb_6 dX4_isPersonHere_23 ?_
          refine aw_aload0 h dX4_isPersonHere_25 ?_
          refine aw_getr h fl_X4_26 (gmt hG) dX4_isPersonHere_26 rfl (gmp7 hG) ?_
          refine aw_iconst h _ ci_2 dX4_isPersonHere_29 ?_
          refine aw_ialdV h (gms167 hG) (by decide) (by omega) dX4_isPersonHere_30 (hlay.2.2.1) ?_
          refine aw_imulN h dX4_isPersonHere_31 ?_
          refine aw_iaddN h dX4_isPersonHere_32 ?_
          refine aw_istore2 h rfl dX4_isPersonHere_33 ?_
          refine aw_aload0 h dX4_isPersonHere_34 ?_
          refine aw_iload2 h dX4_isPersonHere_35 ?_
          refine aw_iconst h _ ci_0 dX4_isPersonHere_36 ?_
          refine aw_aload0 h dX4_isPersonHere_37 ?_
          refine aw_getr h fl_X4_26 (gmt hG) dX4_isPersonHere_38 rfl (gmp7 hG) ?_
          refine aw_iconst h _ ci_0 dX4_isPersonHere_41 ?_
          refine aw_ialdV h (gms167 hG) (by decide) (by omega) dX4_isPersonHere_42 (hlay.1) ?_
          refine aw_iconst h _ ci_1 dX4_isPersonHere_43 ?_
          refine aw_isubN h (by omega) dX4_isPersonHere_44 ?_
          refine aw_callVA3 h hl cl_X4_228 (met_m_cellHere hG (hZ.1.to hln0) hZ.2.1 (cell := 10 + 6 * (kP K).length) (mn := 0) (mx := kR K - 1) (by omega) (by decide) (by omega)) (gmt hG) rfl dX4_isPersonHere_45 (Nat.le_of_ble_eq_true rfl) rfl (Nat.zero_le _) (Nat.zero_le _) (fun G1 I1 L1 hp => ?_)
          obtain ⟨rfl, hF, hpt⟩ := hp
          rw [hv] at hpt
          rw [hv]
          refine aw_if_eqB h (tgt := 83) dX4_isPersonHere_48 (by decide) (fun c48 => ?_) (fun c48 => ?_)
          · exact absurd c48.symm Bool.false_ne_true
          · refine aw_aload0 h dX4_isPersonHere_51 ?_
            refine aw_iload2 h dX4_isPersonHere_52 ?_
            refine aw_iconst h _ ci_1 dX4_isPersonHere_53 ?_
            refine aw_iaddN h dX4_isPersonHere_54 ?_
            refine aw_iconst h _ ci_0 dX4_isPersonHere_55 ?_
            refine aw_aload0 h dX4_isPersonHere_56 ?_
            refine aw_getr h fl_X4_26 (gmt hG) dX4_isPersonHere_57 rfl (gmp7 hG) ?_
            refine aw_iconst h _ ci_0 dX4_isPersonHere_60 ?_
            refine aw_ialdV h (gms167 hG) (by decide) (by omega) dX4_isPersonHere_61 ((congrFun hpt.2.2 0).trans ((vup_n _ _ (by omega)).trans hlay.1)) ?_
            refine aw_iconst h _ ci_1 dX4_isPersonHere_62 ?_
            refine aw_isubN h (by omega) dX4_isPersonHere_63 ?_
            refine aw_callVA3 h hl cl_X4_228 (met_m_cellHere hG hpt.1 hpt.2.1 (cell := 10 + 6 * (kP K).length + 1) (mn := 0) (mx := kR K - 1) (by omega) (by decide) (by omega)) (gmt hG) rfl dX4_isPersonHere_64 (Nat.le_of_ble_eq_true rfl) rfl (Nat.zero_le _) (Nat.zero_le _) (fun G1 I2 L2 hp => ?_)
            obtain ⟨rfl, hF2, hpt2⟩ := hp
            rw [hv2] at hpt2
            rw [hv2]
            refine aw_if_eqB h (tgt := 83) dX4_isPersonHere_67 (by decide) (fun c67 => ?_) (fun c67 => ?_)
            · refine aw_iconst h _ ci_0 dX4_isPersonHere_83 ?_
              exact aw_zret h hr dX4_isPersonHere_84 (by first | exact z01_0 | exact z01_1 | exact z01_b _) (⟨by rw [hcp]; rfl, rfl, by rw [hcp]; exact ⟨((CF.f (j := 8) (by decide)).trans hF).trans hF2, hpt2⟩⟩) (Nat.zero_le _) (Nat.zero_le _)
            · exact absurd c67 Bool.false_ne_true
        · exact absurd c7 (by omega)
      | inr v =>
        rw [hv2] at hcp
        dsimp only at hcp
        have hu := numP_ok hq.2.1 hv2
        cases hv3 : numP T n v.1 0 50 with
        | inl e =>
          rw [hv3] at hcp
          refine aw_aload0 h dX4_isPersonHere_0 ?_
          refine aw_getr h fl_X4_26 (gmt hG) dX4_isPersonHere_1 rfl (gmp7 hG) ?_
          refine aw_iconst h _ ci_2 dX4_isPersonHere_4 ?_
          refine aw_ialdV h (gms167 hG) (by decide) (by omega) dX4_isPersonHere_5 (hlay.2.2.1) ?_
          refine aw_iconst h _ ci_4 dX4_isPersonHere_6 ?_
          refine aw_icmp_neN h (tgt := 17) (by omega) (by omega) dX4_isPersonHere_7 (by decide) (fun c7 => ?_) (fun c7 => ?_)
          · refine aw_aload0 h dX4_isPersonHere_17 ?_
            refine aw_callVD0 h hl cl_X4_115 (met_m_passWord hG hZ.1) (gmt hG) rfl dX4_isPersonHere_18 (Nat.le_of_ble_eq_true rfl) rfl (Nat.zero_le _) (Nat.zero_le _) ?_
            refine aw_bipush h _ cb_10 dX4_isPersonHere_21 ?_
            refine aw_bipush h _ cb_6 dX4_isPersonHere_23 ?_
            refine aw_aload0 h dX4_isPersonHere_25 ?_
            refine aw_getr h fl_X4_26 (gmt hG) dX4_isPersonHere_26 rfl (gmp7 hG) ?_
            refine aw_iconst h _ ci_2 dX4_isPersonHere_29 ?_
            refine aw_ialdV h (gms167 hG) (by decide) (by omega) dX4_isPersonHere_30 (hlay.2.2.1) ?_
            refine aw_imulN h dX4_isPersonHere_31 ?_
            refine aw_iaddN h dX4_isPersonHere_32 ?_
            refine aw_istore2 h rfl dX4_isPersonHere_33 ?_
            refine aw_aload0 h dX4_isPersonHere_34 ?_
            refine aw_iload2 h dX4_isPersonHere_35 ?_
            refine aw_iconst h _ ci_0 dX4_isPersonHere_36 ?_
            refine aw_aload0 h dX4_isPersonHere_37 ?_
            refine aw_getr h fl_X4_26 (gmt hG) dX4_isPersonHere_38 rfl (gmp7 hG) ?_
            refine aw_iconst h _ ci_0 dX4_isPersonHere_41 ?_
            refine aw_ialdV h (gms167 hG) (by decide) (by omega) dX4_isPersonHere_42 (hlay.1) ?_
            refine aw_iconst h _ ci_1 dX4_isPersonHere_43 ?_
            refine aw_isubN h (by omega) dX4_isPersonHere_44 ?_
            refine aw_callVA3 h hl cl_X4_228 (met_m_cellHere hG (hZ.1.to hln0) hZ.2.1 (cell := 10 + 6 * (kP K).length) (mn := 0) (mx := kR K - 1) (by omega) (by decide) (by omega)) (gmt hG) rfl dX4_isPersonHere_45 (Nat.le_of_ble_eq_true rfl) rfl (Nat.zero_le _) (Nat.zero_le _) (fun G1 I1 L1 hp => ?_)
            obtain ⟨rfl, hF, hpt⟩ := hp
            rw [hv] at hpt
            rw [hv]
            refine aw_if_eqB h (tgt := 83) dX4_isPersonHere_48 (by decide) (fun c48 => ?_) (fun c48 => ?_)
            · exact absurd c48.symm Bool.false_ne_true
            · refine aw_aload0 h dX4_isPersonHere_51 ?_
              refine aw_iload2 h dX4_isPersonHere_52 ?_
              refine aw_iconst h _ ci_1 dX4_isPersonHere_53 ?_
              refine aw_iaddN h dX4_isPersonHere_54 ?_
              refine aw_iconst h _ ci_0 dX4_isPersonHere_55 ?_
              refine aw_aload0 h dX4_isPersonHere_56 ?_
              refine aw_getr h fl_X4_26 (gmt hG) dX4_isPersonHere_57 rfl (gmp7 hG) ?_
              refine aw_iconst h _ ci_0 dX4_isPersonHere_60 ?_
              refine aw_ialdV h (gms167 hG) (by decide) (by omega) dX4_isPersonHere_61 ((congrFun hpt.2.2 0).trans ((vup_n _ _ (by omega)).trans hlay.1)) ?_
              refine aw_iconst h _ ci_1 dX4_isPersonHere_62 ?_
              refine aw_isubN h (by omega) dX4_isPersonHere_63 ?_
              refine aw_callVA3 h hl cl_X4_228 (met_m_cellHere hG hpt.1 hpt.2.1 (cell := 10 + 6 * (kP K).length + 1) (mn := 0) (mx := kR K - 1) (by omega) (by decide) (by omega)) (gmt hG) rfl dX4_isPersonHere_64 (Nat.le_of_ble_eq_true rfl) rfl (Nat.zero_le _) (Nat.zero_le _) (fun G1 I2 L2 hp => ?_)
              obtain ⟨rfl, hF2, hpt2⟩ := hp
              rw [hv2] at hpt2
              rw [hv2]
              refine aw_if_eqB h (tgt := 83) dX4_isPersonHere_67 (by decide) (fun c67 => ?_) (fun c67 => ?_)
              · exact absurd c67.symm Bool.false_ne_true
              · refine aw_aload0 h dX4_isPersonHere_70 ?_
                refine aw_iload2 h dX4_isPersonHere_71 ?_
                refine aw_iconst h _ ci_2 dX4_isPersonHere_72 ?_
                refine aw_iaddN h dX4_isPersonHere_73 ?_
                refine aw_iconst h _ ci_0 dX4_isPersonHere_74 ?_
                refine aw_bipush h _ cb_50 dX4_isPersonHere_75 ?_
                refine aw_callVA3 h hl cl_X4_228 (met_m_cellHere hG hpt2.1 hpt2.2.1 (cell := 10 + 6 * (kP K).length + 2) (mn := 0) (mx := 50) (by omega) (by decide) (by decide)) (gmt hG) rfl dX4_isPersonHere_77 (Nat.le_of_ble_eq_true rfl) rfl (Nat.zero_le _) (Nat.zero_le _) (fun G1 I3 L3 hp => ?_)
                obtain ⟨rfl, hF3, hpt3⟩ := hp
                rw [hv3] at hpt3
                rw [hv3]
                refine aw_if_neB h (tgt := 85) dX4_isPersonHere_80 (by decide) (fun c80 => ?_) (fun c80 => ?_)
                · exact absurd c80 Bool.false_ne_true
                · refine aw_iconst h _ ci_0 dX4_isPersonHere_83 ?_
                  exact aw_zret h hr dX4_isPersonHere_84 (by first | exact z01_0 | exact z01_1 | exact z01_b _) (⟨by rw [hcp]; rfl, rfl, by rw [hcp]; exact ⟨(((CF.f (j := 8) (by decide)).trans hF).trans hF2).trans hF3, hpt3⟩⟩) (Nat.zero_le _) (Nat.zero_le _)
          · exact absurd c7 (by omega)
        | inr u =>
          rw [hv3] at hcp
          refine aw_aload0 h dX4_isPersonHere_0 ?_
          refine aw_getr h fl_X4_26 (gmt hG) dX4_isPersonHere_1 rfl (gmp7 hG) ?_
          refine aw_iconst h _ ci_2 dX4_isPersonHere_4 ?_
          refine aw_ialdV h (gms167 hG) (by decide) (by omega) dX4_isPersonHere_5 (hlay.2.2.1) ?_
          refine aw_iconst h _ ci_4 dX4_isPersonHere_6 ?_
          refine aw_icmp_neN h (tgt := 17) (by omega) (by omega) dX4_isPersonHere_7 (by decide) (fun c7 => ?_) (fun c7 => ?_)
          · refine aw_aload0 h dX4_isPersonHere_17 ?_
            refine aw_callVD0 h hl cl_X4_115 (met_m_passWord hG hZ.1) (gmt hG) rfl dX4_isPersonHere_18 (Nat.le_of_ble_eq_true rfl) rfl (Nat.zero_le _) (Nat.zero_le _) ?_
            refine aw_bipush h _ cb_10 dX4_isPersonHere_21 ?_
            refine aw_bipush h _ cb_6 dX4_isPersonHere_23 ?_
            refine aw_aload0 h dX4_isPersonHere_25 ?_
            refine aw_getr h fl_X4_26 (gmt hG) dX4_isPersonHere_26 rfl (gmp7 hG) ?_
            refine aw_iconst h _ ci_2 dX4_isPersonHere_29 ?_
            refine aw_ialdV h (gms167 hG) (by decide) (by omega) dX4_isPersonHere_30 (hlay.2.2.1) ?_
            refine aw_imulN h dX4_isPersonHere_31 ?_
            refine aw_iaddN h dX4_isPersonHere_32 ?_
            refine aw_istore2 h rfl dX4_isPersonHere_33 ?_
            refine aw_aload0 h dX4_isPersonHere_34 ?_
            refine aw_iload2 h dX4_isPersonHere_35 ?_
            refine aw_iconst h _ ci_0 dX4_isPersonHere_36 ?_
            refine aw_aload0 h dX4_isPersonHere_37 ?_
            refine aw_getr h fl_X4_26 (gmt hG) dX4_isPersonHere_38 rfl (gmp7 hG) ?_
            refine aw_iconst h _ ci_0 dX4_isPersonHere_41 ?_
            refine aw_ialdV h (gms167 hG) (by decide) (by omega) dX4_isPersonHere_42 (hlay.1) ?_
            refine aw_iconst h _ ci_1 dX4_isPersonHere_43 ?_
            refine aw_isubN h (by omega) dX4_isPersonHere_44 ?_
            refine aw_callVA3 h hl cl_X4_228 (met_m_cellHere hG (hZ.1.to hln0) hZ.2.1 (cell := 10 + 6 * (kP K).length) (mn := 0) (mx := kR K - 1) (by omega) (by decide) (by omega)) (gmt hG) rfl dX4_isPersonHere_45 (Nat.le_of_ble_eq_true rfl) rfl (Nat.zero_le _) (Nat.zero_le _) (fun G1 I1 L1 hp => ?_)
            obtain ⟨rfl, hF, hpt⟩ := hp
            rw [hv] at hpt
            rw [hv]
            refine aw_if_eqB h (tgt := 83) dX4_isPersonHere_48 (by decide) (fun c48 => ?_) (fun c48 => ?_)
            · exact absurd c48.symm Bool.false_ne_true
            · refine aw_aload0 h dX4_isPersonHere_51 ?_
              refine aw_iload2 h dX4_isPersonHere_52 ?_
              refine aw_iconst h _ ci_1 dX4_isPersonHere_53 ?_
              refine aw_iaddN h dX4_isPersonHere_54 ?_
              refine aw_iconst h _ ci_0 dX4_isPersonHere_55 ?_
              refine aw_aload0 h dX4_isPersonHere_56 ?_
              refine aw_getr h fl_X4_26 (gmt hG) dX4_isPersonHere_57 rfl (gmp7 hG) ?_
              refine aw_iconst h _ ci_0 dX4_isPersonHere_60 ?_
              refine aw_ialdV h (gms167 hG) (by decide) (by omega) dX4_isPersonHere_61 ((congrFun hpt.2.2 0).trans ((vup_n _ _ (by omega)).trans hlay.1)) ?_
              refine aw_iconst h _ ci_1 dX4_isPersonHere_62 ?_
              refine aw_isubN h (by omega) dX4_isPersonHere_63 ?_
              refine aw_callVA3 h hl cl_X4_228 (met_m_cellHere hG hpt.1 hpt.2.1 (cell := 10 + 6 * (kP K).length + 1) (mn := 0) (mx := kR K - 1) (by omega) (by decide) (by omega)) (gmt hG) rfl dX4_isPersonHere_64 (Nat.le_of_ble_eq_true rfl) rfl (Nat.zero_le _) (Nat.zero_le _) (fun G1 I2 L2 hp => ?_)
              obtain ⟨rfl, hF2, hpt2⟩ := hp
              rw [hv2] at hpt2
              rw [hv2]
              refine aw_if_eqB h (tgt := 83) dX4_isPersonHere_67 (by decide) (fun c67 => ?_) (fun c67 => ?_)
              · exact absurd c67.symm Bool.false_ne_true
              · refine aw_aload0 h dX4_isPersonHere_70 ?_
                refine aw_iload2 h dX4_isPersonHere_71 ?_
                refine aw_iconst h _ ci_2 dX4_isPersonHere_72 ?_
                refine aw_iaddN h dX4_isPersonHere_73 ?_
                refine aw_iconst h _ ci_0 dX4_isPersonHere_74 ?_
                refine aw_bipush h _ cb_50 dX4_isPersonHere_75 ?_
                refine aw_callVA3 h hl cl_X4_228 (met_m_cellHere hG hpt2.1 hpt2.2.1 (cell := 10 + 6 * (kP K).length + 2) (mn := 0) (mx := 50) (by omega) (by decide) (by decide)) (gmt hG) rfl dX4_isPersonHere_77 (Nat.le_of_ble_eq_true rfl) rfl (Nat.zero_le _) (Nat.zero_le _) (fun G1 I3 L3 hp => ?_)
                obtain ⟨rfl, hF3, hpt3⟩ := hp
                rw [hv3] at hpt3
                rw [hv3]
                refine aw_if_neB h (tgt := 85) dX4_isPersonHere_80 (by decide) (fun c80 => ?_) (fun c80 => ?_)
                · have hg0 : I3 167 = va_up (va_up (va_up (I 167) (10 + 6 * (kP K).length) (nI q.2)) ((10 + 6 * (kP K).length) + 1) (nI v.2)) ((10 + 6 * (kP K).length) + 2) (nI u.2) := by rw [hpt3.2.2, hpt2.2.2, hpt.2.2] <;> rfl
                  have hg : (upd2 (upd2 (upd2 (upd2 I3 167 ((10 + 6 * (kP K).length) + 3) (nI 0)) 167 ((10 + 6 * (kP K).length) + 4) (nI 0)) 167 ((10 + 6 * (kP K).length) + 5) (-1)) 167 2 (nI ((kP K).length + 1))) 167 = va_up (va_up (va_up (va_up (va_up (va_up (va_up (I 167) (10 + 6 * (kP K).length) (nI q.2)) ((10 + 6 * (kP K).length) + 1) (nI v.2)) ((10 + 6 * (kP K).length) + 2) (nI u.2)) ((10 + 6 * (kP K).length) + 3) (nI 0)) ((10 + 6 * (kP K).length) + 4) (nI 0)) ((10 + 6 * (kP K).length) + 5) (-1)) 2 (nI ((kP K).length + 1)) := by
                    show va_up (va_up (va_up (va_up (I3 167) _ _) _ _) _ _) _ _ = _
                    rw [hg0]
                  have hrw := rowP (by omega) hg
                  have hr2 : (upd2 (upd2 (upd2 I3 167 ((10 + 6 * (kP K).length) + 3) (nI 0)) 167 ((10 + 6 * (kP K).length) + 4) (nI 0)) 167 ((10 + 6 * (kP K).length) + 5) (-1)) 167 2 = nI (kP K).length := by
                    rw [upd2_s, vup_n _ _ (by omega), upd2_s, vup_n _ _ (by omega), upd2_s, vup_n _ _ (by omega), hg0, vup_n _ _ (by omega), vup_n _ _ (by omega), vup_n _ _ (by omega)]
                    exact hlay.2.2.1
                  have hu3 := numP_ok hu.2.1 hv3
                  have hcf : CF I L (upd2 (upd2 (upd2 (upd2 I3 167 ((10 + 6 * (kP K).length) + 3) (nI 0)) 167 ((10 + 6 * (kP K).length) + 4) (nI 0)) 167 ((10 + 6 * (kP K).length) + 5) (-1)) 167 2 (nI ((kP K).length + 1))) L3 := ((((CF.f (j := 8) (by decide)).trans hF).trans hF2).trans hF3).trans (((CF.r.trans CF.r).trans CF.r).trans CF.r)
                  refine aw_aload0 h dX4_isPersonHere_85 ?_
                  refine aw_getr h fl_X4_26 (gmt hG) dX4_isPersonHere_86 rfl (gmp7 hG) ?_
                  refine aw_iload2 h dX4_isPersonHere_89 ?_
                  refine aw_iconst h _ ci_3 dX4_isPersonHere_90 ?_
                  refine aw_iaddN h dX4_isPersonHere_91 ?_
                  refine aw_iconst h _ ci_0 dX4_isPersonHere_92 ?_
                  refine aw_iastN h (gms167 hG) (by decide) (by omega) dX4_isPersonHere_93 ?_
                  refine aw_aload0 h dX4_isPersonHere_94 ?_
                  refine aw_getr h fl_X4_26 (gmt hG) dX4_isPersonHere_95 rfl (gmp7 hG) ?_
                  refine aw_iload2 h dX4_isPersonHere_98 ?_
                  refine aw_iconst h _ ci_4 dX4_isPersonHere_99 ?_
                  refine aw_iaddN h dX4_isPersonHere_100 ?_
                  refine aw_iconst h _ ci_0 dX4_isPersonHere_101 ?_
                  refine aw_iastN h (gms167 hG) (by decide) (by omega) dX4_isPersonHere_102 ?_
                  refine aw_aload0 h dX4_isPersonHere_103 ?_
                  refine aw_getr h fl_X4_26 (gmt hG) dX4_isPersonHere_104 rfl (gmp7 hG) ?_
                  refine aw_iload2 h dX4_isPersonHere_107 ?_
                  refine aw_iconst h _ ci_5 dX4_isPersonHere_108 ?_
                  refine aw_iaddN h dX4_isPersonHere_109 ?_
                  refine aw_iconst h _ ci_m1 dX4_isPersonHere_110 ?_
                  refine aw_iastN h (gms167 hG) (by decide) (by omega) dX4_isPersonHere_111 ?_
                  refine aw_aload0 h dX4_isPersonHere_112 ?_
                  refine aw_getr h fl_X4_26 (gmt hG) dX4_isPersonHere_113 rfl (gmp7 hG) ?_
                  refine aw_iconst h _ ci_2 dX4_isPersonHere_116 ?_
                  refine aw_dup2 h rfl rfl dX4_isPersonHere_117 ?_
                  refine aw_ialdV h (gms167 hG) (by decide) (by decide) dX4_isPersonHere_118 (hr2) ?_
                  refine aw_iconst h _ ci_1 dX4_isPersonHere_119 ?_
                  refine aw_iaddN h dX4_isPersonHere_120 ?_
                  refine aw_iastN h (gms167 hG) (by decide) (by decide) dX4_isPersonHere_121 ?_
                  refine aw_iconst h _ ci_1 dX4_isPersonHere_122 ?_
                  exact aw_zret h hr dX4_isPersonHere_123 (by first | exact z01_0 | exact z01_1 | exact z01_b _) (⟨by rw [hcp]; rfl, rfl, by rw [hcp]; exact ⟨hcf, ⟨hpt3.1.1, hpt3.1.2.1, hpt3.1.2.2.1, hpt3.1.2.2.2.1, hpt3.1.2.2.2.2⟩, hpt3.2.1, (hcf.2.2 11 (by decide)).trans hZ.2.2.1, hlay.person (x := (q.2, v.2, u.2)) hp4 hrw.1 hrw.2.1 hrw.2.2, hok.person (x := (q.2, v.2, u.2)) hp4 ⟨by show q.2 < kR K; omega, by show v.2 < kR K; omega, hu3.2.2.2⟩⟩⟩) (Nat.zero_le _) (Nat.zero_le _)
                · exact absurd c80.symm Bool.false_ne_true
          · exact absurd c7 (by omega)
  · have hcp : wpP T n i K = .inl (errN 4 i) := by unfold wpP; rw [if_pos (by omega)]
    refine aw_aload0 h dX4_isPersonHere_0 ?_
    refine aw_getr h fl_X4_26 (gmt hG) dX4_isPersonHere_1 rfl (gmp7 hG) ?_
    refine aw_iconst h _ ci_2 dX4_isPersonHere_4 ?_
    refine aw_ialdV h (gms167 hG) (by decide) (by omega) dX4_isPersonHere_5 (hlay.2.2.1) ?_
    refine aw_iconst h _ ci_4 dX4_isPersonHere_6 ?_
    refine aw_icmp_neN h (tgt := 17) (by omega) (by omega) dX4_isPersonHere_7 (by decide) (fun c7 => ?_) (fun c7 => ?_)
    · exact absurd c7 (by omega)
    · refine aw_aload0 h dX4_isPersonHere_10 ?_
      refine aw_iconst h _ ci_4 dX4_isPersonHere_11 ?_
      refine aw_iload1 h dX4_isPersonHere_12 ?_
      refine aw_callVE2 h hl cl_X4_121 (met_m_fails hG (kd := 4) (at2 := i)) (gmt hG) rfl dX4_isPersonHere_13 (Nat.le_of_ble_eq_true rfl) rfl (Nat.zero_le _) (Nat.zero_le _) ?_
      exact aw_zret h hr dX4_isPersonHere_16 (by first | exact z01_0 | exact z01_1 | exact z01_b _) (⟨by rw [hcp]; rfl, rfl, by rw [hcp]; exact ⟨CF.f (by decide), by show failW (I 161 9) 4 i = nI (errN 4 i); rw [hZ.2.1]; rfl⟩⟩) (Nat.zero_le _) (Nat.zero_le _)
theorem met_m_isDoorHere {w : Wd} {G : Gm} {I : Im} {L : Lm} (hG : GM G) {T : Nat → Int32} {n i : Nat} {K : CS} (hZ : CZ I T n i K) (hR : 2 ≤ kR K) {wn : Nat} (hwn : wn ≤ 1) : AMet w yX4_isDoorHere cX4_isDoorHere 9 (some .boolean) 4 112 0 0 [.ref (w.1 + 161), .int (nI i), .int (nI wn)] G I L (Ans (some (.int (bI (okF (wdP T n i wn K))))) (KPt (wdP T n i wn K) T n G I L)) := by
  refine AMet.of (ls0 := [some (.ref (w.1 + 161)), some (.int (nI i)), some (.int (nI wn)), none, none, none, none, none, none]) rfl (Nat.le_of_ble_eq_true rfl) rfl (fun q hq => hq) (fun X h hl hr hi => ?_)
  have hn4 := hZ.1.2.2.1
  have hln0 : i + lrun T n i ≤ n := run_le (f := letB T n) hZ.1.2.2.2.2
  have hok := hZ.2.2.2.2
  have hR8 := hok.2.1
  have hD14 := hok.2.2.1
  have hP4 := hok.2.2.2.1
  have hlay := hZ.2.2.2.1
  rcases Nat.lt_or_ge (kD K).length 14 with hp4 | hp4
  · have hcp : wdP T n i wn K = match numP T n (i + lrun T n i) 0 (kR K - 1) with
      | .inl e => .inl e
      | .inr q => match numP T n (skip T n q.1) 0 (kR K - 1) with
        | .inl e => .inl e
        | .inr v => if q.2 = v.2 ∨ joinD (kD K) q.2 v.2 = true then .inl (errN 1 (skip T n q.1)) else .inr (v.1, kR K, kF K, kD K ++ [(q.2, v.2, wn)], kN K, kP K) := by unfold wdP; rw [if_neg (by omega)] <;> rfl
    cases hv : numP T n (i + lrun T n i) 0 (kR K - 1) with
    | inl e =>
      rw [hv] at hcp
      refine aw_aload0 h dX4_isDoorHere_0 ?_
      refine aw_getr h fl_X4_26 (gmt hG) dX4_isDoorHere_1 rfl (gmp7 hG) ?_
      refine aw_iconst h _ ci_1 dX4_isDoorHere_4 ?_
      refine aw_ialdV h (gms167 hG) (by decide) (by omega) dX4_isDoorHere_5 (hlay.2.1) ?_
      refine aw_bipush h _ cb_14 dX4_isDoorHere_6 ?_
      refine aw_icmp_neN h (tgt := 18) (by omega) (by omega) dX4_isDoorHere_8 (by decide) (fun c8 => ?_) (fun c8 => ?_)
      · refine aw_aload0 h dX4_isDoorHere_18 ?_
        refine aw_callVD0 h hl cl_X4_115 (met_m_passWord hG hZ.1) (gmt hG) rfl dX4_isDoorHere_19 (Nat.le_of_ble_eq_true rfl) rfl (Nat.zero_le _) (Nat.zero_le _) ?_
        refine aw_bipush h _ cb_42 dX4_isDoorHere_22 ?_
        refine aw_iconst h _ ci_3 dX4_isDoorHere_24 ?_
        refine aw_aload0 h dX4_isDoorHere_25 ?_
        refine aw_getr h fl_X4_26 (gmt hG) dX4_isDoorHere_26 rfl (gmp7 hG) ?_
        refine aw_iconst h _ ci_1 dX4_isDoorHere_29 ?_
        refine aw_ialdV h (gms167 hG) (by decide) (by omega) dX4_isDoorHere_30 (hlay.2.1) ?_
        refine aw_imulN h dX4_isDoorHere_31 ?_
        refine aw_iaddN h dX4_isDoorHere_32 ?_
        refine aw_istore3 h rfl dX4_isDoorHere_33 ?_
        refine aw_aload0 h dX4_isDoorHere_34 ?_
        refine aw_iload3 h dX4_isDoorHere_35 ?_
        refine aw_iconst h _ ci_0 dX4_isDoorHere_36 ?_
        refine aw_aload0 h dX4_isDoorHere_37 ?_
        refine aw_getr h fl_X4_26 (gmt hG) dX4_isDoorHere_38 rfl (gmp7 hG) ?_
        refine aw_iconst h _ ci_0 dX4_isDoorHere_41 ?_
        refine aw_ialdV h (gms167 hG) (by decide) (by omega) dX4_isDoorHere_42 (hlay.1) ?_
        refine aw_iconst h _ ci_1 dX4_isDoorHere_43 ?_
        refine aw_isubN h (by omega) dX4_isDoorHere_44 ?_
        refine aw_callVA3 h hl cl_X4_228 (met_m_cellHere hG (hZ.1.to hln0) hZ.2.1 (cell := 42 + 3 * (kD K).length) (mn := 0) (mx := kR K - 1) (by omega) (by decide) (by omega)) (gmt hG) rfl dX4_isDoorHere_45 (Nat.le_of_ble_eq_true rfl) rfl (Nat.zero_le _) (Nat.zero_le _) (fun G1 I1 L1 hp => ?_)
        obtain ⟨rfl, hF, hpt⟩ := hp
        rw [hv] at hpt
        rw [hv]
        refine aw_if_neB h (tgt := 53) dX4_isDoorHere_48 (by decide) (fun c48 => ?_) (fun c48 => ?_)
        · exact absurd c48 Bool.false_ne_true
        · refine aw_iconst h _ ci_0 dX4_isDoorHere_51 ?_
          exact aw_zret h hr dX4_isDoorHere_52 (by first | exact z01_0 | exact z01_1 | exact z01_b _) (⟨by rw [hcp]; rfl, rfl, by rw [hcp]; exact ⟨(CF.f (j := 8) (by decide)).trans hF, hpt⟩⟩) (Nat.zero_le _) (Nat.zero_le _)
      · exact absurd c8 (by omega)
    | inr q =>
      rw [hv] at hcp
      dsimp only at hcp
      have hq := numP_ok hln0 hv
      have hsq := skip_le (T := T) hq.2.1
      cases hv2 : numP T n (skip T n q.1) 0 (kR K - 1) with
      | inl e =>
        rw [hv2] at hcp
        refine aw_aload0 h dX4_isDoorHere_0 ?_
        refine aw_getr h fl_X4_26 (gmt hG) dX4_isDoorHere_1 rfl (gmp7 hG) ?_
        refine aw_iconst h _ ci_1 dX4_isDoorHere_4 ?_
        refine aw_ialdV h (gms167 hG) (by decide) (by omega) dX4_isDoorHere_5 (hlay.2.1) ?_
        refine aw_bipush h _ cb_14 dX4_isDoorHere_6 ?_
        refine aw_icmp_neN h (tgt := 18) (by omega) (by omega) dX4_isDoorHere_8 (by decide) (fun c8 => ?_) (fun c8 => ?_)
        · refine aw_aload0 h dX4_isDoorHere_18 ?_
          refine aw_callVD0 h hl cl_X4_115 (met_m_passWord hG hZ.1) (gmt hG) rfl dX4_isDoorHere_19 (Nat.le_of_ble_eq_true rfl) rfl (Nat.zero_le _) (Nat.zero_le _) ?_
          refine aw_bipush h _ cb_42 dX4_isDoorHere_22 ?_
          refine aw_iconst h _ ci_3 dX4_isDoorHere_24 ?_
          refine aw_aload0 h dX4_isDoorHere_25 ?_
          refine aw_getr h fl_X4_26 (gmt hG) dX4_isDoorHere_26 rfl (gmp7 hG) ?_
          refine aw_iconst h _ ci_1 dX4_isDoorHere_29 ?_
          refine aw_ialdV h (gms167 hG) (by decide) (by omega) dX4_isDoorHere_30 (hlay.2.1) ?_
          refine aw_imulN h dX4_isDoorHere_31 ?_
          refine aw_iaddN h dX4_isDoorHere_32 ?_
          refine aw_istore3 h rfl dX4_isDoorHere_33 ?_
          refine aw_aload0 h dX4_isDoorHere_34 ?_
          refine aw_iload3 h dX4_isDoorHere_35 ?_
          refine aw_iconst h _ ci_0 dX4_isDoorHere_36 ?_
          refine aw_aload0 h dX4_isDoorHere_37 ?_
          refine aw_getr h fl_X4_26 (gmt hG) dX4_isDoorHere_38 rfl (gmp7 hG) ?_
          refine aw_iconst h _ ci_0 dX4_isDoorHere_41 ?_
          refine aw_ialdV h (gms167 hG) (by decide) (by omega) dX4_isDoorHere_42 (hlay.1) ?_
          refine aw_iconst h _ ci_1 dX4_isDoorHere_43 ?_
          refine aw_isubN h (by omega) dX4_isDoorHere_44 ?_
          refine aw_callVA3 h hl cl_X4_228 (met_m_cellHere hG (hZ.1.to hln0) hZ.2.1 (cell := 42 + 3 * (kD K).length) (mn := 0) (mx := kR K - 1) (by omega) (by decide) (by omega)) (gmt hG) rfl dX4_isDoorHere_45 (Nat.le_of_ble_eq_true rfl) rfl (Nat.zero_le _) (Nat.zero_le _) (fun G1 I1 L1 hp => ?_)
          obtain ⟨rfl, hF, hpt⟩ := hp
          rw [hv] at hpt
          rw [hv]
          refine aw_if_neB h (tgt := 53) dX4_isDoorHere_48 (by decide) (fun c48 => ?_) (fun c48 => ?_)
          · refine aw_aload0 h dX4_isDoorHere_53 ?_
            refine aw_callVE0 h hl cl_X4_103 (met_m_see hG hpt.1) (gmt hG) rfl dX4_isDoorHere_54 (Nat.le_of_ble_eq_true rfl) rfl (Nat.zero_le _) (Nat.zero_le _) ?_
            refine aw_pop h rfl dX4_isDoorHere_57 ?_
            refine aw_aload0 h dX4_isDoorHere_58 ?_
            refine aw_getiV h fl_X4_100 (gmt hG) dX4_isDoorHere_59 rfl ((rfl : (upd2 I1 161 8 (nI (skip T n q.1))) 161 8 = nI (skip T n q.1))) ?_
            refine aw_istore4 h rfl dX4_isDoorHere_62 ?_
            refine aw_aload0 h dX4_isDoorHere_64 ?_
            refine aw_iload3 h dX4_isDoorHere_65 ?_
            refine aw_iconst h _ ci_1 dX4_isDoorHere_66 ?_
            refine aw_iaddN h dX4_isDoorHere_67 ?_
            refine aw_iconst h _ ci_0 dX4_isDoorHere_68 ?_
            refine aw_aload0 h dX4_isDoorHere_69 ?_
            refine aw_getr h fl_X4_26 (gmt hG) dX4_isDoorHere_70 rfl (gmp7 hG) ?_
            refine aw_iconst h _ ci_0 dX4_isDoorHere_73 ?_
            refine aw_ialdV h (gms167 hG) (by decide) (by omega) dX4_isDoorHere_74 ((congrFun hpt.2.2 0).trans ((vup_n _ _ (by omega)).trans hlay.1)) ?_
            refine aw_iconst h _ ci_1 dX4_isDoorHere_75 ?_
            refine aw_isubN h (by omega) dX4_isDoorHere_76 ?_
            refine aw_callVA3 h hl cl_X4_228 (met_m_cellHere hG (hpt.1.to hsq.2) hpt.2.1 (cell := 42 + 3 * (kD K).length + 1) (mn := 0) (mx := kR K - 1) (by omega) (by decide) (by omega)) (gmt hG) rfl dX4_isDoorHere_77 (Nat.le_of_ble_eq_true rfl) rfl (Nat.zero_le _) (Nat.zero_le _) (fun G1 I2 L2 hp => ?_)
            obtain ⟨rfl, hF2, hpt2⟩ := hp
            rw [hv2] at hpt2
            rw [hv2]
            refine aw_if_neB h (tgt := 85) dX4_isDoorHere_80 (by decide) (fun c80 => ?_) (fun c80 => ?_)
            · exact absurd c80 Bool.false_ne_true
            · refine aw_iconst h _ ci_0 dX4_isDoorHere_83 ?_
              exact aw_zret h hr dX4_isDoorHere_84 (by first | exact z01_0 | exact z01_1 | exact z01_b _) (⟨by rw [hcp]; rfl, rfl, by rw [hcp]; exact ⟨(((CF.f (j := 8) (by decide)).trans hF).trans (CF.f (j := 8) (by decide))).trans hF2, hpt2⟩⟩) (Nat.zero_le _) (Nat.zero_le _)
          · exact absurd c48.symm Bool.false_ne_true
        · exact absurd c8 (by omega)
      | inr v =>
        rw [hv2] at hcp
        dsimp only at hcp
        have hu := numP_ok hsq.2 hv2
        refine aw_aload0 h dX4_isDoorHere_0 ?_
        refine aw_getr h fl_X4_26 (gmt hG) dX4_isDoorHere_1 rfl (gmp7 hG) ?_
        refine aw_iconst h _ ci_1 dX4_isDoorHere_4 ?_
        refine aw_ialdV h (gms167 hG) (by decide) (by omega) dX4_isDoorHere_5 (hlay.2.1) ?_
        refine aw_bipush h _ cb_14 dX4_isDoorHere_6 ?_
        refine aw_icmp_neN h (tgt := 18) (by omega) (by omega) dX4_isDoorHere_8 (by decide) (fun c8 => ?_) (fun c8 => ?_)
        · refine aw_aload0 h dX4_isDoorHere_18 ?_
          refine aw_callVD0 h hl cl_X4_115 (met_m_passWord hG hZ.1) (gmt hG) rfl dX4_isDoorHere_19 (Nat.le_of_ble_eq_true rfl) rfl (Nat.zero_le _) (Nat.zero_le _) ?_
          refine aw_bipush h _ cb_42 dX4_isDoorHere_22 ?_
          refine aw_iconst h _ ci_3 dX4_isDoorHere_24 ?_
          refine aw_aload0 h dX4_isDoorHere_25 ?_
          refine aw_getr h fl_X4_26 (gmt hG) dX4_isDoorHere_26 rfl (gmp7 hG) ?_
          refine aw_iconst h _ ci_1 dX4_isDoorHere_29 ?_
          refine aw_ialdV h (gms167 hG) (by decide) (by omega) dX4_isDoorHere_30 (hlay.2.1) ?_
          refine aw_imulN h dX4_isDoorHere_31 ?_
          refine aw_iaddN h dX4_isDoorHere_32 ?_
          refine aw_istore3 h rfl dX4_isDoorHere_33 ?_
          refine aw_aload0 h dX4_isDoorHere_34 ?_
          refine aw_iload3 h dX4_isDoorHere_35 ?_
          refine aw_iconst h _ ci_0 dX4_isDoorHere_36 ?_
          refine aw_aload0 h dX4_isDoorHere_37 ?_
          refine aw_getr h fl_X4_26 (gmt hG) dX4_isDoorHere_38 rfl (gmp7 hG) ?_
          refine aw_iconst h _ ci_0 dX4_isDoorHere_41 ?_
          refine aw_ialdV h (gms167 hG) (by decide) (by omega) dX4_isDoorHere_42 (hlay.1) ?_
          refine aw_iconst h _ ci_1 dX4_isDoorHere_43 ?_
          refine aw_isubN h (by omega) dX4_isDoorHere_44 ?_
          refine aw_callVA3 h hl cl_X4_228 (met_m_cellHere hG (hZ.1.to hln0) hZ.2.1 (cell := 42 + 3 * (kD K).length) (mn := 0) (mx := kR K - 1) (by omega) (by decide) (by omega)) (gmt hG) rfl dX4_isDoorHere_45 (Nat.le_of_ble_eq_true rfl) rfl (Nat.zero_le _) (Nat.zero_le _) (fun G1 I1 L1 hp => ?_)
          obtain ⟨rfl, hF, hpt⟩ := hp
          rw [hv] at hpt
          rw [hv]
          refine aw_if_neB h (tgt := 53) dX4_isDoorHere_48 (by decide) (fun c48 => ?_) (fun c48 => ?_)
          · refine aw_aload0 h dX4_isDoorHere_53 ?_
            refine aw_callVE0 h hl cl_X4_103 (met_m_see hG hpt.1) (gmt hG) rfl dX4_isDoorHere_54 (Nat.le_of_ble_eq_true rfl) rfl (Nat.zero_le _) (Nat.zero_le _) ?_
            refine aw_pop h rfl dX4_isDoorHere_57 ?_
            refine aw_aload0 h dX4_isDoorHere_58 ?_
            refine aw_getiV h fl_X4_100 (gmt hG) dX4_isDoorHere_59 rfl ((rfl : (upd2 I1 161 8 (nI (skip T n q.1))) 161 8 = nI (skip T n q.1))) ?_
            refine aw_istore4 h rfl dX4_isDoorHere_62 ?_
            refine aw_aload0 h dX4_isDoorHere_64 ?_
            refine aw_iload3 h dX4_isDoorHere_65 ?_
            refine aw_iconst h _ ci_1 dX4_isDoorHere_66 ?_
            refine aw_iaddN h dX4_isDoorHere_67 ?_
            refine aw_iconst h _ ci_0 dX4_isDoorHere_68 ?_
            refine aw_aload0 h dX4_isDoorHere_69 ?_
            refine aw_getr h fl_X4_26 (gmt hG) dX4_isDoorHere_70 rfl (gmp7 hG) ?_
            refine aw_iconst h _ ci_0 dX4_isDoorHere_73 ?_
            refine aw_ialdV h (gms167 hG) (by decide) (by omega) dX4_isDoorHere_74 ((congrFun hpt.2.2 0).trans ((vup_n _ _ (by omega)).trans hlay.1)) ?_
            refine aw_iconst h _ ci_1 dX4_isDoorHere_75 ?_
            refine aw_isubN h (by omega) dX4_isDoorHere_76 ?_
            refine aw_callVA3 h hl cl_X4_228 (met_m_cellHere hG (hpt.1.to hsq.2) hpt.2.1 (cell := 42 + 3 * (kD K).length + 1) (mn := 0) (mx := kR K - 1) (by omega) (by decide) (by omega)) (gmt hG) rfl dX4_isDoorHere_77 (Nat.le_of_ble_eq_true rfl) rfl (Nat.zero_le _) (Nat.zero_le _) (fun G1 I2 L2 hp => ?_)
            obtain ⟨rfl, hF2, hpt2⟩ := hp
            rw [hv2] at hpt2
            rw [hv2]
            refine aw_if_neB h (tgt := 85) dX4_isDoorHere_80 (by decide) (fun c80 => ?_) (fun c80 => ?_)
            · have hrow : I2 167 = va_up (va_up (I 167) (42 + 3 * (kD K).length) (nI q.2)) ((42 + 3 * (kD K).length) + 1) (nI v.2) := by
                rw [hpt2.2.2]
                show va_up (I1 167) _ _ = _
                rw [hpt.2.2] <;> rfl
              have hg1 : I2 167 1 = nI (kD K).length := by rw [hrow, vup_n _ _ (by omega), vup_n _ _ (by omega)]; exact hlay.2.1
              have hgd : I2 167 (42 + 3 * (kD K).length) = nI q.2 := by rw [hrow, vup_n _ _ (by omega), vup_s]
              have hgd1 : I2 167 ((42 + 3 * (kD K).length) + 1) = nI v.2 := by rw [hrow, vup_s]
              have hgk : ∀ k, k < (kD K).length → I2 167 (42 + 3 * k) = nI (gK (kD K) k).1 ∧ I2 167 (42 + 3 * k + 1) = nI (gK (kD K) k).2.1 := fun k hk => ⟨by rw [hrow, vup_n _ _ (by omega), vup_n _ _ (by omega)]; exact (hlay.2.2.2.2.2.2.1 k hk).1, by rw [hrow, vup_n _ _ (by omega), vup_n _ _ (by omega)]; exact (hlay.2.2.2.2.2.2.1 k hk).2.1⟩
              have hdb : ∀ k, k < (kD K).length → (gK (kD K) k).1 < 8 ∧ (gK (kD K) k).2.1 < 8 := fun k hk => by have := hok.2.2.2.2.1 k hk; omega
              have hF0 : CF I L I2 L2 := (((CF.f (j := 8) (by decide)).trans hF).trans (CF.f (j := 8) (by decide))).trans hF2
              have k234 : ∀ (b : Bool) (k : Nat) (o7 o8 : Option Value), b = (decide (¬ q.2 = v.2) && !joinD (kD K) q.2 v.2) → AW X 0 0 234 [some (.ref (w.1 + 161)), some (.int (nI i)), some (.int (nI wn)), some (.int (nI (42 + 3 * (kD K).length))), some (.int (nI (skip T n q.1))), some (.int (bI b)), some (.int (nI k)), o7, o8] [] G I2 L2 := by
                intro b k o7 o8 hb
                cases b with
                | false =>
                  have hor : q.2 = v.2 ∨ joinD (kD K) q.2 v.2 = true := by
                    by_cases e : q.2 = v.2
                    · exact Or.inl e
                    · right
                      rw [decide_eq_true e, Bool.true_and] at hb
                      cases hj : joinD (kD K) q.2 v.2 with
                      | true => rfl
                      | false => rw [hj] at hb; cases hb
                  rw [if_pos hor] at hcp
                  refine aw_iload5 h dX4_isDoorHere_234 ?_
                  refine aw_if_neB h (tgt := 247) dX4_isDoorHere_236 (by decide) (fun c236 => ?_) (fun c236 => ?_)
                  · exact absurd c236 Bool.false_ne_true
                  · refine aw_aload0 h dX4_isDoorHere_239 ?_
                    refine aw_iconst h _ ci_1 dX4_isDoorHere_240 ?_
                    refine aw_iload4 h dX4_isDoorHere_241 ?_
                    refine aw_callVE2 h hl cl_X4_121 (met_m_fails hG (kd := 1) (at2 := skip T n q.1)) (gmt hG) rfl dX4_isDoorHere_243 (Nat.le_of_ble_eq_true rfl) rfl (Nat.zero_le _) (Nat.zero_le _) ?_
                    exact aw_zret h hr dX4_isDoorHere_246 (by first | exact z01_0 | exact z01_1 | exact z01_b _) (⟨by rw [hcp]; rfl, rfl, by rw [hcp]; exact ⟨hF0.trans (CF.f (by decide)), by show failW (I2 161 9) 1 (skip T n q.1) = nI (errN 1 (skip T n q.1)); rw [hpt2.2.1]; rfl⟩⟩) (Nat.zero_le _) (Nat.zero_le _)
                | true =>
                  have hb2 := (Bool.and_eq_true _ _).mp hb.symm
                  have hne : ¬ q.2 = v.2 := of_decide_eq_true hb2.1
                  have hnj : joinD (kD K) q.2 v.2 = false := by simpa using hb2.2
                  have hno : ¬ (q.2 = v.2 ∨ joinD (kD K) q.2 v.2 = true) := by
                    rintro (e | e)
                    · exact hne e
                    · rw [hnj] at e; exact Bool.false_ne_true e
                  rw [if_neg hno] at hcp
                  refine aw_iload5 h dX4_isDoorHere_234 ?_
                  refine aw_if_neB h (tgt := 247) dX4_isDoorHere_236 (by decide) (fun c236 => ?_) (fun c236 => ?_)
                  · have hg : (upd2 (upd2 I2 167 ((42 + 3 * (kD K).length) + 2) (nI wn)) 167 1 (nI ((kD K).length + 1))) 167 = va_up (va_up (va_up (va_up (I 167) (42 + 3 * (kD K).length) (nI q.2)) ((42 + 3 * (kD K).length) + 1) (nI v.2)) ((42 + 3 * (kD K).length) + 2) (nI wn)) 1 (nI ((kD K).length + 1)) := by
                      show va_up (va_up (I2 167) _ _) _ _ = _
                      rw [hrow]
                    have hrw := rowD (by omega) hg
                    have hr2 : (upd2 I2 167 ((42 + 3 * (kD K).length) + 2) (nI wn)) 167 1 = nI (kD K).length := by rw [upd2_s, vup_n _ _ (by omega)]; exact hg1
                    have hcf : CF I L (upd2 (upd2 I2 167 ((42 + 3 * (kD K).length) + 2) (nI wn)) 167 1 (nI ((kD K).length + 1))) L2 := hF0.trans (CF.r.trans CF.r)
                    refine aw_aload0 h dX4_isDoorHere_247 ?_
                    refine aw_getr h fl_X4_26 (gmt hG) dX4_isDoorHere_248 rfl (gmp7 hG) ?_
                    refine aw_iload3 h dX4_isDoorHere_251 ?_
                    refine aw_iconst h _ ci_2 dX4_isDoorHere_252 ?_
                    refine aw_iaddN h dX4_isDoorHere_253 ?_
                    refine aw_iload2 h dX4_isDoorHere_254 ?_
                    refine aw_iastN h (gms167 hG) (by decide) (by omega) dX4_isDoorHere_255 ?_
                    refine aw_aload0 h dX4_isDoorHere_256 ?_
                    refine aw_getr h fl_X4_26 (gmt hG) dX4_isDoorHere_257 rfl (gmp7 hG) ?_
                    refine aw_iconst h _ ci_1 dX4_isDoorHere_260 ?_
                    refine aw_dup2 h rfl rfl dX4_isDoorHere_261 ?_
                    refine aw_ialdV h (gms167 hG) (by decide) (by decide) dX4_isDoorHere_262 (hr2) ?_
                    refine aw_iconst h _ ci_1 dX4_isDoorHere_263 ?_
                    refine aw_iaddN h dX4_isDoorHere_264 ?_
                    refine aw_iastN h (gms167 hG) (by decide) (by decide) dX4_isDoorHere_265 ?_
                    refine aw_iconst h _ ci_1 dX4_isDoorHere_266 ?_
                    exact aw_zret h hr dX4_isDoorHere_267 (by first | exact z01_0 | exact z01_1 | exact z01_b _) (⟨by rw [hcp]; rfl, rfl, by rw [hcp]; exact ⟨hcf, ⟨hpt2.1.1, hpt2.1.2.1, hpt2.1.2.2.1, hpt2.1.2.2.2.1, hpt2.1.2.2.2.2⟩, hpt2.2.1, (hcf.2.2 11 (by decide)).trans hZ.2.2.1, hlay.door (x := (q.2, v.2, wn)) hP4 hrw.1 hrw.2.1 hrw.2.2, hok.door (x := (q.2, v.2, wn)) hp4 ⟨by show q.2 < kR K; omega, by show v.2 < kR K; omega, hwn, hne⟩⟩⟩) (Nat.zero_le _) (Nat.zero_le _)
                  · exact absurd c236.symm Bool.false_ne_true
              have key : ∀ (fu k : Nat) (b : Bool) (o7 : Option Value) (o8 : Option Value), k ≤ (kD K).length → (kD K).length < k + fu → b = (decide (¬ q.2 = v.2) && !anyN k (joinF (kD K) q.2 v.2)) → AW X 0 0 112 [some (.ref (w.1 + 161)), some (.int (nI i)), some (.int (nI wn)), some (.int (nI (42 + 3 * (kD K).length))), some (.int (nI (skip T n q.1))), some (.int (bI b)), some (.int (nI k)), o7, o8] [] G I2 L2 := by
                intro fu
                induction fu with
                | zero => intro k b o7 o8 hle hlt; exact absurd hlt (by omega)
                | succ fu ih =>
                  intro k b o7 o8 hle hlt hb
                  refine aw_iload6 h dX4_isDoorHere_112 ?_
                  refine aw_aload0 h dX4_isDoorHere_114 ?_
                  refine aw_getr h fl_X4_26 (gmt hG) dX4_isDoorHere_115 rfl (gmp7 hG) ?_
                  refine aw_iconst h _ ci_1 dX4_isDoorHere_118 ?_
                  refine aw_ialdV h (gms167 hG) (by decide) (by omega) dX4_isDoorHere_119 (hg1) ?_
                  refine aw_icmp_geN h (tgt := 234) (by omega) (by omega) dX4_isDoorHere_120 (by decide) (fun c120 => ?_) (fun c120 => ?_)
                  · exact k234 b k _ _ (by rw [hb, show k = (kD K).length by omega]; rfl)
                  · refine aw_bipush h _ cb_42 dX4_isDoorHere_123 ?_
                    refine aw_iconst h _ ci_3 dX4_isDoorHere_125 ?_
                    refine aw_iload6 h dX4_isDoorHere_126 ?_
                    refine aw_imulN h dX4_isDoorHere_128 ?_
                    refine aw_iaddN h dX4_isDoorHere_129 ?_
                    refine aw_istore7 h rfl dX4_isDoorHere_130 ?_
                    have hkk := hgk k (by omega)
                    have hdk := hdb k (by omega)
                    have k209 : ∀ bl : Bool, (joinF (kD K) q.2 v.2) k = bl → AW X 0 0 209 [some (.ref (w.1 + 161)), some (.int (nI i)), some (.int (nI wn)), some (.int (nI (42 + 3 * (kD K).length))), some (.int (nI (skip T n q.1))), some (.int (bI b)), some (.int (nI k)), some (.int (nI (42 + 3 * k))), o8] [.int (bI bl)] G I2 L2 := by
                      intro bl hbl
                      have hs9 : anyN (k + 1) (joinF (kD K) q.2 v.2) = (anyN k (joinF (kD K) q.2 v.2) || bl) := by rw [anyN, hbl]
                      refine aw_istore8 h rfl dX4_isDoorHere_209 ?_
                      refine aw_iload5 h dX4_isDoorHere_211 ?_
                      refine aw_if_eqB h (tgt := 225) dX4_isDoorHere_213 (by decide) (fun c213 => ?_) (fun c213 => ?_)
                      · refine aw_iconst h _ ci_0 dX4_isDoorHere_225 ?_
                        refine aw_istore5 h rfl dX4_isDoorHere_226 ?_
                        refine aw_iincN6 h rfl dX4_isDoorHere_228 ?_
                        refine aw_goto h (tgt := 112) dX4_isDoorHere_231 (by decide) ?_
                        exact ih (k + 1) false _ _ (by omega) (by omega) (by rw [hs9, Bool.not_or, ← Bool.and_assoc, ← hb, c213]; rfl)
                      · refine aw_iload8 h dX4_isDoorHere_216 ?_
                        refine aw_if_neB h (tgt := 225) dX4_isDoorHere_218 (by decide) (fun c218 => ?_) (fun c218 => ?_)
                        · refine aw_iconst h _ ci_0 dX4_isDoorHere_225 ?_
                          refine aw_istore5 h rfl dX4_isDoorHere_226 ?_
                          refine aw_iincN6 h rfl dX4_isDoorHere_228 ?_
                          refine aw_goto h (tgt := 112) dX4_isDoorHere_231 (by decide) ?_
                          exact ih (k + 1) false _ _ (by omega) (by omega) (by rw [hs9, Bool.not_or, ← Bool.and_assoc, ← hb, c218]; simp)
                        · refine aw_iconst h _ ci_1 dX4_isDoorHere_221 ?_
                          refine aw_goto h (tgt := 226) dX4_isDoorHere_222 (by decide) ?_
                          refine aw_istore5 h rfl dX4_isDoorHere_226 ?_
                          refine aw_iincN6 h rfl dX4_isDoorHere_228 ?_
                          refine aw_goto h (tgt := 112) dX4_isDoorHere_231 (by decide) ?_
                          exact ih (k + 1) true _ _ (by omega) (by omega) (by rw [hs9, Bool.not_or, ← Bool.and_assoc, ← hb, c213, c218]; rfl)
                    refine aw_aload0 h dX4_isDoorHere_132 ?_
                    refine aw_getr h fl_X4_26 (gmt hG) dX4_isDoorHere_133 rfl (gmp7 hG) ?_
                    refine aw_iload7 h dX4_isDoorHere_136 ?_
                    refine aw_ialdV h (gms167 hG) (by decide) (by omega) dX4_isDoorHere_138 (hkk.1) ?_
                    refine aw_aload0 h dX4_isDoorHere_139 ?_
                    refine aw_getr h fl_X4_26 (gmt hG) dX4_isDoorHere_140 rfl (gmp7 hG) ?_
                    refine aw_iload3 h dX4_isDoorHere_143 ?_
                    refine aw_ialdV h (gms167 hG) (by decide) (by omega) dX4_isDoorHere_144 (hgd) ?_
                    refine aw_icmp_neN h (tgt := 168) (by omega) (by omega) dX4_isDoorHere_145 (by decide) (fun c145 => ?_) (fun c145 => ?_)
                    · refine aw_aload0 h dX4_isDoorHere_168 ?_
                      refine aw_getr h fl_X4_26 (gmt hG) dX4_isDoorHere_169 rfl (gmp7 hG) ?_
                      refine aw_iload7 h dX4_isDoorHere_172 ?_
                      refine aw_ialdV h (gms167 hG) (by decide) (by omega) dX4_isDoorHere_174 (hkk.1) ?_
                      refine aw_aload0 h dX4_isDoorHere_175 ?_
                      refine aw_getr h fl_X4_26 (gmt hG) dX4_isDoorHere_176 rfl (gmp7 hG) ?_
                      refine aw_iload3 h dX4_isDoorHere_179 ?_
                      refine aw_iconst h _ ci_1 dX4_isDoorHere_180 ?_
                      refine aw_iaddN h dX4_isDoorHere_181 ?_
                      refine aw_ialdV h (gms167 hG) (by decide) (by omega) dX4_isDoorHere_182 (hgd1) ?_
                      refine aw_icmp_neN h (tgt := 208) (by omega) (by omega) dX4_isDoorHere_183 (by decide) (fun c183 => ?_) (fun c183 => ?_)
                      · have hfk : (joinF (kD K) q.2 v.2) k = false := by simp only [joinF, decide_eq_false c145, decide_eq_false c183, Bool.and_true, Bool.true_and, Bool.and_false, Bool.false_and, Bool.or_true, Bool.true_or, Bool.or_false]
                        refine aw_iconst h _ ci_0 dX4_isDoorHere_208 ?_
                        exact k209 false hfk
                      · refine aw_aload0 h dX4_isDoorHere_186 ?_
                        refine aw_getr h fl_X4_26 (gmt hG) dX4_isDoorHere_187 rfl (gmp7 hG) ?_
                        refine aw_iload7 h dX4_isDoorHere_190 ?_
                        refine aw_iconst h _ ci_1 dX4_isDoorHere_192 ?_
                        refine aw_iaddN h dX4_isDoorHere_193 ?_
                        refine aw_ialdV h (gms167 hG) (by decide) (by omega) dX4_isDoorHere_194 (hkk.2) ?_
                        refine aw_aload0 h dX4_isDoorHere_195 ?_
                        refine aw_getr h fl_X4_26 (gmt hG) dX4_isDoorHere_196 rfl (gmp7 hG) ?_
                        refine aw_iload3 h dX4_isDoorHere_199 ?_
                        refine aw_ialdV h (gms167 hG) (by decide) (by omega) dX4_isDoorHere_200 (hgd) ?_
                        refine aw_icmp_neN h (tgt := 208) (by omega) (by omega) dX4_isDoorHere_201 (by decide) (fun c201 => ?_) (fun c201 => ?_)
                        · have hfk : (joinF (kD K) q.2 v.2) k = false := by simp only [joinF, decide_eq_false c145, decide_eq_false c201, Bool.and_true, Bool.true_and, Bool.and_false, Bool.false_and, Bool.or_true, Bool.true_or, Bool.or_false]
                          refine aw_iconst h _ ci_0 dX4_isDoorHere_208 ?_
                          exact k209 false hfk
                        · have hfk : (joinF (kD K) q.2 v.2) k = true := by simp only [joinF, decide_eq_true c183, decide_eq_true c201, Bool.and_true, Bool.true_and, Bool.and_false, Bool.false_and, Bool.or_true, Bool.true_or, Bool.or_false]
                          refine aw_iconst h _ ci_1 dX4_isDoorHere_204 ?_
                          refine aw_goto h (tgt := 209) dX4_isDoorHere_205 (by decide) ?_
                          exact k209 true hfk
                    · refine aw_aload0 h dX4_isDoorHere_148 ?_
                      refine aw_getr h fl_X4_26 (gmt hG) dX4_isDoorHere_149 rfl (gmp7 hG) ?_
                      refine aw_iload7 h dX4_isDoorHere_152 ?_
                      refine aw_iconst h _ ci_1 dX4_isDoorHere_154 ?_
                      refine aw_iaddN h dX4_isDoorHere_155 ?_
                      refine aw_ialdV h (gms167 hG) (by decide) (by omega) dX4_isDoorHere_156 (hkk.2) ?_
                      refine aw_aload0 h dX4_isDoorHere_157 ?_
                      refine aw_getr h fl_X4_26 (gmt hG) dX4_isDoorHere_158 rfl (gmp7 hG) ?_
                      refine aw_iload3 h dX4_isDoorHere_161 ?_
                      refine aw_iconst h _ ci_1 dX4_isDoorHere_162 ?_
                      refine aw_iaddN h dX4_isDoorHere_163 ?_
                      refine aw_ialdV h (gms167 hG) (by decide) (by omega) dX4_isDoorHere_164 (hgd1) ?_
                      refine aw_icmp_eqN h (tgt := 204) (by omega) (by omega) dX4_isDoorHere_165 (by decide) (fun c165 => ?_) (fun c165 => ?_)
                      · have hfk : (joinF (kD K) q.2 v.2) k = true := by simp only [joinF, decide_eq_true c145, decide_eq_true c165, Bool.and_true, Bool.true_and, Bool.and_false, Bool.false_and, Bool.or_true, Bool.true_or, Bool.or_false]
                        refine aw_iconst h _ ci_1 dX4_isDoorHere_204 ?_
                        refine aw_goto h (tgt := 209) dX4_isDoorHere_205 (by decide) ?_
                        exact k209 true hfk
                      · refine aw_aload0 h dX4_isDoorHere_168 ?_
                        refine aw_getr h fl_X4_26 (gmt hG) dX4_isDoorHere_169 rfl (gmp7 hG) ?_
                        refine aw_iload7 h dX4_isDoorHere_172 ?_
                        refine aw_ialdV h (gms167 hG) (by decide) (by omega) dX4_isDoorHere_174 (hkk.1) ?_
                        refine aw_aload0 h dX4_isDoorHere_175 ?_
                        refine aw_getr h fl_X4_26 (gmt hG) dX4_isDoorHere_176 rfl (gmp7 hG) ?_
                        refine aw_iload3 h dX4_isDoorHere_179 ?_
                        refine aw_iconst h _ ci_1 dX4_isDoorHere_180 ?_
                        refine aw_iaddN h dX4_isDoorHere_181 ?_
                        refine aw_ialdV h (gms167 hG) (by decide) (by omega) dX4_isDoorHere_182 (hgd1) ?_
                        refine aw_icmp_neN h (tgt := 208) (by omega) (by omega) dX4_isDoorHere_183 (by decide) (fun c183 => ?_) (fun c183 => ?_)
                        · have hfk : (joinF (kD K) q.2 v.2) k = false := by simp only [joinF, decide_eq_false c165, decide_eq_false c183, Bool.and_true, Bool.true_and, Bool.and_false, Bool.false_and, Bool.or_true, Bool.true_or, Bool.or_false]
                          refine aw_iconst h _ ci_0 dX4_isDoorHere_208 ?_
                          exact k209 false hfk
                        · refine aw_aload0 h dX4_isDoorHere_186 ?_
                          refine aw_getr h fl_X4_26 (gmt hG) dX4_isDoorHere_187 rfl (gmp7 hG) ?_
                          refine aw_iload7 h dX4_isDoorHere_190 ?_
                          refine aw_iconst h _ ci_1 dX4_isDoorHere_192 ?_
                          refine aw_iaddN h dX4_isDoorHere_193 ?_
                          refine aw_ialdV h (gms167 hG) (by decide) (by omega) dX4_isDoorHere_194 (hkk.2) ?_
                          refine aw_aload0 h dX4_isDoorHere_195 ?_
                          refine aw_getr h fl_X4_26 (gmt hG) dX4_isDoorHere_196 rfl (gmp7 hG) ?_
                          refine aw_iload3 h dX4_isDoorHere_199 ?_
                          refine aw_ialdV h (gms167 hG) (by decide) (by omega) dX4_isDoorHere_200 (hgd) ?_
                          refine aw_icmp_neN h (tgt := 208) (by omega) (by omega) dX4_isDoorHere_201 (by decide) (fun c201 => ?_) (fun c201 => ?_)
                          · have hfk : (joinF (kD K) q.2 v.2) k = false := by simp only [joinF, decide_eq_false c165, decide_eq_false c201, Bool.and_true, Bool.true_and, Bool.and_false, Bool.false_and, Bool.or_true, Bool.true_or, Bool.or_false]
                            refine aw_iconst h _ ci_0 dX4_isDoorHere_208 ?_
                            exact k209 false hfk
                          · have hfk : (joinF (kD K) q.2 v.2) k = true := by simp only [joinF, decide_eq_true c183, decide_eq_true c201, Bool.and_true, Bool.true_and, Bool.and_false, Bool.false_and, Bool.or_true, Bool.true_or, Bool.or_false]
                            refine aw_iconst h _ ci_1 dX4_isDoorHere_204 ?_
                            refine aw_goto h (tgt := 209) dX4_isDoorHere_205 (by decide) ?_
                            exact k209 true hfk
              refine aw_aload0 h dX4_isDoorHere_85 ?_
              refine aw_getr h fl_X4_26 (gmt hG) dX4_isDoorHere_86 rfl (gmp7 hG) ?_
              refine aw_iload3 h dX4_isDoorHere_89 ?_
              refine aw_ialdV h (gms167 hG) (by decide) (by omega) dX4_isDoorHere_90 (hgd) ?_
              refine aw_aload0 h dX4_isDoorHere_91 ?_
              refine aw_getr h fl_X4_26 (gmt hG) dX4_isDoorHere_92 rfl (gmp7 hG) ?_
              refine aw_iload3 h dX4_isDoorHere_95 ?_
              refine aw_iconst h _ ci_1 dX4_isDoorHere_96 ?_
              refine aw_iaddN h dX4_isDoorHere_97 ?_
              refine aw_ialdV h (gms167 hG) (by decide) (by omega) dX4_isDoorHere_98 (hgd1) ?_
              refine aw_icmp_eqN h (tgt := 106) (by omega) (by omega) dX4_isDoorHere_99 (by decide) (fun c99 => ?_) (fun c99 => ?_)
              · refine aw_iconst h _ ci_0 dX4_isDoorHere_106 ?_
                refine aw_istore5 h rfl dX4_isDoorHere_107 ?_
                refine aw_iconst h _ ci_0 dX4_isDoorHere_109 ?_
                refine aw_istore6 h rfl dX4_isDoorHere_110 ?_
                exact key ((kD K).length + 1) 0 false _ _ (Nat.zero_le _) (by omega) (by rw [show anyN 0 (joinF (kD K) q.2 v.2) = false from rfl, decide_eq_false (fun q => q c99)]; rfl)
              · refine aw_iconst h _ ci_1 dX4_isDoorHere_102 ?_
                refine aw_goto h (tgt := 107) dX4_isDoorHere_103 (by decide) ?_
                refine aw_istore5 h rfl dX4_isDoorHere_107 ?_
                refine aw_iconst h _ ci_0 dX4_isDoorHere_109 ?_
                refine aw_istore6 h rfl dX4_isDoorHere_110 ?_
                exact key ((kD K).length + 1) 0 true _ _ (Nat.zero_le _) (by omega) (by rw [show anyN 0 (joinF (kD K) q.2 v.2) = false from rfl, decide_eq_true c99]; rfl)
            · exact absurd c80.symm Bool.false_ne_true
          · exact absurd c48.symm Bool.false_ne_true
        · exact absurd c8 (by omega)
  · have hcp : wdP T n i wn K = .inl (errN 4 i) := by unfold wdP; rw [if_pos (by omega)]
    refine aw_aload0 h dX4_isDoorHere_0 ?_
    refine aw_getr h fl_X4_26 (gmt hG) dX4_isDoorHere_1 rfl (gmp7 hG) ?_
    refine aw_iconst h _ ci_1 dX4_isDoorHere_4 ?_
    refine aw_ialdV h (gms167 hG) (by decide) (by omega) dX4_isDoorHere_5 (hlay.2.1) ?_
    refine aw_bipush h _ cb_14 dX4_isDoorHere_6 ?_
    refine aw_icmp_neN h (tgt := 18) (by omega) (by omega) dX4_isDoorHere_8 (by decide) (fun c8 => ?_) (fun c8 => ?_)
    · exact absurd c8 (by omega)
    · refine aw_aload0 h dX4_isDoorHere_11 ?_
      refine aw_iconst h _ ci_4 dX4_isDoorHere_12 ?_
      refine aw_iload1 h dX4_isDoorHere_13 ?_
      refine aw_callVE2 h hl cl_X4_121 (met_m_fails hG (kd := 4) (at2 := i)) (gmt hG) rfl dX4_isDoorHere_14 (Nat.le_of_ble_eq_true rfl) rfl (Nat.zero_le _) (Nat.zero_le _) ?_
      exact aw_zret h hr dX4_isDoorHere_17 (by first | exact z01_0 | exact z01_1 | exact z01_b _) (⟨by rw [hcp]; rfl, rfl, by rw [hcp]; exact ⟨CF.f (by decide), by show failW (I 161 9) 4 i = nI (errN 4 i); rw [hZ.2.1]; rfl⟩⟩) (Nat.zero_le _) (Nat.zero_le _)
