/-! The reference's parser: lines of a castle -/
set_option maxRecDepth 100000
def CF (I : Im) (L : Lm) (I1 : Im) (L1 : Lm) : Prop := L = L1 ∧ (∀ m, m ≠ 161 → m ≠ 167 → I1 m = I m) ∧ ∀ j, j ∉ [8, 9, 10] → I1 161 j = I 161 j
theorem CF.rf {I : Im} {L : Lm} : CF I L I L := ⟨rfl, fun _ _ _ => rfl, fun _ _ => rfl⟩
theorem CF.trans {I I1 I2 : Im} {L L1 L2 : Lm} (h : CF I L I1 L1) (h2 : CF I1 L1 I2 L2) : CF I L I2 L2 := ⟨h.1.trans h2.1, fun m a b => (h2.2.1 m a b).trans (h.2.1 m a b), fun j a => (h2.2.2 j a).trans (h.2.2 j a)⟩
theorem CF.f {j : Nat} {I : Im} {L : Lm} {x : Int32} (h : j ∈ [8, 9, 10]) : CF I L (upd2 I 161 j x) L := by
  refine ⟨rfl, fun m a _ => vup_n _ _ a, fun q hq => ?_⟩
  show va_up (I 161) j x q = _
  exact vup_n _ _ (fun e => hq (e ▸ h))
theorem CF.r {j : Nat} {I : Im} {L : Lm} {x : Int32} : CF I L (upd2 I 167 j x) L := ⟨rfl, fun m _ a => vup_n _ _ a, fun _ _ => rfl⟩
theorem TPE.cf {I I1 : Im} {T : Nat → Int32} {n i j : Nat} {L L1 : Lm} (h : TPE I T n i) (hF : CF I L I1 L1) (h8 : I1 161 8 = nI j) (hj : j ≤ n) : TPE I1 T n j := ⟨(hF.2.1 162 (by decide) (by decide)).trans h.1, (hF.2.2 1 (by decide)).trans h.2.1, h.2.2.1, h8, hj⟩
def NPt (r : Sum Nat (Nat × Nat)) (T : Nat → Int32) (n cell : Nat) (G : Gm) (I : Im) (L : Lm) : Gm → Im → Lm → Prop := fun G1 I1 L1 => G = G1 ∧ CF I L I1 L1 ∧ match r with
  | .inl e => I1 161 9 = nI e
  | .inr q => TPE I1 T n q.1 ∧ I1 161 9 = 0 ∧ I1 167 = va_up (I 167) cell (nI q.2)
/-- at work on a castle's text -/
def CZ (I : Im) (T : Nat → Int32) (n i : Nat) (K : CS) : Prop := TPE I T n i ∧ I 161 9 = 0 ∧ I 161 11 = nI 6 ∧ LayC (I 167) K ∧ CSok K
def KPt (r : CRes) (T : Nat → Int32) (n : Nat) (G : Gm) (I : Im) (L : Lm) : Gm → Im → Lm → Prop := fun G1 I1 L1 => G = G1 ∧ CF I L I1 L1 ∧ match r with
  | .inl e => I1 161 9 = nI e
  | .inr q => CZ I1 T n q.1 q.2
theorem met_m_cellHere {w : Wd} {G : Gm} {I : Im} {L : Lm} (hG : GM G) {T : Nat → Int32} {n i cell mn mx : Nat} (hT : TPE I T n i) (h9 : I 161 9 = 0) (hcl : cell < 84) (hmn : mn < 2 ^ 31) (hmx : mx < 2 ^ 31) : AMet w yX4_cellHere cX4_cellHere 4 (some .boolean) 3 89 0 0 [.ref (w.1 + 161), .int (nI cell), .int (nI mn), .int (nI mx)] G I L (Ans (some (.int (bI (okF (numP T n i mn mx))))) (NPt (numP T n i mn mx) T n cell G I L)) := by
  refine AMet.of (ls0 := [some (.ref (w.1 + 161)), some (.int (nI cell)), some (.int (nI mn)), some (.int (nI mx))]) rfl (Nat.le_of_ble_eq_true rfl) rfl (fun q hq => hq) (fun X h hl hr hi => ?_)
  have hn4 := hT.2.2.1
  have hsk := skip_le (T := T) hT.2.2.2.2
  cases hD : digB T n (skip T n i) with
  | false =>
    have hnp : numP T n i mn mx = .inl (errN 0 (skip T n i)) := by unfold numP; rw [if_neg (by rw [hD]; exact Bool.false_ne_true)]
    refine aw_aload0 h dX4_cellHere_0 ?_
    refine aw_iload2 h dX4_cellHere_1 ?_
    refine aw_iload3 h dX4_cellHere_2 ?_
    refine aw_callVE2 h hl cl_X4_177 (met_m_numberHere hG hT hmn hmx) (gmt hG) rfl dX4_cellHere_3 (Nat.le_of_ble_eq_true rfl) rfl (Nat.zero_le _) (Nat.zero_le _) ?_
    rw [show (digB T n (skip T n i) && numB T n (skip T n i) mn mx) = false by rw [hD]; rfl, numM_b0 hD]
    refine aw_if_neB h (tgt := 11) dX4_cellHere_6 (by decide) (fun c6 => ?_) (fun c6 => ?_)
    · exact absurd c6 Bool.false_ne_true
    · refine aw_iconst h _ ci_0 dX4_cellHere_9 ?_
      exact aw_zret h hr dX4_cellHere_10 (by first | exact z01_0 | exact z01_1 | exact z01_b _) (⟨by rw [hnp]; rfl, rfl, by rw [hnp]; exact ⟨(CF.f (j := 8) (by decide)).trans (CF.f (j := 9) (by decide)), by show failW (I 161 9) 0 (skip T n i) = nI (errN 0 (skip T n i)); rw [h9]; rfl⟩⟩) (Nat.zero_le _) (Nat.zero_le _)
  | true =>
    cases hN : numB T n (skip T n i) mn mx with
    | false =>
      have hnp : numP T n i mn mx = .inl (errN 1 (skip T n i)) := by unfold numP; rw [if_pos hD, if_neg (by rw [hN]; exact Bool.false_ne_true)]
      refine aw_aload0 h dX4_cellHere_0 ?_
      refine aw_iload2 h dX4_cellHere_1 ?_
      refine aw_iload3 h dX4_cellHere_2 ?_
      refine aw_callVE2 h hl cl_X4_177 (met_m_numberHere hG hT hmn hmx) (gmt hG) rfl dX4_cellHere_3 (Nat.le_of_ble_eq_true rfl) rfl (Nat.zero_le _) (Nat.zero_le _) ?_
      rw [show (digB T n (skip T n i) && numB T n (skip T n i) mn mx) = false by rw [hD, hN]; rfl, numM_b1 hD hN]
      refine aw_if_neB h (tgt := 11) dX4_cellHere_6 (by decide) (fun c6 => ?_) (fun c6 => ?_)
      · exact absurd c6 Bool.false_ne_true
      · refine aw_iconst h _ ci_0 dX4_cellHere_9 ?_
        exact aw_zret h hr dX4_cellHere_10 (by first | exact z01_0 | exact z01_1 | exact z01_b _) (⟨by rw [hnp]; rfl, rfl, by rw [hnp]; exact ⟨((CF.f (j := 8) (by decide)).trans (CF.f (j := 10) (by decide))).trans (CF.f (j := 9) (by decide)), by show failW (I 161 9) 1 (skip T n i) = nI (errN 1 (skip T n i)); rw [h9]; rfl⟩⟩) (Nat.zero_le _) (Nat.zero_le _)
    | true =>
      have hnp : numP T n i mn mx = .inr ((skip T n i + drun T n (skip T n i)), numV T (skip T n i) (drun T n (skip T n i))) := by unfold numP; rw [if_pos hD, if_pos hN]
      have hln : (skip T n i + drun T n (skip T n i)) ≤ n := run_le (f := digB T n) hsk.2
      refine aw_aload0 h dX4_cellHere_0 ?_
      refine aw_iload2 h dX4_cellHere_1 ?_
      refine aw_iload3 h dX4_cellHere_2 ?_
      refine aw_callVE2 h hl cl_X4_177 (met_m_numberHere hG hT hmn hmx) (gmt hG) rfl dX4_cellHere_3 (Nat.le_of_ble_eq_true rfl) rfl (Nat.zero_le _) (Nat.zero_le _) ?_
      rw [show (digB T n (skip T n i) && numB T n (skip T n i) mn mx) = true by rw [hD, hN]; rfl, numM_ok hD hN]
      refine aw_if_neB h (tgt := 11) dX4_cellHere_6 (by decide) (fun c6 => ?_) (fun c6 => ?_)
      · refine aw_aload0 h dX4_cellHere_11 ?_
        refine aw_getr h fl_X4_26 (gmt hG) dX4_cellHere_12 rfl (gmp7 hG) ?_
        refine aw_iload1 h dX4_cellHere_15 ?_
        refine aw_aload0 h dX4_cellHere_16 ?_
        refine aw_getiV h fl_X4_125 (gmt hG) dX4_cellHere_17 rfl ((rfl : (upd2 (upd2 I 161 8 (nI (skip T n i + drun T n (skip T n i)))) 161 10 (nI (numV T (skip T n i) (drun T n (skip T n i))))) 161 10 = nI (numV T (skip T n i) (drun T n (skip T n i))))) ?_
        refine aw_iastN h (gms167 hG) (by decide) (by omega) dX4_cellHere_20 ?_
        refine aw_iconst h _ ci_1 dX4_cellHere_21 ?_
        exact aw_zret h hr dX4_cellHere_22 (by first | exact z01_0 | exact z01_1 | exact z01_b _) (⟨by rw [hnp]; rfl, rfl, by rw [hnp]; exact ⟨((CF.f (j := 8) (by decide)).trans (CF.f (j := 10) (by decide))).trans CF.r, ⟨hT.1, hT.2.1, hT.2.2.1, rfl, hln⟩, h9, rfl⟩⟩) (Nat.zero_le _) (Nat.zero_le _)
      · exact absurd c6.symm Bool.false_ne_true
theorem met_m_isCastleHere {w : Wd} {G : Gm} {I : Im} {L : Lm} (hG : GM G) {T : Nat → Int32} {n i : Nat} {K : CS} (hZ : CZ I T n i K) : AMet w yX4_isCastleHere cX4_isCastleHere 2 (some .boolean) 4 112 0 0 [.ref (w.1 + 161), .int (nI i)] G I L (Ans (some (.int (bI (okF (wcP T n i K))))) (KPt (wcP T n i K) T n G I L)) := by
  refine AMet.of (ls0 := [some (.ref (w.1 + 161)), some (.int (nI i))]) rfl (Nat.le_of_ble_eq_true rfl) rfl (fun q hq => hq) (fun X h hl hr hi => ?_)
  have hn4 := hZ.1.2.2.1
  have hln0 : i + lrun T n i ≤ n := run_le (f := letB T n) hZ.1.2.2.2.2
  have hok := hZ.2.2.2.2
  have hR8 := hok.2.1
  have hD14 := hok.2.2.1
  have hP4 := hok.2.2.2.1
  have hlay := hZ.2.2.2.1
  rcases Nat.eq_zero_or_pos (kR K) with h0 | h0
  · have hwc : wcP T n i K = match numP T n (i + lrun T n i) 2 8 with
      | .inl e => .inl e
      | .inr q => .inr (q.1, q.2, K.2) := by unfold wcP; rw [if_neg (by omega)] <;> rfl
    cases hv : numP T n (i + lrun T n i) 2 8 with
    | inl e =>
      rw [hv] at hwc
      refine aw_aload0 h dX4_isCastleHere_0 ?_
      refine aw_getr h fl_X4_26 (gmt hG) dX4_isCastleHere_1 rfl (gmp7 hG) ?_
      refine aw_iconst h _ ci_0 dX4_isCastleHere_4 ?_
      refine aw_ialdV h (gms167 hG) (by decide) (by omega) dX4_isCastleHere_5 (hlay.1) ?_
      refine aw_if_leN h (tgt := 16) (by omega) dX4_isCastleHere_6 (by decide) (fun c6 => ?_) (fun c6 => ?_)
      · refine aw_aload0 h dX4_isCastleHere_16 ?_
        refine aw_callVD0 h hl cl_X4_115 (met_m_passWord hG hZ.1) (gmt hG) rfl dX4_isCastleHere_17 (Nat.le_of_ble_eq_true rfl) rfl (Nat.zero_le _) (Nat.zero_le _) ?_
        refine aw_aload0 h dX4_isCastleHere_20 ?_
        refine aw_iconst h _ ci_0 dX4_isCastleHere_21 ?_
        refine aw_iconst h _ ci_2 dX4_isCastleHere_22 ?_
        refine aw_bipush h _ cb_8 dX4_isCastleHere_23 ?_
        refine aw_callVA3 h hl cl_X4_228 (met_m_cellHere hG (hZ.1.to hln0) hZ.2.1 (cell := 0) (mn := 2) (mx := 8) (by decide) (by decide) (by decide)) (gmt hG) rfl dX4_isCastleHere_25 (Nat.le_of_ble_eq_true rfl) rfl (Nat.zero_le _) (Nat.zero_le _) (fun G1 I1 L1 hp => ?_)
        obtain ⟨rfl, hF, hpt⟩ := hp
        rw [hv] at hpt
        rw [hv]
        exact aw_zret h hr dX4_isCastleHere_28 (by first | exact z01_0 | exact z01_1 | exact z01_b _) (⟨by rw [hwc]; rfl, rfl, by rw [hwc]; exact ⟨(CF.f (j := 8) (by decide)).trans hF, hpt⟩⟩) (Nat.zero_le _) (Nat.zero_le _)
      · exact absurd c6 (by omega)
    | inr q =>
      rw [hv] at hwc
      have hq := numP_ok hln0 hv
      refine aw_aload0 h dX4_isCastleHere_0 ?_
      refine aw_getr h fl_X4_26 (gmt hG) dX4_isCastleHere_1 rfl (gmp7 hG) ?_
      refine aw_iconst h _ ci_0 dX4_isCastleHere_4 ?_
      refine aw_ialdV h (gms167 hG) (by decide) (by omega) dX4_isCastleHere_5 (hlay.1) ?_
      refine aw_if_leN h (tgt := 16) (by omega) dX4_isCastleHere_6 (by decide) (fun c6 => ?_) (fun c6 => ?_)
      · refine aw_aload0 h dX4_isCastleHere_16 ?_
        refine aw_callVD0 h hl cl_X4_115 (met_m_passWord hG hZ.1) (gmt hG) rfl dX4_isCastleHere_17 (Nat.le_of_ble_eq_true rfl) rfl (Nat.zero_le _) (Nat.zero_le _) ?_
        refine aw_aload0 h dX4_isCastleHere_20 ?_
        refine aw_iconst h _ ci_0 dX4_isCastleHere_21 ?_
        refine aw_iconst h _ ci_2 dX4_isCastleHere_22 ?_
        refine aw_bipush h _ cb_8 dX4_isCastleHere_23 ?_
        refine aw_callVA3 h hl cl_X4_228 (met_m_cellHere hG (hZ.1.to hln0) hZ.2.1 (cell := 0) (mn := 2) (mx := 8) (by decide) (by decide) (by decide)) (gmt hG) rfl dX4_isCastleHere_25 (Nat.le_of_ble_eq_true rfl) rfl (Nat.zero_le _) (Nat.zero_le _) (fun G1 I1 L1 hp => ?_)
        obtain ⟨rfl, hF, hpt⟩ := hp
        rw [hv] at hpt
        rw [hv]
        exact aw_zret h hr dX4_isCastleHere_28 (by first | exact z01_0 | exact z01_1 | exact z01_b _) (⟨by rw [hwc]; rfl, rfl, by rw [hwc]; exact ⟨(CF.f (j := 8) (by decide)).trans hF, hpt.1, hpt.2.1, (hF.2.2 11 (by decide)).trans hZ.2.2.1, by rw [hpt.2.2]; exact hlay.castle, hok.castle h0 ⟨hq.2.2.1, hq.2.2.2⟩⟩⟩) (Nat.zero_le _) (Nat.zero_le _)
      · exact absurd c6 (by omega)
  · have hwc : wcP T n i K = .inl (errN 4 i) := by unfold wcP; rw [if_pos h0]
    refine aw_aload0 h dX4_isCastleHere_0 ?_
    refine aw_getr h fl_X4_26 (gmt hG) dX4_isCastleHere_1 rfl (gmp7 hG) ?_
    refine aw_iconst h _ ci_0 dX4_isCastleHere_4 ?_
    refine aw_ialdV h (gms167 hG) (by decide) (by omega) dX4_isCastleHere_5 (hlay.1) ?_
    refine aw_if_leN h (tgt := 16) (by omega) dX4_isCastleHere_6 (by decide) (fun c6 => ?_) (fun c6 => ?_)
    · exact absurd c6 (by omega)
    · refine aw_aload0 h dX4_isCastleHere_9 ?_
      refine aw_iconst h _ ci_4 dX4_isCastleHere_10 ?_
      refine aw_iload1 h dX4_isCastleHere_11 ?_
      refine aw_callVE2 h hl cl_X4_121 (met_m_fails hG (kd := 4) (at2 := i)) (gmt hG) rfl dX4_isCastleHere_12 (Nat.le_of_ble_eq_true rfl) rfl (Nat.zero_le _) (Nat.zero_le _) ?_
      exact aw_zret h hr dX4_isCastleHere_15 (by first | exact z01_0 | exact z01_1 | exact z01_b _) (⟨by rw [hwc]; rfl, rfl, by rw [hwc]; exact ⟨CF.f (by decide), by show failW (I 161 9) 4 i = nI (errN 4 i); rw [hZ.2.1]; rfl⟩⟩) (Nat.zero_le _) (Nat.zero_le _)
theorem met_m_isFarHere {w : Wd} {G : Gm} {I : Im} {L : Lm} (hG : GM G) {T : Nat → Int32} {n i : Nat} {K : CS} (hZ : CZ I T n i K) (hR : 2 ≤ kR K) : AMet w yX4_isFarHere cX4_isFarHere 1 (some .boolean) 4 112 0 0 [.ref (w.1 + 161)] G I L (Ans (some (.int (bI (okF (wfP T n i K))))) (KPt (wfP T n i K) T n G I L)) := by
  refine AMet.of (ls0 := [some (.ref (w.1 + 161))]) rfl (Nat.le_of_ble_eq_true rfl) rfl (fun q hq => hq) (fun X h hl hr hi => ?_)
  have hn4 := hZ.1.2.2.1
  have hln0 : i + lrun T n i ≤ n := run_le (f := letB T n) hZ.1.2.2.2.2
  have hok := hZ.2.2.2.2
  have hR8 := hok.2.1
  have hD14 := hok.2.2.1
  have hP4 := hok.2.2.2.1
  have hlay := hZ.2.2.2.1
  have hsk := skip_le (T := T) hln0
  cases hD : digB T n (skip T n (i + lrun T n i)) with
  | false =>
    have hnp : numP T n (i + lrun T n i) 0 (kR K - 1) = .inl (errN 0 (skip T n (i + lrun T n i))) := by unfold numP; rw [if_neg (by rw [hD]; exact Bool.false_ne_true)]
    have hcp : wfP T n i K = .inl (errN 0 (skip T n (i + lrun T n i))) := by unfold wfP; rw [hnp]
    refine aw_aload0 h dX4_isFarHere_0 ?_
    refine aw_callVD0 h hl cl_X4_115 (met_m_passWord hG hZ.1) (gmt hG) rfl dX4_isFarHere_1 (Nat.le_of_ble_eq_true rfl) rfl (Nat.zero_le _) (Nat.zero_le _) ?_
    refine aw_aload0 h dX4_isFarHere_4 ?_
    refine aw_iconst h _ ci_0 dX4_isFarHere_5 ?_
    refine aw_aload0 h dX4_isFarHere_6 ?_
    refine aw_getr h fl_X4_26 (gmt hG) dX4_isFarHere_7 rfl (gmp7 hG) ?_
    refine aw_iconst h _ ci_0 dX4_isFarHere_10 ?_
    refine aw_ialdV h (gms167 hG) (by decide) (by omega) dX4_isFarHere_11 (hlay.1) ?_
    refine aw_iconst h _ ci_1 dX4_isFarHere_12 ?_
    refine aw_isubN h (by omega) dX4_isFarHere_13 ?_
    refine aw_callVE2 h hl cl_X4_177 (met_m_numberHere hG (hZ.1.to hln0) (mn := 0) (mx := kR K - 1) (by decide) (by omega)) (gmt hG) rfl dX4_isFarHere_14 (Nat.le_of_ble_eq_true rfl) rfl (Nat.zero_le _) (Nat.zero_le _) ?_
    rw [show (digB T n (skip T n (i + lrun T n i)) && numB T n (skip T n (i + lrun T n i)) 0 (kR K - 1)) = false by rw [hD]; rfl, numM_b0 hD]
    refine aw_if_neB h (tgt := 22) dX4_isFarHere_17 (by decide) (fun c17 => ?_) (fun c17 => ?_)
    · exact absurd c17 Bool.false_ne_true
    · refine aw_iconst h _ ci_0 dX4_isFarHere_20 ?_
      exact aw_zret h hr dX4_isFarHere_21 (by first | exact z01_0 | exact z01_1 | exact z01_b _) (⟨by rw [hcp]; rfl, rfl, by rw [hcp]; exact ⟨((CF.f (j := 8) (by decide)).trans (CF.f (j := 8) (by decide))).trans (CF.f (j := 9) (by decide)), by show failW (I 161 9) 0 (skip T n (i + lrun T n i)) = nI (errN 0 (skip T n (i + lrun T n i))); rw [hZ.2.1]; rfl⟩⟩) (Nat.zero_le _) (Nat.zero_le _)
  | true =>
    cases hN : numB T n (skip T n (i + lrun T n i)) 0 (kR K - 1) with
    | false =>
      have hnp : numP T n (i + lrun T n i) 0 (kR K - 1) = .inl (errN 1 (skip T n (i + lrun T n i))) := by unfold numP; rw [if_pos hD, if_neg (by rw [hN]; exact Bool.false_ne_true)]
      have hcp : wfP T n i K = .inl (errN 1 (skip T n (i + lrun T n i))) := by unfold wfP; rw [hnp]
      refine aw_aload0 h dX4_isFarHere_0 ?_
      refine aw_callVD0 h hl cl_X4_115 (met_m_passWord hG hZ.1) (gmt hG) rfl dX4_isFarHere_1 (Nat.le_of_ble_eq_true rfl) rfl (Nat.zero_le _) (Nat.zero_le _) ?_
      refine aw_aload0 h dX4_isFarHere_4 ?_
      refine aw_iconst h _ ci_0 dX4_isFarHere_5 ?_
      refine aw_aload0 h dX4_isFarHere_6 ?_
      refine aw_getr h fl_X4_26 (gmt hG) dX4_isFarHere_7 rfl (gmp7 hG) ?_
      refine aw_iconst h _ ci_0 dX4_isFarHere_10 ?_
      refine aw_ialdV h (gms167 hG) (by decide) (by omega) dX4_isFarHere_11 (hlay.1) ?_
      refine aw_iconst h _ ci_1 dX4_isFarHere_12 ?_
      refine aw_isubN h (by omega) dX4_isFarHere_13 ?_
      refine aw_callVE2 h hl cl_X4_177 (met_m_numberHere hG (hZ.1.to hln0) (mn := 0) (mx := kR K - 1) (by decide) (by omega)) (gmt hG) rfl dX4_isFarHere_14 (Nat.le_of_ble_eq_true rfl) rfl (Nat.zero_le _) (Nat.zero_le _) ?_
      rw [show (digB T n (skip T n (i + lrun T n i)) && numB T n (skip T n (i + lrun T n i)) 0 (kR K - 1)) = false by rw [hD, hN]; rfl, numM_b1 hD hN]
      refine aw_if_neB h (tgt := 22) dX4_isFarHere_17 (by decide) (fun c17 => ?_) (fun c17 => ?_)
      · exact absurd c17 Bool.false_ne_true
      · refine aw_iconst h _ ci_0 dX4_isFarHere_20 ?_
        exact aw_zret h hr dX4_isFarHere_21 (by first | exact z01_0 | exact z01_1 | exact z01_b _) (⟨by rw [hcp]; rfl, rfl, by rw [hcp]; exact ⟨(((CF.f (j := 8) (by decide)).trans (CF.f (j := 8) (by decide))).trans (CF.f (j := 10) (by decide))).trans (CF.f (j := 9) (by decide)), by show failW (I 161 9) 1 (skip T n (i + lrun T n i)) = nI (errN 1 (skip T n (i + lrun T n i))); rw [hZ.2.1]; rfl⟩⟩) (Nat.zero_le _) (Nat.zero_le _)
    | true =>
      have hnp : numP T n (i + lrun T n i) 0 (kR K - 1) = .inr (((skip T n (i + lrun T n i)) + drun T n (skip T n (i + lrun T n i))), numV T (skip T n (i + lrun T n i)) (drun T n (skip T n (i + lrun T n i)))) := by unfold numP; rw [if_pos hD, if_pos hN]
      have hq := numP_ok hln0 hnp
      have hq2 : ((skip T n (i + lrun T n i)) + drun T n (skip T n (i + lrun T n i))) ≤ n := hq.2.1
      have hq4 : numV T (skip T n (i + lrun T n i)) (drun T n (skip T n (i + lrun T n i))) ≤ kR K - 1 := hq.2.2.2
      have hT2 : TPE (upd2 (upd2 (upd2 I 161 8 (nI (i + lrun T n i))) 161 8 (nI ((skip T n (i + lrun T n i)) + drun T n (skip T n (i + lrun T n i))))) 161 10 (nI (numV T (skip T n (i + lrun T n i)) (drun T n (skip T n (i + lrun T n i)))))) T n ((skip T n (i + lrun T n i)) + drun T n (skip T n (i + lrun T n i))) := ⟨hZ.1.1, hZ.1.2.1, hZ.1.2.2.1, rfl, hq2⟩
      have hcp : wfP T n i K = match numP T n ((skip T n (i + lrun T n i)) + drun T n (skip T n (i + lrun T n i))) 0 9 with
        | .inl e => .inl e
        | .inr v => .inr (v.1, kR K, va_up (kF K) (numV T (skip T n (i + lrun T n i)) (drun T n (skip T n (i + lrun T n i)))) v.2, kD K, kN K, kP K) := by unfold wfP; rw [hnp] <;> rfl
      generalize hvv : numV T (skip T n (i + lrun T n i)) (drun T n (skip T n (i + lrun T n i))) = y at *
      generalize hpp : ((skip T n (i + lrun T n i)) + drun T n (skip T n (i + lrun T n i))) = z at *
      cases hv : numP T n z 0 9 with
      | inl e =>
        rw [hv] at hcp
        refine aw_aload0 h dX4_isFarHere_0 ?_
        refine aw_callVD0 h hl cl_X4_115 (met_m_passWord hG hZ.1) (gmt hG) rfl dX4_isFarHere_1 (Nat.le_of_ble_eq_true rfl) rfl (Nat.zero_le _) (Nat.zero_le _) ?_
        refine aw_aload0 h dX4_isFarHere_4 ?_
        refine aw_iconst h _ ci_0 dX4_isFarHere_5 ?_
        refine aw_aload0 h dX4_isFarHere_6 ?_
        refine aw_getr h fl_X4_26 (gmt hG) dX4_isFarHere_7 rfl (gmp7 hG) ?_
        refine aw_iconst h _ ci_0 dX4_isFarHere_10 ?_
        refine aw_ialdV h (gms167 hG) (by decide) (by omega) dX4_isFarHere_11 (hlay.1) ?_
        refine aw_iconst h _ ci_1 dX4_isFarHere_12 ?_
        refine aw_isubN h (by omega) dX4_isFarHere_13 ?_
        refine aw_callVE2 h hl cl_X4_177 (met_m_numberHere hG (hZ.1.to hln0) (mn := 0) (mx := kR K - 1) (by decide) (by omega)) (gmt hG) rfl dX4_isFarHere_14 (Nat.le_of_ble_eq_true rfl) rfl (Nat.zero_le _) (Nat.zero_le _) ?_
        rw [show (digB T n (skip T n (i + lrun T n i)) && numB T n (skip T n (i + lrun T n i)) 0 (kR K - 1)) = true by rw [hD, hN]; rfl, numM_ok hD hN, hvv, hpp]
        refine aw_if_neB h (tgt := 22) dX4_isFarHere_17 (by decide) (fun c17 => ?_) (fun c17 => ?_)
        · refine aw_aload0 h dX4_isFarHere_22 ?_
          refine aw_bipush h _ cb_34 dX4_isFarHere_23 ?_
          refine aw_aload0 h dX4_isFarHere_25 ?_
          refine aw_getiV h fl_X4_125 (gmt hG) dX4_isFarHere_26 rfl ((rfl : (upd2 (upd2 (upd2 I 161 8 (nI (i + lrun T n i))) 161 8 (nI z)) 161 10 (nI y)) 161 10 = nI y)) ?_
          refine aw_iaddN h dX4_isFarHere_29 ?_
          refine aw_iconst h _ ci_0 dX4_isFarHere_30 ?_
          refine aw_bipush h _ cb_9 dX4_isFarHere_31 ?_
          refine aw_callVA3 h hl cl_X4_228 (met_m_cellHere hG hT2 hZ.2.1 (cell := 34 + y) (mn := 0) (mx := 9) (by omega) (by decide) (by decide)) (gmt hG) rfl dX4_isFarHere_33 (Nat.le_of_ble_eq_true rfl) rfl (Nat.zero_le _) (Nat.zero_le _) (fun G1 I1 L1 hp => ?_)
          obtain ⟨rfl, hF, hpt⟩ := hp
          rw [hv] at hpt
          rw [hv]
          exact aw_zret h hr dX4_isFarHere_36 (by first | exact z01_0 | exact z01_1 | exact z01_b _) (⟨by rw [hcp]; rfl, rfl, by rw [hcp]; exact ⟨(((CF.f (j := 8) (by decide)).trans (CF.f (j := 8) (by decide))).trans (CF.f (j := 10) (by decide))).trans hF, hpt⟩⟩) (Nat.zero_le _) (Nat.zero_le _)
        · exact absurd c17.symm Bool.false_ne_true
      | inr u =>
        rw [hv] at hcp
        have hu := numP_ok hq2 hv
        refine aw_aload0 h dX4_isFarHere_0 ?_
        refine aw_callVD0 h hl cl_X4_115 (met_m_passWord hG hZ.1) (gmt hG) rfl dX4_isFarHere_1 (Nat.le_of_ble_eq_true rfl) rfl (Nat.zero_le _) (Nat.zero_le _) ?_
        refine aw_aload0 h dX4_isFarHere_4 ?_
        refine aw_iconst h _ ci_0 dX4_isFarHere_5 ?_
        refine aw_aload0 h dX4_isFarHere_6 ?_
        refine aw_getr h fl_X4_26 (gmt hG) dX4_isFarHere_7 rfl (gmp7 hG) ?_
        refine aw_iconst h _ ci_0 dX4_isFarHere_10 ?_
        refine aw_ialdV h (gms167 hG) (by decide) (by omega) dX4_isFarHere_11 (hlay.1) ?_
        refine aw_iconst h _ ci_1 dX4_isFarHere_12 ?_
        refine aw_isubN h (by omega) dX4_isFarHere_13 ?_
        refine aw_callVE2 h hl cl_X4_177 (met_m_numberHere hG (hZ.1.to hln0) (mn := 0) (mx := kR K - 1) (by decide) (by omega)) (gmt hG) rfl dX4_isFarHere_14 (Nat.le_of_ble_eq_true rfl) rfl (Nat.zero_le _) (Nat.zero_le _) ?_
        rw [show (digB T n (skip T n (i + lrun T n i)) && numB T n (skip T n (i + lrun T n i)) 0 (kR K - 1)) = true by rw [hD, hN]; rfl, numM_ok hD hN, hvv, hpp]
        refine aw_if_neB h (tgt := 22) dX4_isFarHere_17 (by decide) (fun c17 => ?_) (fun c17 => ?_)
        · refine aw_aload0 h dX4_isFarHere_22 ?_
          refine aw_bipush h _ cb_34 dX4_isFarHere_23 ?_
          refine aw_aload0 h dX4_isFarHere_25 ?_
          refine aw_getiV h fl_X4_125 (gmt hG) dX4_isFarHere_26 rfl ((rfl : (upd2 (upd2 (upd2 I 161 8 (nI (i + lrun T n i))) 161 8 (nI z)) 161 10 (nI y)) 161 10 = nI y)) ?_
          refine aw_iaddN h dX4_isFarHere_29 ?_
          refine aw_iconst h _ ci_0 dX4_isFarHere_30 ?_
          refine aw_bipush h _ cb_9 dX4_isFarHere_31 ?_
          refine aw_callVA3 h hl cl_X4_228 (met_m_cellHere hG hT2 hZ.2.1 (cell := 34 + y) (mn := 0) (mx := 9) (by omega) (by decide) (by decide)) (gmt hG) rfl dX4_isFarHere_33 (Nat.le_of_ble_eq_true rfl) rfl (Nat.zero_le _) (Nat.zero_le _) (fun G1 I1 L1 hp => ?_)
          obtain ⟨rfl, hF, hpt⟩ := hp
          rw [hv] at hpt
          rw [hv]
          exact aw_zret h hr dX4_isFarHere_36 (by first | exact z01_0 | exact z01_1 | exact z01_b _) (⟨by rw [hcp]; rfl, rfl, by rw [hcp]; exact ⟨(((CF.f (j := 8) (by decide)).trans (CF.f (j := 8) (by decide))).trans (CF.f (j := 10) (by decide))).trans hF, hpt.1, hpt.2.1, (hF.2.2 11 (by decide)).trans hZ.2.2.1, by rw [hpt.2.2]; exact hlay.far (by omega) hP4, hok.far hu.2.2.2⟩⟩) (Nat.zero_le _) (Nat.zero_le _)
        · exact absurd c17.symm Bool.false_ne_true
theorem met_m_isNightHere {w : Wd} {G : Gm} {I : Im} {L : Lm} (hG : GM G) {T : Nat → Int32} {n i : Nat} {K : CS} (hZ : CZ I T n i K) : AMet w yX4_isNightHere cX4_isNightHere 2 (some .boolean) 4 112 0 0 [.ref (w.1 + 161), .int (nI i)] G I L (Ans (some (.int (bI (okF (wnP T n i K))))) (KPt (wnP T n i K) T n G I L)) := by
  refine AMet.of (ls0 := [some (.ref (w.1 + 161)), some (.int (nI i))]) rfl (Nat.le_of_ble_eq_true rfl) rfl (fun q hq => hq) (fun X h hl hr hi => ?_)
  have hn4 := hZ.1.2.2.1
  have hln0 : i + lrun T n i ≤ n := run_le (f := letB T n) hZ.1.2.2.2.2
  have hok := hZ.2.2.2.2
  have hR8 := hok.2.1
  have hD14 := hok.2.2.1
  have hP4 := hok.2.2.2.1
  have hlay := hZ.2.2.2.1
  have hlN := hlay.2.2.2.2.1
  cases hn : kN K with
  | some q0 =>
    rw [hn] at hlN
    have hb := hok.2.2.2.2.2.2.1 q0 hn
    have hcp : wnP T n i K = .inl (errN 4 i) := by unfold wnP; rw [if_pos (by rw [hn]; rfl)]
    refine aw_aload0 h dX4_isNightHere_0 ?_
    refine aw_getr h fl_X4_26 (gmt hG) dX4_isNightHere_1 rfl (gmp7 hG) ?_
    refine aw_iconst h _ ci_4 dX4_isNightHere_4 ?_
    refine aw_ialdV h (gms167 hG) (by decide) (by omega) dX4_isNightHere_5 (hlN.1) ?_
    refine aw_if_ltN h (tgt := 16) (by omega) dX4_isNightHere_6 (by decide) (fun c6 => ?_) (fun c6 => ?_)
    · exact absurd c6 (by omega)
    · refine aw_aload0 h dX4_isNightHere_9 ?_
      refine aw_iconst h _ ci_4 dX4_isNightHere_10 ?_
      refine aw_iload1 h dX4_isNightHere_11 ?_
      refine aw_callVE2 h hl cl_X4_121 (met_m_fails hG (kd := 4) (at2 := i)) (gmt hG) rfl dX4_isNightHere_12 (Nat.le_of_ble_eq_true rfl) rfl (Nat.zero_le _) (Nat.zero_le _) ?_
      exact aw_zret h hr dX4_isNightHere_15 (by first | exact z01_0 | exact z01_1 | exact z01_b _) (⟨by rw [hcp]; rfl, rfl, by rw [hcp]; exact ⟨CF.f (by decide), by show failW (I 161 9) 4 i = nI (errN 4 i); rw [hZ.2.1]; rfl⟩⟩) (Nat.zero_le _) (Nat.zero_le _)
  | none =>
    rw [hn] at hlN
    have hcp : wnP T n i K = match numP T n (i + lrun T n i) 0 23 with
      | .inl e => .inl e
      | .inr q => match numP T n q.1 q.2 23 with
        | .inl e => .inl e
        | .inr v => .inr (v.1, kR K, kF K, kD K, some (q.2, v.2), kP K) := by unfold wnP; rw [if_neg (by rw [hn]; exact Bool.false_ne_true)] <;> rfl
    cases hv : numP T n (i + lrun T n i) 0 23 with
    | inl e =>
      rw [hv] at hcp
      refine aw_aload0 h dX4_isNightHere_0 ?_
      refine aw_getr h fl_X4_26 (gmt hG) dX4_isNightHere_1 rfl (gmp7 hG) ?_
      refine aw_iconst h _ ci_4 dX4_isNightHere_4 ?_
      refine aw_ialdV h (gms167 hG) (by decide) (by omega) dX4_isNightHere_5 (hlN.1) ?_
      refine aw_if_lt h (tgt := 16) dX4_isNightHere_6 (by decide) (fun c6 => ?_) (fun c6 => ?_)
      · refine aw_aload0 h dX4_isNightHere_16 ?_
        refine aw_callVD0 h hl cl_X4_115 (met_m_passWord hG hZ.1) (gmt hG) rfl dX4_isNightHere_17 (Nat.le_of_ble_eq_true rfl) rfl (Nat.zero_le _) (Nat.zero_le _) ?_
        refine aw_aload0 h dX4_isNightHere_20 ?_
        refine aw_iconst h _ ci_4 dX4_isNightHere_21 ?_
        refine aw_iconst h _ ci_0 dX4_isNightHere_22 ?_
        refine aw_bipush h _ cb_23 dX4_isNightHere_23 ?_
        refine aw_callVA3 h hl cl_X4_228 (met_m_cellHere hG (hZ.1.to hln0) hZ.2.1 (cell := 4) (mn := 0) (mx := 23) (by decide) (by decide) (by decide)) (gmt hG) rfl dX4_isNightHere_25 (Nat.le_of_ble_eq_true rfl) rfl (Nat.zero_le _) (Nat.zero_le _) (fun G1 I1 L1 hp => ?_)
        obtain ⟨rfl, hF, hpt⟩ := hp
        rw [hv] at hpt
        rw [hv]
        refine aw_if_eqB h (tgt := 51) dX4_isNightHere_28 (by decide) (fun c28 => ?_) (fun c28 => ?_)
        · refine aw_iconst h _ ci_0 dX4_isNightHere_51 ?_
          exact aw_zret h hr dX4_isNightHere_52 (by first | exact z01_0 | exact z01_1 | exact z01_b _) (⟨by rw [hcp]; rfl, rfl, by rw [hcp]; exact ⟨(CF.f (j := 8) (by decide)).trans hF, hpt⟩⟩) (Nat.zero_le _) (Nat.zero_le _)
        · exact absurd c28 Bool.false_ne_true
      · exact absurd (by decide) c6
    | inr q =>
      rw [hv] at hcp
      dsimp only at hcp
      have hq := numP_ok hln0 hv
      cases hv2 : numP T n q.1 q.2 23 with
      | inl e =>
        rw [hv2] at hcp
        refine aw_aload0 h dX4_isNightHere_0 ?_
        refine aw_getr h fl_X4_26 (gmt hG) dX4_isNightHere_1 rfl (gmp7 hG) ?_
        refine aw_iconst h _ ci_4 dX4_isNightHere_4 ?_
        refine aw_ialdV h (gms167 hG) (by decide) (by omega) dX4_isNightHere_5 (hlN.1) ?_
        refine aw_if_lt h (tgt := 16) dX4_isNightHere_6 (by decide) (fun c6 => ?_) (fun c6 => ?_)
        · refine aw_aload0 h dX4_isNightHere_16 ?_
          refine aw_callVD0 h hl cl_X4_115 (met_m_passWord hG hZ.1) (gmt hG) rfl dX4_isNightHere_17 (Nat.le_of_ble_eq_true rfl) rfl (Nat.zero_le _) (Nat.zero_le _) ?_
          refine aw_aload0 h dX4_isNightHere_20 ?_
          refine aw_iconst h _ ci_4 dX4_isNightHere_21 ?_
          refine aw_iconst h _ ci_0 dX4_isNightHere_22 ?_
          refine aw_bipush h _ cb_23 dX4_isNightHere_23 ?_
          refine aw_callVA3 h hl cl_X4_228 (met_m_cellHere hG (hZ.1.to hln0) hZ.2.1 (cell := 4) (mn := 0) (mx := 23) (by decide) (by decide) (by decide)) (gmt hG) rfl dX4_isNightHere_25 (Nat.le_of_ble_eq_true rfl) rfl (Nat.zero_le _) (Nat.zero_le _) (fun G1 I1 L1 hp => ?_)
          obtain ⟨rfl, hF, hpt⟩ := hp
          rw [hv] at hpt
          rw [hv]
          refine aw_if_eqB h (tgt := 51) dX4_isNightHere_28 (by decide) (fun c28 => ?_) (fun c28 => ?_)
          · exact absurd c28.symm Bool.false_ne_true
          · refine aw_aload0 h dX4_isNightHere_31 ?_
            refine aw_iconst h _ ci_5 dX4_isNightHere_32 ?_
            refine aw_aload0 h dX4_isNightHere_33 ?_
            refine aw_getr h fl_X4_26 (gmt hG) dX4_isNightHere_34 rfl (gmp7 hG) ?_
            refine aw_iconst h _ ci_4 dX4_isNightHere_37 ?_
            refine aw_ialdV h (gms167 hG) (by decide) (by omega) dX4_isNightHere_38 ((congrFun hpt.2.2 4).trans (vup_s _ _ _)) ?_
            refine aw_bipush h _ cb_23 dX4_isNightHere_39 ?_
            refine aw_callVA3 h hl cl_X4_228 (met_m_cellHere hG hpt.1 hpt.2.1 (cell := 5) (mn := q.2) (mx := 23) (by decide) (by omega) (by decide)) (gmt hG) rfl dX4_isNightHere_41 (Nat.le_of_ble_eq_true rfl) rfl (Nat.zero_le _) (Nat.zero_le _) (fun G1 I2 L2 hp => ?_)
            obtain ⟨rfl, hF2, hpt2⟩ := hp
            rw [hv2] at hpt2
            rw [hv2]
            refine aw_if_eqB h (tgt := 51) dX4_isNightHere_44 (by decide) (fun c44 => ?_) (fun c44 => ?_)
            · refine aw_iconst h _ ci_0 dX4_isNightHere_51 ?_
              exact aw_zret h hr dX4_isNightHere_52 (by first | exact z01_0 | exact z01_1 | exact z01_b _) (⟨by rw [hcp]; rfl, rfl, by rw [hcp]; exact ⟨((CF.f (j := 8) (by decide)).trans hF).trans hF2, hpt2⟩⟩) (Nat.zero_le _) (Nat.zero_le _)
            · exact absurd c44 Bool.false_ne_true
        · exact absurd (by decide) c6
      | inr u =>
        rw [hv2] at hcp
        have hu := numP_ok hq.2.1 hv2
        refine aw_aload0 h dX4_isNightHere_0 ?_
        refine aw_getr h fl_X4_26 (gmt hG) dX4_isNightHere_1 rfl (gmp7 hG) ?_
        refine aw_iconst h _ ci_4 dX4_isNightHere_4 ?_
        refine aw_ialdV h (gms167 hG) (by decide) (by omega) dX4_isNightHere_5 (hlN.1) ?_
        refine aw_if_lt h (tgt := 16) dX4_isNightHere_6 (by decide) (fun c6 => ?_) (fun c6 => ?_)
        · refine aw_aload0 h dX4_isNightHere_16 ?_
          refine aw_callVD0 h hl cl_X4_115 (met_m_passWord hG hZ.1) (gmt hG) rfl dX4_isNightHere_17 (Nat.le_of_ble_eq_true rfl) rfl (Nat.zero_le _) (Nat.zero_le _) ?_
          refine aw_aload0 h dX4_isNightHere_20 ?_
          refine aw_iconst h _ ci_4 dX4_isNightHere_21 ?_
          refine aw_iconst h _ ci_0 dX4_isNightHere_22 ?_
          refine aw_bipush h _ cb_23 dX4_isNightHere_23 ?_
          refine aw_callVA3 h hl cl_X4_228 (met_m_cellHere hG (hZ.1.to hln0) hZ.2.1 (cell := 4) (mn := 0) (mx := 23) (by decide) (by decide) (by decide)) (gmt hG) rfl dX4_isNightHere_25 (Nat.le_of_ble_eq_true rfl) rfl (Nat.zero_le _) (Nat.zero_le _) (fun G1 I1 L1 hp => ?_)
          obtain ⟨rfl, hF, hpt⟩ := hp
          rw [hv] at hpt
          rw [hv]
          refine aw_if_eqB h (tgt := 51) dX4_isNightHere_28 (by decide) (fun c28 => ?_) (fun c28 => ?_)
          · exact absurd c28.symm Bool.false_ne_true
          · refine aw_aload0 h dX4_isNightHere_31 ?_
            refine aw_iconst h _ ci_5 dX4_isNightHere_32 ?_
            refine aw_aload0 h dX4_isNightHere_33 ?_
            refine aw_getr h fl_X4_26 (gmt hG) dX4_isNightHere_34 rfl (gmp7 hG) ?_
            refine aw_iconst h _ ci_4 dX4_isNightHere_37 ?_
            refine aw_ialdV h (gms167 hG) (by decide) (by omega) dX4_isNightHere_38 ((congrFun hpt.2.2 4).trans (vup_s _ _ _)) ?_
            refine aw_bipush h _ cb_23 dX4_isNightHere_39 ?_
            refine aw_callVA3 h hl cl_X4_228 (met_m_cellHere hG hpt.1 hpt.2.1 (cell := 5) (mn := q.2) (mx := 23) (by decide) (by omega) (by decide)) (gmt hG) rfl dX4_isNightHere_41 (Nat.le_of_ble_eq_true rfl) rfl (Nat.zero_le _) (Nat.zero_le _) (fun G1 I2 L2 hp => ?_)
            obtain ⟨rfl, hF2, hpt2⟩ := hp
            rw [hv2] at hpt2
            rw [hv2]
            refine aw_if_eqB h (tgt := 51) dX4_isNightHere_44 (by decide) (fun c44 => ?_) (fun c44 => ?_)
            · exact absurd c44.symm Bool.false_ne_true
            · refine aw_iconst h _ ci_1 dX4_isNightHere_47 ?_
              refine aw_goto h (tgt := 52) dX4_isNightHere_48 (by decide) ?_
              exact aw_zret h hr dX4_isNightHere_52 (by first | exact z01_0 | exact z01_1 | exact z01_b _) (⟨by rw [hcp]; rfl, rfl, by rw [hcp]; exact ⟨((CF.f (j := 8) (by decide)).trans hF).trans hF2, hpt2.1, hpt2.2.1, ((hF2.2.2 11 (by decide)).trans (hF.2.2 11 (by decide))).trans hZ.2.2.1, hlay.night hP4 (by rw [hpt2.2.2, vup_n _ _ (by decide), hpt.2.2, vup_s]) (by rw [hpt2.2.2, vup_s]) (fun j h4 h5 => by rw [hpt2.2.2, vup_n _ _ h5, hpt.2.2, vup_n _ _ h4] <;> rfl), hok.night ⟨hu.2.2.1, hu.2.2.2⟩⟩⟩) (Nat.zero_le _) (Nat.zero_le _)
        · exact absurd (by decide) c6
