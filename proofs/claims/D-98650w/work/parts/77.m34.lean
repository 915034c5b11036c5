/-! The reference's parser: clauses of a castle -/
set_option maxRecDepth 100000
def CL : Nat → Int64
  | 0 => lN 109270199987301
  | 1 => lN 6709618
  | 2 => lN 1685024626
  | 3 => lN 131294707347319
  | 4 => lN 474214787188
  | _ => lN 123581014175598
def cwB (T : Nat → Int32) (n j k : Nat) : Bool := wordB T n j (CL k)
def isCW (T : Nat → Int32) (n j : Nat) : Bool := cwB T n j 0 || (cwB T n j 1 || (cwB T n j 2 || (cwB T n j 3 || (cwB T n j 4 || cwB T n j 5))))
def clP (T : Nat → Int32) (n i : Nat) (K : CS) : CRes := if cwB T n i 0 = true then wcP T n i K else if kR K = 0 then .inl (errN 4 i) else if cwB T n i 1 = true then wfP T n i K else if cwB T n i 2 = true then wdP T n i 0 K else if cwB T n i 3 = true then wdP T n i 1 K else if cwB T n i 4 = true then wnP T n i K else wpP T n i K
/-- a clause of a castle: how many there are already -/
def ccP (T : Nat → Int32) (n i ln : Nat) (K : CS) : CRes := if isCW T n (skip T n i) = true then (if ln = 40 then .inl (errN 4 (skip T n i)) else clP T n (skip T n i) K) else .inl (errN 0 (skip T n i))
def gcP (T : Nat → Int32) (n i ln md : Nat) : Sum Nat (Nat × Nat × Cl) := if goB T n (skip T n i) = true then (if ln = 12 then .inl (errN 4 (skip T n i)) else goP T n (skip T n i) md) else .inl (errN 0 (skip T n i))
def CG (I : Im) (L : Lm) (I1 : Im) (L1 : Lm) : Prop := L = L1 ∧ (∀ m, m ≠ 161 → m ≠ 167 → I1 m = I m) ∧ ∀ j, j ∉ [8, 9, 10, 14] → I1 161 j = I 161 j
theorem CG.rf {I : Im} {L : Lm} : CG I L I L := ⟨rfl, fun _ _ _ => rfl, fun _ _ => rfl⟩
theorem CG.trans {I I1 I2 : Im} {L L1 L2 : Lm} (h : CG I L I1 L1) (h2 : CG I1 L1 I2 L2) : CG I L I2 L2 := ⟨h.1.trans h2.1, fun m a b => (h2.2.1 m a b).trans (h.2.1 m a b), fun j a => (h2.2.2 j a).trans (h.2.2 j a)⟩
theorem CG.f {j : Nat} {I : Im} {L : Lm} {x : Int32} (h : j ∈ [8, 9, 10, 14]) : CG I L (upd2 I 161 j x) L := by
  refine ⟨rfl, fun m a _ => vup_n _ _ a, fun q hq => ?_⟩
  show va_up (I 161) j x q = _
  exact vup_n _ _ (fun e => hq (e ▸ h))
theorem CF.toG {I I1 : Im} {L L1 : Lm} (h : CF I L I1 L1) : CG I L I1 L1 := ⟨h.1, h.2.1, fun j hj => h.2.2 j (fun q => hj (by simp at q ⊢; omega))⟩
def PFS (t : Nat) (I : Im) (L : Lm) (I1 : Im) (L1 : Lm) : Prop := L = L1 ∧ (∀ m, m ∉ [161, 163, 164, 165, 166, 168] → I1 m = I m) ∧ (∀ j, j ∉ [8, 9, 10, 12, 13, 14, 16] → I1 161 j = I 161 j) ∧ (∀ j, j < 400 * t → I1 163 j = I 163 j) ∧ (∀ j, j ≠ t → I1 164 j = I 164 j) ∧ (∀ j, j < 48 * t → I1 165 j = I 165 j) ∧ ∀ j, j ≠ t → I1 166 j = I 166 j
theorem PFS.rf {t : Nat} {I : Im} {L : Lm} : PFS t I L I L := ⟨rfl, fun _ _ => rfl, fun _ _ => rfl, fun _ _ => rfl, fun _ _ => rfl, fun _ _ => rfl, fun _ _ => rfl⟩
theorem PFS.trans {t : Nat} {I I1 I2 : Im} {L L1 L2 : Lm} (h : PFS t I L I1 L1) (h2 : PFS t I1 L1 I2 L2) : PFS t I L I2 L2 := ⟨h.1.trans h2.1, fun m a => (h2.2.1 m a).trans (h.2.1 m a), fun j a => (h2.2.2.1 j a).trans (h.2.2.1 j a), fun j a => (h2.2.2.2.1 j a).trans (h.2.2.2.1 j a), fun j a => (h2.2.2.2.2.1 j a).trans (h.2.2.2.2.1 j a), fun j a => (h2.2.2.2.2.2.1 j a).trans (h.2.2.2.2.2.1 j a), fun j a => (h2.2.2.2.2.2.2 j a).trans (h.2.2.2.2.2.2 j a)⟩
theorem PFS.f {t j : Nat} {I : Im} {L : Lm} {x : Int32} (h : j ∈ [8, 9, 10, 12, 13, 14, 16]) : PFS t I L (upd2 I 161 j x) L := by
  refine ⟨rfl, fun m a => vup_n _ _ (fun e => a (by rw [e]; decide)), fun q hq => ?_, fun _ _ => rfl, fun _ _ => rfl, fun _ _ => rfl, fun _ _ => rfl⟩
  show va_up (I 161) j x q = _
  exact vup_n _ _ (fun e => hq (e ▸ h))
theorem PFR.toS {t : Nat} {I I1 : Im} {L L1 : Lm} (h : PFR t I L I1 L1) : PFS t I L I1 L1 := ⟨h.1, h.2.1, fun j hj => h.2.2.1 j (fun q => hj (by simp at q ⊢; omega)), h.2.2.2⟩
def LPt (r : CRes) (T : Nat → Int32) (n ln : Nat) (G : Gm) (I : Im) (L : Lm) : Gm → Im → Lm → Prop := fun G1 I1 L1 => G = G1 ∧ CG I L I1 L1 ∧ match r with
  | .inl e => I1 161 9 = nI e
  | .inr q => CZ I1 T n q.1 q.2 ∧ I1 161 14 = nI (ln + 1) ∧ ln < 40
def MPt (r : Sum Nat (Nat × Nat × Cl)) (T : Nat → Int32) (n t c : Nat) (cs : List Sg) (G : Gm) (I : Im) (L : Lm) : Gm → Im → Lm → Prop := fun G1 I1 L1 => G = G1 ∧ PFS t I L I1 L1 ∧ match r with
  | .inl e => I1 161 9 = nI e
  | .inr x => (PZ I1 T n t x.1 x.2.1 (cs ++ clC x.2.2) ∧ ClP I1 t c x.2.2 (cs ++ clC x.2.2).length ∧ I1 166 t = nI (c + 1) ∧ (∀ j, j < 48 * t + 4 * c → I1 165 j = I 165 j) ∧ (cs ++ clC x.2.2).length ≤ x.1) ∧ I1 161 14 = nI (c + 1) ∧ c < 12
theorem CZ.at {I : Im} {T : Nat → Int32} {n i j : Nat} {K : CS} (h : CZ I T n i K) (hj : j ≤ n) : CZ (upd2 I 161 8 (nI j)) T n j K := ⟨h.1.to hj, h.2.1, h.2.2.1, h.2.2.2⟩
theorem met_m_isCastleWord {w : Wd} {G : Gm} {I : Im} {L : Lm} (hG : GM G) {T : Nat → Int32} {n i : Nat} (hT : TPE I T n i) (hj : skip T n i = i) : AMet w yX4_isCastleWord cX4_isCastleWord 1 (some .boolean) 3 86 0 0 [.ref (w.1 + 161)] G I L (Exact (some (.int (bI (isCW T n i)))) G I L) := by
  refine AMet.of (ls0 := [some (.ref (w.1 + 161))]) rfl (Nat.le_of_ble_eq_true rfl) rfl (fun q hq => hq) (fun X h hl hr hi => ?_)
  refine aw_aload0 h dX4_isCastleWord_0 ?_
  refine aw_ldc2 h (v := lN 109270199987301) q1523 dX4_isCastleWord_1 ?_
  refine aw_callVE1 h hl cl_X4_111 (met_m_isWord0 hG hT hj (wd := CL 0)) (gmt hG) rfl dX4_isCastleWord_4 (Nat.le_of_ble_eq_true rfl) rfl (Nat.zero_le _) (Nat.zero_le _) ?_
  refine aw_if_neB h (tgt := 60) dX4_isCastleWord_7 (by decide) (fun c7 => ?_) (fun c7 => ?_)
  · refine aw_iconst h _ ci_1 dX4_isCastleWord_60 ?_
    refine aw_goto h (tgt := 65) dX4_isCastleWord_61 (by decide) ?_
    exact aw_zret h hr dX4_isCastleWord_65 (by first | exact z01_0 | exact z01_1 | exact z01_b _) (ExB1 (by unfold isCW cwB; rw [c7]; simp)) (Nat.zero_le _) (Nat.zero_le _)
  · refine aw_aload0 h dX4_isCastleWord_10 ?_
    refine aw_ldc2 h (v := lN 6709618) q1532 dX4_isCastleWord_11 ?_
    refine aw_callVE1 h hl cl_X4_111 (met_m_isWord0 hG hT hj (wd := CL 1)) (gmt hG) rfl dX4_isCastleWord_14 (Nat.le_of_ble_eq_true rfl) rfl (Nat.zero_le _) (Nat.zero_le _) ?_
    refine aw_if_neB h (tgt := 60) dX4_isCastleWord_17 (by decide) (fun c17 => ?_) (fun c17 => ?_)
    · refine aw_iconst h _ ci_1 dX4_isCastleWord_60 ?_
      refine aw_goto h (tgt := 65) dX4_isCastleWord_61 (by decide) ?_
      exact aw_zret h hr dX4_isCastleWord_65 (by first | exact z01_0 | exact z01_1 | exact z01_b _) (ExB1 (by unfold isCW cwB; rw [c17]; simp)) (Nat.zero_le _) (Nat.zero_le _)
    · refine aw_aload0 h dX4_isCastleWord_20 ?_
      refine aw_ldc2 h (v := lN 1685024626) q1533 dX4_isCastleWord_21 ?_
      refine aw_callVE1 h hl cl_X4_111 (met_m_isWord0 hG hT hj (wd := CL 2)) (gmt hG) rfl dX4_isCastleWord_24 (Nat.le_of_ble_eq_true rfl) rfl (Nat.zero_le _) (Nat.zero_le _) ?_
      refine aw_if_neB h (tgt := 60) dX4_isCastleWord_27 (by decide) (fun c27 => ?_) (fun c27 => ?_)
      · refine aw_iconst h _ ci_1 dX4_isCastleWord_60 ?_
        refine aw_goto h (tgt := 65) dX4_isCastleWord_61 (by decide) ?_
        exact aw_zret h hr dX4_isCastleWord_65 (by first | exact z01_0 | exact z01_1 | exact z01_b _) (ExB1 (by unfold isCW cwB; rw [c27]; simp)) (Nat.zero_le _) (Nat.zero_le _)
      · refine aw_aload0 h dX4_isCastleWord_30 ?_
        refine aw_ldc2 h (v := lN 131294707347319) q1534 dX4_isCastleWord_31 ?_
        refine aw_callVE1 h hl cl_X4_111 (met_m_isWord0 hG hT hj (wd := CL 3)) (gmt hG) rfl dX4_isCastleWord_34 (Nat.le_of_ble_eq_true rfl) rfl (Nat.zero_le _) (Nat.zero_le _) ?_
        refine aw_if_neB h (tgt := 60) dX4_isCastleWord_37 (by decide) (fun c37 => ?_) (fun c37 => ?_)
        · refine aw_iconst h _ ci_1 dX4_isCastleWord_60 ?_
          refine aw_goto h (tgt := 65) dX4_isCastleWord_61 (by decide) ?_
          exact aw_zret h hr dX4_isCastleWord_65 (by first | exact z01_0 | exact z01_1 | exact z01_b _) (ExB1 (by unfold isCW cwB; rw [c37]; simp)) (Nat.zero_le _) (Nat.zero_le _)
        · refine aw_aload0 h dX4_isCastleWord_40 ?_
          refine aw_ldc2 h (v := lN 474214787188) q1535 dX4_isCastleWord_41 ?_
          refine aw_callVE1 h hl cl_X4_111 (met_m_isWord0 hG hT hj (wd := CL 4)) (gmt hG) rfl dX4_isCastleWord_44 (Nat.le_of_ble_eq_true rfl) rfl (Nat.zero_le _) (Nat.zero_le _) ?_
          refine aw_if_neB h (tgt := 60) dX4_isCastleWord_47 (by decide) (fun c47 => ?_) (fun c47 => ?_)
          · refine aw_iconst h _ ci_1 dX4_isCastleWord_60 ?_
            refine aw_goto h (tgt := 65) dX4_isCastleWord_61 (by decide) ?_
            exact aw_zret h hr dX4_isCastleWord_65 (by first | exact z01_0 | exact z01_1 | exact z01_b _) (ExB1 (by unfold isCW cwB; rw [c47]; simp)) (Nat.zero_le _) (Nat.zero_le _)
          · refine aw_aload0 h dX4_isCastleWord_50 ?_
            refine aw_ldc2 h (v := lN 123581014175598) q1536 dX4_isCastleWord_51 ?_
            refine aw_callVE1 h hl cl_X4_111 (met_m_isWord0 hG hT hj (wd := CL 5)) (gmt hG) rfl dX4_isCastleWord_54 (Nat.le_of_ble_eq_true rfl) rfl (Nat.zero_le _) (Nat.zero_le _) ?_
            refine aw_if_eqB h (tgt := 64) dX4_isCastleWord_57 (by decide) (fun c57 => ?_) (fun c57 => ?_)
            · refine aw_iconst h _ ci_0 dX4_isCastleWord_64 ?_
              exact aw_zret h hr dX4_isCastleWord_65 (by first | exact z01_0 | exact z01_1 | exact z01_b _) (ExB0 (by unfold isCW cwB; rw [c7, c17, c27, c37, c47, c57]; rfl)) (Nat.zero_le _) (Nat.zero_le _)
            · refine aw_iconst h _ ci_1 dX4_isCastleWord_60 ?_
              refine aw_goto h (tgt := 65) dX4_isCastleWord_61 (by decide) ?_
              exact aw_zret h hr dX4_isCastleWord_65 (by first | exact z01_0 | exact z01_1 | exact z01_b _) (ExB1 (by unfold isCW cwB; rw [c57]; simp)) (Nat.zero_le _) (Nat.zero_le _)
theorem met_m_castleLineHere {w : Wd} {G : Gm} {I : Im} {L : Lm} (hG : GM G) {T : Nat → Int32} {n i : Nat} {K : CS} (hZ : CZ I T n i K) (hj : skip T n i = i) : AMet w yX4_castleLineHere cX4_castleLineHere 2 (some .boolean) 5 140 0 0 [.ref (w.1 + 161), .int (nI i)] G I L (Ans (some (.int (bI (okF (clP T n i K))))) (KPt (clP T n i K) T n G I L)) := by
  refine AMet.of (ls0 := [some (.ref (w.1 + 161)), some (.int (nI i))]) rfl (Nat.le_of_ble_eq_true rfl) rfl (fun q hq => hq) (fun X h hl hr hi => ?_)
  refine aw_aload0 h dX4_castleLineHere_0 ?_
  refine aw_ldc2 h (v := lN 109270199987301) q1523 dX4_castleLineHere_1 ?_
  refine aw_callVE1 h hl cl_X4_111 (met_m_isWord0 hG hZ.1 hj (wd := CL 0)) (gmt hG) rfl dX4_castleLineHere_4 (Nat.le_of_ble_eq_true rfl) rfl (Nat.zero_le _) (Nat.zero_le _) ?_
  refine aw_if_eqB h (tgt := 16) dX4_castleLineHere_7 (by decide) (fun c7 => ?_) (fun c7 => ?_)
  · refine aw_aload0 h dX4_castleLineHere_16 ?_
    refine aw_getr h fl_X4_26 (gmt hG) dX4_castleLineHere_17 rfl (gmp7 hG) ?_
    refine aw_iconst h _ ci_0 dX4_castleLineHere_20 ?_
    refine aw_ialdV h (gms167 hG) (by decide) (by omega) dX4_castleLineHere_21 (hZ.2.2.2.1.1) ?_
    refine aw_if_neN h (tgt := 32) (by have := hZ.2.2.2.2.2.1; omega) dX4_castleLineHere_22 (by decide) (fun c22 => ?_) (fun c22 => ?_)
    · have hR : 2 ≤ kR K := Or.resolve_left hZ.2.2.2.2.1 c22
      refine aw_aload0 h dX4_castleLineHere_32 ?_
      refine aw_ldc2 h (v := lN 6709618) q1532 dX4_castleLineHere_33 ?_
      refine aw_callVE1 h hl cl_X4_111 (met_m_isWord0 hG hZ.1 hj (wd := CL 1)) (gmt hG) rfl dX4_castleLineHere_36 (Nat.le_of_ble_eq_true rfl) rfl (Nat.zero_le _) (Nat.zero_le _) ?_
      refine aw_if_eqB h (tgt := 47) dX4_castleLineHere_39 (by decide) (fun c39 => ?_) (fun c39 => ?_)
      · refine aw_aload0 h dX4_castleLineHere_47 ?_
        refine aw_ldc2 h (v := lN 1685024626) q1533 dX4_castleLineHere_48 ?_
        refine aw_callVE1 h hl cl_X4_111 (met_m_isWord0 hG hZ.1 hj (wd := CL 2)) (gmt hG) rfl dX4_castleLineHere_51 (Nat.le_of_ble_eq_true rfl) rfl (Nat.zero_le _) (Nat.zero_le _) ?_
        refine aw_if_eqB h (tgt := 64) dX4_castleLineHere_54 (by decide) (fun c54 => ?_) (fun c54 => ?_)
        · refine aw_aload0 h dX4_castleLineHere_64 ?_
          refine aw_ldc2 h (v := lN 131294707347319) q1534 dX4_castleLineHere_65 ?_
          refine aw_callVE1 h hl cl_X4_111 (met_m_isWord0 hG hZ.1 hj (wd := CL 3)) (gmt hG) rfl dX4_castleLineHere_68 (Nat.le_of_ble_eq_true rfl) rfl (Nat.zero_le _) (Nat.zero_le _) ?_
          refine aw_if_eqB h (tgt := 81) dX4_castleLineHere_71 (by decide) (fun c71 => ?_) (fun c71 => ?_)
          · refine aw_aload0 h dX4_castleLineHere_81 ?_
            refine aw_ldc2 h (v := lN 474214787188) q1535 dX4_castleLineHere_82 ?_
            refine aw_callVE1 h hl cl_X4_111 (met_m_isWord0 hG hZ.1 hj (wd := CL 4)) (gmt hG) rfl dX4_castleLineHere_85 (Nat.le_of_ble_eq_true rfl) rfl (Nat.zero_le _) (Nat.zero_le _) ?_
            refine aw_if_eqB h (tgt := 99) dX4_castleLineHere_88 (by decide) (fun c88 => ?_) (fun c88 => ?_)
            · have hcl : clP T n i K = wpP T n i K := by unfold clP; rw [if_neg (show ¬ cwB T n i 0 = true from fun z => by rw [show cwB T n i 0 = false from c7] at z; exact Bool.false_ne_true z), if_neg c22, if_neg (show ¬ cwB T n i 1 = true from fun z => by rw [show cwB T n i 1 = false from c39] at z; exact Bool.false_ne_true z), if_neg (show ¬ cwB T n i 2 = true from fun z => by rw [show cwB T n i 2 = false from c54] at z; exact Bool.false_ne_true z), if_neg (show ¬ cwB T n i 3 = true from fun z => by rw [show cwB T n i 3 = false from c71] at z; exact Bool.false_ne_true z), if_neg (show ¬ cwB T n i 4 = true from fun z => by rw [show cwB T n i 4 = false from c88] at z; exact Bool.false_ne_true z)]
              refine aw_aload0 h dX4_castleLineHere_99 ?_
              refine aw_iload1 h dX4_castleLineHere_100 ?_
              refine aw_callVA1 h hl cl_X4_250 (met_m_isPersonHere hG hZ hR) (gmt hG) rfl dX4_castleLineHere_101 (Nat.le_of_ble_eq_true rfl) rfl (Nat.zero_le _) (Nat.zero_le _) (fun G1 I1 L1 hp => ?_)
              exact aw_zret h hr dX4_castleLineHere_104 (by first | exact z01_0 | exact z01_1 | exact z01_b _) (⟨by rw [hcl], by rw [hcl]; exact hp⟩) (Nat.zero_le _) (Nat.zero_le _)
            · have hcl : clP T n i K = wnP T n i K := by unfold clP; rw [if_neg (show ¬ cwB T n i 0 = true from fun z => by rw [show cwB T n i 0 = false from c7] at z; exact Bool.false_ne_true z), if_neg c22, if_neg (show ¬ cwB T n i 1 = true from fun z => by rw [show cwB T n i 1 = false from c39] at z; exact Bool.false_ne_true z), if_neg (show ¬ cwB T n i 2 = true from fun z => by rw [show cwB T n i 2 = false from c54] at z; exact Bool.false_ne_true z), if_neg (show ¬ cwB T n i 3 = true from fun z => by rw [show cwB T n i 3 = false from c71] at z; exact Bool.false_ne_true z), if_pos (show cwB T n i 4 = true from c88)]
              refine aw_aload0 h dX4_castleLineHere_91 ?_
              refine aw_iload1 h dX4_castleLineHere_92 ?_
              refine aw_callVA1 h hl cl_X4_247 (met_m_isNightHere hG hZ) (gmt hG) rfl dX4_castleLineHere_93 (Nat.le_of_ble_eq_true rfl) rfl (Nat.zero_le _) (Nat.zero_le _) (fun G1 I1 L1 hp => ?_)
              refine aw_goto h (tgt := 104) dX4_castleLineHere_96 (by decide) ?_
              exact aw_zret h hr dX4_castleLineHere_104 (by first | exact z01_0 | exact z01_1 | exact z01_b _) (⟨by rw [hcl], by rw [hcl]; exact hp⟩) (Nat.zero_le _) (Nat.zero_le _)
          · have hcl : clP T n i K = wdP T n i 1 K := by unfold clP; rw [if_neg (show ¬ cwB T n i 0 = true from fun z => by rw [show cwB T n i 0 = false from c7] at z; exact Bool.false_ne_true z), if_neg c22, if_neg (show ¬ cwB T n i 1 = true from fun z => by rw [show cwB T n i 1 = false from c39] at z; exact Bool.false_ne_true z), if_neg (show ¬ cwB T n i 2 = true from fun z => by rw [show cwB T n i 2 = false from c54] at z; exact Bool.false_ne_true z), if_pos (show cwB T n i 3 = true from c71)]
            refine aw_aload0 h dX4_castleLineHere_74 ?_
            refine aw_iload1 h dX4_castleLineHere_75 ?_
            refine aw_iconst h _ ci_1 dX4_castleLineHere_76 ?_
            refine aw_callVA2 h hl cl_X4_242 (met_m_isDoorHere hG hZ hR (wn := 1) (by decide)) (gmt hG) rfl dX4_castleLineHere_77 (Nat.le_of_ble_eq_true rfl) rfl (Nat.zero_le _) (Nat.zero_le _) (fun G1 I1 L1 hp => ?_)
            exact aw_zret h hr dX4_castleLineHere_80 (by first | exact z01_0 | exact z01_1 | exact z01_b _) (⟨by rw [hcl], by rw [hcl]; exact hp⟩) (Nat.zero_le _) (Nat.zero_le _)
        · have hcl : clP T n i K = wdP T n i 0 K := by unfold clP; rw [if_neg (show ¬ cwB T n i 0 = true from fun z => by rw [show cwB T n i 0 = false from c7] at z; exact Bool.false_ne_true z), if_neg c22, if_neg (show ¬ cwB T n i 1 = true from fun z => by rw [show cwB T n i 1 = false from c39] at z; exact Bool.false_ne_true z), if_pos (show cwB T n i 2 = true from c54)]
          refine aw_aload0 h dX4_castleLineHere_57 ?_
          refine aw_iload1 h dX4_castleLineHere_58 ?_
          refine aw_iconst h _ ci_0 dX4_castleLineHere_59 ?_
          refine aw_callVA2 h hl cl_X4_242 (met_m_isDoorHere hG hZ hR (wn := 0) (by decide)) (gmt hG) rfl dX4_castleLineHere_60 (Nat.le_of_ble_eq_true rfl) rfl (Nat.zero_le _) (Nat.zero_le _) (fun G1 I1 L1 hp => ?_)
          exact aw_zret h hr dX4_castleLineHere_63 (by first | exact z01_0 | exact z01_1 | exact z01_b _) (⟨by rw [hcl], by rw [hcl]; exact hp⟩) (Nat.zero_le _) (Nat.zero_le _)
      · have hcl : clP T n i K = wfP T n i K := by unfold clP; rw [if_neg (show ¬ cwB T n i 0 = true from fun z => by rw [show cwB T n i 0 = false from c7] at z; exact Bool.false_ne_true z), if_neg c22, if_pos (show cwB T n i 1 = true from c39)]
        refine aw_aload0 h dX4_castleLineHere_42 ?_
        refine aw_callVA0 h hl cl_X4_237 (met_m_isFarHere hG hZ hR) (gmt hG) rfl dX4_castleLineHere_43 (Nat.le_of_ble_eq_true rfl) rfl (Nat.zero_le _) (Nat.zero_le _) (fun G1 I1 L1 hp => ?_)
        exact aw_zret h hr dX4_castleLineHere_46 (by first | exact z01_0 | exact z01_1 | exact z01_b _) (⟨by rw [hcl], by rw [hcl]; exact hp⟩) (Nat.zero_le _) (Nat.zero_le _)
    · have hcl : clP T n i K = .inl (errN 4 i) := by unfold clP; rw [if_neg (show ¬ cwB T n i 0 = true from fun z => by rw [show cwB T n i 0 = false from c7] at z; exact Bool.false_ne_true z), if_pos c22]
      refine aw_aload0 h dX4_castleLineHere_25 ?_
      refine aw_iconst h _ ci_4 dX4_castleLineHere_26 ?_
      refine aw_iload1 h dX4_castleLineHere_27 ?_
      refine aw_callVE2 h hl cl_X4_121 (met_m_fails hG (kd := 4) (at2 := i)) (gmt hG) rfl dX4_castleLineHere_28 (Nat.le_of_ble_eq_true rfl) rfl (Nat.zero_le _) (Nat.zero_le _) ?_
      exact aw_zret h hr dX4_castleLineHere_31 (by first | exact z01_0 | exact z01_1 | exact z01_b _) (⟨by rw [hcl]; rfl, rfl, by rw [hcl]; exact ⟨CF.f (by decide), by show failW (I 161 9) 4 i = nI (errN 4 i); rw [hZ.2.1]; rfl⟩⟩) (Nat.zero_le _) (Nat.zero_le _)
  · have hcl : clP T n i K = wcP T n i K := by unfold clP; exact if_pos c7
    refine aw_aload0 h dX4_castleLineHere_10 ?_
    refine aw_iload1 h dX4_castleLineHere_11 ?_
    refine aw_callVA1 h hl cl_X4_234 (met_m_isCastleHere hG hZ) (gmt hG) rfl dX4_castleLineHere_12 (Nat.le_of_ble_eq_true rfl) rfl (Nat.zero_le _) (Nat.zero_le _) (fun G1 I1 L1 hp => ?_)
    exact aw_zret h hr dX4_castleLineHere_15 (by first | exact z01_0 | exact z01_1 | exact z01_b _) (⟨by rw [hcl], by rw [hcl]; exact hp⟩) (Nat.zero_le _) (Nat.zero_le _)
theorem met_m_clauseC {w : Wd} {G : Gm} {I : Im} {L : Lm} (hG : GM G) {T : Nat → Int32} {n i ln : Nat} {K : CS} (hZ : CZ I T n i K) (hl4 : I 161 14 = nI ln) (hln : ln ≤ 40) : AMet w yX4_clauseHere cX4_clauseHere 3 (some .boolean) 11 259 0 0 [.ref (w.1 + 161)] G I L (Ans (some (.int (bI (okF (ccP T n i ln K))))) (LPt (ccP T n i ln K) T n ln G I L)) := by
  refine AMet.of (ls0 := [some (.ref (w.1 + 161)), none, none]) rfl (Nat.le_of_ble_eq_true rfl) rfl (fun q hq => hq) (fun X h hl hr hi => ?_)
  have hn4 := hZ.1.2.2.1
  have hsk := skip_le (T := T) hZ.1.2.2.2.2
  have hj2 := skip_idem (T := T) hZ.1.2.2.2.2
  refine aw_aload0 h dX4_clauseHere_0 ?_
  refine aw_callVE0 h hl cl_X4_103 (met_m_see hG hZ.1) (gmt hG) rfl dX4_clauseHere_1 (Nat.le_of_ble_eq_true rfl) rfl (Nat.zero_le _) (Nat.zero_le _) ?_
  refine aw_pop h rfl dX4_clauseHere_4 ?_
  generalize hjj : skip T n i = j at *
  have hZ2 : CZ (upd2 I 161 8 (nI j)) T n j K := hZ.at hsk.2
  refine aw_aload0 h dX4_clauseHere_5 ?_
  refine aw_getiV h fl_X4_100 (gmt hG) dX4_clauseHere_6 rfl ((rfl : (upd2 I 161 8 (nI j)) 161 8 = nI j)) ?_
  refine aw_istore1 h rfl dX4_clauseHere_9 ?_
  refine aw_aload0 h dX4_clauseHere_10 ?_
  refine aw_getiV h fl_X4_156 (gmt hG) dX4_clauseHere_11 rfl (hZ.2.2.1) ?_
  refine aw_bipush h _ cb_6 dX4_clauseHere_14 ?_
  refine aw_icmp_neN h (tgt := 23) (by decide) (by decide) dX4_clauseHere_16 (by decide) (fun c16 => ?_) (fun c16 => ?_)
  · exact absurd rfl c16
  · refine aw_iconst h _ ci_1 dX4_clauseHere_19 ?_
    refine aw_goto h (tgt := 24) dX4_clauseHere_20 (by decide) ?_
    refine aw_istore2 h rfl dX4_clauseHere_24 ?_
    refine aw_iload2 h dX4_clauseHere_25 ?_
    refine aw_if_eqN h (tgt := 39) (by decide) dX4_clauseHere_26 (by decide) (fun c26 => ?_) (fun c26 => ?_)
    · exact absurd c26 (by decide)
    · refine aw_aload0 h dX4_clauseHere_29 ?_
      refine aw_callVE0 h hl cl_X4_253 (met_m_isCastleWord hG hZ2.1 hj2) (gmt hG) rfl dX4_clauseHere_30 (Nat.le_of_ble_eq_true rfl) rfl (Nat.zero_le _) (Nat.zero_le _) ?_
      refine aw_if_neB h (tgt := 56) dX4_clauseHere_33 (by decide) (fun c33 => ?_) (fun c33 => ?_)
      · refine aw_aload0 h dX4_clauseHere_56 ?_
        refine aw_getiV h fl_X4_258 (gmt hG) dX4_clauseHere_57 rfl (hl4) ?_
        refine aw_iload2 h dX4_clauseHere_60 ?_
        refine aw_if_eqN h (tgt := 69) (by decide) dX4_clauseHere_61 (by decide) (fun c61 => ?_) (fun c61 => ?_)
        · exact absurd c61 (by decide)
        · refine aw_bipush h _ cb_40 dX4_clauseHere_64 ?_
          refine aw_goto h (tgt := 71) dX4_clauseHere_66 (by decide) ?_
          refine aw_icmp_neN h (tgt := 81) (by omega) (by decide) dX4_clauseHere_71 (by decide) (fun c71 => ?_) (fun c71 => ?_)
          · have hcc : ccP T n i ln K = clP T n j K := by unfold ccP; rw [hjj, if_pos c33, if_neg c71]
            have hZ3 : CZ (upd2 (upd2 I 161 8 (nI j)) 161 14 (nI (ln + 1))) T n j K := hZ2
            refine aw_aload0 h dX4_clauseHere_81 ?_
            refine aw_dup h rfl dX4_clauseHere_82 ?_
            refine aw_getiV h fl_X4_258 (gmt hG) dX4_clauseHere_83 rfl ((show (upd2 I 161 8 (nI j)) 161 14 = nI ln from hl4)) ?_
            refine aw_iconst h _ ci_1 dX4_clauseHere_86 ?_
            refine aw_iaddN h dX4_clauseHere_87 ?_
            refine aw_puti h fl_X4_258 ft_X4_258 (fun z => by cases z) (gmt hG) dX4_clauseHere_88 rfl ?_
            refine aw_iload2 h dX4_clauseHere_91 ?_
            refine aw_if_eqN h (tgt := 103) (by omega) dX4_clauseHere_92 (by decide) (fun c92 => ?_) (fun c92 => ?_)
            · exact absurd c92 (by decide)
            · refine aw_aload0 h dX4_clauseHere_95 ?_
              refine aw_iload1 h dX4_clauseHere_96 ?_
              refine aw_callVA1 h hl cl_X4_261 (met_m_castleLineHere hG (I := (upd2 (upd2 I 161 8 (nI j)) 161 14 (nI (ln + 1)))) (T := T) (n := n) (i := j) (K := K) hZ3 hj2) (gmt hG) rfl dX4_clauseHere_97 (Nat.le_of_ble_eq_true rfl) rfl (Nat.zero_le _) (Nat.zero_le _) (fun G1 I1 L1 hp => ?_)
              rw [← hcc] at hp ⊢
              refine aw_goto h (tgt := 107) dX4_clauseHere_100 (by decide) ?_
              exact aw_zret h hr dX4_clauseHere_107 (by first | exact z01_0 | exact z01_1 | exact z01_b _) (⟨rfl, hp.1, ((CG.f (j := 8) (by decide)).trans (CG.f (j := 14) (by decide))).trans hp.2.1.toG, by
  have h9 := hp.2.2
  have h14 : I1 161 14 = nI (ln + 1) := hp.2.1.2.2 14 (by decide)
  cases hr : ccP T n i ln K with
  | inl e => rw [hr] at h9; exact h9
  | inr q => rw [hr] at h9; exact ⟨h9, h14, by omega⟩⟩) (Nat.zero_le _) (Nat.zero_le _)
          · have hcc : ccP T n i ln K = .inl (errN 4 j) := by unfold ccP; rw [hjj, if_pos c33, if_pos c71]
            refine aw_aload0 h dX4_clauseHere_74 ?_
            refine aw_iconst h _ ci_4 dX4_clauseHere_75 ?_
            refine aw_iload1 h dX4_clauseHere_76 ?_
            refine aw_callVE2 h hl cl_X4_121 (met_m_fails hG (kd := 4) (at2 := j)) (gmt hG) rfl dX4_clauseHere_77 (Nat.le_of_ble_eq_true rfl) rfl (Nat.zero_le _) (Nat.zero_le _) ?_
            exact aw_zret h hr dX4_clauseHere_80 (by first | exact z01_0 | exact z01_1 | exact z01_b _) (⟨by rw [hcc]; rfl, rfl, by rw [hcc]; exact ⟨(CG.f (j := 8) (by decide)).trans (CG.f (j := 9) (by decide)), by show failW (I 161 9) 4 j = nI (errN 4 j); rw [hZ.2.1]; rfl⟩⟩) (Nat.zero_le _) (Nat.zero_le _)
      · have hcc : ccP T n i ln K = .inl (errN 0 j) := by unfold ccP; rw [hjj, if_neg (by rw [c33]; exact Bool.false_ne_true)]
        refine aw_goto h (tgt := 49) dX4_clauseHere_36 (by decide) ?_
        refine aw_aload0 h dX4_clauseHere_49 ?_
        refine aw_iconst h _ ci_0 dX4_clauseHere_50 ?_
        refine aw_iload1 h dX4_clauseHere_51 ?_
        refine aw_callVE2 h hl cl_X4_121 (met_m_fails hG (kd := 0) (at2 := j)) (gmt hG) rfl dX4_clauseHere_52 (Nat.le_of_ble_eq_true rfl) rfl (Nat.zero_le _) (Nat.zero_le _) ?_
        exact aw_zret h hr dX4_clauseHere_55 (by first | exact z01_0 | exact z01_1 | exact z01_b _) (⟨by rw [hcc]; rfl, rfl, by rw [hcc]; exact ⟨(CG.f (j := 8) (by decide)).trans (CG.f (j := 9) (by decide)), by show failW (I 161 9) 0 j = nI (errN 0 j); rw [hZ.2.1]; rfl⟩⟩) (Nat.zero_le _) (Nat.zero_le _)
theorem met_m_clauseR {w : Wd} {G : Gm} {I : Im} {L : Lm} (hG : GM G) {T : Nat → Int32} {n t i md c : Nat} {cs : List Sg} (hZ : PZ I T n t i md cs) (hci : cs.length ≤ i) (h6 : I 166 t = nI c) (hl4 : I 161 14 = nI c) (hc : c ≤ 12) : AMet w yX4_clauseHere cX4_clauseHere 3 (some .boolean) 11 259 0 0 [.ref (w.1 + 161)] G I L (Ans (some (.int (bI (okF (gcP T n i c md))))) (MPt (gcP T n i c md) T n t c cs G I L)) := by
  refine AMet.of (ls0 := [some (.ref (w.1 + 161)), none, none]) rfl (Nat.le_of_ble_eq_true rfl) rfl (fun q hq => hq) (fun X h hl hr hi => ?_)
  have hn4 := hZ.1.2.2.1
  have ht6 := hZ.2.2.2.1
  have hsk := skip_le (T := T) hZ.1.2.2.2.2
  have hj2 := skip_idem (T := T) hZ.1.2.2.2.2
  refine aw_aload0 h dX4_clauseHere_0 ?_
  refine aw_callVE0 h hl cl_X4_103 (met_m_see hG hZ.1) (gmt hG) rfl dX4_clauseHere_1 (Nat.le_of_ble_eq_true rfl) rfl (Nat.zero_le _) (Nat.zero_le _) ?_
  refine aw_pop h rfl dX4_clauseHere_4 ?_
  generalize hjj : skip T n i = j at *
  have hZ2 : PZ (upd2 I 161 8 (nI j)) T n t j md cs := hZ.at hsk.2
  refine aw_aload0 h dX4_clauseHere_5 ?_
  refine aw_getiV h fl_X4_100 (gmt hG) dX4_clauseHere_6 rfl ((rfl : (upd2 I 161 8 (nI j)) 161 8 = nI j)) ?_
  refine aw_istore1 h rfl dX4_clauseHere_9 ?_
  refine aw_aload0 h dX4_clauseHere_10 ?_
  refine aw_getiV h fl_X4_156 (gmt hG) dX4_clauseHere_11 rfl (hZ.2.2.1) ?_
  refine aw_bipush h _ cb_6 dX4_clauseHere_14 ?_
  refine aw_icmp_neN h (tgt := 23) (by omega) (by decide) dX4_clauseHere_16 (by decide) (fun c16 => ?_) (fun c16 => ?_)
  · refine aw_iconst h _ ci_0 dX4_clauseHere_23 ?_
    refine aw_istore2 h rfl dX4_clauseHere_24 ?_
    refine aw_iload2 h dX4_clauseHere_25 ?_
    refine aw_if_eqN h (tgt := 39) (by decide) dX4_clauseHere_26 (by decide) (fun c26 => ?_) (fun c26 => ?_)
    · refine aw_aload0 h dX4_clauseHere_39 ?_
      refine aw_ldc2 h (v := lN 26479) q1537 dX4_clauseHere_40 ?_
      refine aw_callVE1 h hl cl_X4_111 (met_m_isWord0 hG hZ2.1 hj2) (gmt hG) rfl dX4_clauseHere_43 (Nat.le_of_ble_eq_true rfl) rfl (Nat.zero_le _) (Nat.zero_le _) ?_
      refine aw_if_neB h (tgt := 56) dX4_clauseHere_46 (by decide) (fun c46 => ?_) (fun c46 => ?_)
      · refine aw_aload0 h dX4_clauseHere_56 ?_
        refine aw_getiV h fl_X4_258 (gmt hG) dX4_clauseHere_57 rfl (hl4) ?_
        refine aw_iload2 h dX4_clauseHere_60 ?_
        refine aw_if_eqN h (tgt := 69) (by decide) dX4_clauseHere_61 (by decide) (fun c61 => ?_) (fun c61 => ?_)
        · refine aw_bipush h _ cb_12 dX4_clauseHere_69 ?_
          refine aw_icmp_neN h (tgt := 81) (by omega) (by decide) dX4_clauseHere_71 (by decide) (fun c71 => ?_) (fun c71 => ?_)
          · have hcc : gcP T n i c md = goP T n j md := by unfold gcP; rw [hjj, if_pos (show goB T n j = true from c46), if_neg c71]
            have hZ3 : PZ (upd2 (upd2 I 161 8 (nI j)) 161 14 (nI (c + 1))) T n t j md cs := hZ2.f ⟨hZ2.1.1, hZ2.1.2.1, hZ2.1.2.2.1, hZ2.1.2.2.2.1, hZ2.1.2.2.2.2⟩ hZ2.2.1 hZ2.2.2.2.2.1 hZ2.2.2.2.2.2.1 rfl rfl rfl
            refine aw_aload0 h dX4_clauseHere_81 ?_
            refine aw_dup h rfl dX4_clauseHere_82 ?_
            refine aw_getiV h fl_X4_258 (gmt hG) dX4_clauseHere_83 rfl ((show (upd2 I 161 8 (nI j)) 161 14 = nI c from hl4)) ?_
            refine aw_iconst h _ ci_1 dX4_clauseHere_86 ?_
            refine aw_iaddN h dX4_clauseHere_87 ?_
            refine aw_puti h fl_X4_258 ft_X4_258 (fun z => by cases z) (gmt hG) dX4_clauseHere_88 rfl ?_
            refine aw_iload2 h dX4_clauseHere_91 ?_
            refine aw_if_eqN h (tgt := 103) (by omega) dX4_clauseHere_92 (by decide) (fun c92 => ?_) (fun c92 => ?_)
            · refine aw_aload0 h dX4_clauseHere_103 ?_
              refine aw_callVA0 h hl cl_X4_264 (met_m_isGoHere hG (I := (upd2 (upd2 I 161 8 (nI j)) 161 14 (nI (c + 1)))) (T := T) (n := n) (i := j) (c := c) hZ3 (by omega) h6 (by omega)) (gmt hG) rfl dX4_clauseHere_104 (Nat.le_of_ble_eq_true rfl) rfl (Nat.zero_le _) (Nat.zero_le _) (fun G1 I1 L1 hp => ?_)
              rw [← hcc] at hp ⊢
              exact aw_zret h hr dX4_clauseHere_107 (by first | exact z01_0 | exact z01_1 | exact z01_b _) (⟨rfl, hp.1, ((PFS.f (j := 8) (by decide)).trans (PFS.f (j := 14) (by decide))).trans hp.2.1.toS, by
  have h9 := hp.2.2
  have h14 : I1 161 14 = nI (c + 1) := hp.2.1.2.2.1 14 (by decide)
  cases hr : gcP T n i c md with
  | inl e => rw [hr] at h9; exact h9
  | inr q => rw [hr] at h9; exact ⟨h9, h14, by omega⟩⟩) (Nat.zero_le _) (Nat.zero_le _)
            · exact absurd rfl c92
          · have hcc : gcP T n i c md = .inl (errN 4 j) := by unfold gcP; rw [hjj, if_pos (show goB T n j = true from c46), if_pos c71]
            refine aw_aload0 h dX4_clauseHere_74 ?_
            refine aw_iconst h _ ci_4 dX4_clauseHere_75 ?_
            refine aw_iload1 h dX4_clauseHere_76 ?_
            refine aw_callVE2 h hl cl_X4_121 (met_m_fails hG (kd := 4) (at2 := j)) (gmt hG) rfl dX4_clauseHere_77 (Nat.le_of_ble_eq_true rfl) rfl (Nat.zero_le _) (Nat.zero_le _) ?_
            exact aw_zret h hr dX4_clauseHere_80 (by first | exact z01_0 | exact z01_1 | exact z01_b _) (⟨by rw [hcc]; rfl, rfl, by rw [hcc]; exact ⟨(PFS.f (j := 8) (by decide)).trans (PFS.f (j := 9) (by decide)), by show failW (I 161 9) 4 j = nI (errN 4 j); rw [hZ.2.1]; rfl⟩⟩) (Nat.zero_le _) (Nat.zero_le _)
        · exact absurd rfl c61
      · have hcc : gcP T n i c md = .inl (errN 0 j) := by unfold gcP; rw [hjj, if_neg (show ¬ goB T n j = true from fun z => by rw [show goB T n j = false from c46] at z; exact Bool.false_ne_true z)]
        refine aw_aload0 h dX4_clauseHere_49 ?_
        refine aw_iconst h _ ci_0 dX4_clauseHere_50 ?_
        refine aw_iload1 h dX4_clauseHere_51 ?_
        refine aw_callVE2 h hl cl_X4_121 (met_m_fails hG (kd := 0) (at2 := j)) (gmt hG) rfl dX4_clauseHere_52 (Nat.le_of_ble_eq_true rfl) rfl (Nat.zero_le _) (Nat.zero_le _) ?_
        exact aw_zret h hr dX4_clauseHere_55 (by first | exact z01_0 | exact z01_1 | exact z01_b _) (⟨by rw [hcc]; rfl, rfl, by rw [hcc]; exact ⟨(PFS.f (j := 8) (by decide)).trans (PFS.f (j := 9) (by decide)), by show failW (I 161 9) 0 j = nI (errN 0 j); rw [hZ.2.1]; rfl⟩⟩) (Nat.zero_le _) (Nat.zero_le _)
    · exact absurd rfl c26
  · exact absurd c16 (by omega)
