/-! The reference's parser: values -/
set_option maxRecDepth 100000
theorem skip_idem {T : Nat → Int32} {n i : Nat} (h : i ≤ n) : skip T n (skip T n i) = skip T n i := by
  have h1 := skip_le (T := T) h
  refine skip_is (Nat.le_refl _) h1.2 (fun k a b => absurd b (by omega)) (fun hl e => ?_)
  have hs := (firstT_spec (fun k => !decide (T (i + k) = nI 32)) (n - i)).1 (by unfold skip at hl; omega)
  unfold skip at e
  rw [decide_eq_true e] at hs
  cases hs
def WL : Nat → Int64
  | 0 => lN 123581014175598
  | 1 => lN 1919905645
  | 2 => lN 6709618
  | 3 => lN 1735352684
  | 4 => lN 1818584692
  | 5 => lN 7364985
  | 6 => lN 120325344161396
  | 7 => lN 474214787188
  | 8 => lN 1751478885
  | 9 => lN 26990
  | 10 => lN 7304564
  | _ => lN 418548245860
def wdI (T : Nat → Int32) (n j : Nat) : Nat := firstT (fun k => wordB T n j (WL k)) 12
theorem met_m_isWord0 {w : Wd} {G : Gm} {I : Im} {L : Lm} (hG : GM G) {T : Nat → Int32} {n i : Nat} (hT : TPE I T n i) (hj : skip T n i = i) {wd : Int64} : AMet w yX4_isWord cX4_isWord 6 (some .boolean) 2 61 0 0 [.ref (w.1 + 161), .long wd] G I L (Exact (some (.int (bI (wordB T n i wd)))) G I L) := by
  have h := met_m_isWord (w := w) (L := L) hG hT (wd := wd)
  rw [hj, hT.id] at h
  exact h
theorem met_m_see0 {w : Wd} {G : Gm} {I : Im} {L : Lm} (hG : GM G) {T : Nat → Int32} {n i : Nat} (hT : TPE I T n i) (hj : skip T n i = i) : AMet w yX4_see cX4_see 1 (some .int) 1 40 0 0 [.ref (w.1 + 161)] G I L (Exact (some (.int (chV T n i))) G I L) := by
  have h := met_m_see (w := w) (L := L) hG hT
  rw [hj, hT.id] at h
  exact h
theorem wd_at {T : Nat → Int32} {n i k : Nat} (h : ∀ j, j < k → wordB T n i (WL j) = false) (hk : k < 12) (hp : wordB T n i (WL k) = true) : fI (fun k => wordB T n i (WL k)) 12 = nI k := fI_at h hk hp
theorem ltS {p : Nat → Prop} {k : Nat} (h : ∀ a, a < k → p a) (h2 : p k) : ∀ a, a < k + 1 → p a := fun a ha => by
  by_cases e : a = k
  · subst e; exact h2
  · exact h a (by omega)
theorem met_m_wordHere {w : Wd} {G : Gm} {I : Im} {L : Lm} (hG : GM G) {T : Nat → Int32} {n i : Nat} (hT : TPE I T n i) (hj : skip T n i = i) : AMet w yX4_wordHere cX4_wordHere 1 (some .int) 3 86 0 0 [.ref (w.1 + 161)] G I L (Exact (some (.int (fI (fun k => wordB T n i (WL k)) 12))) G I L) := by
  refine AMet.of (ls0 := [some (.ref (w.1 + 161))]) rfl (Nat.le_of_ble_eq_true rfl) rfl (fun q hq => hq) (fun X h hl hr hi => ?_)
  refine aw_aload0 h dX4_wordHere_0 ?_
  refine aw_ldc2 h (v := lN 123581014175598) q1536 dX4_wordHere_1 ?_
  refine aw_callVE1 h hl cl_X4_111 (met_m_isWord0 hG hT hj (wd := WL 0)) (gmt hG) rfl dX4_wordHere_4 (Nat.le_of_ble_eq_true rfl) rfl (Nat.zero_le _) (Nat.zero_le _) ?_
  refine aw_if_eqB h (tgt := 12) dX4_wordHere_7 (by decide) (fun c7 => ?_) (fun c7 => ?_)
  · refine aw_aload0 h dX4_wordHere_12 ?_
    refine aw_ldc2 h (v := lN 1919905645) q1614 dX4_wordHere_13 ?_
    refine aw_callVE1 h hl cl_X4_111 (met_m_isWord0 hG hT hj (wd := WL 1)) (gmt hG) rfl dX4_wordHere_16 (Nat.le_of_ble_eq_true rfl) rfl (Nat.zero_le _) (Nat.zero_le _) ?_
    refine aw_if_eqB h (tgt := 24) dX4_wordHere_19 (by decide) (fun c19 => ?_) (fun c19 => ?_)
    · refine aw_aload0 h dX4_wordHere_24 ?_
      refine aw_ldc2 h (v := lN 6709618) q1532 dX4_wordHere_25 ?_
      refine aw_callVE1 h hl cl_X4_111 (met_m_isWord0 hG hT hj (wd := WL 2)) (gmt hG) rfl dX4_wordHere_28 (Nat.le_of_ble_eq_true rfl) rfl (Nat.zero_le _) (Nat.zero_le _) ?_
      refine aw_if_eqB h (tgt := 36) dX4_wordHere_31 (by decide) (fun c31 => ?_) (fun c31 => ?_)
      · refine aw_aload0 h dX4_wordHere_36 ?_
        refine aw_ldc2 h (v := lN 1735352684) q1615 dX4_wordHere_37 ?_
        refine aw_callVE1 h hl cl_X4_111 (met_m_isWord0 hG hT hj (wd := WL 3)) (gmt hG) rfl dX4_wordHere_40 (Nat.le_of_ble_eq_true rfl) rfl (Nat.zero_le _) (Nat.zero_le _) ?_
        refine aw_if_eqB h (tgt := 48) dX4_wordHere_43 (by decide) (fun c43 => ?_) (fun c43 => ?_)
        · refine aw_aload0 h dX4_wordHere_48 ?_
          refine aw_ldc2 h (v := lN 1818584692) q1616 dX4_wordHere_49 ?_
          refine aw_callVE1 h hl cl_X4_111 (met_m_isWord0 hG hT hj (wd := WL 4)) (gmt hG) rfl dX4_wordHere_52 (Nat.le_of_ble_eq_true rfl) rfl (Nat.zero_le _) (Nat.zero_le _) ?_
          refine aw_if_eqB h (tgt := 60) dX4_wordHere_55 (by decide) (fun c55 => ?_) (fun c55 => ?_)
          · refine aw_aload0 h dX4_wordHere_60 ?_
            refine aw_ldc2 h (v := lN 7364985) q1617 dX4_wordHere_61 ?_
            refine aw_callVE1 h hl cl_X4_111 (met_m_isWord0 hG hT hj (wd := WL 5)) (gmt hG) rfl dX4_wordHere_64 (Nat.le_of_ble_eq_true rfl) rfl (Nat.zero_le _) (Nat.zero_le _) ?_
            refine aw_if_eqB h (tgt := 72) dX4_wordHere_67 (by decide) (fun c67 => ?_) (fun c67 => ?_)
            · refine aw_aload0 h dX4_wordHere_72 ?_
              refine aw_ldc2 h (v := lN 120325344161396) q1618 dX4_wordHere_73 ?_
              refine aw_callVE1 h hl cl_X4_111 (met_m_isWord0 hG hT hj (wd := WL 6)) (gmt hG) rfl dX4_wordHere_76 (Nat.le_of_ble_eq_true rfl) rfl (Nat.zero_le _) (Nat.zero_le _) ?_
              refine aw_if_eqB h (tgt := 85) dX4_wordHere_79 (by decide) (fun c79 => ?_) (fun c79 => ?_)
              · refine aw_aload0 h dX4_wordHere_85 ?_
                refine aw_ldc2 h (v := lN 474214787188) q1535 dX4_wordHere_86 ?_
                refine aw_callVE1 h hl cl_X4_111 (met_m_isWord0 hG hT hj (wd := WL 7)) (gmt hG) rfl dX4_wordHere_89 (Nat.le_of_ble_eq_true rfl) rfl (Nat.zero_le _) (Nat.zero_le _) ?_
                refine aw_if_eqB h (tgt := 98) dX4_wordHere_92 (by decide) (fun c92 => ?_) (fun c92 => ?_)
                · refine aw_aload0 h dX4_wordHere_98 ?_
                  refine aw_ldc2 h (v := lN 1751478885) q1619 dX4_wordHere_99 ?_
                  refine aw_callVE1 h hl cl_X4_111 (met_m_isWord0 hG hT hj (wd := WL 8)) (gmt hG) rfl dX4_wordHere_102 (Nat.le_of_ble_eq_true rfl) rfl (Nat.zero_le _) (Nat.zero_le _) ?_
                  refine aw_if_eqB h (tgt := 111) dX4_wordHere_105 (by decide) (fun c105 => ?_) (fun c105 => ?_)
                  · refine aw_aload0 h dX4_wordHere_111 ?_
                    refine aw_ldc2 h (v := lN 26990) q1620 dX4_wordHere_112 ?_
                    refine aw_callVE1 h hl cl_X4_111 (met_m_isWord0 hG hT hj (wd := WL 9)) (gmt hG) rfl dX4_wordHere_115 (Nat.le_of_ble_eq_true rfl) rfl (Nat.zero_le _) (Nat.zero_le _) ?_
                    refine aw_if_eqB h (tgt := 124) dX4_wordHere_118 (by decide) (fun c118 => ?_) (fun c118 => ?_)
                    · refine aw_aload0 h dX4_wordHere_124 ?_
                      refine aw_ldc2 h (v := lN 7304564) q1621 dX4_wordHere_125 ?_
                      refine aw_callVE1 h hl cl_X4_111 (met_m_isWord0 hG hT hj (wd := WL 10)) (gmt hG) rfl dX4_wordHere_128 (Nat.le_of_ble_eq_true rfl) rfl (Nat.zero_le _) (Nat.zero_le _) ?_
                      refine aw_if_eqB h (tgt := 139) dX4_wordHere_131 (by decide) (fun c131 => ?_) (fun c131 => ?_)
                      · refine aw_aload0 h dX4_wordHere_139 ?_
                        refine aw_ldc2 h (v := lN 418548245860) q1622 dX4_wordHere_140 ?_
                        refine aw_callVE1 h hl cl_X4_111 (met_m_isWord0 hG hT hj (wd := WL 11)) (gmt hG) rfl dX4_wordHere_143 (Nat.le_of_ble_eq_true rfl) rfl (Nat.zero_le _) (Nat.zero_le _) ?_
                        refine aw_if_eqB h (tgt := 154) dX4_wordHere_146 (by decide) (fun c146 => ?_) (fun c146 => ?_)
                        · refine aw_iconst h _ ci_m1 dX4_wordHere_154 ?_
                          exact aw_iret h hr dX4_wordHere_155 (⟨by rw [fI_none (ltS (p := fun a => wordB T n i (WL a) = false) (ltS (p := fun a => wordB T n i (WL a) = false) (ltS (p := fun a => wordB T n i (WL a) = false) (ltS (p := fun a => wordB T n i (WL a) = false) (ltS (p := fun a => wordB T n i (WL a) = false) (ltS (p := fun a => wordB T n i (WL a) = false) (ltS (p := fun a => wordB T n i (WL a) = false) (ltS (p := fun a => wordB T n i (WL a) = false) (ltS (p := fun a => wordB T n i (WL a) = false) (ltS (p := fun a => wordB T n i (WL a) = false) (ltS (p := fun a => wordB T n i (WL a) = false) (ltS (p := fun a => wordB T n i (WL a) = false) (fun a (ha : a < 0) => (absurd ha (by omega) : wordB T n i (WL a) = false)) c7) c19) c31) c43) c55) c67) c79) c92) c105) c118) c131) c146)], rfl, rfl, rfl⟩) (Nat.zero_le _) (Nat.zero_le _)
                        · refine aw_bipush h _ cb_11 dX4_wordHere_149 ?_
                          refine aw_goto h (tgt := 155) dX4_wordHere_151 (by decide) ?_
                          exact aw_iret h hr dX4_wordHere_155 (⟨by rw [wd_at (k := 11) (ltS (p := fun a => wordB T n i (WL a) = false) (ltS (p := fun a => wordB T n i (WL a) = false) (ltS (p := fun a => wordB T n i (WL a) = false) (ltS (p := fun a => wordB T n i (WL a) = false) (ltS (p := fun a => wordB T n i (WL a) = false) (ltS (p := fun a => wordB T n i (WL a) = false) (ltS (p := fun a => wordB T n i (WL a) = false) (ltS (p := fun a => wordB T n i (WL a) = false) (ltS (p := fun a => wordB T n i (WL a) = false) (ltS (p := fun a => wordB T n i (WL a) = false) (ltS (p := fun a => wordB T n i (WL a) = false) (fun a (ha : a < 0) => (absurd ha (by omega) : wordB T n i (WL a) = false)) c7) c19) c31) c43) c55) c67) c79) c92) c105) c118) c131) (by decide) c146], rfl, rfl, rfl⟩) (Nat.zero_le _) (Nat.zero_le _)
                      · refine aw_bipush h _ cb_10 dX4_wordHere_134 ?_
                        refine aw_goto h (tgt := 155) dX4_wordHere_136 (by decide) ?_
                        exact aw_iret h hr dX4_wordHere_155 (⟨by rw [wd_at (k := 10) (ltS (p := fun a => wordB T n i (WL a) = false) (ltS (p := fun a => wordB T n i (WL a) = false) (ltS (p := fun a => wordB T n i (WL a) = false) (ltS (p := fun a => wordB T n i (WL a) = false) (ltS (p := fun a => wordB T n i (WL a) = false) (ltS (p := fun a => wordB T n i (WL a) = false) (ltS (p := fun a => wordB T n i (WL a) = false) (ltS (p := fun a => wordB T n i (WL a) = false) (ltS (p := fun a => wordB T n i (WL a) = false) (ltS (p := fun a => wordB T n i (WL a) = false) (fun a (ha : a < 0) => (absurd ha (by omega) : wordB T n i (WL a) = false)) c7) c19) c31) c43) c55) c67) c79) c92) c105) c118) (by decide) c131], rfl, rfl, rfl⟩) (Nat.zero_le _) (Nat.zero_le _)
                    · refine aw_bipush h _ cb_9 dX4_wordHere_121 ?_
                      exact aw_iret h hr dX4_wordHere_123 (⟨by rw [wd_at (k := 9) (ltS (p := fun a => wordB T n i (WL a) = false) (ltS (p := fun a => wordB T n i (WL a) = false) (ltS (p := fun a => wordB T n i (WL a) = false) (ltS (p := fun a => wordB T n i (WL a) = false) (ltS (p := fun a => wordB T n i (WL a) = false) (ltS (p := fun a => wordB T n i (WL a) = false) (ltS (p := fun a => wordB T n i (WL a) = false) (ltS (p := fun a => wordB T n i (WL a) = false) (ltS (p := fun a => wordB T n i (WL a) = false) (fun a (ha : a < 0) => (absurd ha (by omega) : wordB T n i (WL a) = false)) c7) c19) c31) c43) c55) c67) c79) c92) c105) (by decide) c118], rfl, rfl, rfl⟩) (Nat.zero_le _) (Nat.zero_le _)
                  · refine aw_bipush h _ cb_8 dX4_wordHere_108 ?_
                    exact aw_iret h hr dX4_wordHere_110 (⟨by rw [wd_at (k := 8) (ltS (p := fun a => wordB T n i (WL a) = false) (ltS (p := fun a => wordB T n i (WL a) = false) (ltS (p := fun a => wordB T n i (WL a) = false) (ltS (p := fun a => wordB T n i (WL a) = false) (ltS (p := fun a => wordB T n i (WL a) = false) (ltS (p := fun a => wordB T n i (WL a) = false) (ltS (p := fun a => wordB T n i (WL a) = false) (ltS (p := fun a => wordB T n i (WL a) = false) (fun a (ha : a < 0) => (absurd ha (by omega) : wordB T n i (WL a) = false)) c7) c19) c31) c43) c55) c67) c79) c92) (by decide) c105], rfl, rfl, rfl⟩) (Nat.zero_le _) (Nat.zero_le _)
                · refine aw_bipush h _ cb_7 dX4_wordHere_95 ?_
                  exact aw_iret h hr dX4_wordHere_97 (⟨by rw [wd_at (k := 7) (ltS (p := fun a => wordB T n i (WL a) = false) (ltS (p := fun a => wordB T n i (WL a) = false) (ltS (p := fun a => wordB T n i (WL a) = false) (ltS (p := fun a => wordB T n i (WL a) = false) (ltS (p := fun a => wordB T n i (WL a) = false) (ltS (p := fun a => wordB T n i (WL a) = false) (ltS (p := fun a => wordB T n i (WL a) = false) (fun a (ha : a < 0) => (absurd ha (by omega) : wordB T n i (WL a) = false)) c7) c19) c31) c43) c55) c67) c79) (by decide) c92], rfl, rfl, rfl⟩) (Nat.zero_le _) (Nat.zero_le _)
              · refine aw_bipush h _ cb_6 dX4_wordHere_82 ?_
                exact aw_iret h hr dX4_wordHere_84 (⟨by rw [wd_at (k := 6) (ltS (p := fun a => wordB T n i (WL a) = false) (ltS (p := fun a => wordB T n i (WL a) = false) (ltS (p := fun a => wordB T n i (WL a) = false) (ltS (p := fun a => wordB T n i (WL a) = false) (ltS (p := fun a => wordB T n i (WL a) = false) (ltS (p := fun a => wordB T n i (WL a) = false) (fun a (ha : a < 0) => (absurd ha (by omega) : wordB T n i (WL a) = false)) c7) c19) c31) c43) c55) c67) (by decide) c79], rfl, rfl, rfl⟩) (Nat.zero_le _) (Nat.zero_le _)
            · refine aw_iconst h _ ci_5 dX4_wordHere_70 ?_
              exact aw_iret h hr dX4_wordHere_71 (⟨by rw [wd_at (k := 5) (ltS (p := fun a => wordB T n i (WL a) = false) (ltS (p := fun a => wordB T n i (WL a) = false) (ltS (p := fun a => wordB T n i (WL a) = false) (ltS (p := fun a => wordB T n i (WL a) = false) (ltS (p := fun a => wordB T n i (WL a) = false) (fun a (ha : a < 0) => (absurd ha (by omega) : wordB T n i (WL a) = false)) c7) c19) c31) c43) c55) (by decide) c67], rfl, rfl, rfl⟩) (Nat.zero_le _) (Nat.zero_le _)
          · refine aw_iconst h _ ci_4 dX4_wordHere_58 ?_
            exact aw_iret h hr dX4_wordHere_59 (⟨by rw [wd_at (k := 4) (ltS (p := fun a => wordB T n i (WL a) = false) (ltS (p := fun a => wordB T n i (WL a) = false) (ltS (p := fun a => wordB T n i (WL a) = false) (ltS (p := fun a => wordB T n i (WL a) = false) (fun a (ha : a < 0) => (absurd ha (by omega) : wordB T n i (WL a) = false)) c7) c19) c31) c43) (by decide) c55], rfl, rfl, rfl⟩) (Nat.zero_le _) (Nat.zero_le _)
        · refine aw_iconst h _ ci_3 dX4_wordHere_46 ?_
          exact aw_iret h hr dX4_wordHere_47 (⟨by rw [wd_at (k := 3) (ltS (p := fun a => wordB T n i (WL a) = false) (ltS (p := fun a => wordB T n i (WL a) = false) (ltS (p := fun a => wordB T n i (WL a) = false) (fun a (ha : a < 0) => (absurd ha (by omega) : wordB T n i (WL a) = false)) c7) c19) c31) (by decide) c43], rfl, rfl, rfl⟩) (Nat.zero_le _) (Nat.zero_le _)
      · refine aw_iconst h _ ci_2 dX4_wordHere_34 ?_
        exact aw_iret h hr dX4_wordHere_35 (⟨by rw [wd_at (k := 2) (ltS (p := fun a => wordB T n i (WL a) = false) (ltS (p := fun a => wordB T n i (WL a) = false) (fun a (ha : a < 0) => (absurd ha (by omega) : wordB T n i (WL a) = false)) c7) c19) (by decide) c31], rfl, rfl, rfl⟩) (Nat.zero_le _) (Nat.zero_le _)
    · refine aw_iconst h _ ci_1 dX4_wordHere_22 ?_
      exact aw_iret h hr dX4_wordHere_23 (⟨by rw [wd_at (k := 1) (ltS (p := fun a => wordB T n i (WL a) = false) (fun a (ha : a < 0) => (absurd ha (by omega) : wordB T n i (WL a) = false)) c7) (by decide) c19], rfl, rfl, rfl⟩) (Nat.zero_le _) (Nat.zero_le _)
  · refine aw_iconst h _ ci_0 dX4_wordHere_10 ?_
    exact aw_iret h hr dX4_wordHere_11 (⟨by rw [wd_at (k := 0) (fun a (ha : a < 0) => (absurd ha (by omega) : wordB T n i (WL a) = false)) (by decide) c7], rfl, rfl, rfl⟩) (Nat.zero_le _) (Nat.zero_le _)
/-- at work on a text: the place, what is made, the code so far -/
def PZ (I : Im) (T : Nat → Int32) (n t i md : Nat) (cs : List Sg) : Prop := TPE I T n i ∧ I 161 9 = 0 ∧ I 161 11 = nI t ∧ t < 6 ∧ I 161 12 = nI md ∧ md ≤ 60 ∧ I 164 t = nI cs.length ∧ CodeAt I (400 * t) cs
/-- what parsing of sums leaves as it was -/
def PF0 (t : Nat) (I : Im) (L : Lm) (I1 : Im) (L1 : Lm) : Prop := L = L1 ∧ (∀ m, m ≠ 161 → m ≠ 163 → m ≠ 164 → I1 m = I m) ∧ (∀ j, j ∉ [8, 9, 10, 12] → I1 161 j = I 161 j) ∧ (∀ j, j < 400 * t → I1 163 j = I 163 j) ∧ ∀ j, j ≠ t → I1 164 j = I 164 j
theorem PF0.rf {t : Nat} {I : Im} {L : Lm} : PF0 t I L I L := ⟨rfl, fun _ _ _ _ => rfl, fun _ _ => rfl, fun _ _ => rfl, fun _ _ => rfl⟩
theorem PF0.trans {t : Nat} {I I1 I2 : Im} {L L1 L2 : Lm} (h : PF0 t I L I1 L1) (h2 : PF0 t I1 L1 I2 L2) : PF0 t I L I2 L2 := ⟨h.1.trans h2.1, fun m a b c => (h2.2.1 m a b c).trans (h.2.1 m a b c), fun j a => (h2.2.2.1 j a).trans (h.2.2.1 j a), fun j a => (h2.2.2.2.1 j a).trans (h.2.2.2.1 j a), fun j a => (h2.2.2.2.2 j a).trans (h.2.2.2.2 j a)⟩
theorem PF0.f {t j : Nat} {I : Im} {L : Lm} {x : Int32} (h : j ∈ [8, 9, 10, 12]) : PF0 t I L (upd2 I 161 j x) L := by
  refine ⟨rfl, fun m a _ _ => vup_n _ _ a, fun q hq => ?_, fun _ _ => rfl, fun _ _ => rfl⟩
  show va_up (I 161) j x q = _
  exact vup_n _ _ (fun e => hq (e ▸ h))
/-- what comes of parsing: an error, or the place, what is made, the code more -/
abbrev PRes : Type := Sum Nat (Nat × Nat × List Sg)
def okP (r : PRes) : Bool := match r with
  | .inl _ => false
  | .inr _ => true
def PPt (r : PRes) (T : Nat → Int32) (n t : Nat) (cs : List Sg) (G : Gm) (I : Im) (L : Lm) : Gm → Im → Lm → Prop := fun G1 I1 L1 => G = G1 ∧ PF0 t I L I1 L1 ∧ match r with
  | .inl e => I1 161 9 = nI e
  | .inr q => PZ I1 T n t q.1 q.2.1 (cs ++ q.2.2)
def errN (kd at2 : Nat) : Nat := 1 + 8 * at2 + kd
def mkP (md j : Nat) (r : Nat × List Sg) : PRes := if md = 60 then .inl (errN 3 j) else .inr (r.1, md + 1, r.2)
def valueP (T : Nat → Int32) (n i md : Nat) : PRes := let j := skip T n i; if digB T n j = true then (if numB T n j 0 99999 = true then mkP md j (j + drun T n j, [(0, numV T j (drun T n j))]) else .inl (errN 1 j)) else if wdI T n j < 12 then mkP md j (j + lrun T n j, [(1, wdI T n j)]) else .inl (errN 0 j)
theorem PZ.f {I : Im} {T : Nat → Int32} {n t i i2 md md2 : Nat} {cs : List Sg} {I2 : Im} (h : PZ I T n t i md cs) (hT : TPE I2 T n i2) (h9 : I2 161 9 = 0) (h12 : I2 161 12 = nI md2) (hmd : md2 ≤ 60) (h11 : I2 161 11 = I 161 11) (h4 : I2 164 = I 164) (h3 : I2 163 = I 163) : PZ I2 T n t i2 md2 cs := ⟨hT, h9, h11.trans h.2.2.1, h.2.2.2.1, h12, hmd, by rw [h4]; exact h.2.2.2.2.2.2.1, fun j hj => by rw [h3]; exact h.2.2.2.2.2.2.2 j hj⟩
theorem PZ.put {I : Im} {T : Nat → Int32} {n t i md : Nat} {cs : List Sg} (h : PZ I T n t i md cs) (q : Sg) : PZ (upd2 (upd2 I 163 (400 * t + cs.length) (cellOf q)) 164 t (nI (cs.length + 1))) T n t i md (cs ++ [q]) := by
  obtain ⟨a, b, c, d, e, f, g, k⟩ := h
  refine ⟨⟨a.1, a.2.1, a.2.2.1, a.2.2.2.1, a.2.2.2.2⟩, b, c, d, e, f, ?_, fun j hj => ?_⟩
  · show va_up (I 164) t _ t = _
    rw [vup_s, List.length_append]; rfl
  · show va_up (I 163) (400 * t + cs.length) (cellOf q) (400 * t + j) = _
    rw [List.length_append] at hj
    have hj : j < cs.length + 1 := hj
    by_cases e2 : j = cs.length
    · subst e2; rw [vup_s, getD_app_eq]
    · rw [vup_n _ _ (by omega), getD_app_lt (by omega)]; exact k j (by omega)
theorem PF0.put {t x : Nat} {I : Im} {L : Lm} {u v : Int32} : PF0 t I L (upd2 (upd2 I 163 (400 * t + x) u) 164 t v) L := by
  refine ⟨rfl, fun m _ b c => (vup_n _ _ c).trans (vup_n _ _ b), fun _ _ => rfl, fun j hj => ?_, fun j hj => ?_⟩
  · show va_up (I 163) (400 * t + x) u j = _
    exact vup_n _ _ (by omega)
  · show va_up (I 164) t v j = _
    exact vup_n _ _ hj
theorem met_m_puts {w : Wd} {G : Gm} {I : Im} {L : Lm} (hG : GM G) {T : Nat → Int32} {n t i md : Nat} {cs : List Sg} (hZ : PZ I T n t i md cs) (hcl : cs.length < 400) {s v : Nat} : AMet w yX4_puts cX4_puts 3 none 1 40 0 0 [.ref (w.1 + 161), .int (nI s), .int (nI v)] G I L (Exact none G (upd2 (upd2 I 163 (400 * t + cs.length) (cellOf (s, v))) 164 t (nI (cs.length + 1))) L) := by
  refine AMet.of (ls0 := [some (.ref (w.1 + 161)), some (.int (nI s)), some (.int (nI v))]) rfl (Nat.le_of_ble_eq_true rfl) rfl (fun q hq => hq) (fun X h hl hr hi => ?_)
  have ht := hZ.2.2.2.1
  refine aw_aload0 h dX4_puts_0 ?_
  refine aw_getr h fl_X4_13 (gmt hG) dX4_puts_1 rfl (gmp3 hG) ?_
  refine aw_sipush h _ cs_400 dX4_puts_4 ?_
  refine aw_aload0 h dX4_puts_7 ?_
  refine aw_getiV h fl_X4_156 (gmt hG) dX4_puts_8 rfl (hZ.2.2.1) ?_
  refine aw_imulN h dX4_puts_11 ?_
  refine aw_aload0 h dX4_puts_12 ?_
  refine aw_getr h fl_X4_17 (gmt hG) dX4_puts_13 rfl (gmp4 hG) ?_
  refine aw_aload0 h dX4_puts_16 ?_
  refine aw_getiV h fl_X4_156 (gmt hG) dX4_puts_17 rfl (hZ.2.2.1) ?_
  refine aw_ialdV h (gms164 hG) (by decide) (by omega) dX4_puts_20 (hZ.2.2.2.2.2.2.1) ?_
  refine aw_iaddN h dX4_puts_21 ?_
  refine aw_iload1 h dX4_puts_22 ?_
  refine aw_bipush h _ cb_16 dX4_puts_23 ?_
  refine aw_iload2 h dX4_puts_25 ?_
  refine aw_imulN h dX4_puts_26 ?_
  refine aw_iaddN h dX4_puts_27 ?_
  refine aw_iastN h (gms163 hG) (by decide) (by omega) dX4_puts_28 ?_
  refine aw_aload0 h dX4_puts_29 ?_
  refine aw_getr h fl_X4_17 (gmt hG) dX4_puts_30 rfl (gmp4 hG) ?_
  refine aw_aload0 h dX4_puts_33 ?_
  refine aw_getiV h fl_X4_156 (gmt hG) dX4_puts_34 rfl (hZ.2.2.1) ?_
  refine aw_dup2 h rfl rfl dX4_puts_37 ?_
  refine aw_ialdV h (gms164 hG) (by decide) (by omega) dX4_puts_38 (hZ.2.2.2.2.2.2.1) ?_
  refine aw_iconst h _ ci_1 dX4_puts_39 ?_
  refine aw_iaddN h dX4_puts_40 ?_
  refine aw_iastN h (gms164 hG) (by decide) (by omega) dX4_puts_41 ?_
  exact aw_vret h hr dX4_puts_42 (⟨rfl, rfl, rfl, rfl⟩) (Nat.zero_le _) (Nat.zero_le _)
theorem met_m_makes {w : Wd} {G : Gm} {I : Im} {L : Lm} (hG : GM G) {md at2 : Nat} (h12 : I 161 12 = nI md) (hmd : md ≤ 60) : AMet w yX4_makes cX4_makes 2 (some .boolean) 2 62 0 0 [.ref (w.1 + 161), .int (nI at2)] G I L (Exact (some (.int (bI (!decide (md = 60))))) G (if md = 60 then upd2 I 161 9 (failW (I 161 9) 3 at2) else upd2 I 161 12 (nI (md + 1))) L) := by
  refine AMet.of (ls0 := [some (.ref (w.1 + 161)), some (.int (nI at2))]) rfl (Nat.le_of_ble_eq_true rfl) rfl (fun q hq => hq) (fun X h hl hr hi => ?_)
  refine aw_aload0 h dX4_makes_0 ?_
  refine aw_getiV h fl_X4_159 (gmt hG) dX4_makes_1 rfl (h12) ?_
  refine aw_bipush h _ cb_60 dX4_makes_4 ?_
  refine aw_icmp_neN h (tgt := 16) (by omega) (by omega) dX4_makes_6 (by decide) (fun c6 => ?_) (fun c6 => ?_)
  · refine aw_aload0 h dX4_makes_16 ?_
    refine aw_dup h rfl dX4_makes_17 ?_
    refine aw_getiV h fl_X4_159 (gmt hG) dX4_makes_18 rfl (h12) ?_
    refine aw_iconst h _ ci_1 dX4_makes_21 ?_
    refine aw_iaddN h dX4_makes_22 ?_
    refine aw_puti h fl_X4_159 ft_X4_159 (fun z => by cases z) (gmt hG) dX4_makes_23 rfl ?_
    refine aw_iconst h _ ci_1 dX4_makes_26 ?_
    exact aw_zret h hr dX4_makes_27 (by first | exact z01_0 | exact z01_1 | exact z01_b _) (⟨by rw [decide_eq_false c6]; rfl, rfl, by rw [if_neg c6], rfl⟩) (Nat.zero_le _) (Nat.zero_le _)
  · refine aw_aload0 h dX4_makes_9 ?_
    refine aw_iconst h _ ci_3 dX4_makes_10 ?_
    refine aw_iload1 h dX4_makes_11 ?_
    refine aw_callVE2 h hl cl_X4_121 (met_m_fails hG (kd := 3) (at2 := at2)) (gmt hG) rfl dX4_makes_12 (Nat.le_of_ble_eq_true rfl) rfl (Nat.zero_le _) (Nat.zero_le _) ?_
    exact aw_zret h hr dX4_makes_15 (by first | exact z01_0 | exact z01_1 | exact z01_b _) (⟨by rw [decide_eq_true c6]; rfl, rfl, by rw [if_pos c6], rfl⟩) (Nat.zero_le _) (Nat.zero_le _)
theorem run_pos {f : Nat → Bool} {n j : Nat} (h : f j = true) (hj : j < n) : 0 < runN f n j := by
  have h1 := firstT_spec (fun k => !f (j + k)) (n - j)
  unfold runN
  rcases Nat.eq_zero_or_pos (firstT (fun k => !f (j + k)) (n - j)) with q | q
  · have h2 := h1.1 (by omega)
    rw [q] at h2
    rw [Nat.add_zero, h] at h2; cases h2
  · exact q
theorem drun_pos {T : Nat → Int32} {n j : Nat} (h : digB T n j = true) : 0 < drun T n j := run_pos h (digB_lt h)
theorem lrun_pos {T : Nat → Int32} {n j : Nat} (h : wdI T n j < 12) : 0 < lrun T n j := by
  have h1 := (firstT_spec (fun k => wordB T n j (WL k)) 12).1 h
  have h2 := (Bool.and_eq_true _ _).mp h1
  exact of_decide_eq_true h2.1
theorem drun_digs {T : Nat → Int32} {n j : Nat} : ∀ a, a < drun T n j → digB T n (j + a) = true := fun a ha => by
  have h1 := (firstT_spec (fun k => !digB T n (j + k)) (n - j)).2 a ha
  simpa using h1
theorem met_m_numOk {w : Wd} {G : Gm} {I : Im} {L : Lm} (hG : GM G) {T : Nat → Int32} {n i : Nat} (hT : TPE I T n i) (hj : skip T n i = i) {mn mx : Nat} (hmn : mn < 2 ^ 31) (hmx : mx < 2 ^ 31) (hD : digB T n i = true) (hN : numB T n i mn mx = true) : AMet w yX4_numberHere cX4_numberHere 5 (some .boolean) 2 65 0 0 [.ref (w.1 + 161), .int (nI mn), .int (nI mx)] G I L (Exact (some (.int (bI true))) G (upd2 (upd2 I 161 8 (nI (i + drun T n i))) 161 10 (nI (numV T i (drun T n i)))) L) := by
  have h := met_m_numberHere (w := w) (L := L) hG hT hmn hmx
  unfold numM at h
  rw [hj, hD, hN] at h
  exact h
theorem met_m_numBad {w : Wd} {G : Gm} {I : Im} {L : Lm} (hG : GM G) {T : Nat → Int32} {n i : Nat} (hT : TPE I T n i) (hj : skip T n i = i) {mn mx : Nat} (hmn : mn < 2 ^ 31) (hmx : mx < 2 ^ 31) (hD : digB T n i = true) (hN : numB T n i mn mx = false) : AMet w yX4_numberHere cX4_numberHere 5 (some .boolean) 2 65 0 0 [.ref (w.1 + 161), .int (nI mn), .int (nI mx)] G I L (Exact (some (.int (bI false))) G (upd2 (upd2 (upd2 I 161 8 (nI (i + drun T n i))) 161 10 (nI (numV T i (drun T n i)))) 161 9 (failW (I 161 9) 1 i)) L) := by
  have h := met_m_numberHere (w := w) (L := L) hG hT hmn hmx
  unfold numM at h
  rw [hj, hD, hN] at h
  exact h
theorem met_m_value {w : Wd} {G : Gm} {I : Im} {L : Lm} (hG : GM G) {T : Nat → Int32} {n t i md : Nat} {cs : List Sg} (hZ : PZ I T n t i md cs) (hci : cs.length ≤ i) : AMet w yX4_value cX4_value 3 (some .boolean) 4 106 0 0 [.ref (w.1 + 161)] G I L (Ans (some (.int (bI (okP (valueP T n i md))))) (PPt (valueP T n i md) T n t cs G I L)) := by
  refine AMet.of (ls0 := [some (.ref (w.1 + 161)), none, none]) rfl (Nat.le_of_ble_eq_true rfl) rfl (fun q hq => hq) (fun X h hl hr hi => ?_)
  have hT := hZ.1
  have hn4 := hT.2.2.1
  have hmd0 := hZ.2.2.2.2.2.1
  have hsl := skip_le (T := T) hT.2.2.2.2
  have hj2 := skip_idem (T := T) hT.2.2.2.2
  refine aw_aload0 h dX4_value_0 ?_
  refine aw_callVE0 h hl cl_X4_103 (met_m_see hG hT) (gmt hG) rfl dX4_value_1 (Nat.le_of_ble_eq_true rfl) rfl (Nat.zero_le _) (Nat.zero_le _) ?_
  refine aw_pop h rfl dX4_value_4 ?_
  generalize hjj : skip T n i = j at *
  have hT1 := hT.to hsl.2
  refine aw_aload0 h dX4_value_5 ?_
  refine aw_getiV h fl_X4_100 (gmt hG) dX4_value_6 rfl ((rfl : (upd2 I 161 8 (nI j)) 161 8 = nI j)) ?_
  refine aw_istore1 h rfl dX4_value_9 ?_
  refine aw_aload0 h dX4_value_10 ?_
  refine aw_aload0 h dX4_value_11 ?_
  refine aw_getiV h fl_X4_100 (gmt hG) dX4_value_12 rfl ((rfl : (upd2 I 161 8 (nI j)) 161 8 = nI j)) ?_
  refine aw_callVE1 h hl cl_X4_118 (met_m_isDigit hG hT1.1 hT1.2.1 hT1.2.2.1 (by omega)) (gmt hG) rfl dX4_value_15 (Nat.le_of_ble_eq_true rfl) rfl (Nat.zero_le _) (Nat.zero_le _) ?_
  refine aw_if_eqB h (tgt := 52) dX4_value_18 (by decide) (fun c18 => ?_) (fun c18 => ?_)
  · have hD : digB T n j = false := c18
    by_cases hW : wdI T n j < 12
    · have hlp := lrun_pos hW
      have hln : j + lrun T n j ≤ n := run_le (f := letB T n) hT1.2.2.2.2
      have hvp0 : valueP T n i md = mkP md j (j + lrun T n j, [(1, wdI T n j)]) := by unfold valueP; rw [hjj, if_neg (by rw [hD]; exact Bool.false_ne_true), if_pos hW]
      refine aw_aload0 h dX4_value_52 ?_
      refine aw_callVE0 h hl cl_X4_183 (met_m_wordHere hG hT1 hj2) (gmt hG) rfl dX4_value_53 (Nat.le_of_ble_eq_true rfl) rfl (Nat.zero_le _) (Nat.zero_le _) ?_
      rw [show fI (fun k => wordB T n j (WL k)) 12 = nI (wdI T n j) from if_pos hW]
      refine aw_istore2 h rfl dX4_value_56 ?_
      refine aw_iload2 h dX4_value_57 ?_
      refine aw_if_geN h (tgt := 68) (by omega) dX4_value_58 (by decide) (fun c58 => ?_) (fun c58 => ?_)
      · refine aw_aload0 h dX4_value_68 ?_
        refine aw_iload1 h dX4_value_69 ?_
        refine aw_callVE1 h hl cl_X4_180 (met_m_makes hG (md := md) (at2 := j) hZ.2.2.2.2.1 hmd0) (gmt hG) rfl dX4_value_70 (Nat.le_of_ble_eq_true rfl) rfl (Nat.zero_le _) (Nat.zero_le _) ?_
        refine aw_if_neB h (tgt := 78) dX4_value_73 (by decide) (fun c73 => ?_) (fun c73 => ?_)
        · have hmd : md ≠ 60 := by simpa using c73
          rw [if_neg hmd]
          have hvp : valueP T n i md = .inr (j + lrun T n j, md + 1, [(1, wdI T n j)]) := by rw [hvp0]; unfold mkP; rw [if_neg hmd]
          have hZ2 : PZ (upd2 (upd2 (upd2 I 161 8 (nI j)) 161 12 (nI (md + 1))) 161 8 (nI (j + lrun T n j))) T n t (j + lrun T n j) (md + 1) cs := hZ.f ⟨hZ.1.1, hZ.1.2.1, hZ.1.2.2.1, rfl, hln⟩ hZ.2.1 rfl (by omega) rfl rfl rfl
          refine aw_aload0 h dX4_value_78 ?_
          refine aw_callVD0 h hl cl_X4_115 (met_m_passWord hG (i := j) (n := n) (T := T) ⟨hZ.1.1, hZ.1.2.1, hZ.1.2.2.1, rfl, hT1.2.2.2.2⟩) (gmt hG) rfl dX4_value_79 (Nat.le_of_ble_eq_true rfl) rfl (Nat.zero_le _) (Nat.zero_le _) ?_
          refine aw_aload0 h dX4_value_82 ?_
          refine aw_iconst h _ ci_1 dX4_value_83 ?_
          refine aw_iload2 h dX4_value_84 ?_
          refine aw_callVD2 h hl cl_X4_172 (met_m_puts hG (hZ2) (by omega)) (gmt hG) rfl dX4_value_85 (Nat.le_of_ble_eq_true rfl) rfl (Nat.zero_le _) (Nat.zero_le _) ?_
          refine aw_iconst h _ ci_1 dX4_value_88 ?_
          exact aw_zret h hr dX4_value_89 (by first | exact z01_0 | exact z01_1 | exact z01_b _) (⟨by rw [hvp]; rfl, rfl, by rw [hvp]; exact ⟨(PF0.f (j := 8) (by decide)).trans ((PF0.f (j := 12) (by decide)).trans ((PF0.f (j := 8) (by decide)).trans PF0.put)), hZ2.put (1, wdI T n j)⟩⟩) (Nat.zero_le _) (Nat.zero_le _)
        · have hmd : md = 60 := by simpa using c73
          rw [if_pos hmd]
          have hvp : valueP T n i md = .inl (errN 3 j) := by rw [hvp0]; unfold mkP; rw [if_pos hmd]
          refine aw_iconst h _ ci_0 dX4_value_76 ?_
          exact aw_zret h hr dX4_value_77 (by first | exact z01_0 | exact z01_1 | exact z01_b _) (⟨by rw [hvp]; rfl, rfl, by rw [hvp]; exact ⟨(PF0.f (j := 8) (by decide)).trans (PF0.f (j := 9) (by decide)), by show failW (I 161 9) 3 j = nI (errN 3 j); rw [hZ.2.1]; rfl⟩⟩) (Nat.zero_le _) (Nat.zero_le _)
      · exact absurd c58 (by omega)
    · have hvp : valueP T n i md = .inl (errN 0 j) := by unfold valueP; rw [hjj, if_neg (by rw [hD]; exact Bool.false_ne_true), if_neg hW]
      refine aw_aload0 h dX4_value_52 ?_
      refine aw_callVE0 h hl cl_X4_183 (met_m_wordHere hG hT1 hj2) (gmt hG) rfl dX4_value_53 (Nat.le_of_ble_eq_true rfl) rfl (Nat.zero_le _) (Nat.zero_le _) ?_
      rw [show fI (fun k => wordB T n j (WL k)) 12 = -1 from if_neg hW]
      refine aw_istore2 h rfl dX4_value_56 ?_
      refine aw_iload2 h dX4_value_57 ?_
      refine aw_if_ge h (tgt := 68) dX4_value_58 (by decide) (fun c58 => ?_) (fun c58 => ?_)
      · exact absurd c58 (by decide)
      · refine aw_aload0 h dX4_value_61 ?_
        refine aw_iconst h _ ci_0 dX4_value_62 ?_
        refine aw_iload1 h dX4_value_63 ?_
        refine aw_callVE2 h hl cl_X4_121 (met_m_fails hG (kd := 0) (at2 := j)) (gmt hG) rfl dX4_value_64 (Nat.le_of_ble_eq_true rfl) rfl (Nat.zero_le _) (Nat.zero_le _) ?_
        exact aw_zret h hr dX4_value_67 (by first | exact z01_0 | exact z01_1 | exact z01_b _) (⟨by rw [hvp]; rfl, rfl, by rw [hvp]; exact ⟨(PF0.f (j := 8) (by decide)).trans (PF0.f (j := 9) (by decide)), by show failW (I 161 9) 0 j = nI (errN 0 j); rw [hZ.2.1]; rfl⟩⟩) (Nat.zero_le _) (Nat.zero_le _)
  · have hD : digB T n j = true := c18
    cases hN : numB T n j 0 99999 with
    | false =>
      have hvp : valueP T n i md = .inl (errN 1 j) := by unfold valueP; rw [hjj, if_pos hD, if_neg (by rw [hN]; exact Bool.false_ne_true)]
      refine aw_aload0 h dX4_value_21 ?_
      refine aw_iconst h _ ci_0 dX4_value_22 ?_
      refine aw_ldc h (v := nI 99999) q1601 dX4_value_23 ?_
      refine aw_callVE2 h hl cl_X4_177 (met_m_numBad hG hT1 hj2 (by decide) (by decide) hD hN) (gmt hG) rfl dX4_value_25 (Nat.le_of_ble_eq_true rfl) rfl (Nat.zero_le _) (Nat.zero_le _) ?_
      refine aw_if_eqB h (tgt := 39) dX4_value_28 (by decide) (fun c28 => ?_) (fun c28 => ?_)
      · refine aw_iconst h _ ci_0 dX4_value_39 ?_
        exact aw_zret h hr dX4_value_40 (by first | exact z01_0 | exact z01_1 | exact z01_b _) (⟨by rw [hvp]; rfl, rfl, by rw [hvp]; exact ⟨((PF0.f (j := 8) (by decide)).trans ((PF0.f (j := 8) (by decide)).trans ((PF0.f (j := 10) (by decide)).trans (PF0.f (j := 9) (by decide))))), by show failW (I 161 9) 1 j = nI (errN 1 j); rw [hZ.2.1]; rfl⟩⟩) (Nat.zero_le _) (Nat.zero_le _)
      · cases c28
    | true =>
      have hdp := drun_pos hD
      have hdn := run_le (f := digB T n) hT1.2.2.2.2
      have hvp0 : valueP T n i md = mkP md j (j + drun T n j, [(0, numV T j (drun T n j))]) := by unfold valueP; rw [hjj, if_pos hD, if_pos hN]
      have hdn : j + drun T n j ≤ n := hdn
      have hnv := numV_le (T := T) (n := n) (j := j) drun_digs
      refine aw_aload0 h dX4_value_21 ?_
      refine aw_iconst h _ ci_0 dX4_value_22 ?_
      refine aw_ldc h (v := nI 99999) q1601 dX4_value_23 ?_
      refine aw_callVE2 h hl cl_X4_177 (met_m_numOk hG hT1 hj2 (by decide) (by decide) hD hN) (gmt hG) rfl dX4_value_25 (Nat.le_of_ble_eq_true rfl) rfl (Nat.zero_le _) (Nat.zero_le _) ?_
      refine aw_if_eqB h (tgt := 39) dX4_value_28 (by decide) (fun c28 => ?_) (fun c28 => ?_)
      · cases c28
      · refine aw_aload0 h dX4_value_31 ?_
        refine aw_iload1 h dX4_value_32 ?_
        refine aw_callVE1 h hl cl_X4_180 (met_m_makes hG (md := md) (at2 := j) hZ.2.2.2.2.1 hmd0) (gmt hG) rfl dX4_value_33 (Nat.le_of_ble_eq_true rfl) rfl (Nat.zero_le _) (Nat.zero_le _) ?_
        refine aw_if_neB h (tgt := 41) dX4_value_36 (by decide) (fun c36 => ?_) (fun c36 => ?_)
        · have hmd : md ≠ 60 := by simpa using c36
          rw [if_neg hmd]
          have hvp : valueP T n i md = .inr (j + drun T n j, md + 1, [(0, numV T j (drun T n j))]) := by rw [hvp0]; unfold mkP; rw [if_neg hmd]
          have hZ2 : PZ (upd2 (upd2 (upd2 (upd2 I 161 8 (nI j)) 161 8 (nI (j + drun T n j))) 161 10 (nI (numV T j (drun T n j)))) 161 12 (nI (md + 1))) T n t (j + drun T n j) (md + 1) cs := hZ.f ⟨hZ.1.1, hZ.1.2.1, hZ.1.2.2.1, rfl, hdn⟩ hZ.2.1 rfl (by omega) rfl rfl rfl
          refine aw_aload0 h dX4_value_41 ?_
          refine aw_iconst h _ ci_0 dX4_value_42 ?_
          refine aw_aload0 h dX4_value_43 ?_
          refine aw_getiV h fl_X4_125 (gmt hG) dX4_value_44 rfl ((rfl : (upd2 (upd2 (upd2 (upd2 I 161 8 (nI j)) 161 8 (nI (j + drun T n j))) 161 10 (nI (numV T j (drun T n j)))) 161 12 (nI (md + 1))) 161 10 = nI (numV T j (drun T n j)))) ?_
          refine aw_callVD2 h hl cl_X4_172 (met_m_puts hG (hZ2) (by omega)) (gmt hG) rfl dX4_value_47 (Nat.le_of_ble_eq_true rfl) rfl (Nat.zero_le _) (Nat.zero_le _) ?_
          refine aw_iconst h _ ci_1 dX4_value_50 ?_
          exact aw_zret h hr dX4_value_51 (by first | exact z01_0 | exact z01_1 | exact z01_b _) (⟨by rw [hvp]; rfl, rfl, by rw [hvp]; exact ⟨((PF0.f (j := 8) (by decide)).trans ((PF0.f (j := 8) (by decide)).trans (PF0.f (j := 10) (by decide)))).trans ((PF0.f (j := 12) (by decide)).trans PF0.put), hZ2.put (0, numV T j (drun T n j))⟩⟩) (Nat.zero_le _) (Nat.zero_le _)
        · have hmd : md = 60 := by simpa using c36
          rw [if_pos hmd]
          have hvp : valueP T n i md = .inl (errN 3 j) := by rw [hvp0]; unfold mkP; rw [if_pos hmd]
          refine aw_iconst h _ ci_0 dX4_value_39 ?_
          exact aw_zret h hr dX4_value_40 (by first | exact z01_0 | exact z01_1 | exact z01_b _) (⟨by rw [hvp]; rfl, rfl, by rw [hvp]; exact ⟨((PF0.f (j := 8) (by decide)).trans ((PF0.f (j := 8) (by decide)).trans (PF0.f (j := 10) (by decide)))).trans (PF0.f (j := 9) (by decide)), by show failW (I 161 9) 3 j = nI (errN 3 j); rw [hZ.2.1]; rfl⟩⟩) (Nat.zero_le _) (Nat.zero_le _)
