/-! The reference's signs of a text: blanks, digits, letters, words -/
set_option maxRecDepth 100000
/-- past all blanks -/
def skip (T : Nat → Int32) (n i : Nat) : Nat := i + firstT (fun k => !decide (T (i + k) = nI 32)) (n - i)
def chV (T : Nat → Int32) (n j : Nat) : Int32 := if j < n then T j &&& nI 255 else -1
def digB (T : Nat → Int32) (n k : Nat) : Bool := decide (k < n) && (decide (nI 48 ≤ T k) && decide (T k ≤ nI 57))
def letB (T : Nat → Int32) (n k : Nat) : Bool := decide (k < n) && (decide (nI 97 ≤ T k) && decide (T k ≤ nI 122))
/-- how many of a kind in a row from a place on -/
def runN (f : Nat → Bool) (n j : Nat) : Nat := firstT (fun k => !f (j + k)) (n - j)
theorem firstT_is {p : Nat → Bool} {m k : Nat} (hk : k ≤ m) (h1 : ∀ j, j < k → p j = false) (h2 : k < m → p k = true) : firstT p m = k := by
  have hs := firstT_spec p m
  have hl := firstT_le p m
  rcases Nat.lt_trichotomy (firstT p m) k with q | q | q
  · have h3 := hs.1 (by omega)
    rw [h1 _ q] at h3; cases h3
  · exact q
  · have h3 := hs.2 k q
    rw [h2 (by omega)] at h3; cases h3
theorem skip_is {T : Nat → Int32} {n i j : Nat} (h0 : i ≤ j) (hn : j ≤ n) (h1 : ∀ k, i ≤ k → k < j → T k = nI 32) (h2 : j < n → T j ≠ nI 32) : skip T n i = j := by
  unfold skip
  rw [firstT_is (k := j - i) (by omega) (fun k hk => by rw [h1 (i + k) (by omega) (by omega)]; simp) (fun hk => by rw [show i + (j - i) = j by omega, decide_eq_false (h2 (by omega))]; rfl)]
  omega
theorem skip_le {T : Nat → Int32} {n i : Nat} (h : i ≤ n) : i ≤ skip T n i ∧ skip T n i ≤ n := by
  unfold skip
  have := firstT_le (fun k => !decide (T (i + k) = nI 32)) (n - i)
  omega
theorem run_is {f : Nat → Bool} {n j k : Nat} (hn : j + k ≤ n) (h1 : ∀ q, q < k → f (j + q) = true) (h2 : f (j + k) = false) : runN f n j = k := by
  unfold runN
  exact firstT_is (by omega) (fun q hq => by rw [h1 q hq]; rfl) (fun _ => by rw [h2]; rfl)
theorem run_le {f : Nat → Bool} {n j : Nat} (h : j ≤ n) : j + runN f n j ≤ n := by
  unfold runN
  have := firstT_le (fun k => !f (j + k)) (n - j)
  omega
theorem digB_lt {T : Nat → Int32} {n k : Nat} (h : digB T n k = true) : k < n := by
  unfold digB at h
  simpa using ((Bool.and_eq_true _ _).mp h).1
theorem letB_lt {T : Nat → Int32} {n k : Nat} (h : letB T n k = true) : k < n := by
  unfold letB at h
  simpa using ((Bool.and_eq_true _ _).mp h).1
/-- the tape, how long it is, and the place -/
def TPE (I : Im) (T : Nat → Int32) (n i : Nat) : Prop := I 162 = T ∧ I 161 1 = nI n ∧ n ≤ 400 ∧ I 161 8 = nI i ∧ i ≤ n
theorem TPE.to {I : Im} {T : Nat → Int32} {n i j : Nat} (h : TPE I T n i) (hj : j ≤ n) : TPE (upd2 I 161 8 (nI j)) T n j := ⟨h.1, h.2.1, h.2.2.1, rfl, hj⟩
theorem TPE.id {I : Im} {T : Nat → Int32} {n i : Nat} (h : TPE I T n i) : upd2 I 161 8 (nI i) = I := by rw [← h.2.2.2.1]; exact upd2_id I 161 8 rfl
/-- what fails first is kept -/
def failW (w : Int32) (kind at' : Nat) : Int32 := if w = 0 then nI (1 + 8 * at' + kind) else w
theorem met_m_fails {w : Wd} {G : Gm} {I : Im} {L : Lm} (hG : GM G) {kd at2 : Nat} : AMet w yX4_fails cX4_fails 3 (some .boolean) 1 40 0 0 [.ref (w.1 + 161), .int (nI kd), .int (nI at2)] G I L (Exact (some (.int (bI false))) G (upd2 I 161 9 (failW (I 161 9) kd at2)) L) := by
  refine AMet.of (ls0 := [some (.ref (w.1 + 161)), some (.int (nI kd)), some (.int (nI at2))]) rfl (Nat.le_of_ble_eq_true rfl) rfl (fun q hq => hq) (fun X h hl hr hi => ?_)
  refine aw_aload0 h dX4_fails_0 ?_
  refine aw_geti h fl_X4_97 (gmt hG) dX4_fails_1 rfl ?_
  refine aw_if_ne h (tgt := 19) dX4_fails_4 (by decide) (fun c4 => ?_) (fun c4 => ?_)
  · refine aw_iconst h _ ci_0 dX4_fails_19 ?_
    exact aw_zret h hr dX4_fails_20 (by first | exact z01_0 | exact z01_1 | exact z01_b _) (⟨rfl, rfl, by unfold failW; rw [if_neg c4]; exact (upd2_id I 161 9 rfl).symm, rfl⟩) (Nat.zero_le _) (Nat.zero_le _)
  · refine aw_aload0 h dX4_fails_7 ?_
    refine aw_iconst h _ ci_1 dX4_fails_8 ?_
    refine aw_bipush h _ cb_8 dX4_fails_9 ?_
    refine aw_iload2 h dX4_fails_11 ?_
    refine aw_imulN h dX4_fails_12 ?_
    refine aw_iaddN h dX4_fails_13 ?_
    refine aw_iload1 h dX4_fails_14 ?_
    refine aw_iaddN h dX4_fails_15 ?_
    refine aw_puti h fl_X4_97 ft_X4_97 (fun z => by cases z) (gmt hG) dX4_fails_16 rfl ?_
    refine aw_iconst h _ ci_0 dX4_fails_19 ?_
    exact aw_zret h hr dX4_fails_20 (by first | exact z01_0 | exact z01_1 | exact z01_b _) (⟨rfl, rfl, by unfold failW; rw [if_pos c4], rfl⟩) (Nat.zero_le _) (Nat.zero_le _)
theorem met_m_see {w : Wd} {G : Gm} {I : Im} {L : Lm} (hG : GM G) {T : Nat → Int32} {n i : Nat} (hT : TPE I T n i) : AMet w yX4_see cX4_see 1 (some .int) 1 40 0 0 [.ref (w.1 + 161)] G I L (Exact (some (.int (chV T n (skip T n i)))) G (upd2 I 161 8 (nI (skip T n i))) L) := by
  refine AMet.of (ls0 := [some (.ref (w.1 + 161))]) rfl (Nat.le_of_ble_eq_true rfl) rfl (fun q hq => hq) (fun X h hl hr hi => ?_)
  have hn4 := hT.2.2.1
  have key : ∀ (fu j : Nat), j ≤ n → n < j + fu → i ≤ j → (∀ q, i ≤ q → q < j → T q = nI 32) → AW X 0 0 0 [some (.ref (w.1 + 161))] [] G (upd2 I 161 8 (nI j)) L := by
    intro fu
    induction fu with
    | zero => intro j hle hlt; exact absurd hlt (by omega)
    | succ fu ih =>
      intro j hle hlt h0 hb
      refine aw_aload0 h dX4_see_0 ?_
      refine aw_getiV h fl_X4_100 (gmt hG) dX4_see_1 rfl ((rfl : (upd2 I 161 8 (nI j)) 161 8 = nI j)) ?_
      refine aw_aload0 h dX4_see_4 ?_
      refine aw_getiV h fl_X4_90 (gmt hG) dX4_see_5 rfl (hT.2.1) ?_
      refine aw_icmp_geN h (tgt := 38) (by omega) (by omega) dX4_see_8 (by decide) (fun c8 => ?_) (fun c8 => ?_)
      · have hsk : skip T n i = j := skip_is h0 hle hb (fun hj => by omega)
        refine aw_aload0 h dX4_see_38 ?_
        refine aw_getiV h fl_X4_100 (gmt hG) dX4_see_39 rfl ((rfl : (upd2 I 161 8 (nI j)) 161 8 = nI j)) ?_
        refine aw_aload0 h dX4_see_42 ?_
        refine aw_getiV h fl_X4_90 (gmt hG) dX4_see_43 rfl (hT.2.1) ?_
        refine aw_icmp_geN h (tgt := 65) (by omega) (by omega) dX4_see_46 (by decide) (fun c46 => ?_) (fun c46 => ?_)
        · refine aw_iconst h _ ci_m1 dX4_see_65 ?_
          exact aw_iret h hr dX4_see_66 (⟨by rw [hsk]; unfold chV; rw [if_neg (by omega)], rfl, by rw [hsk], rfl⟩) (Nat.zero_le _) (Nat.zero_le _)
        · exact absurd c46 (by omega)
      · refine aw_aload0 h dX4_see_11 ?_
        refine aw_getr h fl_X4_7 (gmt hG) dX4_see_12 rfl (gmp0 hG) ?_
        refine aw_aload0 h dX4_see_15 ?_
        refine aw_getiV h fl_X4_100 (gmt hG) dX4_see_16 rfl ((rfl : (upd2 I 161 8 (nI j)) 161 8 = nI j)) ?_
        refine aw_baldN h (gms162 hG) (by decide) (by omega) dX4_see_19 ?_
        rw [show (upd2 I 161 8 (nI j)) 162 j = T j from congrFun hT.1 j]
        refine aw_bipush h _ cb_32 dX4_see_20 ?_
        refine aw_icmp_ne h (tgt := 38) dX4_see_22 (by decide) (fun c22 => ?_) (fun c22 => ?_)
        · have hsk : skip T n i = j := skip_is h0 hle hb (fun _ => c22)
          refine aw_aload0 h dX4_see_38 ?_
          refine aw_getiV h fl_X4_100 (gmt hG) dX4_see_39 rfl ((rfl : (upd2 I 161 8 (nI j)) 161 8 = nI j)) ?_
          refine aw_aload0 h dX4_see_42 ?_
          refine aw_getiV h fl_X4_90 (gmt hG) dX4_see_43 rfl (hT.2.1) ?_
          refine aw_icmp_geN h (tgt := 65) (by omega) (by omega) dX4_see_46 (by decide) (fun c46 => ?_) (fun c46 => ?_)
          · exact absurd c46 (by omega)
          · refine aw_aload0 h dX4_see_49 ?_
            refine aw_getr h fl_X4_7 (gmt hG) dX4_see_50 rfl (gmp0 hG) ?_
            refine aw_aload0 h dX4_see_53 ?_
            refine aw_getiV h fl_X4_100 (gmt hG) dX4_see_54 rfl ((rfl : (upd2 I 161 8 (nI j)) 161 8 = nI j)) ?_
            refine aw_baldN h (gms162 hG) (by decide) (by omega) dX4_see_57 ?_
            rw [show (upd2 I 161 8 (nI j)) 162 j = T j from congrFun hT.1 j]
            refine aw_sipush h _ cs_255 dX4_see_58 ?_
            refine aw_iand h dX4_see_61 ?_
            refine aw_goto h (tgt := 66) dX4_see_62 (by decide) ?_
            exact aw_iret h hr dX4_see_66 (⟨by rw [hsk]; unfold chV; rw [if_pos (by omega)], rfl, by rw [hsk], rfl⟩) (Nat.zero_le _) (Nat.zero_le _)
        · refine aw_aload0 h dX4_see_25 ?_
          refine aw_dup h rfl dX4_see_26 ?_
          refine aw_getiV h fl_X4_100 (gmt hG) dX4_see_27 rfl ((rfl : (upd2 I 161 8 (nI j)) 161 8 = nI j)) ?_
          refine aw_iconst h _ ci_1 dX4_see_30 ?_
          refine aw_iaddN h dX4_see_31 ?_
          refine aw_puti h fl_X4_100 ft_X4_100 (fun z => by cases z) (gmt hG) dX4_see_32 rfl ?_
          rw [upd2_upd2]
          refine aw_goto h (tgt := 0) dX4_see_35 (by decide) ?_
          refine ih (j + 1) (by omega) (by omega) (by omega) (fun q h1 h2 => ?_)
          by_cases e : q = j
          · subst e; exact c22
          · exact hb q h1 (by omega)
  have h9 := key (n + 1) i hT.2.2.2.2 (by omega) (Nat.le_refl _) (fun q h1 h2 => absurd h1 (by omega))
  rw [hT.id] at h9
  exact h9
theorem met_m_isDigit {w : Wd} {G : Gm} {I : Im} {L : Lm} (hG : GM G) {T : Nat → Int32} {n k : Nat} (hT : I 162 = T) (hn : I 161 1 = nI n) (hn4 : n ≤ 400) (hk : k < 2 ^ 31) : AMet w yX4_isDigit cX4_isDigit 2 (some .boolean) 1 40 0 0 [.ref (w.1 + 161), .int (nI k)] G I L (Exact (some (.int (bI (digB T n k)))) G I L) := by
  refine AMet.of (ls0 := [some (.ref (w.1 + 161)), some (.int (nI k))]) rfl (Nat.le_of_ble_eq_true rfl) rfl (fun q hq => hq) (fun X h hl hr hi => ?_)
  refine aw_iload1 h dX4_isDigit_0 ?_
  refine aw_aload0 h dX4_isDigit_1 ?_
  refine aw_getiV h fl_X4_90 (gmt hG) dX4_isDigit_2 rfl (hn) ?_
  refine aw_icmp_geN h (tgt := 34) (by omega) (by omega) dX4_isDigit_5 (by decide) (fun c5 => ?_) (fun c5 => ?_)
  · refine aw_iconst h _ ci_0 dX4_isDigit_34 ?_
    exact aw_zret h hr dX4_isDigit_35 (by first | exact z01_0 | exact z01_1 | exact z01_b _) (ExB0 (by unfold digB; rw [decide_eq_false (by omega)]; rfl)) (Nat.zero_le _) (Nat.zero_le _)
  · refine aw_aload0 h dX4_isDigit_8 ?_
    refine aw_getr h fl_X4_7 (gmt hG) dX4_isDigit_9 rfl (gmp0 hG) ?_
    refine aw_iload1 h dX4_isDigit_12 ?_
    refine aw_baldN h (gms162 hG) (by decide) (by omega) dX4_isDigit_13 ?_
    rw [show I 162 k = T k from congrFun hT k]
    refine aw_bipush h _ cb_48 dX4_isDigit_14 ?_
    refine aw_icmp_lt h (tgt := 34) dX4_isDigit_16 (by decide) (fun c16 => ?_) (fun c16 => ?_)
    · refine aw_iconst h _ ci_0 dX4_isDigit_34 ?_
      exact aw_zret h hr dX4_isDigit_35 (by first | exact z01_0 | exact z01_1 | exact z01_b _) (ExB0 (by unfold digB; rw [decide_eq_false (Int32.not_le.mpr c16), Bool.false_and, Bool.and_false])) (Nat.zero_le _) (Nat.zero_le _)
    · refine aw_aload0 h dX4_isDigit_19 ?_
      refine aw_getr h fl_X4_7 (gmt hG) dX4_isDigit_20 rfl (gmp0 hG) ?_
      refine aw_iload1 h dX4_isDigit_23 ?_
      refine aw_baldN h (gms162 hG) (by decide) (by omega) dX4_isDigit_24 ?_
      rw [show I 162 k = T k from congrFun hT k]
      refine aw_bipush h _ cb_57 dX4_isDigit_25 ?_
      refine aw_icmp_gt h (tgt := 34) dX4_isDigit_27 (by decide) (fun c27 => ?_) (fun c27 => ?_)
      · refine aw_iconst h _ ci_0 dX4_isDigit_34 ?_
        exact aw_zret h hr dX4_isDigit_35 (by first | exact z01_0 | exact z01_1 | exact z01_b _) (ExB0 (by unfold digB; rw [decide_eq_false (p := T k ≤ nI 57) (Int32.not_le.mpr c27), Bool.and_false, Bool.and_false])) (Nat.zero_le _) (Nat.zero_le _)
      · refine aw_iconst h _ ci_1 dX4_isDigit_30 ?_
        refine aw_goto h (tgt := 35) dX4_isDigit_31 (by decide) ?_
        exact aw_zret h hr dX4_isDigit_35 (by first | exact z01_0 | exact z01_1 | exact z01_b _) (ExB1 (by unfold digB; rw [decide_eq_true (by omega), decide_eq_true (Int32.not_lt.mp c16), decide_eq_true (Int32.not_lt.mp c27)]; rfl)) (Nat.zero_le _) (Nat.zero_le _)
theorem met_m_isLetter {w : Wd} {G : Gm} {I : Im} {L : Lm} (hG : GM G) {T : Nat → Int32} {n k : Nat} (hT : I 162 = T) (hn : I 161 1 = nI n) (hn4 : n ≤ 400) (hk : k < 2 ^ 31) : AMet w yX4_isLetter cX4_isLetter 2 (some .boolean) 1 40 0 0 [.ref (w.1 + 161), .int (nI k)] G I L (Exact (some (.int (bI (letB T n k)))) G I L) := by
  refine AMet.of (ls0 := [some (.ref (w.1 + 161)), some (.int (nI k))]) rfl (Nat.le_of_ble_eq_true rfl) rfl (fun q hq => hq) (fun X h hl hr hi => ?_)
  refine aw_iload1 h dX4_isLetter_0 ?_
  refine aw_aload0 h dX4_isLetter_1 ?_
  refine aw_getiV h fl_X4_90 (gmt hG) dX4_isLetter_2 rfl (hn) ?_
  refine aw_icmp_geN h (tgt := 34) (by omega) (by omega) dX4_isLetter_5 (by decide) (fun c5 => ?_) (fun c5 => ?_)
  · refine aw_iconst h _ ci_0 dX4_isLetter_34 ?_
    exact aw_zret h hr dX4_isLetter_35 (by first | exact z01_0 | exact z01_1 | exact z01_b _) (ExB0 (by unfold letB; rw [decide_eq_false (by omega)]; rfl)) (Nat.zero_le _) (Nat.zero_le _)
  · refine aw_aload0 h dX4_isLetter_8 ?_
    refine aw_getr h fl_X4_7 (gmt hG) dX4_isLetter_9 rfl (gmp0 hG) ?_
    refine aw_iload1 h dX4_isLetter_12 ?_
    refine aw_baldN h (gms162 hG) (by decide) (by omega) dX4_isLetter_13 ?_
    rw [show I 162 k = T k from congrFun hT k]
    refine aw_bipush h _ cb_97 dX4_isLetter_14 ?_
    refine aw_icmp_lt h (tgt := 34) dX4_isLetter_16 (by decide) (fun c16 => ?_) (fun c16 => ?_)
    · refine aw_iconst h _ ci_0 dX4_isLetter_34 ?_
      exact aw_zret h hr dX4_isLetter_35 (by first | exact z01_0 | exact z01_1 | exact z01_b _) (ExB0 (by unfold letB; rw [decide_eq_false (Int32.not_le.mpr c16), Bool.false_and, Bool.and_false])) (Nat.zero_le _) (Nat.zero_le _)
    · refine aw_aload0 h dX4_isLetter_19 ?_
      refine aw_getr h fl_X4_7 (gmt hG) dX4_isLetter_20 rfl (gmp0 hG) ?_
      refine aw_iload1 h dX4_isLetter_23 ?_
      refine aw_baldN h (gms162 hG) (by decide) (by omega) dX4_isLetter_24 ?_
      rw [show I 162 k = T k from congrFun hT k]
      refine aw_bipush h _ cb_122 dX4_isLetter_25 ?_
      refine aw_icmp_gt h (tgt := 34) dX4_isLetter_27 (by decide) (fun c27 => ?_) (fun c27 => ?_)
      · refine aw_iconst h _ ci_0 dX4_isLetter_34 ?_
        exact aw_zret h hr dX4_isLetter_35 (by first | exact z01_0 | exact z01_1 | exact z01_b _) (ExB0 (by unfold letB; rw [decide_eq_false (p := T k ≤ nI 122) (Int32.not_le.mpr c27), Bool.and_false, Bool.and_false])) (Nat.zero_le _) (Nat.zero_le _)
      · refine aw_iconst h _ ci_1 dX4_isLetter_30 ?_
        refine aw_goto h (tgt := 35) dX4_isLetter_31 (by decide) ?_
        exact aw_zret h hr dX4_isLetter_35 (by first | exact z01_0 | exact z01_1 | exact z01_b _) (ExB1 (by unfold letB; rw [decide_eq_true (by omega), decide_eq_true (Int32.not_lt.mp c16), decide_eq_true (Int32.not_lt.mp c27)]; rfl)) (Nat.zero_le _) (Nat.zero_le _)
def wv (T : Nat → Int32) (j : Nat) : Nat → Int64
  | 0 => lN 0
  | k + 1 => if k < 8 then (wv T j k <<< ((nI 8).toInt64 &&& 63)) ||| (T (j + k)).toInt64 else wv T j k
def lrun (T : Nat → Int32) (n j : Nat) : Nat := runN (letB T n) n j
/-- the word at a place is this one -/
def wordB (T : Nat → Int32) (n j : Nat) (wd : Int64) : Bool := decide (0 < lrun T n j) && (decide (lrun T n j < 8) && decide (wv T j (lrun T n j) = wd))
theorem met_m_isWord {w : Wd} {G : Gm} {I : Im} {L : Lm} (hG : GM G) {T : Nat → Int32} {n i : Nat} (hT : TPE I T n i) {wd : Int64} : AMet w yX4_isWord cX4_isWord 6 (some .boolean) 2 61 0 0 [.ref (w.1 + 161), .long wd] G I L (Exact (some (.int (bI (wordB T n (skip T n i) wd)))) G (upd2 I 161 8 (nI (skip T n i))) L) := by
  refine AMet.of (ls0 := [some (.ref (w.1 + 161)), some (.long wd), none, none, none, none]) rfl (Nat.le_of_ble_eq_true rfl) rfl (fun q hq => hq) (fun X h hl hr hi => ?_)
  have hn4 := hT.2.2.1
  have hsl := (skip_le (T := T) hT.2.2.2.2).2
  refine aw_aload0 h dX4_isWord_0 ?_
  refine aw_callVE0 h hl cl_X4_103 (met_m_see hG hT) (gmt hG) rfl dX4_isWord_1 (Nat.le_of_ble_eq_true rfl) rfl (Nat.zero_le _) (Nat.zero_le _) ?_
  refine aw_pop h rfl dX4_isWord_4 ?_
  refine aw_lconst h _ cl_0 dX4_isWord_5 ?_
  refine aw_lstore3 h rfl dX4_isWord_6 ?_
  refine aw_iconst h _ ci_0 dX4_isWord_7 ?_
  refine aw_istore5 h rfl dX4_isWord_8 ?_
  generalize skip T n i = j at *
  have hT2 := hT.to hsl
  have key : ∀ (fu q : Nat), q ≤ n → n < q + fu → j + q ≤ n → (∀ a, a < q → letB T n (j + a) = true) → AW X 0 0 10 [some (.ref (w.1 + 161)), some (.long wd), none, some (.long (wv T j q)), none, some (.int (nI q))] [] G (upd2 I 161 8 (nI j)) L := by
    intro fu
    induction fu with
    | zero => intro q hle hlt; exact absurd hlt (by omega)
    | succ fu ih =>
      intro q hle hlt hjq hb
      refine aw_aload0 h dX4_isWord_10 ?_
      refine aw_aload0 h dX4_isWord_11 ?_
      refine aw_getiV h fl_X4_100 (gmt hG) dX4_isWord_12 rfl ((rfl : (upd2 I 161 8 (nI j)) 161 8 = nI j)) ?_
      refine aw_iload5 h dX4_isWord_15 ?_
      refine aw_iaddN h dX4_isWord_17 ?_
      refine aw_callVE1 h hl cl_X4_107 (met_m_isLetter hG hT2.1 hT2.2.1 hT2.2.2.1 (by omega)) (gmt hG) rfl dX4_isWord_18 (Nat.le_of_ble_eq_true rfl) rfl (Nat.zero_le _) (Nat.zero_le _) ?_
      refine aw_if_eqB h (tgt := 56) dX4_isWord_21 (by decide) (fun c21 => ?_) (fun c21 => ?_)
      · refine aw_iload5 h dX4_isWord_56 ?_
        refine aw_if_leN h (tgt := 78) (by omega) dX4_isWord_58 (by decide) (fun c58 => ?_) (fun c58 => ?_)
        · refine aw_iconst h _ ci_0 dX4_isWord_78 ?_
          exact aw_zret h hr dX4_isWord_79 (by first | exact z01_0 | exact z01_1 | exact z01_b _) (⟨by rw [show wordB T n j wd = false by unfold wordB; rw [(show lrun T n j = q from run_is (f := letB T n) (by omega) hb c21), decide_eq_false (by omega)]; rfl]; rfl, rfl, rfl, rfl⟩) (Nat.zero_le _) (Nat.zero_le _)
        · refine aw_iload5 h dX4_isWord_61 ?_
          refine aw_bipush h _ cb_8 dX4_isWord_63 ?_
          refine aw_icmp_geN h (tgt := 78) (by omega) (by omega) dX4_isWord_65 (by decide) (fun c65 => ?_) (fun c65 => ?_)
          · refine aw_iconst h _ ci_0 dX4_isWord_78 ?_
            exact aw_zret h hr dX4_isWord_79 (by first | exact z01_0 | exact z01_1 | exact z01_b _) (⟨by rw [show wordB T n j wd = false by unfold wordB; rw [(show lrun T n j = q from run_is (f := letB T n) (by omega) hb c21), decide_eq_false (p := q < 8) (by omega), Bool.false_and, Bool.and_false]]; rfl, rfl, rfl, rfl⟩) (Nat.zero_le _) (Nat.zero_le _)
          · refine aw_lload3 h dX4_isWord_68 ?_
            refine aw_lload1 h dX4_isWord_69 ?_
            refine aw_lcmp_ne h (tgt := 78) dX4_isWord_70 dX4_isWord_71 (by decide) (fun c70 => ?_) (fun c70 => ?_)
            · refine aw_iconst h _ ci_0 dX4_isWord_78 ?_
              exact aw_zret h hr dX4_isWord_79 (by first | exact z01_0 | exact z01_1 | exact z01_b _) (⟨by rw [show wordB T n j wd = false by unfold wordB; rw [(show lrun T n j = q from run_is (f := letB T n) (by omega) hb c21), decide_eq_false (p := wv T j q = wd) c70, Bool.and_false, Bool.and_false]]; rfl, rfl, rfl, rfl⟩) (Nat.zero_le _) (Nat.zero_le _)
            · refine aw_iconst h _ ci_1 dX4_isWord_74 ?_
              refine aw_goto h (tgt := 79) dX4_isWord_75 (by decide) ?_
              exact aw_zret h hr dX4_isWord_79 (by first | exact z01_0 | exact z01_1 | exact z01_b _) (⟨by rw [show wordB T n j wd = true by unfold wordB; rw [(show lrun T n j = q from run_is (f := letB T n) (by omega) hb c21), decide_eq_true (by omega), decide_eq_true (by omega), decide_eq_true (p := wv T j q = wd) c70]; rfl]; rfl, rfl, rfl, rfl⟩) (Nat.zero_le _) (Nat.zero_le _)
      · have hql : j + q < n := letB_lt c21
        refine aw_iload5 h dX4_isWord_24 ?_
        refine aw_bipush h _ cb_8 dX4_isWord_26 ?_
        refine aw_icmp_geN h (tgt := 50) (by omega) (by omega) dX4_isWord_28 (by decide) (fun c28 => ?_) (fun c28 => ?_)
        · refine aw_iincN5 h rfl dX4_isWord_50 ?_
          refine aw_goto h (tgt := 10) dX4_isWord_53 (by decide) ?_
          have h9 := ih (q + 1) (by omega) (by omega) (by omega) (fun a ha => by
            by_cases e : a = q
            · subst e; exact c21
            · exact hb a (by omega))
          rw [wv, if_neg (by omega)] at h9
          exact h9
        · refine aw_lload3 h dX4_isWord_31 ?_
          refine aw_bipush h _ cb_8 dX4_isWord_32 ?_
          refine aw_lshl h dX4_isWord_34 ?_
          refine aw_aload0 h dX4_isWord_35 ?_
          refine aw_getr h fl_X4_7 (gmt hG) dX4_isWord_36 rfl (gmp0 hG) ?_
          refine aw_aload0 h dX4_isWord_39 ?_
          refine aw_getiV h fl_X4_100 (gmt hG) dX4_isWord_40 rfl ((rfl : (upd2 I 161 8 (nI j)) 161 8 = nI j)) ?_
          refine aw_iload5 h dX4_isWord_43 ?_
          refine aw_iaddN h dX4_isWord_45 ?_
          refine aw_baldN h (gms162 hG) (by decide) (by omega) dX4_isWord_46 ?_
          rw [show (upd2 I 161 8 (nI j)) 162 (j + q) = T (j + q) from congrFun hT.1 (j + q)]
          refine aw_i2l h dX4_isWord_47 ?_
          refine aw_lor h dX4_isWord_48 ?_
          refine aw_lstore3 h rfl dX4_isWord_49 ?_
          refine aw_iincN5 h rfl dX4_isWord_50 ?_
          refine aw_goto h (tgt := 10) dX4_isWord_53 (by decide) ?_
          have h9 := ih (q + 1) (by omega) (by omega) (by omega) (fun a ha => by
            by_cases e : a = q
            · subst e; exact c21
            · exact hb a (by omega))
          rw [wv, if_pos (by omega)] at h9
          exact h9
  exact key (n + 1) 0 (Nat.zero_le _) (by omega) hsl (fun a ha => absurd ha (by omega))
theorem met_m_passWord {w : Wd} {G : Gm} {I : Im} {L : Lm} (hG : GM G) {T : Nat → Int32} {n i : Nat} (hT : TPE I T n i) : AMet w yX4_passWord cX4_passWord 1 none 2 61 0 0 [.ref (w.1 + 161)] G I L (Exact none G (upd2 I 161 8 (nI (i + lrun T n i))) L) := by
  refine AMet.of (ls0 := [some (.ref (w.1 + 161))]) rfl (Nat.le_of_ble_eq_true rfl) rfl (fun q hq => hq) (fun X h hl hr hi => ?_)
  have hn4 := hT.2.2.1
  have hin := hT.2.2.2.2
  have key : ∀ (fu q : Nat), q ≤ n → n < q + fu → i + q ≤ n → (∀ a, a < q → letB T n (i + a) = true) → AW X 0 0 0 [some (.ref (w.1 + 161))] [] G (upd2 I 161 8 (nI (i + q))) L := by
    intro fu
    induction fu with
    | zero => intro q hle hlt; exact absurd hlt (by omega)
    | succ fu ih =>
      intro q hle hlt hqn hb
      have hT2 := hT.to hqn
      refine aw_aload0 h dX4_passWord_0 ?_
      refine aw_aload0 h dX4_passWord_1 ?_
      refine aw_getiV h fl_X4_100 (gmt hG) dX4_passWord_2 rfl ((rfl : (upd2 I 161 8 (nI (i + q))) 161 8 = nI (i + q))) ?_
      refine aw_callVE1 h hl cl_X4_107 (met_m_isLetter hG hT2.1 hT2.2.1 hT2.2.2.1 (by omega)) (gmt hG) rfl dX4_passWord_5 (Nat.le_of_ble_eq_true rfl) rfl (Nat.zero_le _) (Nat.zero_le _) ?_
      refine aw_if_eqB h (tgt := 24) dX4_passWord_8 (by decide) (fun c8 => ?_) (fun c8 => ?_)
      · exact aw_vret h hr dX4_passWord_24 (by rw [show lrun T n i = q from run_is (f := letB T n) (by omega) hb c8]; exact ⟨rfl, rfl, rfl, rfl⟩) (Nat.zero_le _) (Nat.zero_le _)
      · have hql : i + q < n := letB_lt c8
        refine aw_aload0 h dX4_passWord_11 ?_
        refine aw_dup h rfl dX4_passWord_12 ?_
        refine aw_getiV h fl_X4_100 (gmt hG) dX4_passWord_13 rfl ((rfl : (upd2 I 161 8 (nI (i + q))) 161 8 = nI (i + q))) ?_
        refine aw_iconst h _ ci_1 dX4_passWord_16 ?_
        refine aw_iaddN h dX4_passWord_17 ?_
        refine aw_puti h fl_X4_100 ft_X4_100 (fun z => by cases z) (gmt hG) dX4_passWord_18 rfl ?_
        rw [upd2_upd2]
        refine aw_goto h (tgt := 0) dX4_passWord_21 (by decide) ?_
        exact ih (q + 1) (by omega) (by omega) (by omega) (fun a ha => by
          by_cases e : a = q
          · subst e; exact c8
          · exact hb a (by omega))
  have h9 : AW X 0 0 0 [some (.ref (w.1 + 161))] [] G (upd2 I 161 8 (nI i)) L := key (n + 1) 0 (Nat.zero_le _) (by omega) hin (fun a ha => absurd ha (by omega))
  rw [hT.id] at h9
  exact h9
theorem met_m_takesWord {w : Wd} {G : Gm} {I : Im} {L : Lm} (hG : GM G) {T : Nat → Int32} {n i : Nat} (hT : TPE I T n i) {wd : Int64} : AMet w yX4_takesWord cX4_takesWord 3 (some .boolean) 3 86 0 0 [.ref (w.1 + 161), .long wd] G I L (Exact (some (.int (bI (wordB T n (skip T n i) wd)))) G (if wordB T n (skip T n i) wd = true then upd2 I 161 8 (nI (skip T n i + lrun T n (skip T n i))) else upd2 I 161 8 (nI (skip T n i))) L) := by
  refine AMet.of (ls0 := [some (.ref (w.1 + 161)), some (.long wd), none]) rfl (Nat.le_of_ble_eq_true rfl) rfl (fun q hq => hq) (fun X h hl hr hi => ?_)
  refine aw_aload0 h dX4_takesWord_0 ?_
  refine aw_lload1 h dX4_takesWord_1 ?_
  refine aw_callVE1 h hl cl_X4_111 (met_m_isWord hG hT) (gmt hG) rfl dX4_takesWord_2 (Nat.le_of_ble_eq_true rfl) rfl (Nat.zero_le _) (Nat.zero_le _) ?_
  refine aw_if_neB h (tgt := 10) dX4_takesWord_5 (by decide) (fun c5 => ?_) (fun c5 => ?_)
  · refine aw_aload0 h dX4_takesWord_10 ?_
    refine aw_callVD0 h hl cl_X4_115 (met_m_passWord hG (hT.to (skip_le (T := T) hT.2.2.2.2).2)) (gmt hG) rfl dX4_takesWord_11 (Nat.le_of_ble_eq_true rfl) rfl (Nat.zero_le _) (Nat.zero_le _) ?_
    rw [upd2_upd2]
    refine aw_iconst h _ ci_1 dX4_takesWord_14 ?_
    exact aw_zret h hr dX4_takesWord_15 (by first | exact z01_0 | exact z01_1 | exact z01_b _) (⟨by rw [c5]; rfl, rfl, by rw [c5, if_pos rfl], rfl⟩) (Nat.zero_le _) (Nat.zero_le _)
  · refine aw_iconst h _ ci_0 dX4_takesWord_8 ?_
    exact aw_zret h hr dX4_takesWord_9 (by first | exact z01_0 | exact z01_1 | exact z01_b _) (⟨by rw [c5]; rfl, rfl, by rw [c5, if_neg Bool.false_ne_true], rfl⟩) (Nat.zero_le _) (Nat.zero_le _)
def dgt (T : Nat → Int32) (k : Nat) : Nat := (T k).toNatClampNeg - 48
def numV (T : Nat → Int32) (j : Nat) : Nat → Nat
  | 0 => 0
  | k + 1 => if k < 5 then 10 * numV T j k + dgt T (j + k) else numV T j k
def drun (T : Nat → Int32) (n j : Nat) : Nat := runN (digB T n) n j
theorem dig_is {T : Nat → Int32} {n k : Nat} (h : digB T n k = true) : T k = nI (48 + dgt T k) ∧ dgt T k ≤ 9 := by
  have h1 := (Bool.and_eq_true _ _).mp h
  obtain ⟨c, h2, h3, h4⟩ := inI_of (x := T k) (a := 48) (b := 57) h1.2 (by decide) (by decide)
  unfold dgt
  rw [h4, nI_clamp (by omega)]
  exact ⟨by rw [show 48 + (c - 48) = c by omega], by omega⟩
theorem numV_lt {T : Nat → Int32} {n j : Nat} : ∀ k, (∀ a, a < k → digB T n (j + a) = true) → numV T j k < 10 ^ (min k 5) := by
  intro k
  induction k with
  | zero => intro _; simp [numV]
  | succ k ih =>
    intro h
    have h1 := ih (fun a ha => h a (by omega))
    have h2 := (dig_is (h k (by omega))).2
    rw [numV]
    split
    · rename_i hk
      rw [show min k 5 = k by omega] at h1
      rw [show min (k + 1) 5 = k + 1 by omega, Nat.pow_succ]
      omega
    · rw [show min k 5 = 5 by omega] at h1
      rw [show min (k + 1) 5 = 5 by omega]
      exact h1
theorem numV_le {T : Nat → Int32} {n j k : Nat} (h : ∀ a, a < k → digB T n (j + a) = true) : numV T j k < 100000 := Nat.lt_of_lt_of_le (numV_lt k h) (Nat.pow_le_pow_right (i := min k 5) (j := 5) (n := 10) (by decide) (by omega))
def numB (T : Nat → Int32) (n j mn mx : Nat) : Bool := decide (drun T n j ≤ 5) && (decide (mn ≤ numV T j (drun T n j)) && decide (numV T j (drun T n j) ≤ mx))
/-- a number is read: what is left in the fields -/
def numM (I : Im) (T : Nat → Int32) (n j mn mx : Nat) : Im := if digB T n j = true then (let I1 := upd2 (upd2 I 161 8 (nI (j + drun T n j))) 161 10 (nI (numV T j (drun T n j))); if numB T n j mn mx = true then I1 else upd2 I1 161 9 (failW (I 161 9) 1 j)) else upd2 (upd2 I 161 8 (nI j)) 161 9 (failW (I 161 9) 0 j)
theorem met_m_numberHere {w : Wd} {G : Gm} {I : Im} {L : Lm} (hG : GM G) {T : Nat → Int32} {n i : Nat} (hT : TPE I T n i) {mn mx : Nat} (hmn : mn < 2 ^ 31) (hmx : mx < 2 ^ 31) : AMet w yX4_numberHere cX4_numberHere 5 (some .boolean) 2 65 0 0 [.ref (w.1 + 161), .int (nI mn), .int (nI mx)] G I L (Exact (some (.int (bI (digB T n (skip T n i) && numB T n (skip T n i) mn mx)))) G (numM I T n (skip T n i) mn mx) L) := by
  refine AMet.of (ls0 := [some (.ref (w.1 + 161)), some (.int (nI mn)), some (.int (nI mx)), none, none]) rfl (Nat.le_of_ble_eq_true rfl) rfl (fun q hq => hq) (fun X h hl hr hi => ?_)
  have hn4 := hT.2.2.1
  have hsl := (skip_le (T := T) hT.2.2.2.2).2
  refine aw_aload0 h dX4_numberHere_0 ?_
  refine aw_callVE0 h hl cl_X4_103 (met_m_see hG hT) (gmt hG) rfl dX4_numberHere_1 (Nat.le_of_ble_eq_true rfl) rfl (Nat.zero_le _) (Nat.zero_le _) ?_
  refine aw_pop h rfl dX4_numberHere_4 ?_
  generalize skip T n i = j at *
  have hT2 := hT.to hsl
  refine aw_aload0 h dX4_numberHere_5 ?_
  refine aw_aload0 h dX4_numberHere_6 ?_
  refine aw_getiV h fl_X4_100 (gmt hG) dX4_numberHere_7 rfl ((rfl : (upd2 I 161 8 (nI j)) 161 8 = nI j)) ?_
  refine aw_callVE1 h hl cl_X4_118 (met_m_isDigit hG hT2.1 hT2.2.1 hT2.2.2.1 (by omega)) (gmt hG) rfl dX4_numberHere_10 (Nat.le_of_ble_eq_true rfl) rfl (Nat.zero_le _) (Nat.zero_le _) ?_
  refine aw_if_neB h (tgt := 26) dX4_numberHere_13 (by decide) (fun c13 => ?_) (fun c13 => ?_)
  · refine aw_aload0 h dX4_numberHere_26 ?_
    refine aw_getiV h fl_X4_100 (gmt hG) dX4_numberHere_27 rfl ((rfl : (upd2 I 161 8 (nI j)) 161 8 = nI j)) ?_
    refine aw_istore3 h rfl dX4_numberHere_30 ?_
    refine aw_iconst h _ ci_0 dX4_numberHere_31 ?_
    refine aw_istore4 h rfl dX4_numberHere_32 ?_
    have hD0 : digB T n j = true := c13
    have key : ∀ (fu q : Nat), q ≤ n → n < q + fu → j + q ≤ n → (∀ a, a < q → digB T n (j + a) = true) → AW X 0 0 34 [some (.ref (w.1 + 161)), some (.int (nI mn)), some (.int (nI mx)), some (.int (nI j)), some (.int (nI (numV T j q)))] [] G (upd2 I 161 8 (nI (j + q))) L := by
      intro fu
      induction fu with
      | zero => intro q hle hlt; exact absurd hlt (by omega)
      | succ fu ih =>
        intro q hle hlt hjq hb
        have hT2 : TPE (upd2 I 161 8 (nI (j + q))) T n (j + q) := hT.to hjq
        have hnv := numV_le hb
        refine aw_aload0 h dX4_numberHere_34 ?_
        refine aw_aload0 h dX4_numberHere_35 ?_
        refine aw_getiV h fl_X4_100 (gmt hG) dX4_numberHere_36 rfl ((rfl : (upd2 I 161 8 (nI (j + q))) 161 8 = nI (j + q))) ?_
        refine aw_callVE1 h hl cl_X4_118 (met_m_isDigit hG hT2.1 hT2.2.1 hT2.2.2.1 (by omega)) (gmt hG) rfl dX4_numberHere_39 (Nat.le_of_ble_eq_true rfl) rfl (Nat.zero_le _) (Nat.zero_le _) ?_
        refine aw_if_eqB h (tgt := 88) dX4_numberHere_42 (by decide) (fun c42 => ?_) (fun c42 => ?_)
        · have hdr : drun T n j = q := run_is (f := digB T n) (by omega) hb c42
          have hD : digB T n j = true := hD0
          have hmem : ∀ b, numB T n j mn mx = b → numM I T n j mn mx = if b = true then upd2 (upd2 I 161 8 (nI (j + q))) 161 10 (nI (numV T j q)) else upd2 (upd2 (upd2 I 161 8 (nI (j + q))) 161 10 (nI (numV T j q))) 161 9 (failW (I 161 9) 1 j) := by
            intro b hb2
            unfold numM
            rw [if_pos hD, hdr, hb2]
          refine aw_aload0 h dX4_numberHere_88 ?_
          refine aw_iload4 h dX4_numberHere_89 ?_
          refine aw_puti h fl_X4_125 ft_X4_125 (fun z => by cases z) (gmt hG) dX4_numberHere_91 rfl ?_
          refine aw_aload0 h dX4_numberHere_94 ?_
          refine aw_getiV h fl_X4_100 (gmt hG) dX4_numberHere_95 rfl ((rfl : (upd2 (upd2 I 161 8 (nI (j + q))) 161 10 (nI (numV T j q))) 161 8 = nI (j + q))) ?_
          refine aw_iload3 h dX4_numberHere_98 ?_
          refine aw_isubN h (by omega) dX4_numberHere_99 ?_
          rw [show j + q - j = q by omega]
          refine aw_iconst h _ ci_5 dX4_numberHere_100 ?_
          refine aw_icmp_gtN h (tgt := 117) (by omega) (by omega) dX4_numberHere_101 (by decide) (fun c101 => ?_) (fun c101 => ?_)
          · refine aw_aload0 h dX4_numberHere_117 ?_
            refine aw_iconst h _ ci_1 dX4_numberHere_118 ?_
            refine aw_iload3 h dX4_numberHere_119 ?_
            refine aw_callVE2 h hl cl_X4_121 (met_m_fails hG (kd := 1) (at2 := j)) (gmt hG) rfl dX4_numberHere_120 (Nat.le_of_ble_eq_true rfl) rfl (Nat.zero_le _) (Nat.zero_le _) ?_
            refine aw_if_eqB h (tgt := 130) dX4_numberHere_123 (by decide) (fun c123 => ?_) (fun c123 => ?_)
            · refine aw_iconst h _ ci_0 dX4_numberHere_130 ?_
              exact aw_zret h hr dX4_numberHere_131 (by first | exact z01_0 | exact z01_1 | exact z01_b _) (⟨by rw [hD, show numB T n j mn mx = false by unfold numB; rw [hdr, decide_eq_false (by omega)]; rfl]; rfl, rfl, by rw [hmem false (by unfold numB; rw [hdr, decide_eq_false (by omega)]; rfl)]; rfl, rfl⟩) (Nat.zero_le _) (Nat.zero_le _)
            · cases c123
          · refine aw_iload4 h dX4_numberHere_104 ?_
            refine aw_i2lN h (by omega) dX4_numberHere_106 ?_
            refine aw_iload1 h dX4_numberHere_107 ?_
            refine aw_i2lN h (by omega) dX4_numberHere_108 ?_
            refine aw_iload2 h dX4_numberHere_109 ?_
            refine aw_i2lN h (by omega) dX4_numberHere_110 ?_
            refine aw_callSE3 h hl cl_X4_128 (met_m_in) dX4_numberHere_111 (Nat.le_of_ble_eq_true rfl) rfl (Nat.zero_le _) (Nat.zero_le _) ?_
            rw [decide_eq_decide.mpr (lN_le (a := mn) (b := numV T j q) (by omega) (by omega)), decide_eq_decide.mpr (lN_le (a := numV T j q) (b := mx) (by omega) (by omega))]
            refine aw_if_neB h (tgt := 126) dX4_numberHere_114 (by decide) (fun c114 => ?_) (fun c114 => ?_)
            · refine aw_iconst h _ ci_1 dX4_numberHere_126 ?_
              refine aw_goto h (tgt := 131) dX4_numberHere_127 (by decide) ?_
              exact aw_zret h hr dX4_numberHere_131 (by first | exact z01_0 | exact z01_1 | exact z01_b _) (⟨by rw [hD, show numB T n j mn mx = true by unfold numB; rw [hdr, decide_eq_true (by omega)]; exact c114]; rfl, rfl, by rw [hmem true (by unfold numB; rw [hdr, decide_eq_true (by omega)]; exact c114)]; rfl, rfl⟩) (Nat.zero_le _) (Nat.zero_le _)
            · refine aw_aload0 h dX4_numberHere_117 ?_
              refine aw_iconst h _ ci_1 dX4_numberHere_118 ?_
              refine aw_iload3 h dX4_numberHere_119 ?_
              refine aw_callVE2 h hl cl_X4_121 (met_m_fails hG (kd := 1) (at2 := j)) (gmt hG) rfl dX4_numberHere_120 (Nat.le_of_ble_eq_true rfl) rfl (Nat.zero_le _) (Nat.zero_le _) ?_
              refine aw_if_eqB h (tgt := 130) dX4_numberHere_123 (by decide) (fun c123 => ?_) (fun c123 => ?_)
              · refine aw_iconst h _ ci_0 dX4_numberHere_130 ?_
                exact aw_zret h hr dX4_numberHere_131 (by first | exact z01_0 | exact z01_1 | exact z01_b _) (⟨by rw [hD, show numB T n j mn mx = false by unfold numB; rw [hdr, c114, Bool.and_false]]; rfl, rfl, by rw [hmem false (by unfold numB; rw [hdr, c114, Bool.and_false])]; rfl, rfl⟩) (Nat.zero_le _) (Nat.zero_le _)
              · cases c123
        · have hql : j + q < n := digB_lt c42
          have hdg := dig_is c42
          refine aw_aload0 h dX4_numberHere_45 ?_
          refine aw_getiV h fl_X4_100 (gmt hG) dX4_numberHere_46 rfl ((rfl : (upd2 I 161 8 (nI (j + q))) 161 8 = nI (j + q))) ?_
          refine aw_iload3 h dX4_numberHere_49 ?_
          refine aw_isubN h (by omega) dX4_numberHere_50 ?_
          rw [show j + q - j = q by omega]
          refine aw_iconst h _ ci_5 dX4_numberHere_51 ?_
          refine aw_icmp_geN h (tgt := 75) (by omega) (by omega) dX4_numberHere_52 (by decide) (fun c52 => ?_) (fun c52 => ?_)
          · refine aw_aload0 h dX4_numberHere_75 ?_
            refine aw_dup h rfl dX4_numberHere_76 ?_
            refine aw_getiV h fl_X4_100 (gmt hG) dX4_numberHere_77 rfl ((rfl : (upd2 I 161 8 (nI (j + q))) 161 8 = nI (j + q))) ?_
            refine aw_iconst h _ ci_1 dX4_numberHere_80 ?_
            refine aw_iaddN h dX4_numberHere_81 ?_
            refine aw_puti h fl_X4_100 ft_X4_100 (fun z => by cases z) (gmt hG) dX4_numberHere_82 rfl ?_
            rw [upd2_upd2]
            refine aw_goto h (tgt := 34) dX4_numberHere_85 (by decide) ?_
            have h9 := ih (q + 1) (by omega) (by omega) (by omega) (fun a ha => by
              by_cases e : a = q
              · subst e; exact c42
              · exact hb a (by omega))
            rw [numV, if_neg (by omega)] at h9
            exact h9
          · refine aw_bipush h _ cb_10 dX4_numberHere_55 ?_
            refine aw_iload4 h dX4_numberHere_57 ?_
            refine aw_imulN h dX4_numberHere_59 ?_
            refine aw_aload0 h dX4_numberHere_60 ?_
            refine aw_getr h fl_X4_7 (gmt hG) dX4_numberHere_61 rfl (gmp0 hG) ?_
            refine aw_aload0 h dX4_numberHere_64 ?_
            refine aw_getiV h fl_X4_100 (gmt hG) dX4_numberHere_65 rfl ((rfl : (upd2 I 161 8 (nI (j + q))) 161 8 = nI (j + q))) ?_
            refine aw_baldN h (gms162 hG) (by decide) (by omega) dX4_numberHere_68 ?_
            rw [show (upd2 I 161 8 (nI (j + q))) 162 (j + q) = nI (48 + dgt T (j + q)) from (congrFun hT.1 (j + q)).trans hdg.1]
            refine aw_iaddN h dX4_numberHere_69 ?_
            refine aw_bipush h _ cb_48 dX4_numberHere_70 ?_
            refine aw_isubN h (by omega) dX4_numberHere_72 ?_
            rw [show 10 * numV T j q + (48 + dgt T (j + q)) - 48 = 10 * numV T j q + dgt T (j + q) by omega]
            refine aw_istore4 h rfl dX4_numberHere_73 ?_
            refine aw_aload0 h dX4_numberHere_75 ?_
            refine aw_dup h rfl dX4_numberHere_76 ?_
            refine aw_getiV h fl_X4_100 (gmt hG) dX4_numberHere_77 rfl ((rfl : (upd2 I 161 8 (nI (j + q))) 161 8 = nI (j + q))) ?_
            refine aw_iconst h _ ci_1 dX4_numberHere_80 ?_
            refine aw_iaddN h dX4_numberHere_81 ?_
            refine aw_puti h fl_X4_100 ft_X4_100 (fun z => by cases z) (gmt hG) dX4_numberHere_82 rfl ?_
            rw [upd2_upd2]
            refine aw_goto h (tgt := 34) dX4_numberHere_85 (by decide) ?_
            have h9 := ih (q + 1) (by omega) (by omega) (by omega) (fun a ha => by
              by_cases e : a = q
              · subst e; exact c42
              · exact hb a (by omega))
            rw [numV, if_pos (by omega)] at h9
            exact h9
    exact key (n + 1) 0 (Nat.zero_le _) (by omega) hsl (fun a ha => absurd ha (by omega))
  · refine aw_aload0 h dX4_numberHere_16 ?_
    refine aw_iconst h _ ci_0 dX4_numberHere_17 ?_
    refine aw_aload0 h dX4_numberHere_18 ?_
    refine aw_getiV h fl_X4_100 (gmt hG) dX4_numberHere_19 rfl ((rfl : (upd2 I 161 8 (nI j)) 161 8 = nI j)) ?_
    refine aw_callVE2 h hl cl_X4_121 (met_m_fails hG (kd := 0) (at2 := j)) (gmt hG) rfl dX4_numberHere_22 (Nat.le_of_ble_eq_true rfl) rfl (Nat.zero_le _) (Nat.zero_le _) ?_
    exact aw_zret h hr dX4_numberHere_25 (by first | exact z01_0 | exact z01_1 | exact z01_b _) (⟨by rw [c13]; rfl, rfl, by unfold numM; rw [if_neg (by rw [c13]; exact Bool.false_ne_true)]; rfl, rfl⟩) (Nat.zero_le _) (Nat.zero_le _)
