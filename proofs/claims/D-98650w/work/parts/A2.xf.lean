/-! The component: force, seed, the tape, notes, counts -/
set_option maxRecDepth 100000
theorem in_rng1 {p : Int32} {n : Nat} (hn : n < 2 ^ 31) : (decide ((-1 : Int64) ≤ p.toInt64) && decide (p.toInt64 ≤ (nI n - nI 1).toInt64)) = forceOk n p := by
  have h1 : (nI n).toInt = (n : Int) := nI_toInt hn
  have h3 : (nI n - nI 1).toInt = (n : Int) - 1 := by
    rw [Int32.toInt_sub, h1, show (nI 1).toInt = 1 by decide, Int.bmod_eq_of_le (by omega) (by omega)]
  have e5 : (p.toInt64 ≤ (nI n - nI 1).toInt64) ↔ p.toInt < (n : Int) := by
    rw [le64, Int32.le_iff_toInt_le, h3]
    omega
  have e6 : ((-1 : Int64) ≤ p.toInt64) ↔ (-1 : Int) ≤ p.toInt := by
    rw [show (-1 : Int64) = (-1 : Int32).toInt64 by decide, le64, Int32.le_iff_toInt_le]
    rfl
  have e7 : (p = -1) ↔ p.toInt = -1 := by
    rw [← Int32.toInt_inj]
    exact Iff.rfl
  have e8 : ((0 : Int32) ≤ p) ↔ (0 : Int) ≤ p.toInt := by
    rw [Int32.le_iff_toInt_le]
    exact Iff.rfl
  have e9 : (p < nI n) ↔ p.toInt < (n : Int) := by
    rw [Int32.lt_iff_toInt_lt, h1]
  have q5 : decide (p.toInt64 ≤ (nI n - nI 1).toInt64) = decide (p.toInt < (n : Int)) := decide_eq_decide.mpr e5
  have q6 : decide ((-1 : Int64) ≤ p.toInt64) = decide ((-1 : Int) ≤ p.toInt) := decide_eq_decide.mpr e6
  have q7 : decide (p = -1) = decide (p.toInt = -1) := decide_eq_decide.mpr e7
  have q8 : decide ((0 : Int32) ≤ p) = decide ((0 : Int) ≤ p.toInt) := decide_eq_decide.mpr e8
  have q9 : decide (p < nI n) = decide (p.toInt < (n : Int)) := decide_eq_decide.mpr e9
  unfold forceOk
  rw [q5, q6, q7, q8, q9]
  by_cases a : p.toInt = -1
  · rw [decide_eq_true (show (-1 : Int) ≤ p.toInt by omega), decide_eq_true a, decide_eq_true (show p.toInt < (n : Int) by omega)]; rfl
  · rw [decide_eq_false a]
    by_cases b : (-1 : Int) ≤ p.toInt
    · rw [decide_eq_true b, decide_eq_true (show (0 : Int) ≤ p.toInt by omega)]; rfl
    · rw [decide_eq_false b, decide_eq_false (show ¬ (0 : Int) ≤ p.toInt by omega)]; rfl
theorem met_x_force {w : Wd} {G : Gm} {I : Im} {L : Lm} (hX : XG G) {sl : Nat → Prop} {RL : List (List Cl)} (hRu : XRu sl G I RL) {k : Int32} : AMet w yX0_force cX0_force 3 (some .int) 2 65 0 0 [.ref (w.1 + 0), .int k] G I L (Exact (some (.int (if forceOk RL.length k then I 0 4 else -2))) G (if forceOk RL.length k then upd2 I 0 4 k else I) L) := by
  refine AMet.of (ls0 := [some (.ref (w.1 + 0)), some (.int k), none]) rfl (Nat.le_of_ble_eq_true rfl) rfl (fun q hq => hq) (fun X h hl hr hi => ?_)
  obtain ⟨ra, cap, els, hAl, hel, hr6, -, -, hslm, hRu2⟩ := id hRu
  have hRl := hAl
  refine aw_iload1 h dX0_force_0 ?_
  refine aw_i2l h dX0_force_1 ?_
  refine aw_ldc2 h q951 dX0_force_2 ?_
  refine aw_aload0 h dX0_force_5 ?_
  refine aw_getr h fl_X0_31 (gx0 hX) dX0_force_6 rfl (gxp3 hX) ?_
  refine aw_callVE0 h hl cl_X0_136 (met_j_size hAl) hRl.1 rfl dX0_force_9 (Nat.le_of_ble_eq_true rfl) rfl (Nat.zero_le _) (Nat.zero_le _) ?_
  rw [hel]
  refine aw_iconst h _ ci_1 dX0_force_12 ?_
  refine aw_isub h dX0_force_13 ?_
  refine aw_i2l h dX0_force_14 ?_
  refine aw_callSE3 h hl cl_X0_129 (met_x_in) dX0_force_15 (Nat.le_of_ble_eq_true rfl) rfl (Nat.zero_le _) (Nat.zero_le _) ?_
  rw [in_rng1 (by omega)]
  refine aw_if_neB h (tgt := 24) dX0_force_18 (by decide) (fun c18 => ?_) (fun c18 => ?_)
  · refine aw_aload0 h dX0_force_24 ?_
    refine aw_geti h fl_X0_35 (gx0 hX) dX0_force_25 rfl ?_
    refine aw_istore2 h rfl dX0_force_28 ?_
    refine aw_aload0 h dX0_force_29 ?_
    refine aw_iload1 h dX0_force_30 ?_
    refine aw_puti h fl_X0_35 ft_X0_35 (fun z => by cases z) (gx0 hX) dX0_force_31 rfl ?_
    refine aw_iload2 h dX0_force_34 ?_
    exact aw_iret h hr dX0_force_35 (⟨by rw [c18]; rfl, rfl, by rw [c18]; rfl, rfl⟩) (Nat.zero_le _) (Nat.zero_le _)
  · refine aw_bipush h _ cb_m2 dX0_force_21 ?_
    exact aw_iret h hr dX0_force_23 (⟨by rw [c18]; rfl, rfl, by rw [c18]; rfl, rfl⟩) (Nat.zero_le _) (Nat.zero_le _)
theorem met_x_seed {w : Wd} {G : Gm} {I : Im} {L : Lm} (hX : XG G) {n : Int32} : AMet w yX0_seed cX0_seed 3 (some .int) 1 40 0 0 [.ref (w.1 + 0), .int n] G I L (Exact (some (.int (if 0 ≤ n then I 0 12 else -1))) G (if 0 ≤ n then upd2 I 0 12 n else I) L) := by
  refine AMet.of (ls0 := [some (.ref (w.1 + 0)), some (.int n), none]) rfl (Nat.le_of_ble_eq_true rfl) rfl (fun q hq => hq) (fun X h hl hr hi => ?_)
  refine aw_iload1 h dX0_seed_0 ?_
  refine aw_if_ge h (tgt := 6) dX0_seed_1 (by decide) (fun c1 => ?_) (fun c1 => ?_)
  · refine aw_aload0 h dX0_seed_6 ?_
    refine aw_geti h fl_X0_390 (gx0 hX) dX0_seed_7 rfl ?_
    refine aw_istore2 h rfl dX0_seed_10 ?_
    refine aw_aload0 h dX0_seed_11 ?_
    refine aw_iload1 h dX0_seed_12 ?_
    refine aw_puti h fl_X0_390 ft_X0_390 (fun z => by cases z) (gx0 hX) dX0_seed_13 rfl ?_
    refine aw_iload2 h dX0_seed_16 ?_
    exact aw_iret h hr dX0_seed_17 (⟨by rw [if_pos c1], rfl, by rw [if_pos c1], rfl⟩) (Nat.zero_le _) (Nat.zero_le _)
  · refine aw_iconst h _ ci_m1 dX0_seed_4 ?_
    exact aw_iret h hr dX0_seed_5 (⟨by rw [if_neg c1], rfl, by rw [if_neg c1], rfl⟩) (Nat.zero_le _) (Nat.zero_le _)
theorem met_x_end {w : Wd} {G : Gm} {I : Im} {L : Lm} (hX : XG G) {n : Int32} : AMet w yX0_end cX0_end 2 (some .int) 1 40 0 0 [.ref (w.1 + 0), .int n] G I L (Exact (some (.int (if 0 ≤ n ∧ n ≤ I 0 7 then n else -1))) G (if 0 ≤ n ∧ n ≤ I 0 7 then upd2 I 0 7 n else I) L) := by
  refine AMet.of (ls0 := [some (.ref (w.1 + 0)), some (.int n)]) rfl (Nat.le_of_ble_eq_true rfl) rfl (fun q hq => hq) (fun X h hl hr hi => ?_)
  refine aw_iload1 h dX0_end_0 ?_
  refine aw_if_lt h (tgt := 12) dX0_end_1 (by decide) (fun c1 => ?_) (fun c1 => ?_)
  · refine aw_iconst h _ ci_m1 dX0_end_12 ?_
    exact aw_iret h hr dX0_end_13 (⟨by rw [if_neg (fun q => absurd c1 (Int32.not_lt.mpr q.1))], rfl, by rw [if_neg (fun q => absurd c1 (Int32.not_lt.mpr q.1))], rfl⟩) (Nat.zero_le _) (Nat.zero_le _)
  · refine aw_iload1 h dX0_end_4 ?_
    refine aw_aload0 h dX0_end_5 ?_
    refine aw_geti h fl_X0_146 (gx0 hX) dX0_end_6 rfl ?_
    refine aw_icmp_le h (tgt := 14) dX0_end_9 (by decide) (fun c9 => ?_) (fun c9 => ?_)
    · refine aw_aload0 h dX0_end_14 ?_
      refine aw_iload1 h dX0_end_15 ?_
      refine aw_puti h fl_X0_146 ft_X0_146 (fun z => by cases z) (gx0 hX) dX0_end_16 rfl ?_
      refine aw_iload1 h dX0_end_19 ?_
      exact aw_iret h hr dX0_end_20 (⟨by rw [if_pos ⟨Int32.not_lt.mp c1, c9⟩], rfl, by rw [if_pos ⟨Int32.not_lt.mp c1, c9⟩], rfl⟩) (Nat.zero_le _) (Nat.zero_le _)
    · refine aw_iconst h _ ci_m1 dX0_end_12 ?_
      exact aw_iret h hr dX0_end_13 (⟨by rw [if_neg (fun q => c9 q.2)], rfl, by rw [if_neg (fun q => c9 q.2)], rfl⟩) (Nat.zero_le _) (Nat.zero_le _)
def stpX (I : Im) (t : Nat) (x : Int32) : Im := upd2 (upd2 I 22 t x) 0 7 (nI (t + 1))
def fourX (I : Im) (t : Nat) (v : Int32) : Im := stpX (stpX (stpX (stpX I t (byt v 24)) (t + 1) (byt v 16)) (t + 2) (byt v 8)) (t + 3) (byt v 0)
def feedX (I : Im) (t : Nat) (a b c d e : Int32) : Im := fourX (fourX (fourX (fourX (fourX I t a) (t + 4) b) (t + 8) c) (t + 12) d) (t + 16) e
theorem met_x_put {w : Wd} {G : Gm} {I : Im} {L : Lm} (hX : XG G) {t : Nat} (hT : I 0 7 = nI t) (ht : t + 4 ≤ 400) {v : Int32} : AMet w yX0_put cX0_put 3 none 1 40 0 0 [.ref (w.1 + 0), .int v] G I L (Exact none G (fourX I t v) L) := by
  refine AMet.of (ls0 := [some (.ref (w.1 + 0)), some (.int v), none]) rfl (Nat.le_of_ble_eq_true rfl) rfl (fun q hq => hq) (fun X h hl hr hi => ?_)
  have step : ∀ (k s : Nat) (I1 : Im), I1 0 7 = nI s → s < 400 → k < 25 → AW X 0 0 3 [some (.ref (w.1 + 0)), some (.int (v)), some (.int (nI k + Int32.ofInt (-8)))] [] G (stpX I1 s (byt v k)) L → AW X 0 0 3 [some (.ref (w.1 + 0)), some (.int (v)), some (.int (nI k))] [] G I1 L := by
    intro k s I1 hT hs hk h9
    refine aw_iload2 h dX0_put_3 ?_
    refine aw_if_ltN h (tgt := 36) (by omega) dX0_put_4 (by decide) (fun c4 => ?_) (fun c4 => ?_)
    · exact absurd c4 (by omega)
    · refine aw_aload0 h dX0_put_7 ?_
      refine aw_getr h fl_X0_46 (gx0 hX) dX0_put_8 rfl (gxp6 hX) ?_
      refine aw_aload0 h dX0_put_11 ?_
      refine aw_getiV h fl_X0_146 (gx0 hX) dX0_put_12 rfl (hT) ?_
      refine aw_iload1 h dX0_put_15 ?_
      refine aw_iload2 h dX0_put_16 ?_
      refine aw_ishr h dX0_put_17 ?_
      refine aw_i2b h dX0_put_18 ?_
      refine aw_bastN h (gxs22 hX) (by decide) (by omega) dX0_put_19 ?_
      rw [show ((v >>> (nI k &&& 31)).toInt8.toInt32).toInt8.toInt32 = byt v k from byt2 v k]
      refine aw_aload0 h dX0_put_20 ?_
      refine aw_dup h rfl dX0_put_21 ?_
      refine aw_getiV h fl_X0_146 (gx0 hX) dX0_put_22 rfl ((show (upd2 I1 22 s (byt v k)) 0 7 = nI s from hT)) ?_
      refine aw_iconst h _ ci_1 dX0_put_25 ?_
      refine aw_iaddN h dX0_put_26 ?_
      refine aw_puti h fl_X0_146 ft_X0_146 (fun z => by cases z) (gx0 hX) dX0_put_27 rfl ?_
      refine aw_iinc2 h rfl rfl dX0_put_30 ?_
      refine aw_goto h (tgt := 3) dX0_put_33 (by decide) ?_
      exact h9
  refine aw_bipush h _ cb_24 dX0_put_0 ?_
  refine aw_istore2 h rfl dX0_put_2 ?_
  refine step 24 t I hT (by omega) (by omega) ?_
  refine step 16 (t + 1) _ rfl (by omega) (by omega) ?_
  refine step 8 (t + 2) _ rfl (by omega) (by omega) ?_
  refine step 0 (t + 3) _ rfl (by omega) (by omega) ?_
  refine aw_iload2 h dX0_put_3 ?_
  refine aw_if_lt h (tgt := 36) dX0_put_4 (by decide) (fun c4 => ?_) (fun c4 => ?_)
  · exact aw_vret h hr dX0_put_36 (⟨rfl, rfl, rfl, rfl⟩) (Nat.zero_le _) (Nat.zero_le _)
  · exact absurd (show nI 0 + Int32.ofInt (-8) < 0 by decide) c4
theorem met_x_feed {w : Wd} {G : Gm} {I : Im} {L : Lm} (hX : XG G) {t : Nat} (hT : I 0 7 = nI t) (ht : t ≤ 400) {a b c d e : Int32} : AMet w yX0_feed cX0_feed 6 (some .int) 2 62 0 0 [.ref (w.1 + 0), .int a, .int b, .int c, .int d, .int e] G I L (Exact (some (.int (if t + 20 ≤ 400 then nI (t + 20) else -1))) G (if t + 20 ≤ 400 then feedX I t a b c d e else I) L) := by
  refine AMet.of (ls0 := [some (.ref (w.1 + 0)), some (.int a), some (.int b), some (.int c), some (.int d), some (.int e)]) rfl (Nat.le_of_ble_eq_true rfl) rfl (fun q hq => hq) (fun X h hl hr hi => ?_)
  refine aw_aload0 h dX0_feed_0 ?_
  refine aw_getiV h fl_X0_146 (gx0 hX) dX0_feed_1 rfl (hT) ?_
  refine aw_bipush h _ cb_20 dX0_feed_4 ?_
  refine aw_iaddN h dX0_feed_6 ?_
  refine aw_sipush h _ cs_400 dX0_feed_7 ?_
  refine aw_icmp_leN h (tgt := 15) (by omega) (by omega) dX0_feed_10 (by decide) (fun c10 => ?_) (fun c10 => ?_)
  · refine aw_aload0 h dX0_feed_15 ?_
    refine aw_iload1 h dX0_feed_16 ?_
    refine aw_callVD1 h hl cl_X0_149 (met_x_put (t := t + 0) hX hT (by omega)) (gx0 hX) rfl dX0_feed_17 (Nat.le_of_ble_eq_true rfl) rfl (Nat.zero_le _) (Nat.zero_le _) ?_
    refine aw_aload0 h dX0_feed_20 ?_
    refine aw_iload2 h dX0_feed_21 ?_
    refine aw_callVD1 h hl cl_X0_149 (met_x_put (t := t + 4) hX rfl (by omega)) (gx0 hX) rfl dX0_feed_22 (Nat.le_of_ble_eq_true rfl) rfl (Nat.zero_le _) (Nat.zero_le _) ?_
    refine aw_aload0 h dX0_feed_25 ?_
    refine aw_iload3 h dX0_feed_26 ?_
    refine aw_callVD1 h hl cl_X0_149 (met_x_put (t := t + 8) hX rfl (by omega)) (gx0 hX) rfl dX0_feed_27 (Nat.le_of_ble_eq_true rfl) rfl (Nat.zero_le _) (Nat.zero_le _) ?_
    refine aw_aload0 h dX0_feed_30 ?_
    refine aw_iload4 h dX0_feed_31 ?_
    refine aw_callVD1 h hl cl_X0_149 (met_x_put (t := t + 12) hX rfl (by omega)) (gx0 hX) rfl dX0_feed_33 (Nat.le_of_ble_eq_true rfl) rfl (Nat.zero_le _) (Nat.zero_le _) ?_
    refine aw_aload0 h dX0_feed_36 ?_
    refine aw_iload5 h dX0_feed_37 ?_
    refine aw_callVD1 h hl cl_X0_149 (met_x_put (t := t + 16) hX rfl (by omega)) (gx0 hX) rfl dX0_feed_39 (Nat.le_of_ble_eq_true rfl) rfl (Nat.zero_le _) (Nat.zero_le _) ?_
    refine aw_aload0 h dX0_feed_42 ?_
    refine aw_getiV h fl_X0_146 (gx0 hX) dX0_feed_43 rfl ((rfl : feedX I t a b c d e 0 7 = nI (t + 20))) ?_
    exact aw_iret h hr dX0_feed_46 (⟨by rw [if_pos (by omega)]; rfl, rfl, by rw [if_pos (by omega)]; rfl, rfl⟩) (Nat.zero_le _) (Nat.zero_le _)
  · refine aw_iconst h _ ci_m1 dX0_feed_13 ?_
    exact aw_iret h hr dX0_feed_14 (⟨by rw [if_neg (by omega)], rfl, by rw [if_neg (by omega)], rfl⟩) (Nat.zero_le _) (Nat.zero_le _)
/-- the notes -/
def NoteX (I : Im) (S : Nat → Int32) : Prop := I 0 11 = S 114 ∧ ∀ j, j < nn S → I 23 j = S (84 + 3 * j) ∧ I 24 j = S (84 + 3 * j + 1) ∧ I 25 j = S (84 + 3 * j + 2)
def noteE (m : Nat) : Bool := decide (23 ≤ m) && decide (m ≤ 25)
def noteF (j : Nat) : Bool := j == 11
def NTt (S : Nat → Int32) (G : Gm) (I : Im) (L : Lm) : Gm → Im → Lm → Prop := fun G1 I1 L1 => G = G1 ∧ XM noteE noteF I L I1 L1 ∧ NoteX I1 S
theorem nn_note {S : Nat → Int32} {n p r : Int32} : nn (noteV S n p r) = (nI (nn S + 1)).toNatClampNeg := by
  unfold noteV nn nv
  rw [vup_s]
theorem NoteX.add {I : Im} {S : Nat → Int32} {n p r : Int32} (h : NoteX I S) (hnn : nn S < 10) : NoteX (upd2 (upd2 (upd2 (upd2 I 23 (nn S) n) 24 (nn S) p) 25 (nn S) r) 0 11 (nI (nn S + 1))) (noteV S n p r) := by
  have en : nn (noteV S n p r) = nn S + 1 := by rw [nn_note, nI_clamp (by omega)]
  refine ⟨by rw [upd2_s, vup_s]; unfold noteV; rw [vup_s], fun j hj => ?_⟩
  rw [en] at hj
  show va_up (I 23) (nn S) n j = _ ∧ va_up (I 24) (nn S) p j = _ ∧ va_up (I 25) (nn S) r j = _
  unfold noteV
  by_cases e : j = nn S
  · rw [e, vup_s, vup_s, vup_s, vup_n _ _ (by omega), vup_n _ _ (by omega), vup_n _ _ (by omega), vup_s, vup_n _ _ (by omega), vup_n _ _ (by omega), vup_s, vup_n _ _ (by omega), vup_s]
    exact ⟨rfl, rfl, rfl⟩
  · have h9 := h.2 j (by omega)
    rw [vup_n _ _ e, vup_n _ _ e, vup_n _ _ e, vup_n _ _ (by omega), vup_n _ _ (by omega), vup_n _ _ (by omega), vup_n _ _ (by omega), vup_n _ _ (by omega), vup_n _ _ (by omega), vup_n _ _ (by omega), vup_n _ _ (by omega), vup_n _ _ (by omega), vup_n _ _ (by omega), vup_n _ _ (by omega), vup_n _ _ (by omega)]
    exact h9
theorem met_x_note {w : Wd} {G : Gm} {I : Im} {L : Lm} (hX : XG G) {sl : Nat → Prop} {K : CS} {c : Nat} {S : Nat → Int32} {t : Nat} (hV : XV sl G I K c S t) (hN : InvN S) (hNx : NoteX I S) {n p r : Int32} : AMet w yX0_note cX0_note 4 (some .int) 4 101 0 0 [.ref (w.1 + 0), .int n, .int p, .int r] G I L (Ans (some (.int (noteA S n p r))) (NTt (noteS S n p r) G I L)) := by
  refine AMet.of (ls0 := [some (.ref (w.1 + 0)), some (.int n), some (.int p), some (.int r)]) rfl (Nat.le_of_ble_eq_true rfl) rfl (fun q hq => hq) (fun X h hl hr hi => ?_)
  obtain ⟨hC0, hS, hcs, ht, ht2, hdj⟩ := id hV
  have hC := hC0
  obtain ⟨hc0, ⟨pl, pa, dl, da, fa, ps, ds, hK, hsp⟩, hok, hsl⟩ := id hC
  obtain ⟨cp, hLp⟩ := hK.2.2.2.2.2.1
  obtain ⟨cd, hLd⟩ := hK.2.2.2.2.2.2.1
  have hpl := hK.2.2.2.2.2.2.2.1
  have hdl := hK.2.2.2.2.2.2.2.2.1
  have hdk := hK.2.2.2.2.2.2.2.2.2.2.1
  have hpk := hK.2.2.2.2.2.2.2.2.2.1
  have hrm := hK.2.2.2.2.2.2.2.2.2.2.2.1
  have hfr := hK.2.2.2.2.2.2.2.2.2.2.2.2.2
  have hR8 := hok.2.1
  have hD14 := hok.2.2.1
  have hP4 := hok.2.2.2.1
  have hdo := hok.2.2.2.2.1
  have hpo := hok.2.2.2.2.2.1
  have hf9 := hok.2.2.2.2.2.2.2
  have hn := cas_n hcs hok
  have hn0 : I 0 11 = nI (nn S) := hNx.1.trans hN.1
  have hn1 := hN.2.1
  refine aw_iload1 h dX0_note_0 ?_
  refine aw_iconst h _ ci_m1 dX0_note_1 ?_
  refine aw_icmp_ne h (tgt := 12) dX0_note_2 (by decide) (fun c2 => ?_) (fun c2 => ?_)
  · refine aw_iload1 h dX0_note_12 ?_
    refine aw_i2l h dX0_note_13 ?_
    refine aw_lconst h _ cl_0 dX0_note_14 ?_
    refine aw_ldc2 h (v := lN 60) q1239 dX0_note_15 ?_
    refine aw_callSE3 h hl cl_X0_129 (met_x_in) dX0_note_18 (Nat.le_of_ble_eq_true rfl) rfl (Nat.zero_le _) (Nat.zero_le _) ?_
    rw [inL_I (by decide) (by decide)]
    refine aw_if_eqB h (tgt := 49) dX0_note_21 (by decide) (fun c21 => ?_) (fun c21 => ?_)
    · refine aw_bipush h _ cb_m2 dX0_note_49 ?_
      exact aw_iret h hr dX0_note_51 (⟨by unfold noteA; rw [if_neg c2, show noteB S n p r = false from (by unfold noteB; rw [c21]; rfl)]; rfl, rfl, XM.rf, by unfold noteS; rw [if_neg c2, show noteB S n p r = false from (by unfold noteB; rw [c21]; rfl)]; exact hNx⟩) (Nat.zero_le _) (Nat.zero_le _)
    · refine aw_aload0 h dX0_note_24 ?_
      refine aw_iload2 h dX0_note_25 ?_
      refine aw_callVE1 h hl cl_X0_216 (met_x_isPerson hX hC) (gx0 hX) rfl dX0_note_26 (Nat.le_of_ble_eq_true rfl) rfl (Nat.zero_le _) (Nat.zero_le _) ?_
      rw [← hn.2.2]
      refine aw_if_eqB h (tgt := 49) dX0_note_29 (by decide) (fun c29 => ?_) (fun c29 => ?_)
      · refine aw_bipush h _ cb_m2 dX0_note_49 ?_
        exact aw_iret h hr dX0_note_51 (⟨by unfold noteA; rw [if_neg c2, show noteB S n p r = false from (by unfold noteB; rw [c29, Bool.false_and, Bool.and_false])]; rfl, rfl, XM.rf, by unfold noteS; rw [if_neg c2, show noteB S n p r = false from (by unfold noteB; rw [c29, Bool.false_and, Bool.and_false])]; exact hNx⟩) (Nat.zero_le _) (Nat.zero_le _)
      · refine aw_aload0 h dX0_note_32 ?_
        refine aw_iload3 h dX0_note_33 ?_
        refine aw_callVE1 h hl cl_X0_245 (met_x_isRoom hX hC) (gx0 hX) rfl dX0_note_34 (Nat.le_of_ble_eq_true rfl) rfl (Nat.zero_le _) (Nat.zero_le _) ?_
        rw [← hn.1]
        refine aw_if_eqB h (tgt := 49) dX0_note_37 (by decide) (fun c37 => ?_) (fun c37 => ?_)
        · refine aw_bipush h _ cb_m2 dX0_note_49 ?_
          exact aw_iret h hr dX0_note_51 (⟨by unfold noteA; rw [if_neg c2, show noteB S n p r = false from (by unfold noteB; rw [c37, Bool.false_and, Bool.and_false, Bool.and_false])]; rfl, rfl, XM.rf, by unfold noteS; rw [if_neg c2, show noteB S n p r = false from (by unfold noteB; rw [c37, Bool.false_and, Bool.and_false, Bool.and_false])]; exact hNx⟩) (Nat.zero_le _) (Nat.zero_le _)
        · refine aw_aload0 h dX0_note_40 ?_
          refine aw_getiV h fl_X0_164 (gx0 hX) dX0_note_41 rfl (hn0) ?_
          refine aw_bipush h _ cb_10 dX0_note_44 ?_
          refine aw_icmp_neN h (tgt := 52) (by omega) (by omega) dX0_note_46 (by decide) (fun c46 => ?_) (fun c46 => ?_)
          · have hnb : nn S < 10 := by have := hN.2.1; omega
            have hB : noteB S n p r = true := by unfold noteB; rw [c21, c29, c37, decide_eq_false c46]; rfl
            refine aw_aload0 h dX0_note_52 ?_
            refine aw_getr h fl_X0_50 (gx0 hX) dX0_note_53 rfl (gxp8 hX) ?_
            refine aw_aload0 h dX0_note_56 ?_
            refine aw_getiV h fl_X0_164 (gx0 hX) dX0_note_57 rfl (hn0) ?_
            refine aw_iload1 h dX0_note_60 ?_
            refine aw_iastN h (gxs23 hX) (by decide) (by omega) dX0_note_61 ?_
            refine aw_aload0 h dX0_note_62 ?_
            refine aw_getr h fl_X0_54 (gx0 hX) dX0_note_63 rfl (gxp9 hX) ?_
            refine aw_aload0 h dX0_note_66 ?_
            refine aw_getiV h fl_X0_164 (gx0 hX) dX0_note_67 rfl ((show upd2 I 23 (nn S) n 0 11 = nI (nn S) from hn0)) ?_
            refine aw_iload2 h dX0_note_70 ?_
            refine aw_iastN h (gxs24 hX) (by decide) (by omega) dX0_note_71 ?_
            refine aw_aload0 h dX0_note_72 ?_
            refine aw_getr h fl_X0_57 (gx0 hX) dX0_note_73 rfl (gxp10 hX) ?_
            refine aw_aload0 h dX0_note_76 ?_
            refine aw_getiV h fl_X0_164 (gx0 hX) dX0_note_77 rfl ((show upd2 (upd2 I 23 (nn S) n) 24 (nn S) p 0 11 = nI (nn S) from hn0)) ?_
            refine aw_iload3 h dX0_note_80 ?_
            refine aw_iastN h (gxs25 hX) (by decide) (by omega) dX0_note_81 ?_
            refine aw_aload0 h dX0_note_82 ?_
            refine aw_dup h rfl dX0_note_83 ?_
            refine aw_getiV h fl_X0_164 (gx0 hX) dX0_note_84 rfl ((show upd2 (upd2 (upd2 I 23 (nn S) n) 24 (nn S) p) 25 (nn S) r 0 11 = nI (nn S) from hn0)) ?_
            refine aw_iconst h _ ci_1 dX0_note_87 ?_
            refine aw_iaddN h dX0_note_88 ?_
            refine aw_puti h fl_X0_164 ft_X0_164 (fun z => by cases z) (gx0 hX) dX0_note_89 rfl ?_
            refine aw_aload0 h dX0_note_92 ?_
            refine aw_getiV h fl_X0_164 (gx0 hX) dX0_note_93 rfl ((rfl : _ = nI (nn S + 1))) ?_
            exact aw_iret h hr dX0_note_96 (⟨by unfold noteA; rw [if_neg c2, hB]; rfl, rfl, (((XM.i (by decide) rfl).trans (XM.i (by decide) rfl)).trans (XM.i (by decide) rfl)).trans (XM.f rfl), by unfold noteS; rw [if_neg c2, hB]; exact hNx.add hnb⟩) (Nat.zero_le _) (Nat.zero_le _)
          · refine aw_bipush h _ cb_m2 dX0_note_49 ?_
            exact aw_iret h hr dX0_note_51 (⟨by unfold noteA; rw [if_neg c2, show noteB S n p r = false from (by unfold noteB; rw [decide_eq_true (show nn S = 10 by omega), Bool.not_true, Bool.and_false, Bool.and_false, Bool.and_false])]; rfl, rfl, XM.rf, by unfold noteS; rw [if_neg c2, show noteB S n p r = false from (by unfold noteB; rw [decide_eq_true (show nn S = 10 by omega), Bool.not_true, Bool.and_false, Bool.and_false, Bool.and_false])]; exact hNx⟩) (Nat.zero_le _) (Nat.zero_le _)
  · refine aw_aload0 h dX0_note_5 ?_
    refine aw_iconst h _ ci_0 dX0_note_6 ?_
    refine aw_puti h fl_X0_164 ft_X0_164 (fun z => by cases z) (gx0 hX) dX0_note_7 rfl ?_
    refine aw_iconst h _ ci_0 dX0_note_10 ?_
    exact aw_iret h hr dX0_note_11 (⟨by unfold noteA; rw [if_pos c2], rfl, XM.f rfl, by unfold noteS; rw [if_pos c2]; exact ⟨rfl, fun j hj => absurd hj (by unfold nn nv; rw [vup_s]; exact Nat.not_lt_zero j)⟩⟩) (Nat.zero_le _) (Nat.zero_le _)
