/-! The reference's answers note, seed, end, image, back; counts -/
set_option maxRecDepth 100000
def nn (S : Nat → Int32) : Nat := nv S 114
/-- what always holds of the notes -/
def InvN (S : Nat → Int32) : Prop := S 114 = nI (nn S) ∧ nn S ≤ 10 ∧ ∀ j, j < nn S → (∃ b, b < np S ∧ S (84 + 3 * j + 1) = nI b) ∧ ∃ c, c < nr S ∧ S (84 + 3 * j + 2) = nI c
def noteB (S : Nat → Int32) (n p r : Int32) : Bool := inI n 0 60 && ((decide (0 ≤ p) && decide (p < nI (np S))) && ((decide (0 ≤ r) && decide (r < nI (nr S))) && !decide (nn S = 10)))
def noteV (S : Nat → Int32) (n p r : Int32) : Nat → Int32 := va_up (va_up (va_up (va_up S (84 + 3 * nn S) n) (84 + 3 * nn S + 1) p) (84 + 3 * nn S + 2) r) 114 (nI (nn S + 1))
def noteS (S : Nat → Int32) (n p r : Int32) : Nat → Int32 := if n = -1 then va_up S 114 (nI 0) else if noteB S n p r = true then noteV S n p r else S
def noteA (S : Nat → Int32) (n p r : Int32) : Int32 := if n = -1 then nI 0 else if noteB S n p r = true then nI (nn S + 1) else -2
theorem vupE {I : Im} {S : Nat → Int32} (h : I 171 = S) : va_up I 171 S = I := by rw [← h]; exact vup_id I 171
theorem upd4 {I : Im} {a b c d : Nat} {x y z u : Int32} : upd2 (upd2 (upd2 (upd2 I 171 a x) 171 b y) 171 c z) 171 d u = va_up I 171 (va_up (va_up (va_up (va_up (I 171) a x) b y) c z) d u) := by
  have h1 : upd2 I 171 a x = va_up I 171 (va_up (I 171) a x) := rfl
  have h2 : upd2 (upd2 I 171 a x) 171 b y = va_up I 171 (va_up (va_up (I 171) a x) b y) := by rw [h1]; exact upd2_vup ..
  have h3 : upd2 (upd2 (upd2 I 171 a x) 171 b y) 171 c z = va_up I 171 (va_up (va_up (va_up (I 171) a x) b y) c z) := by rw [h2]; exact upd2_vup ..
  rw [h3]; exact upd2_vup ..
theorem met_m_note {w : Wd} {G : Gm} {I : Im} {L : Lm} (hG : GM G) {S : Nat → Int32} (hE : I 171 = S) (hS : InvS S) (hN : InvN S) {n p r : Int32} : AMet w yX4_note cX4_note 5 (some .int) 2 65 0 0 [.ref (w.1 + 161), .int n, .int p, .int r] G I L (Exact (some (.int (noteA S n p r))) G (va_up I 171 (noteS S n p r)) L) := by
  refine AMet.of (ls0 := [some (.ref (w.1 + 161)), some (.int n), some (.int p), some (.int r), none]) rfl (Nat.le_of_ble_eq_true rfl) rfl (fun q hq => hq) (fun X h hl hr hi => ?_)
  have hn0 : I 171 114 = nI (nn S) := (congrFun hE 114).trans hN.1
  have hn1 := hN.2.1
  refine aw_iload1 h dX4_note_0 ?_
  refine aw_iconst h _ ci_m1 dX4_note_1 ?_
  refine aw_icmp_ne h (tgt := 15) dX4_note_2 (by decide) (fun c2 => ?_) (fun c2 => ?_)
  · refine aw_iload1 h dX4_note_15 ?_
    refine aw_i2l h dX4_note_16 ?_
    refine aw_lconst h _ cl_0 dX4_note_17 ?_
    refine aw_ldc2 h (v := lN 60) q1939 dX4_note_18 ?_
    refine aw_callSE3 h hl cl_X4_128 (met_m_in) dX4_note_21 (Nat.le_of_ble_eq_true rfl) rfl (Nat.zero_le _) (Nat.zero_le _) ?_
    refine aw_if_eqB h (tgt := 55) dX4_note_24 (by decide) (fun c24 => ?_) (fun c24 => ?_)
    · refine aw_bipush h _ cb_m2 dX4_note_55 ?_
      exact aw_iret h hr dX4_note_57 (⟨by unfold noteA; rw [if_neg c2, show noteB S n p r = false from (by unfold noteB; rw [show inI n 0 60 = false from (inL_I (x := n) (a := 0) (b := 60) (by omega) (by omega)).symm.trans c24]; rfl)]; rfl, rfl, by unfold noteS; rw [if_neg c2, show noteB S n p r = false from (by unfold noteB; rw [show inI n 0 60 = false from (inL_I (x := n) (a := 0) (b := 60) (by omega) (by omega)).symm.trans c24]; rfl)]; exact (vupE hE).symm, rfl⟩) (Nat.zero_le _) (Nat.zero_le _)
    · refine aw_aload0 h dX4_note_27 ?_
      refine aw_iload2 h dX4_note_28 ?_
      refine aw_callVE1 h hl cl_X4_328 (met_m_isPerson hG hE hS) (gmt hG) rfl dX4_note_29 (Nat.le_of_ble_eq_true rfl) rfl (Nat.zero_le _) (Nat.zero_le _) ?_
      refine aw_if_eqB h (tgt := 55) dX4_note_32 (by decide) (fun c32 => ?_) (fun c32 => ?_)
      · refine aw_bipush h _ cb_m2 dX4_note_55 ?_
        exact aw_iret h hr dX4_note_57 (⟨by unfold noteA; rw [if_neg c2, show noteB S n p r = false from (by unfold noteB; rw [c32, Bool.false_and, Bool.and_false])]; rfl, rfl, by unfold noteS; rw [if_neg c2, show noteB S n p r = false from (by unfold noteB; rw [c32, Bool.false_and, Bool.and_false])]; exact (vupE hE).symm, rfl⟩) (Nat.zero_le _) (Nat.zero_le _)
      · refine aw_aload0 h dX4_note_35 ?_
        refine aw_iload3 h dX4_note_36 ?_
        refine aw_callVE1 h hl cl_X4_336 (met_m_isRoom hG hE hS) (gmt hG) rfl dX4_note_37 (Nat.le_of_ble_eq_true rfl) rfl (Nat.zero_le _) (Nat.zero_le _) ?_
        refine aw_if_eqB h (tgt := 55) dX4_note_40 (by decide) (fun c40 => ?_) (fun c40 => ?_)
        · refine aw_bipush h _ cb_m2 dX4_note_55 ?_
          exact aw_iret h hr dX4_note_57 (⟨by unfold noteA; rw [if_neg c2, show noteB S n p r = false from (by unfold noteB; rw [c40, Bool.false_and, Bool.and_false, Bool.and_false])]; rfl, rfl, by unfold noteS; rw [if_neg c2, show noteB S n p r = false from (by unfold noteB; rw [c40, Bool.false_and, Bool.and_false, Bool.and_false])]; exact (vupE hE).symm, rfl⟩) (Nat.zero_le _) (Nat.zero_le _)
        · refine aw_aload0 h dX4_note_43 ?_
          refine aw_getr h fl_X4_39 (gmt hG) dX4_note_44 rfl (gmp20 hG) ?_
          refine aw_bipush h _ cb_114 dX4_note_47 ?_
          refine aw_ialdV h (gms171 hG) (by decide) (by omega) dX4_note_49 (hn0) ?_
          refine aw_bipush h _ cb_10 dX4_note_50 ?_
          refine aw_icmp_neN h (tgt := 58) (by omega) (by omega) dX4_note_52 (by decide) (fun c52 => ?_) (fun c52 => ?_)
          · have hnb : nn S < 10 := by have := hN.2.1; omega
            have hB : noteB S n p r = true := by unfold noteB; rw [show inI n 0 60 = true from (inL_I (x := n) (a := 0) (b := 60) (by omega) (by omega)).symm.trans c24, c32, c40, decide_eq_false c52]; rfl
            refine aw_bipush h _ cb_84 dX4_note_58 ?_
            refine aw_iconst h _ ci_3 dX4_note_60 ?_
            refine aw_aload0 h dX4_note_61 ?_
            refine aw_getr h fl_X4_39 (gmt hG) dX4_note_62 rfl (gmp20 hG) ?_
            refine aw_bipush h _ cb_114 dX4_note_65 ?_
            refine aw_ialdV h (gms171 hG) (by decide) (by omega) dX4_note_67 (hn0) ?_
            refine aw_imulN h dX4_note_68 ?_
            refine aw_iaddN h dX4_note_69 ?_
            refine aw_istore4 h rfl dX4_note_70 ?_
            refine aw_aload0 h dX4_note_72 ?_
            refine aw_getr h fl_X4_39 (gmt hG) dX4_note_73 rfl (gmp20 hG) ?_
            refine aw_iload4 h dX4_note_76 ?_
            refine aw_iload1 h dX4_note_78 ?_
            refine aw_iastN h (gms171 hG) (by decide) (by omega) dX4_note_79 ?_
            refine aw_aload0 h dX4_note_80 ?_
            refine aw_getr h fl_X4_39 (gmt hG) dX4_note_81 rfl (gmp20 hG) ?_
            refine aw_iload4 h dX4_note_84 ?_
            refine aw_iconst h _ ci_1 dX4_note_86 ?_
            refine aw_iaddN h dX4_note_87 ?_
            refine aw_iload2 h dX4_note_88 ?_
            refine aw_iastN h (gms171 hG) (by decide) (by omega) dX4_note_89 ?_
            refine aw_aload0 h dX4_note_90 ?_
            refine aw_getr h fl_X4_39 (gmt hG) dX4_note_91 rfl (gmp20 hG) ?_
            refine aw_iload4 h dX4_note_94 ?_
            refine aw_iconst h _ ci_2 dX4_note_96 ?_
            refine aw_iaddN h dX4_note_97 ?_
            refine aw_iload3 h dX4_note_98 ?_
            refine aw_iastN h (gms171 hG) (by decide) (by omega) dX4_note_99 ?_
            refine aw_aload0 h dX4_note_100 ?_
            refine aw_getr h fl_X4_39 (gmt hG) dX4_note_101 rfl (gmp20 hG) ?_
            refine aw_bipush h _ cb_114 dX4_note_104 ?_
            refine aw_dup2 h rfl rfl dX4_note_106 ?_
            refine aw_ialdV h (gms171 hG) (by decide) (by omega) dX4_note_107 ((show va_up (va_up (va_up (I 171) (84 + 3 * nn S) n) (84 + 3 * nn S + 1) p) (84 + 3 * nn S + 2) r 114 = nI (nn S) by rw [vup_n _ _ (by omega), vup_n _ _ (by omega), vup_n _ _ (by omega)]; exact hn0)) ?_
            refine aw_iconst h _ ci_1 dX4_note_108 ?_
            refine aw_iaddN h dX4_note_109 ?_
            refine aw_iastN h (gms171 hG) (by decide) (by omega) dX4_note_110 ?_
            refine aw_aload0 h dX4_note_111 ?_
            refine aw_getr h fl_X4_39 (gmt hG) dX4_note_112 rfl (gmp20 hG) ?_
            refine aw_bipush h _ cb_114 dX4_note_115 ?_
            refine aw_ialdN h (gms171 hG) (by decide) (by omega) dX4_note_117 ?_
            exact aw_iret h hr dX4_note_118 (⟨by unfold noteA; rw [if_neg c2, hB]; rfl, rfl, by unfold noteS; rw [if_neg c2, hB, ← hE]; exact upd4, rfl⟩) (Nat.zero_le _) (Nat.zero_le _)
          · refine aw_bipush h _ cb_m2 dX4_note_55 ?_
            exact aw_iret h hr dX4_note_57 (⟨by unfold noteA; rw [if_neg c2, show noteB S n p r = false from (by unfold noteB; rw [decide_eq_true (show nn S = 10 by omega), Bool.not_true, Bool.and_false, Bool.and_false, Bool.and_false])]; rfl, rfl, by unfold noteS; rw [if_neg c2, show noteB S n p r = false from (by unfold noteB; rw [decide_eq_true (show nn S = 10 by omega), Bool.not_true, Bool.and_false, Bool.and_false, Bool.and_false])]; exact (vupE hE).symm, rfl⟩) (Nat.zero_le _) (Nat.zero_le _)
  · refine aw_aload0 h dX4_note_5 ?_
    refine aw_getr h fl_X4_39 (gmt hG) dX4_note_6 rfl (gmp20 hG) ?_
    refine aw_bipush h _ cb_114 dX4_note_9 ?_
    refine aw_iconst h _ ci_0 dX4_note_11 ?_
    refine aw_iastN h (gms171 hG) (by decide) (by omega) dX4_note_12 ?_
    refine aw_iconst h _ ci_0 dX4_note_13 ?_
    exact aw_iret h hr dX4_note_14 (⟨by unfold noteA; rw [if_pos c2], rfl, by unfold noteS; rw [if_pos c2, ← hE], rfl⟩) (Nat.zero_le _) (Nat.zero_le _)
def sumI (f : Nat → Int32) : Nat → Int32
  | 0 => nI 0
  | n + 1 => sumI f n + f n
def cntA (S : Nat → Int32) (k : Nat) : Int32 := sumI (fun p => pv S p k) (np S)
theorem met_m_countOf {w : Wd} {G : Gm} {I : Im} {L : Lm} (hG : GM G) {S : Nat → Int32} (hE : I 171 = S) (hS : InvS S) {k : Nat} (hk : k < 6) : AMet w yX4_countOf cX4_countOf 4 (some .int) 2 62 0 0 [.ref (w.1 + 161), .int (nI k)] G I L (Exact (some (.int (cntA S k))) G I L) := by
  refine AMet.of (ls0 := [some (.ref (w.1 + 161)), some (.int (nI k)), none, none]) rfl (Nat.le_of_ble_eq_true rfl) rfl (fun q hq => hq) (fun X h hl hr hi => ?_)
  have b2 := iv2b hS
  have key : ∀ (fu j : Nat), j ≤ np S → np S < j + fu → AW X 0 0 4 [some (.ref (w.1 + 161)), some (.int (nI k)), some (.int (sumI (fun p => pv S p k) j)), some (.int (nI j))] [] G I L := by
    intro fu
    induction fu with
    | zero => intro j hle hlt; exact absurd hlt (by omega)
    | succ fu ih =>
      intro j hle hlt
      refine aw_iload3 h dX4_countOf_4 ?_
      refine aw_aload0 h dX4_countOf_5 ?_
      refine aw_getr h fl_X4_39 (gmt hG) dX4_countOf_6 rfl (gmp20 hG) ?_
      refine aw_iconst h _ ci_2 dX4_countOf_9 ?_
      refine aw_ialdV h (gms171 hG) (by decide) (by omega) dX4_countOf_10 (iv2e hE hS) ?_
      refine aw_icmp_geN h (tgt := 29) (by omega) (by omega) dX4_countOf_11 (by decide) (fun c11 => ?_) (fun c11 => ?_)
      · refine aw_iload2 h dX4_countOf_29 ?_
        exact aw_iret h hr dX4_countOf_30 (by rw [show j = np S by omega]; exact ⟨rfl, rfl, rfl, rfl⟩) (Nat.zero_le _) (Nat.zero_le _)
      · refine aw_iload2 h dX4_countOf_14 ?_
        refine aw_aload0 h dX4_countOf_15 ?_
        refine aw_iload3 h dX4_countOf_16 ?_
        refine aw_iload1 h dX4_countOf_17 ?_
        refine aw_callVE2 h hl cl_X4_279 (met_m_personOf hG hE (by omega)) (gmt hG) rfl dX4_countOf_18 (Nat.le_of_ble_eq_true rfl) rfl (Nat.zero_le _) (Nat.zero_le _) ?_
        refine aw_iadd h dX4_countOf_21 ?_
        refine aw_istore2 h rfl dX4_countOf_22 ?_
        refine aw_iincN3 h rfl dX4_countOf_23 ?_
        refine aw_goto h (tgt := 4) dX4_countOf_26 (by decide) ?_
        exact ih (j + 1) (by omega) (by omega)
  refine aw_iconst h _ ci_0 dX4_countOf_0 ?_
  refine aw_istore2 h rfl dX4_countOf_1 ?_
  refine aw_iconst h _ ci_0 dX4_countOf_2 ?_
  refine aw_istore3 h rfl dX4_countOf_3 ?_
  exact key (np S + 1) 0 (Nat.zero_le _) (by omega)
theorem met_m_seed {w : Wd} {G : Gm} {I : Im} {L : Lm} (hG : GM G) {n : Int32} : AMet w yX4_seed cX4_seed 3 (some .int) 1 40 0 0 [.ref (w.1 + 161), .int n] G I L (Exact (some (.int (if 0 ≤ n then I 161 22 else -1))) G (if 0 ≤ n then upd2 I 161 22 n else I) L) := by
  refine AMet.of (ls0 := [some (.ref (w.1 + 161)), some (.int n), none]) rfl (Nat.le_of_ble_eq_true rfl) rfl (fun q hq => hq) (fun X h hl hr hi => ?_)
  refine aw_iload1 h dX4_seed_0 ?_
  refine aw_if_ge h (tgt := 6) dX4_seed_1 (by decide) (fun c1 => ?_) (fun c1 => ?_)
  · refine aw_aload0 h dX4_seed_6 ?_
    refine aw_geti h fl_X4_478 (gmt hG) dX4_seed_7 rfl ?_
    refine aw_istore2 h rfl dX4_seed_10 ?_
    refine aw_aload0 h dX4_seed_11 ?_
    refine aw_iload1 h dX4_seed_12 ?_
    refine aw_puti h fl_X4_478 ft_X4_478 (fun z => by cases z) (gmt hG) dX4_seed_13 rfl ?_
    refine aw_iload2 h dX4_seed_16 ?_
    exact aw_iret h hr dX4_seed_17 (⟨by rw [if_pos c1], rfl, by rw [if_pos c1], rfl⟩) (Nat.zero_le _) (Nat.zero_le _)
  · refine aw_iconst h _ ci_m1 dX4_seed_4 ?_
    exact aw_iret h hr dX4_seed_5 (⟨by rw [if_neg c1], rfl, by rw [if_neg c1], rfl⟩) (Nat.zero_le _) (Nat.zero_le _)
theorem met_m_end {w : Wd} {G : Gm} {I : Im} {L : Lm} (hG : GM G) {n : Int32} : AMet w yX4_end cX4_end 2 (some .int) 1 40 0 0 [.ref (w.1 + 161), .int n] G I L (Exact (some (.int (if 0 ≤ n ∧ n ≤ I 161 1 then n else -1))) G (if 0 ≤ n ∧ n ≤ I 161 1 then upd2 I 161 1 n else I) L) := by
  refine AMet.of (ls0 := [some (.ref (w.1 + 161)), some (.int n)]) rfl (Nat.le_of_ble_eq_true rfl) rfl (fun q hq => hq) (fun X h hl hr hi => ?_)
  refine aw_iload1 h dX4_end_0 ?_
  refine aw_if_lt h (tgt := 12) dX4_end_1 (by decide) (fun c1 => ?_) (fun c1 => ?_)
  · refine aw_iconst h _ ci_m1 dX4_end_12 ?_
    exact aw_iret h hr dX4_end_13 (⟨by rw [if_neg (fun q => absurd c1 (Int32.not_lt.mpr q.1))], rfl, by rw [if_neg (fun q => absurd c1 (Int32.not_lt.mpr q.1))], rfl⟩) (Nat.zero_le _) (Nat.zero_le _)
  · refine aw_iload1 h dX4_end_4 ?_
    refine aw_aload0 h dX4_end_5 ?_
    refine aw_geti h fl_X4_90 (gmt hG) dX4_end_6 rfl ?_
    refine aw_icmp_le h (tgt := 14) dX4_end_9 (by decide) (fun c9 => ?_) (fun c9 => ?_)
    · refine aw_aload0 h dX4_end_14 ?_
      refine aw_iload1 h dX4_end_15 ?_
      refine aw_puti h fl_X4_90 ft_X4_90 (fun z => by cases z) (gmt hG) dX4_end_16 rfl ?_
      refine aw_iload1 h dX4_end_19 ?_
      exact aw_iret h hr dX4_end_20 (⟨by rw [if_pos ⟨Int32.not_lt.mp c1, c9⟩], rfl, by rw [if_pos ⟨Int32.not_lt.mp c1, c9⟩], rfl⟩) (Nat.zero_le _) (Nat.zero_le _)
    · refine aw_iconst h _ ci_m1 dX4_end_12 ?_
      exact aw_iret h hr dX4_end_13 (⟨by rw [if_neg (fun q => c9 q.2)], rfl, by rw [if_neg (fun q => c9 q.2)], rfl⟩) (Nat.zero_le _) (Nat.zero_le _)
/-- an image is kept -/
def IMP (S : Nat → Int32) (k : Nat) (G : Gm) (I : Im) (L : Lm) : Gm → Im → Lm → Prop := fun G1 I1 L1 => G = G1 ∧ L = L1 ∧ I1 185 = va_up (I 185) k (nI 1) ∧ I1 183 = va_up (I 183) k (I 161 21) ∧ I1 184 = va_up (I 184) k (I 161 22) ∧ (∀ i, i < 123 → I1 182 (123 * k + i) = S i) ∧ (∀ j, (j < 123 * k ∨ 123 * k + 123 ≤ j) → I1 182 j = I 182 j) ∧ ∀ n, n ≠ 182 → n ≠ 183 → n ≠ 184 → n ≠ 185 → I1 n = I n
def imgI (I : Im) (k : Nat) : Im := upd2 (upd2 (upd2 I 185 k (nI 1)) 183 k (I 161 21)) 184 k (I 161 22)
theorem met_m_image {w : Wd} {G : Gm} {I : Im} {L : Lm} (hG : GM G) {S : Nat → Int32} (hE : I 171 = S) (hS : InvS S) {kk : Int32} : AMet w yX4_image cX4_image 3 (some .int) 2 65 0 0 [.ref (w.1 + 161), .int kk] G I L (Ans (some (.int (if inI kk 0 3 = true then S 3 else -1))) (fun G1 I1 L1 => if inI kk 0 3 = true then IMP S kk.toNatClampNeg G I L G1 I1 L1 else G = G1 ∧ I = I1 ∧ L = L1)) := by
  refine AMet.of (ls0 := [some (.ref (w.1 + 161)), some (.int kk), none]) rfl (Nat.le_of_ble_eq_true rfl) rfl (fun q hq => hq) (fun X h hl hr hi => ?_)
  refine aw_iload1 h dX4_image_0 ?_
  refine aw_i2l h dX4_image_1 ?_
  refine aw_lconst h _ cl_0 dX4_image_2 ?_
  refine aw_ldc2 h (v := lN 3) q1751 dX4_image_3 ?_
  refine aw_callSE3 h hl cl_X4_128 (met_m_in) dX4_image_6 (Nat.le_of_ble_eq_true rfl) rfl (Nat.zero_le _) (Nat.zero_le _) ?_
  refine aw_if_neB h (tgt := 14) dX4_image_9 (by decide) (fun c9 => ?_) (fun c9 => ?_)
  · have hin : inI kk 0 3 = true := (inL_I (by omega) (by omega)).symm.trans c9
    obtain ⟨k, hk0, hk1, rfl⟩ := inI_of hin (by decide) (by decide)
    have hkc : (nI k).toNatClampNeg = k := nI_clamp (by omega)
    refine aw_aload0 h dX4_image_14 ?_
    refine aw_getr h fl_X4_87 (gmt hG) dX4_image_15 rfl (gmp43 hG) ?_
    refine aw_iload1 h dX4_image_18 ?_
    refine aw_iconst h _ ci_1 dX4_image_19 ?_
    refine aw_zastN h (gms185 hG) (by decide) (by omega) (by first | exact z01_0 | exact z01_1 | exact z01_b _) dX4_image_20 ?_
    refine aw_aload0 h dX4_image_21 ?_
    refine aw_getr h fl_X4_81 (gmt hG) dX4_image_22 rfl (gmp41 hG) ?_
    refine aw_iload1 h dX4_image_25 ?_
    refine aw_aload0 h dX4_image_26 ?_
    refine aw_geti h fl_X4_42 (gmt hG) dX4_image_27 rfl ?_
    refine aw_iastN h (gms183 hG) (by decide) (by omega) dX4_image_30 ?_
    refine aw_aload0 h dX4_image_31 ?_
    refine aw_getr h fl_X4_84 (gmt hG) dX4_image_32 rfl (gmp42 hG) ?_
    refine aw_iload1 h dX4_image_35 ?_
    refine aw_aload0 h dX4_image_36 ?_
    refine aw_geti h fl_X4_478 (gmt hG) dX4_image_37 rfl ?_
    refine aw_iastN h (gms184 hG) (by decide) (by omega) dX4_image_40 ?_
    have key : ∀ (fu i : Nat) (f : Nat → Int32), i ≤ 123 → 123 < i + fu → (∀ j, j < i → f (123 * k + j) = S j) → (∀ j, (j < 123 * k ∨ 123 * k + i ≤ j) → f j = I 182 j) → AW X 0 0 43 [some (.ref (w.1 + 161)), some (.int (nI k)), some (.int (nI i))] [] G (va_up (imgI I k) 182 f) L := by
      intro fu
      induction fu with
      | zero => intro i f hle hlt; exact absurd hlt (by omega)
      | succ fu ih =>
        intro i f hle hlt hf1 hf2
        have hE2 : va_up (imgI I k) 182 f 171 = S := hE
        refine aw_iload2 h dX4_image_43 ?_
        refine aw_bipush h _ cb_123 dX4_image_44 ?_
        refine aw_icmp_geN h (tgt := 72) (by omega) (by omega) dX4_image_46 (by decide) (fun c46 => ?_) (fun c46 => ?_)
        · refine aw_aload0 h dX4_image_72 ?_
          refine aw_getr h fl_X4_39 (gmt hG) dX4_image_73 rfl (gmp20 hG) ?_
          refine aw_iconst h _ ci_3 dX4_image_76 ?_
          refine aw_ialdV h (gms171 hG) (by decide) (by omega) dX4_image_77 ((congrFun hE2 3)) ?_
          exact aw_iret h hr dX4_image_78 (⟨by rw [hin, if_pos rfl], by show (if inI (nI k) 0 3 = true then _ else _); rw [if_pos hin, hkc]; exact ⟨rfl, rfl, rfl, rfl, rfl, fun j hj => hf1 j (by omega), fun j hj => hf2 j (by omega), fun m h1 h2 h3 h4 => (vup_n _ _ h1).trans ((vup_n _ _ h3).trans ((vup_n _ _ h2).trans (vup_n _ _ h4)))⟩⟩) (Nat.zero_le _) (Nat.zero_le _)
        · refine aw_aload0 h dX4_image_49 ?_
          refine aw_getr h fl_X4_78 (gmt hG) dX4_image_50 rfl (gmp40 hG) ?_
          refine aw_bipush h _ cb_123 dX4_image_53 ?_
          refine aw_iload1 h dX4_image_55 ?_
          refine aw_imulN h dX4_image_56 ?_
          refine aw_iload2 h dX4_image_57 ?_
          refine aw_iaddN h dX4_image_58 ?_
          refine aw_aload0 h dX4_image_59 ?_
          refine aw_getr h fl_X4_39 (gmt hG) dX4_image_60 rfl (gmp20 hG) ?_
          refine aw_iload2 h dX4_image_63 ?_
          refine aw_ialdV h (gms171 hG) (by decide) (by omega) dX4_image_64 ((congrFun hE2 i)) ?_
          refine aw_iastN h (gms182 hG) (by decide) (by omega) dX4_image_65 ?_
          rw [upd2_vup]
          refine aw_iincN2 h rfl dX4_image_66 ?_
          refine aw_goto h (tgt := 43) dX4_image_69 (by decide) ?_
          refine ih (i + 1) _ (by omega) (by omega) (fun j hj => ?_) (fun j hj => ?_)
          · by_cases e : j = i
            · subst e; rw [vup_s]
            · rw [vup_n _ _ (by omega)]; exact hf1 j (by omega)
          · rw [vup_n _ _ (by omega)]; exact hf2 j (by omega)
    refine aw_iconst h _ ci_0 dX4_image_41 ?_
    refine aw_istore2 h rfl dX4_image_42 ?_
    have h9 := key 124 0 (I 182) (Nat.zero_le _) (by omega) (fun j hj => by omega) (fun j hj => rfl)
    rw [show va_up (imgI I k) 182 (I 182) = imgI I k from vup_id (imgI I k) 182] at h9
    exact h9
  · refine aw_iconst h _ ci_m1 dX4_image_12 ?_
    exact aw_iret h hr dX4_image_13 (⟨by rw [show inI kk 0 3 = false from (inL_I (by omega) (by omega)).symm.trans c9]; rfl, by rw [show inI kk 0 3 = false from (inL_I (by omega) (by omega)).symm.trans c9]; exact ⟨rfl, rfl, rfl⟩⟩) (Nat.zero_le _) (Nat.zero_le _)
def backB (I : Im) (kk : Int32) : Bool := inI kk 0 3 && !decide (I 185 kk.toNatClampNeg = 0)
def backS (S : Nat → Int32) (I : Im) (k : Nat) : Nat → Int32 := fun i => if i < 123 then I 182 (123 * k + i) else S i
def backI (I : Im) (k : Nat) : Im := upd2 (upd2 (upd2 I 161 21 (I 183 k)) 161 22 (I 184 k)) 161 27 (nI 0)
theorem met_m_back {w : Wd} {G : Gm} {I : Im} {L : Lm} (hG : GM G) {S : Nat → Int32} (hE : I 171 = S) (hS : InvS S) {kk : Int32} : AMet w yX4_back cX4_back 3 (some .int) 2 65 0 0 [.ref (w.1 + 161), .int kk] G I L (Exact (some (.int (if backB I kk = true then I 182 (123 * kk.toNatClampNeg + 3) else -1))) G (if backB I kk = true then va_up (backI I kk.toNatClampNeg) 171 (backS S I kk.toNatClampNeg) else I) L) := by
  refine AMet.of (ls0 := [some (.ref (w.1 + 161)), some (.int kk), none]) rfl (Nat.le_of_ble_eq_true rfl) rfl (fun q hq => hq) (fun X h hl hr hi => ?_)
  refine aw_iload1 h dX4_back_0 ?_
  refine aw_i2l h dX4_back_1 ?_
  refine aw_lconst h _ cl_0 dX4_back_2 ?_
  refine aw_ldc2 h (v := lN 3) q1751 dX4_back_3 ?_
  refine aw_callSE3 h hl cl_X4_128 (met_m_in) dX4_back_6 (Nat.le_of_ble_eq_true rfl) rfl (Nat.zero_le _) (Nat.zero_le _) ?_
  refine aw_if_eqB h (tgt := 21) dX4_back_9 (by decide) (fun c9 => ?_) (fun c9 => ?_)
  · refine aw_iconst h _ ci_m1 dX4_back_21 ?_
    exact aw_iret h hr dX4_back_22 (⟨by rw [show backB I kk = false by unfold backB; rw [show inI kk 0 3 = false from (inL_I (by omega) (by omega)).symm.trans c9]; rfl]; rfl, rfl, by rw [show backB I kk = false by unfold backB; rw [show inI kk 0 3 = false from (inL_I (by omega) (by omega)).symm.trans c9]; rfl]; rfl, rfl⟩) (Nat.zero_le _) (Nat.zero_le _)
  · have hin : inI kk 0 3 = true := (inL_I (by omega) (by omega)).symm.trans c9
    obtain ⟨k, hk0, hk1, rfl⟩ := inI_of hin (by decide) (by decide)
    have hkc : (nI k).toNatClampNeg = k := nI_clamp (by omega)
    refine aw_aload0 h dX4_back_12 ?_
    refine aw_getr h fl_X4_87 (gmt hG) dX4_back_13 rfl (gmp43 hG) ?_
    refine aw_iload1 h dX4_back_16 ?_
    refine aw_zaldN h (gms185 hG) (by decide) (by omega) dX4_back_17 ?_
    refine aw_if_ne h (tgt := 23) dX4_back_18 (by decide) (fun c18 => ?_) (fun c18 => ?_)
    · have hB : backB I (nI k) = true := by unfold backB; rw [hin, hkc, decide_eq_false c18]; rfl
      refine aw_aload0 h dX4_back_23 ?_
      refine aw_aload0 h dX4_back_24 ?_
      refine aw_getr h fl_X4_81 (gmt hG) dX4_back_25 rfl (gmp41 hG) ?_
      refine aw_iload1 h dX4_back_28 ?_
      refine aw_ialdN h (gms183 hG) (by decide) (by omega) dX4_back_29 ?_
      refine aw_puti h fl_X4_42 ft_X4_42 (fun z => by cases z) (gmt hG) dX4_back_30 rfl ?_
      refine aw_aload0 h dX4_back_33 ?_
      refine aw_aload0 h dX4_back_34 ?_
      refine aw_getr h fl_X4_84 (gmt hG) dX4_back_35 rfl (gmp42 hG) ?_
      refine aw_iload1 h dX4_back_38 ?_
      refine aw_ialdN h (gms184 hG) (by decide) (by omega) dX4_back_39 ?_
      refine aw_puti h fl_X4_478 ft_X4_478 (fun z => by cases z) (gmt hG) dX4_back_40 rfl ?_
      refine aw_aload0 h dX4_back_43 ?_
      refine aw_iconst h _ ci_0 dX4_back_44 ?_
      refine aw_puti h fl_X4_283 ft_X4_283 (fun z => by cases z) (gmt hG) dX4_back_45 rfl ?_
      have key : ∀ (fu i : Nat) (f : Nat → Int32), i ≤ 123 → 123 < i + fu → (∀ j, j < i → f j = I 182 (123 * k + j)) → (∀ j, i ≤ j → f j = S j) → AW X 0 0 50 [some (.ref (w.1 + 161)), some (.int (nI k)), some (.int (nI i))] [] G (va_up (backI I k) 171 f) L := by
        intro fu
        induction fu with
        | zero => intro i f hle hlt; exact absurd hlt (by omega)
        | succ fu ih =>
          intro i f hle hlt hf1 hf2
          refine aw_iload2 h dX4_back_50 ?_
          refine aw_bipush h _ cb_123 dX4_back_51 ?_
          refine aw_icmp_geN h (tgt := 79) (by omega) (by omega) dX4_back_53 (by decide) (fun c53 => ?_) (fun c53 => ?_)
          · refine aw_aload0 h dX4_back_79 ?_
            refine aw_getr h fl_X4_39 (gmt hG) dX4_back_80 rfl (gmp20 hG) ?_
            refine aw_iconst h _ ci_3 dX4_back_83 ?_
            refine aw_ialdV h (gms171 hG) (by decide) (by omega) dX4_back_84 (hf1 3 (by omega)) ?_
            exact aw_iret h hr dX4_back_85 (⟨by rw [hB, if_pos rfl, hkc], rfl, by
  rw [hB, if_pos rfl, hkc]
  congr 1
  funext j
  unfold backS
  split
  · exact hf1 j (by omega)
  · exact hf2 j (by omega), rfl⟩) (Nat.zero_le _) (Nat.zero_le _)
          · refine aw_aload0 h dX4_back_56 ?_
            refine aw_getr h fl_X4_39 (gmt hG) dX4_back_57 rfl (gmp20 hG) ?_
            refine aw_iload2 h dX4_back_60 ?_
            refine aw_aload0 h dX4_back_61 ?_
            refine aw_getr h fl_X4_78 (gmt hG) dX4_back_62 rfl (gmp40 hG) ?_
            refine aw_bipush h _ cb_123 dX4_back_65 ?_
            refine aw_iload1 h dX4_back_67 ?_
            refine aw_imulN h dX4_back_68 ?_
            refine aw_iload2 h dX4_back_69 ?_
            refine aw_iaddN h dX4_back_70 ?_
            refine aw_ialdV h (gms182 hG) (by decide) (by omega) dX4_back_71 ((rfl : va_up (backI I k) 171 f 182 (123 * k + i) = I 182 (123 * k + i))) ?_
            refine aw_iastN h (gms171 hG) (by decide) (by omega) dX4_back_72 ?_
            rw [upd2_vup]
            refine aw_iincN2 h rfl dX4_back_73 ?_
            refine aw_goto h (tgt := 50) dX4_back_76 (by decide) ?_
            refine ih (i + 1) _ (by omega) (by omega) (fun j hj => ?_) (fun j hj => ?_)
            · by_cases e : j = i
              · subst e; rw [vup_s]; rfl
              · rw [vup_n _ _ (by omega)]; exact hf1 j (by omega)
            · rw [vup_n _ _ (by omega)]; exact hf2 j (by omega)
      refine aw_iconst h _ ci_0 dX4_back_48 ?_
      refine aw_istore2 h rfl dX4_back_49 ?_
      have h9 := key 124 0 (I 171) (Nat.zero_le _) (by omega) (fun j hj => by omega) (fun j hj => congrFun hE j)
      rw [show va_up (backI I k) 171 (I 171) = backI I k from vup_id (backI I k) 171] at h9
      exact h9
    · refine aw_iconst h _ ci_m1 dX4_back_21 ?_
      exact aw_iret h hr dX4_back_22 (⟨by rw [show backB I (nI k) = false by unfold backB; rw [hkc, decide_eq_true c18, Bool.not_true, Bool.and_false]]; rfl, rfl, by rw [show backB I (nI k) = false by unfold backB; rw [hkc, decide_eq_true c18, Bool.not_true, Bool.and_false]]; rfl, rfl⟩) (Nat.zero_le _) (Nat.zero_le _)
