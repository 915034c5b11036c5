/-! The reference's answer count; what is fed -/
set_option maxRecDepth 100000
def countA (S : Nat → Int32) (I : Im) (what : Int32) : Int32 := if inI what 0 12 = true then (match what.toNatClampNeg with
  | 0 => S 0 | 1 => S 1 | 2 => S 2 | 3 => I 161 2 | 4 => I 161 21 | 5 => S 3 | 6 => bI (nightB S) | 7 => cntA S 3 | 8 => cntA S 4 | 9 => S 114 | 10 => I 161 27 | 11 => I 161 22 | _ => I 161 1) else -1
theorem inI_no {x : Int32} {b : Nat} (hb : b < 2 ^ 31) (h : inI x 0 b = false) : x.toInt < 0 ∨ (b : Int) < x.toInt := by
  unfold inI at h
  rw [Bool.and_eq_false_iff, decide_eq_false_iff_not, decide_eq_false_iff_not, Int32.le_iff_toInt_le, Int32.le_iff_toInt_le, nI_toInt hb, nI_toInt (by decide)] at h
  omega
theorem met_m_count {w : Wd} {G : Gm} {I : Im} {L : Lm} (hG : GM G) {S : Nat → Int32} (hE : I 171 = S) (hS : InvS S) {what : Int32} : AMet w yX4_count cX4_count 2 (some .int) 3 85 0 0 [.ref (w.1 + 161), .int what] G I L (Exact (some (.int (countA S I what))) G I L) := by
  refine AMet.of (ls0 := [some (.ref (w.1 + 161)), some (.int what)]) rfl (Nat.le_of_ble_eq_true rfl) rfl (fun q hq => hq) (fun X h hl hr hi => ?_)
  refine aw_iload1 h dX4_count_0 ?_
  cases hin : inI what 0 12 with
  | false =>
    refine aw_tableOut h (tgt := 140) dX4_count_1 (inI_no (by decide) hin) (by decide) ?_
    refine aw_iconst h _ ci_m1 dX4_count_140 ?_
    exact aw_iret h hr dX4_count_141 (⟨by unfold countA; rw [hin]; rfl, rfl, rfl, rfl⟩) (Nat.zero_le _) (Nat.zero_le _)
  | true =>
    obtain ⟨k, -, hk, rfl⟩ := inI_of hin (by decide) (by decide)
    have hk2 : k = 0 ∨ k = 1 ∨ k = 2 ∨ k = 3 ∨ k = 4 ∨ k = 5 ∨ k = 6 ∨ k = 7 ∨ k = 8 ∨ k = 9 ∨ k = 10 ∨ k = 11 ∨ k = 12 := by omega
    have hkc : (nI k).toNatClampNeg = k := nI_clamp (by omega)
    rcases hk2 with rfl | rfl | rfl | rfl | rfl | rfl | rfl | rfl | rfl | rfl | rfl | rfl | rfl
    · refine aw_tableIn h (off := 67) (tgt := 68) dX4_count_1 (by decide) (by decide) rfl (by decide) ?_
      refine aw_aload0 h dX4_count_68 ?_
      refine aw_getr h fl_X4_39 (gmt hG) dX4_count_69 rfl (gmp20 hG) ?_
      refine aw_iload1 h dX4_count_72 ?_
      refine aw_ialdV h (gms171 hG) (by decide) (by omega) dX4_count_73 (congrFun hE 0) ?_
      exact aw_iret h hr dX4_count_74 (⟨by unfold countA; rw [hin, hkc]; rfl, rfl, rfl, rfl⟩) (Nat.zero_le _) (Nat.zero_le _)
    · refine aw_tableIn h (off := 67) (tgt := 68) dX4_count_1 (by decide) (by decide) rfl (by decide) ?_
      refine aw_aload0 h dX4_count_68 ?_
      refine aw_getr h fl_X4_39 (gmt hG) dX4_count_69 rfl (gmp20 hG) ?_
      refine aw_iload1 h dX4_count_72 ?_
      refine aw_ialdV h (gms171 hG) (by decide) (by omega) dX4_count_73 (congrFun hE 1) ?_
      exact aw_iret h hr dX4_count_74 (⟨by unfold countA; rw [hin, hkc]; rfl, rfl, rfl, rfl⟩) (Nat.zero_le _) (Nat.zero_le _)
    · refine aw_tableIn h (off := 67) (tgt := 68) dX4_count_1 (by decide) (by decide) rfl (by decide) ?_
      refine aw_aload0 h dX4_count_68 ?_
      refine aw_getr h fl_X4_39 (gmt hG) dX4_count_69 rfl (gmp20 hG) ?_
      refine aw_iload1 h dX4_count_72 ?_
      refine aw_ialdV h (gms171 hG) (by decide) (by omega) dX4_count_73 (congrFun hE 2) ?_
      exact aw_iret h hr dX4_count_74 (⟨by unfold countA; rw [hin, hkc]; rfl, rfl, rfl, rfl⟩) (Nat.zero_le _) (Nat.zero_le _)
    · refine aw_tableIn h (off := 74) (tgt := 75) dX4_count_1 (by decide) (by decide) rfl (by decide) ?_
      refine aw_aload0 h dX4_count_75 ?_
      refine aw_geti h fl_X4_270 (gmt hG) dX4_count_76 rfl ?_
      exact aw_iret h hr dX4_count_79 (⟨by unfold countA; rw [hin, hkc]; rfl, rfl, rfl, rfl⟩) (Nat.zero_le _) (Nat.zero_le _)
    · refine aw_tableIn h (off := 79) (tgt := 80) dX4_count_1 (by decide) (by decide) rfl (by decide) ?_
      refine aw_aload0 h dX4_count_80 ?_
      refine aw_geti h fl_X4_42 (gmt hG) dX4_count_81 rfl ?_
      exact aw_iret h hr dX4_count_84 (⟨by unfold countA; rw [hin, hkc]; rfl, rfl, rfl, rfl⟩) (Nat.zero_le _) (Nat.zero_le _)
    · refine aw_tableIn h (off := 84) (tgt := 85) dX4_count_1 (by decide) (by decide) rfl (by decide) ?_
      refine aw_aload0 h dX4_count_85 ?_
      refine aw_getr h fl_X4_39 (gmt hG) dX4_count_86 rfl (gmp20 hG) ?_
      refine aw_iconst h _ ci_3 dX4_count_89 ?_
      refine aw_ialdV h (gms171 hG) (by decide) (by omega) dX4_count_90 (congrFun hE 3) ?_
      exact aw_iret h hr dX4_count_91 (⟨by unfold countA; rw [hin, hkc]; rfl, rfl, rfl, rfl⟩) (Nat.zero_le _) (Nat.zero_le _)
    · refine aw_tableIn h (off := 91) (tgt := 92) dX4_count_1 (by decide) (by decide) rfl (by decide) ?_
      refine aw_aload0 h dX4_count_92 ?_
      refine aw_callVE0 h hl cl_X4_307 (met_m_isNight hG hE) (gmt hG) rfl dX4_count_93 (Nat.le_of_ble_eq_true rfl) rfl (Nat.zero_le _) (Nat.zero_le _) ?_
      refine aw_if_eqB h (tgt := 103) dX4_count_96 (by decide) (fun c96 => ?_) (fun c96 => ?_)
      · refine aw_iconst h _ ci_0 dX4_count_103 ?_
        exact aw_iret h hr dX4_count_104 (⟨by unfold countA; rw [hin, hkc, if_pos rfl, c96]; rfl, rfl, rfl, rfl⟩) (Nat.zero_le _) (Nat.zero_le _)
      · refine aw_iconst h _ ci_1 dX4_count_99 ?_
        refine aw_goto h (tgt := 104) dX4_count_100 (by decide) ?_
        exact aw_iret h hr dX4_count_104 (⟨by unfold countA; rw [hin, hkc, if_pos rfl, c96]; rfl, rfl, rfl, rfl⟩) (Nat.zero_le _) (Nat.zero_le _)
    · refine aw_tableIn h (off := 104) (tgt := 105) dX4_count_1 (by decide) (by decide) rfl (by decide) ?_
      refine aw_aload0 h dX4_count_105 ?_
      refine aw_iconst h _ ci_3 dX4_count_106 ?_
      refine aw_callVE1 h hl cl_X4_498 (met_m_countOf hG hE hS (by omega)) (gmt hG) rfl dX4_count_107 (Nat.le_of_ble_eq_true rfl) rfl (Nat.zero_le _) (Nat.zero_le _) ?_
      exact aw_iret h hr dX4_count_110 (⟨by unfold countA; rw [hin, hkc]; rfl, rfl, rfl, rfl⟩) (Nat.zero_le _) (Nat.zero_le _)
    · refine aw_tableIn h (off := 110) (tgt := 111) dX4_count_1 (by decide) (by decide) rfl (by decide) ?_
      refine aw_aload0 h dX4_count_111 ?_
      refine aw_iconst h _ ci_4 dX4_count_112 ?_
      refine aw_callVE1 h hl cl_X4_498 (met_m_countOf hG hE hS (by omega)) (gmt hG) rfl dX4_count_113 (Nat.le_of_ble_eq_true rfl) rfl (Nat.zero_le _) (Nat.zero_le _) ?_
      exact aw_iret h hr dX4_count_116 (⟨by unfold countA; rw [hin, hkc]; rfl, rfl, rfl, rfl⟩) (Nat.zero_le _) (Nat.zero_le _)
    · refine aw_tableIn h (off := 116) (tgt := 117) dX4_count_1 (by decide) (by decide) rfl (by decide) ?_
      refine aw_aload0 h dX4_count_117 ?_
      refine aw_getr h fl_X4_39 (gmt hG) dX4_count_118 rfl (gmp20 hG) ?_
      refine aw_bipush h _ cb_114 dX4_count_121 ?_
      refine aw_ialdV h (gms171 hG) (by decide) (by omega) dX4_count_123 (congrFun hE 114) ?_
      exact aw_iret h hr dX4_count_124 (⟨by unfold countA; rw [hin, hkc]; rfl, rfl, rfl, rfl⟩) (Nat.zero_le _) (Nat.zero_le _)
    · refine aw_tableIn h (off := 124) (tgt := 125) dX4_count_1 (by decide) (by decide) rfl (by decide) ?_
      refine aw_aload0 h dX4_count_125 ?_
      refine aw_geti h fl_X4_283 (gmt hG) dX4_count_126 rfl ?_
      exact aw_iret h hr dX4_count_129 (⟨by unfold countA; rw [hin, hkc]; rfl, rfl, rfl, rfl⟩) (Nat.zero_le _) (Nat.zero_le _)
    · refine aw_tableIn h (off := 129) (tgt := 130) dX4_count_1 (by decide) (by decide) rfl (by decide) ?_
      refine aw_aload0 h dX4_count_130 ?_
      refine aw_geti h fl_X4_478 (gmt hG) dX4_count_131 rfl ?_
      exact aw_iret h hr dX4_count_134 (⟨by unfold countA; rw [hin, hkc]; rfl, rfl, rfl, rfl⟩) (Nat.zero_le _) (Nat.zero_le _)
    · refine aw_tableIn h (off := 134) (tgt := 135) dX4_count_1 (by decide) (by decide) rfl (by decide) ?_
      refine aw_aload0 h dX4_count_135 ?_
      refine aw_geti h fl_X4_90 (gmt hG) dX4_count_136 rfl ?_
      exact aw_iret h hr dX4_count_139 (⟨by unfold countA; rw [hin, hkc]; rfl, rfl, rfl, rfl⟩) (Nat.zero_le _) (Nat.zero_le _)
/-- a sign more on the tape -/
def byt (v : Int32) (k : Nat) : Int32 := (v >>> (nI k &&& 31)).toInt8.toInt32
def stp (I : Im) (t : Nat) (x : Int32) : Im := upd2 (upd2 I 162 t x) 161 1 (nI (t + 1))
def fourI (I : Im) (t : Nat) (v : Int32) : Im := stp (stp (stp (stp I t (byt v 24)) (t + 1) (byt v 16)) (t + 2) (byt v 8)) (t + 3) (byt v 0)
def feedI (I : Im) (t : Nat) (a b c d e : Int32) : Im := fourI (fourI (fourI (fourI (fourI I t a) (t + 4) b) (t + 8) c) (t + 12) d) (t + 16) e
theorem byt2 (v : Int32) (k : Nat) : (byt v k).toInt8.toInt32 = byt v k := by unfold byt; rw [Int8.toInt8_toInt32]
theorem met_m_four {w : Wd} {G : Gm} {I : Im} {L : Lm} (hG : GM G) {t : Nat} (hT : I 161 1 = nI t) (ht : t + 4 ≤ 400) {v : Int32} : AMet w yX4_four cX4_four 3 none 1 40 0 0 [.ref (w.1 + 161), .int v] G I L (Exact none G (fourI I t v) L) := by
  refine AMet.of (ls0 := [some (.ref (w.1 + 161)), some (.int v), none]) rfl (Nat.le_of_ble_eq_true rfl) rfl (fun q hq => hq) (fun X h hl hr hi => ?_)
  have step : ∀ (k s : Nat) (I1 : Im), I1 161 1 = nI s → s < 400 → k < 25 → AW X 0 0 3 [some (.ref (w.1 + 161)), some (.int (v)), some (.int (nI k + Int32.ofInt (-8)))] [] G (stp I1 s (byt v k)) L → AW X 0 0 3 [some (.ref (w.1 + 161)), some (.int (v)), some (.int (nI k))] [] G I1 L := by
    intro k s I1 hT hs hk h9
    refine aw_iload2 h dX4_four_3 ?_
    refine aw_if_ltN h (tgt := 36) (by omega) dX4_four_4 (by decide) (fun c4 => ?_) (fun c4 => ?_)
    · exact absurd c4 (by omega)
    · refine aw_aload0 h dX4_four_7 ?_
      refine aw_getr h fl_X4_7 (gmt hG) dX4_four_8 rfl (gmp0 hG) ?_
      refine aw_aload0 h dX4_four_11 ?_
      refine aw_getiV h fl_X4_90 (gmt hG) dX4_four_12 rfl (hT) ?_
      refine aw_iload1 h dX4_four_15 ?_
      refine aw_iload2 h dX4_four_16 ?_
      refine aw_ishr h dX4_four_17 ?_
      refine aw_i2b h dX4_four_18 ?_
      refine aw_bastN h (gms162 hG) (by decide) (by omega) dX4_four_19 ?_
      rw [show ((v >>> (nI k &&& 31)).toInt8.toInt32).toInt8.toInt32 = byt v k from byt2 v k]
      refine aw_aload0 h dX4_four_20 ?_
      refine aw_dup h rfl dX4_four_21 ?_
      refine aw_getiV h fl_X4_90 (gmt hG) dX4_four_22 rfl ((show (upd2 I1 162 s (byt v k)) 161 1 = nI s from hT)) ?_
      refine aw_iconst h _ ci_1 dX4_four_25 ?_
      refine aw_iaddN h dX4_four_26 ?_
      refine aw_puti h fl_X4_90 ft_X4_90 (fun z => by cases z) (gmt hG) dX4_four_27 rfl ?_
      refine aw_iinc2 h rfl rfl dX4_four_30 ?_
      refine aw_goto h (tgt := 3) dX4_four_33 (by decide) ?_
      exact h9
  refine aw_bipush h _ cb_24 dX4_four_0 ?_
  refine aw_istore2 h rfl dX4_four_2 ?_
  refine step 24 t I hT (by omega) (by omega) ?_
  refine step 16 (t + 1) _ rfl (by omega) (by omega) ?_
  refine step 8 (t + 2) _ rfl (by omega) (by omega) ?_
  refine step 0 (t + 3) _ rfl (by omega) (by omega) ?_
  refine aw_iload2 h dX4_four_3 ?_
  refine aw_if_lt h (tgt := 36) dX4_four_4 (by decide) (fun c4 => ?_) (fun c4 => ?_)
  · exact aw_vret h hr dX4_four_36 (⟨rfl, rfl, rfl, rfl⟩) (Nat.zero_le _) (Nat.zero_le _)
  · exact absurd (show nI 0 + Int32.ofInt (-8) < 0 by decide) c4
theorem met_m_feed {w : Wd} {G : Gm} {I : Im} {L : Lm} (hG : GM G) {t : Nat} (hT : I 161 1 = nI t) (ht : t ≤ 400) {a b c d e : Int32} : AMet w yX4_feed cX4_feed 6 (some .int) 2 62 0 0 [.ref (w.1 + 161), .int a, .int b, .int c, .int d, .int e] G I L (Exact (some (.int (if t + 20 ≤ 400 then nI (t + 20) else -1))) G (if t + 20 ≤ 400 then feedI I t a b c d e else I) L) := by
  refine AMet.of (ls0 := [some (.ref (w.1 + 161)), some (.int a), some (.int b), some (.int c), some (.int d), some (.int e)]) rfl (Nat.le_of_ble_eq_true rfl) rfl (fun q hq => hq) (fun X h hl hr hi => ?_)
  refine aw_aload0 h dX4_feed_0 ?_
  refine aw_getiV h fl_X4_90 (gmt hG) dX4_feed_1 rfl (hT) ?_
  refine aw_bipush h _ cb_20 dX4_feed_4 ?_
  refine aw_iaddN h dX4_feed_6 ?_
  refine aw_sipush h _ cs_400 dX4_feed_7 ?_
  refine aw_icmp_leN h (tgt := 15) (by omega) (by omega) dX4_feed_10 (by decide) (fun c10 => ?_) (fun c10 => ?_)
  · refine aw_aload0 h dX4_feed_15 ?_
    refine aw_iload1 h dX4_feed_16 ?_
    refine aw_callVD1 h hl cl_X4_93 (met_m_four (t := t + 0) hG hT (by omega)) (gmt hG) rfl dX4_feed_17 (Nat.le_of_ble_eq_true rfl) rfl (Nat.zero_le _) (Nat.zero_le _) ?_
    refine aw_aload0 h dX4_feed_20 ?_
    refine aw_iload2 h dX4_feed_21 ?_
    refine aw_callVD1 h hl cl_X4_93 (met_m_four (t := t + 4) hG rfl (by omega)) (gmt hG) rfl dX4_feed_22 (Nat.le_of_ble_eq_true rfl) rfl (Nat.zero_le _) (Nat.zero_le _) ?_
    refine aw_aload0 h dX4_feed_25 ?_
    refine aw_iload3 h dX4_feed_26 ?_
    refine aw_callVD1 h hl cl_X4_93 (met_m_four (t := t + 8) hG rfl (by omega)) (gmt hG) rfl dX4_feed_27 (Nat.le_of_ble_eq_true rfl) rfl (Nat.zero_le _) (Nat.zero_le _) ?_
    refine aw_aload0 h dX4_feed_30 ?_
    refine aw_iload4 h dX4_feed_31 ?_
    refine aw_callVD1 h hl cl_X4_93 (met_m_four (t := t + 12) hG rfl (by omega)) (gmt hG) rfl dX4_feed_33 (Nat.le_of_ble_eq_true rfl) rfl (Nat.zero_le _) (Nat.zero_le _) ?_
    refine aw_aload0 h dX4_feed_36 ?_
    refine aw_iload5 h dX4_feed_37 ?_
    refine aw_callVD1 h hl cl_X4_93 (met_m_four (t := t + 16) hG rfl (by omega)) (gmt hG) rfl dX4_feed_39 (Nat.le_of_ble_eq_true rfl) rfl (Nat.zero_le _) (Nat.zero_le _) ?_
    refine aw_aload0 h dX4_feed_42 ?_
    refine aw_getiV h fl_X4_90 (gmt hG) dX4_feed_43 rfl ((rfl : feedI I t a b c d e 161 1 = nI (t + 20))) ?_
    exact aw_iret h hr dX4_feed_46 (⟨by rw [if_pos (by omega)]; rfl, rfl, by rw [if_pos (by omega)]; rfl, rfl⟩) (Nat.zero_le _) (Nat.zero_le _)
  · refine aw_iconst h _ ci_m1 dX4_feed_13 ?_
    exact aw_iret h hr dX4_feed_14 (⟨by rw [if_neg (by omega)], rfl, by rw [if_neg (by omega)], rfl⟩) (Nat.zero_le _) (Nat.zero_le _)
