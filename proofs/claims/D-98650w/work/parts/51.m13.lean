/-! The reference's answers fewest, turned, caught, page -/
set_option maxRecDepth 100000
def setB (S : Nat → Int32) (m : Int32) : Bool := decide (0 < nr S) && (decide (0 ≤ m) && decide (m < nI (2 ^ np S)))
def codeV (S : Nat → Int32) : Nat := enc (nr S) (np S) (rm S)
def n2 (x : Int32) : Int32 := if x < 0 then -2 else x
noncomputable def fewD (S : Nat → Int32) (m : Nat) (inw : Int32) : Int32 := distE (EB S (np S) inw) (goalC S (np S) m) (codeV S)
noncomputable def fewA (S : Nat → Int32) (m : Int32) : Int32 := if setB S m = true then n2 (fewD S m.toNatClampNeg (-1)) else -1
def turnB (S : Nat → Int32) (door m : Int32) : Bool := setB S m && ((decide (0 ≤ door) && decide (door < nI (nd S))) && openB S door.toNatClampNeg)
noncomputable def turnA (S : Nat → Int32) (door m : Int32) : Int32 := if turnB S door m = true then n2 (fewD S m.toNatClampNeg door) else -1
theorem codeV_lt {S : Nat → Int32} (hS : InvS S) : codeV S < pw (nr S) (np S) := enc_lt (fun p hp => (ivp hS hp).2.1)
theorem setB_of {S : Nat → Int32} {m : Int32} (hS : InvS S) (h : setB S m = true) : 0 < nr S ∧ ∃ k, m = nI k ∧ k < 16 ∧ k < 2 ^ np S := by
  unfold setB at h
  have h1 := (Bool.and_eq_true _ _).mp h
  have hb : 2 ^ np S ≤ 16 := Nat.pow_le_pow_right (i := np S) (j := 4) (n := 2) (by decide) (iv2b hS)
  obtain ⟨k, hk, e⟩ := of_rng h1.2 (by omega)
  exact ⟨by simpa using h1.1, k, e, by omega, hk⟩
theorem FP.mc {S : Nat → Int32} {src : Nat → Prop} {n : Nat} {inw : Int32} {G G1 : Gm} {I I1 : Im} {L L1 : Lm} (h : FP S src n inw G I L G1 I1 L1) : PQ G I L G1 I1 L1 := ⟨h.1, h.2.1.mc⟩
theorem pw_np {S : Nat → Int32} (hS : InvS S) : pw (nr S) (np S) ≤ 4096 := pw_le (k := 4) (iv0b hS) (iv2b hS)
theorem pw_np1 {S : Nat → Int32} (hS : InvS S) : pw (nr S) (np S + 1) ≤ 32768 := pw_le (k := 5) (iv0b hS) (by have := iv2b hS; omega)
theorem met_m_isSet {w : Wd} {G : Gm} {I : Im} {L : Lm} (hG : GM G) {S : Nat → Int32} (hE : I 171 = S) (hS : InvS S) {m : Int32} : AMet w yX4_isSet cX4_isSet 2 (some .boolean) 2 60 0 0 [.ref (w.1 + 161), .int m] G I L (Exact (some (.int (bI (setB S m)))) G I L) := by
  refine AMet.of (ls0 := [some (.ref (w.1 + 161)), some (.int m)]) rfl (Nat.le_of_ble_eq_true rfl) rfl (fun q hq => hq) (fun X h hl hr hi => ?_)
  refine aw_aload0 h dX4_isSet_0 ?_
  refine aw_callVE0 h hl cl_X4_389 (met_m_isCastle hG hE hS) (gmt hG) rfl dX4_isSet_1 (Nat.le_of_ble_eq_true rfl) rfl (Nat.zero_le _) (Nat.zero_le _) ?_
  refine aw_if_eqB h (tgt := 27) dX4_isSet_4 (by decide) (fun c4 => ?_) (fun c4 => ?_)
  · refine aw_iconst h _ ci_0 dX4_isSet_27 ?_
    exact aw_zret h hr dX4_isSet_28 (by first | exact z01_0 | exact z01_1 | exact z01_b _) (ExB0 (by unfold setB; rw [c4]; rfl)) (Nat.zero_le _) (Nat.zero_le _)
  · refine aw_iload1 h dX4_isSet_7 ?_
    refine aw_if_lt h (tgt := 27) dX4_isSet_8 (by decide) (fun c8 => ?_) (fun c8 => ?_)
    · refine aw_iconst h _ ci_0 dX4_isSet_27 ?_
      exact aw_zret h hr dX4_isSet_28 (by first | exact z01_0 | exact z01_1 | exact z01_b _) (ExB0 (by unfold setB; rw [c4, decide_eq_false (Int32.not_le.mpr c8)]; rfl)) (Nat.zero_le _) (Nat.zero_le _)
    · refine aw_iload1 h dX4_isSet_11 ?_
      refine aw_iconst h _ ci_1 dX4_isSet_12 ?_
      refine aw_aload0 h dX4_isSet_13 ?_
      refine aw_getr h fl_X4_39 (gmt hG) dX4_isSet_14 rfl (gmp20 hG) ?_
      refine aw_iconst h _ ci_2 dX4_isSet_17 ?_
      refine aw_ialdV h (gms171 hG) (by decide) (by omega) dX4_isSet_18 (iv2e hE hS) ?_
      refine aw_ishl h dX4_isSet_19 ?_
      rw [bs_shl1 (by have := iv2b hS; omega)]
      refine aw_icmp_ge h (tgt := 27) dX4_isSet_20 (by decide) (fun c20 => ?_) (fun c20 => ?_)
      · refine aw_iconst h _ ci_0 dX4_isSet_27 ?_
        exact aw_zret h hr dX4_isSet_28 (by first | exact z01_0 | exact z01_1 | exact z01_b _) (ExB0 (by unfold setB; rw [decide_eq_false (p := m < nI (2 ^ np S)) (by simpa using c20), Bool.and_false, Bool.and_false])) (Nat.zero_le _) (Nat.zero_le _)
      · refine aw_iconst h _ ci_1 dX4_isSet_23 ?_
        refine aw_goto h (tgt := 28) dX4_isSet_24 (by decide) ?_
        exact aw_zret h hr dX4_isSet_28 (by first | exact z01_0 | exact z01_1 | exact z01_b _) (ExB1 (by unfold setB; rw [c4, decide_eq_true (p := m < nI (2 ^ np S)) (by simpa using c20), decide_eq_true (p := 0 ≤ m) (by simpa using c8)]; rfl)) (Nat.zero_le _) (Nat.zero_le _)
theorem met_m_fewest {w : Wd} {G : Gm} {I : Im} {L : Lm} (hG : GM G) {S : Nat → Int32} (hE : I 171 = S) (hS : InvS S) {m : Int32} : AMet w yX4_fewest cX4_fewest 3 (some .int) 7 181 0 0 [.ref (w.1 + 161), .int m] G I L (Ans (some (.int (fewA S m))) (PQ G I L)) := by
  refine AMet.of (ls0 := [some (.ref (w.1 + 161)), some (.int m), none]) rfl (Nat.le_of_ble_eq_true rfl) rfl (fun q hq => hq) (fun X h hl hr hi => ?_)
  refine aw_aload0 h dX4_fewest_0 ?_
  refine aw_iload1 h dX4_fewest_1 ?_
  refine aw_callVE1 h hl cl_X4_437 (met_m_isSet hG hE hS) (gmt hG) rfl dX4_fewest_2 (Nat.le_of_ble_eq_true rfl) rfl (Nat.zero_le _) (Nat.zero_le _) ?_
  refine aw_if_neB h (tgt := 10) dX4_fewest_5 (by decide) (fun c5 => ?_) (fun c5 => ?_)
  · obtain ⟨h0, k, rfl, hk, hk2⟩ := setB_of hS c5
    have hcl : (nI k).toNatClampNeg = k := nI_clamp (by omega)
    have hp4 := pw_np hS
    have hcv := codeV_lt hS
    refine aw_aload0 h dX4_fewest_10 ?_
    refine aw_iload1 h dX4_fewest_11 ?_
    refine aw_aload0 h dX4_fewest_12 ?_
    refine aw_getr h fl_X4_39 (gmt hG) dX4_fewest_13 rfl (gmp20 hG) ?_
    refine aw_iconst h _ ci_2 dX4_fewest_16 ?_
    refine aw_ialdV h (gms171 hG) (by decide) (by omega) dX4_fewest_17 (iv2e hE hS) ?_
    refine aw_iconst h _ ci_m1 dX4_fewest_18 ?_
    refine aw_callVN3 h hl cl_X4_440 (met_m_fillsPassings hG hE hS h0 (by have := iv2b hS; omega) (by omega) (by omega)) (gmt hG) rfl dX4_fewest_19 (Nat.le_of_ble_eq_true rfl) rfl (Nat.zero_le _) (Nat.zero_le _) (fun G1 I1 L1 hp => ?_)
    obtain ⟨rfl, hK, hf⟩ := hp
    have hE1 : I1 171 = S := hK.S hE
    refine aw_aload0 h dX4_fewest_22 ?_
    refine aw_getr h fl_X4_63 (gmt hG) dX4_fewest_23 rfl (gmp29 hG) ?_
    refine aw_aload0 h dX4_fewest_26 ?_
    refine aw_callVE0 h hl cl_X4_443 (met_m_codeNow hG hE1 hS) (gmt hG) rfl dX4_fewest_27 (Nat.le_of_ble_eq_true rfl) rfl (Nat.zero_le _) (Nat.zero_le _) ?_
    refine aw_ialdV h (gms177 hG) (by decide) (show codeV S < 32768 by omega) dX4_fewest_30 ((hf _ hcv).1) ?_
    refine aw_istore2 h rfl dX4_fewest_31 ?_
    refine aw_iload2 h dX4_fewest_32 ?_
    refine aw_if_ge h (tgt := 41) dX4_fewest_33 (by decide) (fun c33 => ?_) (fun c33 => ?_)
    · refine aw_iload2 h dX4_fewest_41 ?_
      exact aw_iret h hr dX4_fewest_42 (⟨by unfold fewA; rw [c5, hcl]; unfold n2 fewD; rw [if_pos rfl, if_neg (Int32.not_lt.mpr c33)], rfl, hK.mc⟩) (Nat.zero_le _) (Nat.zero_le _)
    · refine aw_bipush h _ cb_m2 dX4_fewest_36 ?_
      refine aw_goto h (tgt := 42) dX4_fewest_38 (by decide) ?_
      exact aw_iret h hr dX4_fewest_42 (⟨by unfold fewA; rw [c5, hcl]; unfold n2 fewD; rw [if_pos rfl, if_pos (Int32.not_le.mp c33)], rfl, hK.mc⟩) (Nat.zero_le _) (Nat.zero_le _)
  · refine aw_iconst h _ ci_m1 dX4_fewest_8 ?_
    exact aw_iret h hr dX4_fewest_9 (⟨by unfold fewA; rw [c5]; rfl, rfl, MC.rf⟩) (Nat.zero_le _) (Nat.zero_le _)
theorem met_m_turned {w : Wd} {G : Gm} {I : Im} {L : Lm} (hG : GM G) {S : Nat → Int32} (hE : I 171 = S) (hS : InvS S) {door m : Int32} : AMet w yX4_turned cX4_turned 4 (some .int) 7 181 0 0 [.ref (w.1 + 161), .int door, .int m] G I L (Ans (some (.int (turnA S door m))) (PQ G I L)) := by
  refine AMet.of (ls0 := [some (.ref (w.1 + 161)), some (.int door), some (.int m), none]) rfl (Nat.le_of_ble_eq_true rfl) rfl (fun q hq => hq) (fun X h hl hr hi => ?_)
  refine aw_aload0 h dX4_turned_0 ?_
  refine aw_iload2 h dX4_turned_1 ?_
  refine aw_callVE1 h hl cl_X4_437 (met_m_isSet hG hE hS) (gmt hG) rfl dX4_turned_2 (Nat.le_of_ble_eq_true rfl) rfl (Nat.zero_le _) (Nat.zero_le _) ?_
  refine aw_if_eqB h (tgt := 24) dX4_turned_5 (by decide) (fun c5 => ?_) (fun c5 => ?_)
  · refine aw_iconst h _ ci_m1 dX4_turned_24 ?_
    exact aw_iret h hr dX4_turned_25 (⟨by unfold turnA; rw [show turnB S door m = false from (by unfold turnB; rw [c5]; rfl)]; rfl, rfl, MC.rf⟩) (Nat.zero_le _) (Nat.zero_le _)
  · refine aw_aload0 h dX4_turned_8 ?_
    refine aw_iload1 h dX4_turned_9 ?_
    refine aw_callVE1 h hl cl_X4_347 (met_m_isDoor hG hE hS) (gmt hG) rfl dX4_turned_10 (Nat.le_of_ble_eq_true rfl) rfl (Nat.zero_le _) (Nat.zero_le _) ?_
    refine aw_if_eqB h (tgt := 24) dX4_turned_13 (by decide) (fun c13 => ?_) (fun c13 => ?_)
    · refine aw_iconst h _ ci_m1 dX4_turned_24 ?_
      exact aw_iret h hr dX4_turned_25 (⟨by unfold turnA; rw [show turnB S door m = false from (by unfold turnB; rw [c5, c13]; rfl)]; rfl, rfl, MC.rf⟩) (Nat.zero_le _) (Nat.zero_le _)
    · obtain ⟨h0, k, rfl, hk, hk2⟩ := setB_of hS c5
      obtain ⟨d, hd, rfl⟩ := of_rng c13 (by have := iv1b hS; omega)
      have hcl : (nI k).toNatClampNeg = k := nI_clamp (by omega)
      have hdl : (nI d).toNatClampNeg = d := nI_clamp (by have := iv1b hS; omega)
      have hp4 := pw_np hS
      have hcv := codeV_lt hS
      refine aw_aload0 h dX4_turned_16 ?_
      refine aw_iload1 h dX4_turned_17 ?_
      refine aw_callVE1 h hl cl_X4_310 (met_m_isOpen hG hE hS hd) (gmt hG) rfl dX4_turned_18 (Nat.le_of_ble_eq_true rfl) rfl (Nat.zero_le _) (Nat.zero_le _) ?_
      refine aw_if_neB h (tgt := 26) dX4_turned_21 (by decide) (fun c21 => ?_) (fun c21 => ?_)
      · refine aw_aload0 h dX4_turned_26 ?_
        refine aw_iload2 h dX4_turned_27 ?_
        refine aw_aload0 h dX4_turned_28 ?_
        refine aw_getr h fl_X4_39 (gmt hG) dX4_turned_29 rfl (gmp20 hG) ?_
        refine aw_iconst h _ ci_2 dX4_turned_32 ?_
        refine aw_ialdV h (gms171 hG) (by decide) (by omega) dX4_turned_33 (iv2e hE hS) ?_
        refine aw_iload1 h dX4_turned_34 ?_
        refine aw_callVN3 h hl cl_X4_440 (met_m_fillsPassings hG hE hS h0 (by have := iv2b hS; omega) (by omega) (by omega)) (gmt hG) rfl dX4_turned_35 (Nat.le_of_ble_eq_true rfl) rfl (Nat.zero_le _) (Nat.zero_le _) (fun G1 I1 L1 hp => ?_)
        obtain ⟨rfl, hK, hf⟩ := hp
        have hE1 : I1 171 = S := hK.S hE
        refine aw_aload0 h dX4_turned_38 ?_
        refine aw_getr h fl_X4_63 (gmt hG) dX4_turned_39 rfl (gmp29 hG) ?_
        refine aw_aload0 h dX4_turned_42 ?_
        refine aw_callVE0 h hl cl_X4_443 (met_m_codeNow hG hE1 hS) (gmt hG) rfl dX4_turned_43 (Nat.le_of_ble_eq_true rfl) rfl (Nat.zero_le _) (Nat.zero_le _) ?_
        refine aw_ialdV h (gms177 hG) (by decide) (show codeV S < 32768 by omega) dX4_turned_46 ((hf _ hcv).1) ?_
        refine aw_istore3 h rfl dX4_turned_47 ?_
        refine aw_iload3 h dX4_turned_48 ?_
        refine aw_if_ge h (tgt := 57) dX4_turned_49 (by decide) (fun c49 => ?_) (fun c49 => ?_)
        · refine aw_iload3 h dX4_turned_57 ?_
          exact aw_iret h hr dX4_turned_58 (⟨by unfold turnA; rw [show turnB S (nI d) (nI k) = true by unfold turnB; rw [c5, c13, hdl, c21]; rfl, hcl]; unfold n2 fewD; rw [if_pos rfl, if_neg (Int32.not_lt.mpr c49)], rfl, hK.mc⟩) (Nat.zero_le _) (Nat.zero_le _)
        · refine aw_bipush h _ cb_m2 dX4_turned_52 ?_
          refine aw_goto h (tgt := 58) dX4_turned_54 (by decide) ?_
          exact aw_iret h hr dX4_turned_58 (⟨by unfold turnA; rw [show turnB S (nI d) (nI k) = true by unfold turnB; rw [c5, c13, hdl, c21]; rfl, hcl]; unfold n2 fewD; rw [if_pos rfl, if_pos (Int32.not_le.mp c49)], rfl, hK.mc⟩) (Nat.zero_le _) (Nat.zero_le _)
      · refine aw_iconst h _ ci_m1 dX4_turned_24 ?_
        exact aw_iret h hr dX4_turned_25 (⟨by unfold turnA; rw [show turnB S (nI d) (nI k) = false from (by unfold turnB; rw [c5, c13, hdl, c21]; rfl)]; rfl, rfl, MC.rf⟩) (Nat.zero_le _) (Nat.zero_le _)
/-- all of who is elsewhere than now -/
def leaveC (S : Nat → Int32) (p : Nat) : Nat → Prop := fun c => c < pw (nr S) (np S) ∧ dg (nr S) c p ≠ dg (nr S) (codeV S) p
noncomputable def lessC (S : Nat → Int32) (w p : Nat) : Bool := decide (distE (EB S (np S) (-1)) (if w = 0 then goalC S (np S) (2 ^ p) else leaveC S p) (codeV S) < 0)
noncomputable def caughtA (S : Nat → Int32) (what : Int32) : Int32 := if (decide (0 < nr S) && inI what 0 1) = true then nI (mskN (np S) (lessC S what.toNatClampNeg)) else -1
theorem msk_s1 {n : Nat} {f : Nat → Bool} (h : f n = true) : mskN n f ||| 2 ^ n = mskN (n + 1) f := by rw [msk_or (msk_lt n f), mskN, if_pos h]
theorem msk_s0 {n : Nat} {f : Nat → Bool} (h : f n = false) : mskN n f ||| 0 = mskN (n + 1) f := by rw [Nat.or_zero, mskN, if_neg (by rw [h]; exact Bool.false_ne_true), Nat.add_zero]
theorem PQ.trans {G G1 G2 : Gm} {I I1 I2 : Im} {L L1 L2 : Lm} (h : PQ G I L G1 I1 L1) (h2 : PQ G1 I1 L1 G2 I2 L2) : PQ G I L G2 I2 L2 := ⟨h.1.trans h2.1, h.2.trans h2.2⟩
theorem met_m_caught {w : Wd} {G : Gm} {I : Im} {L : Lm} (hG : GM G) {S : Nat → Int32} (hE : I 171 = S) (hS : InvS S) {what : Int32} : AMet w yX4_caught cX4_caught 6 (some .int) 7 181 0 0 [.ref (w.1 + 161), .int what] G I L (Ans (some (.int (caughtA S what))) (PQ G I L)) := by
  refine AMet.of (ls0 := [some (.ref (w.1 + 161)), some (.int what), none, none, none, none]) rfl (Nat.le_of_ble_eq_true rfl) rfl (fun q hq => hq) (fun X h hl hr hi => ?_)
  refine aw_aload0 h dX4_caught_0 ?_
  refine aw_callVE0 h hl cl_X4_389 (met_m_isCastle hG hE hS) (gmt hG) rfl dX4_caught_1 (Nat.le_of_ble_eq_true rfl) rfl (Nat.zero_le _) (Nat.zero_le _) ?_
  refine aw_if_eqB h (tgt := 17) dX4_caught_4 (by decide) (fun c4 => ?_) (fun c4 => ?_)
  · refine aw_iconst h _ ci_m1 dX4_caught_17 ?_
    exact aw_iret h hr dX4_caught_18 (⟨by unfold caughtA; rw [c4]; rfl, rfl, MC.rf⟩) (Nat.zero_le _) (Nat.zero_le _)
  · refine aw_iload1 h dX4_caught_7 ?_
    refine aw_i2l h dX4_caught_8 ?_
    refine aw_lconst h _ cl_0 dX4_caught_9 ?_
    refine aw_lconst h _ cl_1 dX4_caught_10 ?_
    refine aw_callSE3 h hl cl_X4_128 (met_m_in) dX4_caught_11 (Nat.le_of_ble_eq_true rfl) rfl (Nat.zero_le _) (Nat.zero_le _) ?_
    refine aw_if_neB h (tgt := 19) dX4_caught_14 (by decide) (fun c14 => ?_) (fun c14 => ?_)
    · have h0 : 0 < nr S := by simpa using c4
      obtain ⟨wh, hw0, hw1, rfl⟩ := inI_of ((inL_I (by omega) (by omega)).symm.trans c14) (by decide) (by decide)
      have b0 := iv0b hS
      have b2 := iv2b hS
      have hp4 := pw_np hS
      have hcv := codeV_lt hS
      have hans : caughtA S (nI wh) = nI (mskN (np S) (lessC S wh)) := by
        unfold caughtA
        rw [show inI (nI wh) 0 1 = true from (inL_I (by omega) (by omega)).symm.trans c14, c4, nI_clamp (by omega)]; rfl
      refine aw_iconst h _ ci_0 dX4_caught_19 ?_
      refine aw_istore2 h rfl dX4_caught_20 ?_
      refine aw_aload0 h dX4_caught_21 ?_
      refine aw_callVE0 h hl cl_X4_443 (met_m_codeNow hG hE hS) (gmt hG) rfl dX4_caught_22 (Nat.le_of_ble_eq_true rfl) rfl (Nat.zero_le _) (Nat.zero_le _) ?_
      refine aw_istore3 h rfl dX4_caught_25 ?_
      refine aw_iconst h _ ci_0 dX4_caught_26 ?_
      refine aw_istore4 h rfl dX4_caught_27 ?_
      have key : ∀ (fu p : Nat) (I1 : Im) (L1 : Lm) (o5 : Option Value), p ≤ np S → np S < p + fu → QK I L I1 L1 → AW X 0 0 29 [some (.ref (w.1 + 161)), some (.int (nI wh)), some (.int (nI (mskN p (lessC S wh)))), some (.int (nI (codeV S))), some (.int (nI p)), o5] [] G I1 L1 := by
        intro fu
        induction fu with
        | zero => intro p I1 L1 o5 hle hlt; exact absurd hlt (by omega)
        | succ fu ih =>
          intro p I1 L1 o5 hle hlt hK
          have hE1 : I1 171 = S := hK.S hE
          refine aw_iload4 h dX4_caught_29 ?_
          refine aw_aload0 h dX4_caught_31 ?_
          refine aw_getr h fl_X4_39 (gmt hG) dX4_caught_32 rfl (gmp20 hG) ?_
          refine aw_iconst h _ ci_2 dX4_caught_35 ?_
          refine aw_ialdV h (gms171 hG) (by decide) (by omega) dX4_caught_36 (iv2e hE1 hS) ?_
          refine aw_icmp_geN h (tgt := 152) (by omega) (by omega) dX4_caught_37 (by decide) (fun c37 => ?_) (fun c37 => ?_)
          · refine aw_iload2 h dX4_caught_152 ?_
            exact aw_iret h hr dX4_caught_153 (⟨by rw [show p = np S by omega, hans], rfl, hK.mc⟩) (Nat.zero_le _) (Nat.zero_le _)
          · have hpn : p < np S := by omega
            refine aw_iload1 h dX4_caught_40 ?_
            refine aw_if_neN h (tgt := 62) (by omega) dX4_caught_41 (by decide) (fun c41 => ?_) (fun c41 => ?_)
            · refine aw_aload0 h dX4_caught_62 ?_
              refine aw_aload0 h dX4_caught_63 ?_
              refine aw_getr h fl_X4_39 (gmt hG) dX4_caught_64 rfl (gmp20 hG) ?_
              refine aw_iconst h _ ci_2 dX4_caught_67 ?_
              refine aw_ialdV h (gms171 hG) (by decide) (by omega) dX4_caught_68 (iv2e hE1 hS) ?_
              refine aw_callVN1 h hl cl_X4_428 (met_m_clears hG hE1 hS (by omega) (by omega)) (gmt hG) rfl dX4_caught_69 (Nat.le_of_ble_eq_true rfl) rfl (Nat.zero_le _) (Nat.zero_le _) (fun G1 I3 L3 hp => ?_)
              obtain ⟨rfl, hK3, qv, lv, hQ⟩ := hp
              have keyc : ∀ (fc c : Nat) (I4 : Im) (L4 : Lm), c ≤ pw (nr S) (np S) → pw (nr S) (np S) < c + fc → QK I1 L1 I4 L4 → ST (leaveC S p) (np S) (pw (nr S) (np S)) c I4 → AW X 0 0 75 [some (.ref (w.1 + 161)), some (.int (nI wh)), some (.int (nI (mskN p (lessC S wh)))), some (.int (nI (codeV S))), some (.int (nI p)), some (.int (nI c))] [] G I4 L4 := by
                intro fc
                induction fc with
                | zero => intro c I4 L4 hle2 hlt2; exact absurd hlt2 (by omega)
                | succ fc ihc =>
                  intro c I4 L4 hle2 hlt2 hK4 hR
                  have hE4 : I4 171 = S := hK4.S hE1
                  refine aw_iload5 h dX4_caught_75 ?_
                  refine aw_aload0 h dX4_caught_77 ?_
                  refine aw_aload0 h dX4_caught_78 ?_
                  refine aw_getr h fl_X4_39 (gmt hG) dX4_caught_79 rfl (gmp20 hG) ?_
                  refine aw_iconst h _ ci_2 dX4_caught_82 ?_
                  refine aw_ialdV h (gms171 hG) (by decide) (by omega) dX4_caught_83 (iv2e hE4 hS) ?_
                  refine aw_callVE1 h hl cl_X4_406 (met_m_power hG hE4 hS (by omega)) (gmt hG) rfl dX4_caught_84 (Nat.le_of_ble_eq_true rfl) rfl (Nat.zero_le _) (Nat.zero_le _) ?_
                  refine aw_icmp_geN h (tgt := 121) (by omega) (by omega) dX4_caught_87 (by decide) (fun c87 => ?_) (fun c87 => ?_)
                  · refine aw_aload0 h dX4_caught_121 ?_
                    refine aw_iconst h _ ci_m1 dX4_caught_122 ?_
                    refine aw_callVN1 h hl cl_X4_434 (met_m_goesBack (src := leaveC S p) hG hE4 hS h0 (by omega) (by omega) ((show c = pw (nr S) (np S) by omega) ▸ hR |>.done (fun s hs => hs.1))) (gmt hG) rfl dX4_caught_123 (Nat.le_of_ble_eq_true rfl) rfl (Nat.zero_le _) (Nat.zero_le _) (fun G1 I2 L2 hp => ?_)
                    obtain ⟨rfl, hK5, hf⟩ := hp
                    have hK2 := hK4.trans hK5
                    have hE2 : I2 171 = S := hK2.S hE1
                    have hls : lessC S wh p = decide (distE (EB S (np S) (-1)) (leaveC S p) (codeV S) < 0) := by unfold lessC; rw [if_neg c41]
                    refine aw_iload2 h dX4_caught_126 ?_
                    refine aw_aload0 h dX4_caught_127 ?_
                    refine aw_getr h fl_X4_63 (gmt hG) dX4_caught_128 rfl (gmp29 hG) ?_
                    refine aw_iload3 h dX4_caught_131 ?_
                    refine aw_ialdV h (gms177 hG) (by decide) (show codeV S < 32768 by omega) dX4_caught_132 ((hf _ hcv).1) ?_
                    refine aw_if_ge h (tgt := 143) dX4_caught_133 (by decide) (fun c133 => ?_) (fun c133 => ?_)
                    · refine aw_iconst h _ ci_0 dX4_caught_143 ?_
                      refine aw_ior h dX4_caught_144 ?_
                      rw [bs_or, msk_s0 (hls.trans (decide_eq_false (Int32.not_lt.mpr c133)))]
                      refine aw_istore2 h rfl dX4_caught_145 ?_
                      refine aw_iincN4 h rfl dX4_caught_146 ?_
                      refine aw_goto h (tgt := 29) dX4_caught_149 (by decide) ?_
                      exact ih (p + 1) I2 L2 _ (by omega) (by omega) (hK.trans hK2)
                    · refine aw_iconst h _ ci_1 dX4_caught_136 ?_
                      refine aw_iload4 h dX4_caught_137 ?_
                      refine aw_ishl h dX4_caught_139 ?_
                      refine aw_goto h (tgt := 144) dX4_caught_140 (by decide) ?_
                      refine aw_ior h dX4_caught_144 ?_
                      rw [bs_shl1 (by omega), bs_or, msk_s1 (hls.trans (decide_eq_true (Int32.not_le.mp c133)))]
                      refine aw_istore2 h rfl dX4_caught_145 ?_
                      refine aw_iincN4 h rfl dX4_caught_146 ?_
                      refine aw_goto h (tgt := 29) dX4_caught_149 (by decide) ?_
                      exact ih (p + 1) I2 L2 _ (by omega) (by omega) (hK.trans hK2)
                  · refine aw_aload0 h dX4_caught_90 ?_
                    refine aw_iload5 h dX4_caught_91 ?_
                    refine aw_iload4 h dX4_caught_93 ?_
                    refine aw_callVE2 h hl cl_X4_409 (met_m_roomIn hG hE4 hS h0 (by omega) (by omega)) (gmt hG) rfl dX4_caught_95 (Nat.le_of_ble_eq_true rfl) rfl (Nat.zero_le _) (Nat.zero_le _) ?_
                    refine aw_aload0 h dX4_caught_98 ?_
                    refine aw_iload3 h dX4_caught_99 ?_
                    refine aw_iload4 h dX4_caught_100 ?_
                    refine aw_callVE2 h hl cl_X4_409 (met_m_roomIn hG hE4 hS h0 (by omega) (by omega)) (gmt hG) rfl dX4_caught_102 (Nat.le_of_ble_eq_true rfl) rfl (Nat.zero_le _) (Nat.zero_le _) ?_
                    refine aw_icmp_eqN h (tgt := 115) (by have := dg_lt h0 c p; omega) (by have := dg_lt h0 (codeV S) p; omega) dX4_caught_105 (by decide) (fun c105 => ?_) (fun c105 => ?_)
                    · refine aw_iincN5 h rfl dX4_caught_115 ?_
                      refine aw_goto h (tgt := 75) dX4_caught_118 (by decide) ?_
                      exact ihc (c + 1) I4 L4 (by omega) (by omega) hK4 (hR.skip (fun q => absurd c105 q.2))
                    · refine aw_aload0 h dX4_caught_108 ?_
                      refine aw_iload5 h dX4_caught_109 ?_
                      refine aw_iconst h _ ci_0 dX4_caught_111 ?_
                      obtain ⟨cnt, qv, lv, hQ, hb, hd⟩ := hR
                      refine aw_callVN2 h hl cl_X4_422 (met_m_reaches (x := 0) hG hQ (by omega) (by omega) (Nat.zero_le _)) (gmt hG) rfl dX4_caught_112 (Nat.le_of_ble_eq_true rfl) rfl (Nat.zero_le _) (Nat.zero_le _) (fun G1 I5 L5 hp => ?_)
                      have hR2 := ST.re hb hd (show leaveC S p c from ⟨by omega, c105⟩) hp
                      have hK5 := hK4.trans hp.2.1
                      obtain rfl := hp.1
                      refine aw_iincN5 h rfl dX4_caught_115 ?_
                      refine aw_goto h (tgt := 75) dX4_caught_118 (by decide) ?_
                      exact ihc (c + 1) I5 L5 (by omega) (by omega) hK5 hR2
              refine aw_iconst h _ ci_0 dX4_caught_72 ?_
              refine aw_istore5 h rfl dX4_caught_73 ?_
              exact keyc (pw (nr S) (np S) + 1) 0 _ _ (Nat.zero_le _) (by omega) hK3 ⟨0, qv, lv, hQ, fun j hj => absurd hj (by omega), fun s hs => absurd hs (by omega)⟩
            · refine aw_aload0 h dX4_caught_44 ?_
              refine aw_iconst h _ ci_1 dX4_caught_45 ?_
              refine aw_iload4 h dX4_caught_46 ?_
              refine aw_ishl h dX4_caught_48 ?_
              rw [bs_shl1 (by omega)]
              refine aw_aload0 h dX4_caught_49 ?_
              refine aw_getr h fl_X4_39 (gmt hG) dX4_caught_50 rfl (gmp20 hG) ?_
              refine aw_iconst h _ ci_2 dX4_caught_53 ?_
              refine aw_ialdV h (gms171 hG) (by decide) (by omega) dX4_caught_54 (iv2e hE1 hS) ?_
              refine aw_iconst h _ ci_m1 dX4_caught_55 ?_
              refine aw_callVN3 h hl cl_X4_440 (met_m_fillsPassings hG hE1 hS h0 (by omega) (by omega) (by have : 2 ^ p ≤ 2 ^ 4 := Nat.pow_le_pow_right (by decide) (by omega); omega)) (gmt hG) rfl dX4_caught_56 (Nat.le_of_ble_eq_true rfl) rfl (Nat.zero_le _) (Nat.zero_le _) (fun G1 I2 L2 hp => ?_)
              obtain ⟨rfl, hK2, hf⟩ := hp
              have hE2 : I2 171 = S := hK2.S hE1
              have hls : lessC S wh p = decide (distE (EB S (np S) (-1)) (goalC S (np S) (2 ^ p)) (codeV S) < 0) := by unfold lessC; rw [if_pos c41]
              refine aw_goto h (tgt := 126) dX4_caught_59 (by decide) ?_
              refine aw_iload2 h dX4_caught_126 ?_
              refine aw_aload0 h dX4_caught_127 ?_
              refine aw_getr h fl_X4_63 (gmt hG) dX4_caught_128 rfl (gmp29 hG) ?_
              refine aw_iload3 h dX4_caught_131 ?_
              refine aw_ialdV h (gms177 hG) (by decide) (show codeV S < 32768 by omega) dX4_caught_132 ((hf _ hcv).1) ?_
              refine aw_if_ge h (tgt := 143) dX4_caught_133 (by decide) (fun c133 => ?_) (fun c133 => ?_)
              · refine aw_iconst h _ ci_0 dX4_caught_143 ?_
                refine aw_ior h dX4_caught_144 ?_
                rw [bs_or, msk_s0 (hls.trans (decide_eq_false (Int32.not_lt.mpr c133)))]
                refine aw_istore2 h rfl dX4_caught_145 ?_
                refine aw_iincN4 h rfl dX4_caught_146 ?_
                refine aw_goto h (tgt := 29) dX4_caught_149 (by decide) ?_
                exact ih (p + 1) I2 L2 _ (by omega) (by omega) (hK.trans hK2)
              · refine aw_iconst h _ ci_1 dX4_caught_136 ?_
                refine aw_iload4 h dX4_caught_137 ?_
                refine aw_ishl h dX4_caught_139 ?_
                refine aw_goto h (tgt := 144) dX4_caught_140 (by decide) ?_
                refine aw_ior h dX4_caught_144 ?_
                rw [bs_shl1 (by omega), bs_or, msk_s1 (hls.trans (decide_eq_true (Int32.not_le.mp c133)))]
                refine aw_istore2 h rfl dX4_caught_145 ?_
                refine aw_iincN4 h rfl dX4_caught_146 ?_
                refine aw_goto h (tgt := 29) dX4_caught_149 (by decide) ?_
                exact ih (p + 1) I2 L2 _ (by omega) (by omega) (hK.trans hK2)
      exact key (np S + 1) 0 _ _ _ (Nat.zero_le _) (by omega) QK.rf
    · refine aw_iconst h _ ci_m1 dX4_caught_17 ?_
      exact aw_iret h hr dX4_caught_18 (⟨by unfold caughtA; rw [show inI what 0 1 = false from (inL_I (by omega) (by omega)).symm.trans c14, Bool.and_false]; rfl, rfl, MC.rf⟩) (Nat.zero_le _) (Nat.zero_le _)
/-- which of the rooms is the best for the page, and in how many; none yet -/
def pgF (D : Nat → Int32) : Nat → Int32 × Int32
  | 0 => (-2, -2)
  | r + 1 => if D r < 0 ∨ (0 ≤ (pgF D r).1 ∧ (pgF D r).2 ≤ D r) then pgF D r else (nI r, D r)
noncomputable def pageD (S : Nat → Int32) (p r : Nat) : Int32 := distE (EB S (np S + 1) (-1)) (goalC S (np S + 1) (2 ^ p)) (codeV S + r * pw (nr S) (np S))
noncomputable def pageA (S : Nat → Int32) (person what : Int32) : Int32 := if ((decide (0 ≤ person) && decide (person < nI (np S))) && inI what 0 1) = true then (let x := pgF (pageD S person.toNatClampNeg) (nr S); if what = 0 then x.1 else x.2) else -1
theorem code1_lt {S : Nat → Int32} (hS : InvS S) {r : Nat} (hr : r < nr S) : codeV S + r * pw (nr S) (np S) < pw (nr S) (np S + 1) := by
  have h1 := codeV_lt hS
  have h2 : (r + 1) * pw (nr S) (np S) ≤ nr S * pw (nr S) (np S) := Nat.mul_le_mul_right _ hr
  rw [pw_s, Nat.mul_comm (pw (nr S) (np S))]
  rw [Nat.add_mul] at h2
  omega
theorem pg_no {D : Nat → Int32} {r : Nat} (h : D r < 0 ∨ (0 ≤ (pgF D r).1 ∧ (pgF D r).2 ≤ D r)) : pgF D r = pgF D (r + 1) := by rw [pgF, if_pos h]
theorem pg_yes {D : Nat → Int32} {r : Nat} (h : ¬ (D r < 0 ∨ (0 ≤ (pgF D r).1 ∧ (pgF D r).2 ≤ D r))) : (nI r, D r) = pgF D (r + 1) := by rw [pgF, if_neg h]
theorem met_m_page {w : Wd} {G : Gm} {I : Im} {L : Lm} (hG : GM G) {S : Nat → Int32} (hE : I 171 = S) (hS : InvS S) {person wh : Int32} : AMet w yX4_page cX4_page 7 (some .int) 7 181 0 0 [.ref (w.1 + 161), .int person, .int wh] G I L (Ans (some (.int (pageA S person wh))) (PQ G I L)) := by
  refine AMet.of (ls0 := [some (.ref (w.1 + 161)), some (.int person), some (.int wh), none, none, none, none]) rfl (Nat.le_of_ble_eq_true rfl) rfl (fun q hq => hq) (fun X h hl hr hi => ?_)
  refine aw_aload0 h dX4_page_0 ?_
  refine aw_iload1 h dX4_page_1 ?_
  refine aw_callVE1 h hl cl_X4_328 (met_m_isPerson hG hE hS) (gmt hG) rfl dX4_page_2 (Nat.le_of_ble_eq_true rfl) rfl (Nat.zero_le _) (Nat.zero_le _) ?_
  refine aw_if_eqB h (tgt := 18) dX4_page_5 (by decide) (fun c5 => ?_) (fun c5 => ?_)
  · refine aw_iconst h _ ci_m1 dX4_page_18 ?_
    exact aw_iret h hr dX4_page_19 (⟨by unfold pageA; rw [c5]; rfl, rfl, MC.rf⟩) (Nat.zero_le _) (Nat.zero_le _)
  · refine aw_iload2 h dX4_page_8 ?_
    refine aw_i2l h dX4_page_9 ?_
    refine aw_lconst h _ cl_0 dX4_page_10 ?_
    refine aw_lconst h _ cl_1 dX4_page_11 ?_
    refine aw_callSE3 h hl cl_X4_128 (met_m_in) dX4_page_12 (Nat.le_of_ble_eq_true rfl) rfl (Nat.zero_le _) (Nat.zero_le _) ?_
    refine aw_if_neB h (tgt := 20) dX4_page_15 (by decide) (fun c15 => ?_) (fun c15 => ?_)
    · obtain ⟨a, ha, rfl⟩ := of_rng c5 (by have := iv2b hS; omega)
      have h0 : 0 < nr S := by have := (ivp hS ha).2.1; omega
      have b0 := iv0b hS
      have b2 := iv2b hS
      have hp5 := pw_np1 hS
      have hp4 := pw_np hS
      have h2p : 2 ^ a ≤ 2 ^ 4 := Nat.pow_le_pow_right (by decide) (by omega)
      have hans : pageA S (nI a) wh = if wh = 0 then (pgF (pageD S a) (nr S)).1 else (pgF (pageD S a) (nr S)).2 := by
        unfold pageA
        rw [show inI wh 0 1 = true from (inL_I (by omega) (by omega)).symm.trans c15, c5, nI_clamp (by omega)]; rfl
      refine aw_bipush h _ cb_m2 dX4_page_20 ?_
      refine aw_istore3 h rfl dX4_page_22 ?_
      refine aw_bipush h _ cb_m2 dX4_page_23 ?_
      refine aw_istore4 h rfl dX4_page_25 ?_
      refine aw_aload0 h dX4_page_27 ?_
      refine aw_iconst h _ ci_1 dX4_page_28 ?_
      refine aw_iload1 h dX4_page_29 ?_
      refine aw_ishl h dX4_page_30 ?_
      rw [bs_shl1 (by omega)]
      refine aw_aload0 h dX4_page_31 ?_
      refine aw_getr h fl_X4_39 (gmt hG) dX4_page_32 rfl (gmp20 hG) ?_
      refine aw_iconst h _ ci_2 dX4_page_35 ?_
      refine aw_ialdV h (gms171 hG) (by decide) (by omega) dX4_page_36 (iv2e hE hS) ?_
      refine aw_iconst h _ ci_1 dX4_page_37 ?_
      refine aw_iaddN h dX4_page_38 ?_
      refine aw_iconst h _ ci_m1 dX4_page_39 ?_
      refine aw_callVN3 h hl cl_X4_440 (met_m_fillsPassings hG hE hS h0 (by omega) hp5 (by omega)) (gmt hG) rfl dX4_page_40 (Nat.le_of_ble_eq_true rfl) rfl (Nat.zero_le _) (Nat.zero_le _) (fun G1 I1 L1 hp => ?_)
      obtain ⟨rfl, hK, hf⟩ := hp
      have hE1 : I1 171 = S := hK.S hE
      refine aw_iconst h _ ci_0 dX4_page_43 ?_
      refine aw_istore5 h rfl dX4_page_44 ?_
      have key : ∀ (fu r : Nat), r ≤ nr S → nr S < r + fu → ∀ o6 : Option Value, AW X 0 0 46 [some (.ref (w.1 + 161)), some (.int (nI a)), some (.int (wh)), some (.int ((pgF (pageD S a) r).1)), some (.int ((pgF (pageD S a) r).2)), some (.int (nI r)), o6] [] G I1 L1 := by
        intro fu
        induction fu with
        | zero => intro r hle hlt; exact absurd hlt (by omega)
        | succ fu ih =>
          intro r hle hlt
          intro o6
          refine aw_iload5 h dX4_page_46 ?_
          refine aw_aload0 h dX4_page_48 ?_
          refine aw_getr h fl_X4_39 (gmt hG) dX4_page_49 rfl (gmp20 hG) ?_
          refine aw_iconst h _ ci_0 dX4_page_52 ?_
          refine aw_ialdV h (gms171 hG) (by decide) (by omega) dX4_page_53 (iv0e hE1 hS) ?_
          refine aw_icmp_geN h (tgt := 114) (by omega) (by omega) dX4_page_54 (by decide) (fun c54 => ?_) (fun c54 => ?_)
          · refine aw_iload2 h dX4_page_114 ?_
            refine aw_if_ne h (tgt := 122) dX4_page_115 (by decide) (fun c115 => ?_) (fun c115 => ?_)
            · refine aw_iload4 h dX4_page_122 ?_
              exact aw_iret h hr dX4_page_124 (⟨by rw [show r = nr S by omega]; exact congrArg (fun z => some (Value.int z)) (hans.trans (if_neg c115)).symm, rfl, hK.mc⟩) (Nat.zero_le _) (Nat.zero_le _)
            · refine aw_iload3 h dX4_page_118 ?_
              refine aw_goto h (tgt := 124) dX4_page_119 (by decide) ?_
              exact aw_iret h hr dX4_page_124 (⟨by rw [show r = nr S by omega]; exact congrArg (fun z => some (Value.int z)) (hans.trans (if_pos c115)).symm, rfl, hK.mc⟩) (Nat.zero_le _) (Nat.zero_le _)
          · refine aw_aload0 h dX4_page_57 ?_
            refine aw_getr h fl_X4_63 (gmt hG) dX4_page_58 rfl (gmp29 hG) ?_
            refine aw_aload0 h dX4_page_61 ?_
            refine aw_callVE0 h hl cl_X4_443 (met_m_codeNow hG hE1 hS) (gmt hG) rfl dX4_page_62 (Nat.le_of_ble_eq_true rfl) rfl (Nat.zero_le _) (Nat.zero_le _) ?_
            refine aw_iload5 h dX4_page_65 ?_
            refine aw_aload0 h dX4_page_67 ?_
            refine aw_aload0 h dX4_page_68 ?_
            refine aw_getr h fl_X4_39 (gmt hG) dX4_page_69 rfl (gmp20 hG) ?_
            refine aw_iconst h _ ci_2 dX4_page_72 ?_
            refine aw_ialdV h (gms171 hG) (by decide) (by omega) dX4_page_73 (iv2e hE1 hS) ?_
            refine aw_callVE1 h hl cl_X4_406 (met_m_power hG hE1 hS (by omega)) (gmt hG) rfl dX4_page_74 (Nat.le_of_ble_eq_true rfl) rfl (Nat.zero_le _) (Nat.zero_le _) ?_
            refine aw_imulN h dX4_page_77 ?_
            refine aw_iaddN h dX4_page_78 ?_
            refine aw_ialdV h (gms177 hG) (by decide) (Nat.lt_of_lt_of_le (code1_lt hS (show r < nr S by omega)) hp5) dX4_page_79 ((hf _ (code1_lt hS (by omega))).1) ?_
            refine aw_istore6 h rfl dX4_page_80 ?_
            refine aw_iload6 h dX4_page_82 ?_
            refine aw_if_lt h (tgt := 108) dX4_page_84 (by decide) (fun c84 => ?_) (fun c84 => ?_)
            · refine aw_iincN5 h rfl dX4_page_108 ?_
              refine aw_goto h (tgt := 46) dX4_page_111 (by decide) ?_
              have he := pg_no (D := pageD S a) (r := r) (Or.inl c84)
              have h9 := ih (r + 1) (by omega) (by omega) (some (.int (pageD S a r)))
              rw [← he] at h9
              exact h9
            · refine aw_iload3 h dX4_page_87 ?_
              refine aw_if_lt h (tgt := 101) dX4_page_88 (by decide) (fun c88 => ?_) (fun c88 => ?_)
              · refine aw_iload5 h dX4_page_101 ?_
                refine aw_istore3 h rfl dX4_page_103 ?_
                refine aw_iload6 h dX4_page_104 ?_
                refine aw_istore4 h rfl dX4_page_106 ?_
                refine aw_iincN5 h rfl dX4_page_108 ?_
                refine aw_goto h (tgt := 46) dX4_page_111 (by decide) ?_
                have he := pg_yes (D := pageD S a) (r := r) (fun q => q.elim c84 (fun q => absurd c88 (Int32.not_lt.mpr q.1)))
                have h9 := ih (r + 1) (by omega) (by omega) (some (.int (pageD S a r)))
                rw [← he] at h9
                exact h9
              · refine aw_iload6 h dX4_page_91 ?_
                refine aw_iload4 h dX4_page_93 ?_
                refine aw_icmp_lt h (tgt := 101) dX4_page_95 (by decide) (fun c95 => ?_) (fun c95 => ?_)
                · refine aw_iload5 h dX4_page_101 ?_
                  refine aw_istore3 h rfl dX4_page_103 ?_
                  refine aw_iload6 h dX4_page_104 ?_
                  refine aw_istore4 h rfl dX4_page_106 ?_
                  refine aw_iincN5 h rfl dX4_page_108 ?_
                  refine aw_goto h (tgt := 46) dX4_page_111 (by decide) ?_
                  have he := pg_yes (D := pageD S a) (r := r) (fun q => q.elim c84 (fun q => absurd c95 (Int32.not_lt.mpr q.2)))
                  have h9 := ih (r + 1) (by omega) (by omega) (some (.int (pageD S a r)))
                  rw [← he] at h9
                  exact h9
                · refine aw_goto h (tgt := 108) dX4_page_98 (by decide) ?_
                  refine aw_iincN5 h rfl dX4_page_108 ?_
                  refine aw_goto h (tgt := 46) dX4_page_111 (by decide) ?_
                  have he := pg_no (D := pageD S a) (r := r) (Or.inr ⟨Int32.not_lt.mp c88, Int32.not_lt.mp c95⟩)
                  have h9 := ih (r + 1) (by omega) (by omega) (some (.int (pageD S a r)))
                  rw [← he] at h9
                  exact h9
      exact key (nr S + 1) 0 (Nat.zero_le _) (by omega) _
    · refine aw_iconst h _ ci_m1 dX4_page_18 ?_
      exact aw_iret h hr dX4_page_19 (⟨by unfold pageA; rw [show inI wh 0 1 = false from (inL_I (by omega) (by omega)).symm.trans c15, Bool.and_false]; rfl, rfl, MC.rf⟩) (Nat.zero_le _) (Nat.zero_le _)
