/-! The reference's answer days -/
set_option maxRecDepth 100000
def drN (z : Nat) : Nat := (z * 1103515245 + 12345) % 2147483648
theorem drN_lt (z : Nat) : drN z < 2 ^ 31 := Nat.mod_lt _ (by decide)
/-- a goal drawn -/
def aimD (a : (Nat → Int32) × Nat) : (Nat → Int32) × Nat := if np a.1 = 0 then a else (va_up a.1 (10 + 6 * (drN a.2 / 65536 % np a.1) + 1) (nI (drN (drN a.2) / 65536 % nr a.1)), drN (drN a.2))
def dayS (fr : Option (List Cl)) (a : (Nat → Int32) × Nat) : (Nat → Int32) × Nat := (passS (aimD a).1 fr, (aimD a).2)
def dit (fr : Option (List Cl)) : Nat → (Nat → Int32) × Nat → (Nat → Int32) × Nat
  | 0, a => a
  | k + 1, a => dayS fr (dit fr k a)
def dayT (fr : Option (List Cl)) (S : Nat → Int32) (n c z : Nat) : Nat → Int32 × Nat
  | 0 => (nI 0, z)
  | y + 1 => ((dayT fr S n c z y).1 + (cntA (dit fr n (S, (dayT fr S n c z y).2)).1 c - cntA S c), (dit fr n (S, (dayT fr S n c z y).2)).2)
def daysB (S : Nat → Int32) (m n w : Int32) : Bool := decide (0 < nr S) && (inI m 1 10 && (inI n 1 60 && inI w 0 1))
def daysA (fr : Option (List Cl)) (S : Nat → Int32) (z : Nat) (m n w : Int32) : Int32 := if daysB S m n w = true then (dayT fr S n.toNatClampNeg (3 + w.toNatClampNeg) z m.toNatClampNeg).1 else -1
theorem InvS.goal {S : Nat → Int32} (h : InvS S) {p r : Nat} (hp : p < np S) (hr : r < nr S) : InvS (va_up S (10 + 6 * p + 1) (nI r)) := by
  have b0 := iv0b h
  have b2 := iv2b h
  have e : va_up S (10 + 6 * p + 1) (nI r) = vecP S (va_up (pv S) p (va_up (pv S p) 1 (nI r))) := by
    funext i
    unfold vecP
    by_cases q : i = 10 + 6 * p + 1
    · subst q
      rw [vup_s, if_pos (by omega), show (10 + 6 * p + 1 - 10) / 6 = p by omega, show (10 + 6 * p + 1 - 10) % 6 = 1 by omega, vup_s, vup_s]
    · rw [vup_n _ _ q]
      split
      · by_cases q2 : (i - 10) / 6 = p
        · rw [q2, vup_s, vup_n _ _ (by omega)]; unfold pv; congr 1; omega
        · rw [vup_n _ _ q2]; unfold pv; congr 1; omega
      · rfl
  rw [e]
  refine h.vec (fun q hq => ?_)
  have h0 := okN_pv h q hq
  by_cases e2 : q = p
  · subst e2
    rw [vup_s]
    refine ⟨?_, ?_, ?_, ?_⟩
    · rw [vup_n _ _ (by decide)]; exact h0.1
    · rw [vup_n _ _ (by decide)]; exact h0.2.1
    · rw [vup_s, nI_clamp (by omega)]
    · rw [vup_s, nI_clamp (by omega)]; exact hr
  · rw [vup_n _ _ e2]; exact h0
theorem mod_lt_n {a n : Nat} (h : n ≠ 0) : a % n < n := Nat.mod_lt _ (by omega)
theorem aimD_ok {a : (Nat → Int32) × Nat} (h : InvS a.1) : InvS (aimD a).1 ∧ ∀ i, 34 ≤ i ∨ (i < 10) → (aimD a).1 i = a.1 i := by
  unfold aimD
  split
  · exact ⟨h, fun i _ => rfl⟩
  · rename_i e
    have h1 := mod_lt_n (a := drN a.2 / 65536) e
    have h2 := (ivp h h1).2.1
    have b2 := iv2b h
    exact ⟨h.goal h1 (mod_lt_n (by omega)), fun i hi => vup_n _ _ (by omega)⟩
theorem dit_ok {fr : Option (List Cl)} {a : (Nat → Int32) × Nat} (h : InvS a.1) : ∀ k, InvS (dit fr k a).1 ∧ ∀ i, 34 ≤ i ∨ (i < 10 ∧ i ≠ 3) → (dit fr k a).1 i = a.1 i := by
  intro k
  induction k with
  | zero => exact ⟨h, fun i _ => rfl⟩
  | succ k ih =>
    have h1 := aimD_ok ih.1
    exact ⟨h1.1.pass fr, fun i hi => (pass_hi hi).trans ((h1.2 i (by omega)).trans (ih.2 i hi))⟩
theorem dit_over {fr : Option (List Cl)} {S : Nat → Int32} {z : Nat} (h : InvS S) (k : Nat) : overV (dit fr k (S, z)).1 S = S := by
  funext i
  unfold overV
  split
  · rfl
  · exact (dit_ok (a := (S, z)) h k).2 i (by omega)
theorem aimD_z {a : (Nat → Int32) × Nat} (h : a.2 < 2 ^ 31) : (aimD a).2 < 2 ^ 31 := by
  unfold aimD
  split
  · exact h
  · exact drN_lt _
theorem dit_z {fr : Option (List Cl)} {a : (Nat → Int32) × Nat} (h : a.2 < 2 ^ 31) : ∀ k, (dit fr k a).2 < 2 ^ 31 := by
  intro k
  induction k with
  | zero => exact h
  | succ k ih => exact aimD_z ih
theorem met_m_draw {w : Wd} {G : Gm} {I : Im} {L : Lm} (hG : GM G) {z n : Nat} (hz : L 161 39 = lN z) (hz2 : z < 2 ^ 31) (hn : n < 2 ^ 31) (hn0 : n ≠ 0) : AMet w yX4_draw cX4_draw 2 (some .int) 1 40 0 0 [.ref (w.1 + 161), .int (nI n)] G I L (Exact (some (.int (nI (drN z / 65536 % n)))) G I (upd2 L 161 39 (lN (drN z)))) := by
  refine AMet.of (ls0 := [some (.ref (w.1 + 161)), some (.int (nI n))]) rfl (Nat.le_of_ble_eq_true rfl) rfl (fun q hq => hq) (fun X h hl hr hi => ?_)
  have hdl := drN_lt z
  have hm : drN z / 65536 % n < n := mod_lt_n hn0
  refine aw_aload0 h dX4_draw_0 ?_
  refine aw_aload0 h dX4_draw_1 ?_
  refine aw_getl h fl_X4_481 (gmt hG) dX4_draw_2 rfl ?_
  rw [hz]
  refine aw_ldc2 h (v := lN 1103515245) q1985 dX4_draw_5 ?_
  refine aw_lmul h dX4_draw_8 ?_
  rw [lN_mul]
  refine aw_ldc2 h (v := lN 12345) q1986 dX4_draw_9 ?_
  refine aw_ladd h dX4_draw_12 ?_
  rw [lN_add]
  refine aw_ldc2 h (v := lN 2147483648) q1987 dX4_draw_13 ?_
  refine aw_lrem h (by decide) dX4_draw_16 ?_
  rw [pk_lRem (by omega) (by decide) (by decide)]
  refine aw_putl h fl_X4_481 ft_X4_481 (fun z => by cases z) (gmt hG) dX4_draw_17 rfl ?_
  refine aw_aload0 h dX4_draw_20 ?_
  refine aw_getl h fl_X4_481 (gmt hG) dX4_draw_21 rfl ?_
  rw [show upd2 L 161 39 (lN ((z * 1103515245 + 12345) % 2147483648)) 161 39 = lN (drN z) from rfl]
  refine aw_ldc2 h (v := lN 65536) q1988 dX4_draw_24 ?_
  refine aw_ldiv h (by decide) dX4_draw_27 ?_
  rw [pk_lDiv (by omega) (by decide) (by decide)]
  refine aw_iload1 h dX4_draw_28 ?_
  refine aw_i2lN h (hn) dX4_draw_29 ?_
  refine aw_lrem h (fun e => hn0 ((lN_eq hn (by decide)).mp e)) dX4_draw_30 ?_
  rw [pk_lRem (by omega) (by omega) (by omega)]
  refine aw_l2i h dX4_draw_31 ?_
  rw [lN_i]
  exact aw_iret h hr dX4_draw_32 (⟨rfl, rfl, rfl, rfl⟩) (Nat.zero_le _) (Nat.zero_le _)
/-- a goal is drawn -/
def AD (S : Nat → Int32) (z : Nat) (G : Gm) (I : Im) (L : Lm) : Gm → Im → Lm → Prop := fun G1 I1 L1 => G = G1 ∧ va_up I 171 (aimD (S, z)).1 = I1 ∧ upd2 L 161 39 (lN (aimD (S, z)).2) = L1
theorem lup_id {L : Lm} {z : Nat} (h : L 161 39 = lN z) : upd2 L 161 39 (lN z) = L := by rw [← h]; exact upd2_id L 161 39 rfl
theorem lup_up {L : Lm} {x y : Int64} : upd2 (upd2 L 161 39 x) 161 39 y = upd2 L 161 39 y := upd2_upd2 L 161 39 x y
theorem met_m_aimsDrawn {w : Wd} {G : Gm} {I : Im} {L : Lm} (hG : GM G) {S : Nat → Int32} (hE : I 171 = S) (hS : InvS S) {z : Nat} (hz : L 161 39 = lN z) (hz2 : z < 2 ^ 31) : AMet w yX4_aimsDrawn cX4_aimsDrawn 2 none 2 61 0 0 [.ref (w.1 + 161)] G I L (Ans none (AD S z G I L)) := by
  refine AMet.of (ls0 := [some (.ref (w.1 + 161)), none]) rfl (Nat.le_of_ble_eq_true rfl) rfl (fun q hq => hq) (fun X h hl hr hi => ?_)
  refine aw_aload0 h dX4_aimsDrawn_0 ?_
  refine aw_getr h fl_X4_39 (gmt hG) dX4_aimsDrawn_1 rfl (gmp20 hG) ?_
  refine aw_iconst h _ ci_2 dX4_aimsDrawn_4 ?_
  refine aw_ialdV h (gms171 hG) (by decide) (by omega) dX4_aimsDrawn_5 (iv2e hE hS) ?_
  refine aw_if_neN h (tgt := 10) (by have := iv2b hS; omega) dX4_aimsDrawn_6 (by decide) (fun c6 => ?_) (fun c6 => ?_)
  · have b0 := iv0b hS
    have b2 := iv2b hS
    have hpl := mod_lt_n (a := drN z / 65536) c6
    have h0 := (ivp hS hpl).2.1
    have e1 : aimD (S, z) = (va_up S (10 + 6 * (drN z / 65536 % np S) + 1) (nI (drN (drN z) / 65536 % nr S)), drN (drN z)) := if_neg c6
    refine aw_aload0 h dX4_aimsDrawn_10 ?_
    refine aw_aload0 h dX4_aimsDrawn_11 ?_
    refine aw_getr h fl_X4_39 (gmt hG) dX4_aimsDrawn_12 rfl (gmp20 hG) ?_
    refine aw_iconst h _ ci_2 dX4_aimsDrawn_15 ?_
    refine aw_ialdV h (gms171 hG) (by decide) (by omega) dX4_aimsDrawn_16 (iv2e hE hS) ?_
    refine aw_callVE1 h hl cl_X4_493 (met_m_draw hG hz hz2 (by omega) c6) (gmt hG) rfl dX4_aimsDrawn_17 (Nat.le_of_ble_eq_true rfl) rfl (Nat.zero_le _) (Nat.zero_le _) ?_
    refine aw_istore1 h rfl dX4_aimsDrawn_20 ?_
    refine aw_aload0 h dX4_aimsDrawn_21 ?_
    refine aw_getr h fl_X4_39 (gmt hG) dX4_aimsDrawn_22 rfl (gmp20 hG) ?_
    refine aw_bipush h _ cb_10 dX4_aimsDrawn_25 ?_
    refine aw_bipush h _ cb_6 dX4_aimsDrawn_27 ?_
    refine aw_iload1 h dX4_aimsDrawn_29 ?_
    refine aw_imulN h dX4_aimsDrawn_30 ?_
    refine aw_iaddN h dX4_aimsDrawn_31 ?_
    refine aw_iconst h _ ci_1 dX4_aimsDrawn_32 ?_
    refine aw_iaddN h dX4_aimsDrawn_33 ?_
    refine aw_aload0 h dX4_aimsDrawn_34 ?_
    refine aw_aload0 h dX4_aimsDrawn_35 ?_
    refine aw_getr h fl_X4_39 (gmt hG) dX4_aimsDrawn_36 rfl (gmp20 hG) ?_
    refine aw_iconst h _ ci_0 dX4_aimsDrawn_39 ?_
    refine aw_ialdV h (gms171 hG) (by decide) (by omega) dX4_aimsDrawn_40 (iv0e hE hS) ?_
    refine aw_callVE1 h hl cl_X4_493 (met_m_draw hG (z := drN z) rfl (drN_lt z) (by omega) (by omega)) (gmt hG) rfl dX4_aimsDrawn_41 (Nat.le_of_ble_eq_true rfl) rfl (Nat.zero_le _) (Nat.zero_le _) ?_
    refine aw_iastN h (gms171 hG) (by decide) (by omega) dX4_aimsDrawn_44 ?_
    exact aw_vret h hr dX4_aimsDrawn_45 (⟨rfl, rfl, by rw [e1, upd2_self, hE], by rw [e1, lup_up]⟩) (Nat.zero_le _) (Nat.zero_le _)
  · exact aw_vret h hr dX4_aimsDrawn_9 (⟨rfl, rfl, by rw [show aimD (S, z) = (S, z) from if_pos c6]; exact vupE hE, by rw [show aimD (S, z) = (S, z) from if_pos c6]; exact lup_id hz⟩) (Nat.zero_le _) (Nat.zero_le _)
theorem MC.upL {ex exf : List Nat} {I : Im} {L : Lm} {j : Nat} (x : Int64) : MC ex exf I L I (upd2 L 161 j x) := ⟨fun _ _ _ => rfl, fun _ _ _ => rfl, fun n hn => upd2_n _ _ _ (fun e => hn (by rw [e]; decide))⟩
theorem met_m_days {w : Wd} {G : Gm} {I : Im} {L : Lm} (hG : GM G) {S : Nat → Int32} (hE : I 171 = S) (hS : InvS S) {fr : Option (List Cl)} (hF : FR I fr) {z0 : Nat} (hX : I 161 22 = nI z0) (hz0 : z0 < 2 ^ 31) {mm nn w2 : Int32} : AMet w yX4_days cX4_days 8 (some .int) 11 270 0 0 [.ref (w.1 + 161), .int mm, .int nn, .int w2] G I L (Ans (some (.int (daysA fr S z0 mm nn w2))) (PQ G I L)) := by
  refine AMet.of (ls0 := [some (.ref (w.1 + 161)), some (.int mm), some (.int nn), some (.int w2), none, none, none, none]) rfl (Nat.le_of_ble_eq_true rfl) rfl (fun q hq => hq) (fun X h hl hr hi => ?_)
  refine aw_aload0 h dX4_days_0 ?_
  refine aw_callVE0 h hl cl_X4_389 (met_m_isCastle hG hE hS) (gmt hG) rfl dX4_days_1 (Nat.le_of_ble_eq_true rfl) rfl (Nat.zero_le _) (Nat.zero_le _) ?_
  refine aw_if_eqB h (tgt := 41) dX4_days_4 (by decide) (fun c4 => ?_) (fun c4 => ?_)
  · refine aw_iconst h _ ci_m1 dX4_days_41 ?_
    exact aw_iret h hr dX4_days_42 (⟨by unfold daysA; rw [show daysB S mm nn w2 = false from (by unfold daysB; rw [c4]; rfl)]; rfl, rfl, MC.rf⟩) (Nat.zero_le _) (Nat.zero_le _)
  · refine aw_iload1 h dX4_days_7 ?_
    refine aw_i2l h dX4_days_8 ?_
    refine aw_lconst h _ cl_1 dX4_days_9 ?_
    refine aw_ldc2 h (v := lN 10) q1972 dX4_days_10 ?_
    refine aw_callSE3 h hl cl_X4_128 (met_m_in) dX4_days_13 (Nat.le_of_ble_eq_true rfl) rfl (Nat.zero_le _) (Nat.zero_le _) ?_
    refine aw_if_eqB h (tgt := 41) dX4_days_16 (by decide) (fun c16 => ?_) (fun c16 => ?_)
    · refine aw_iconst h _ ci_m1 dX4_days_41 ?_
      exact aw_iret h hr dX4_days_42 (⟨by unfold daysA; rw [show daysB S mm nn w2 = false from (by unfold daysB; rw [show inI mm 1 10 = false from (inL_I (by omega) (by omega)).symm.trans c16, Bool.false_and, Bool.and_false])]; rfl, rfl, MC.rf⟩) (Nat.zero_le _) (Nat.zero_le _)
    · refine aw_iload2 h dX4_days_19 ?_
      refine aw_i2l h dX4_days_20 ?_
      refine aw_lconst h _ cl_1 dX4_days_21 ?_
      refine aw_ldc2 h (v := lN 60) q1939 dX4_days_22 ?_
      refine aw_callSE3 h hl cl_X4_128 (met_m_in) dX4_days_25 (Nat.le_of_ble_eq_true rfl) rfl (Nat.zero_le _) (Nat.zero_le _) ?_
      refine aw_if_eqB h (tgt := 41) dX4_days_28 (by decide) (fun c28 => ?_) (fun c28 => ?_)
      · refine aw_iconst h _ ci_m1 dX4_days_41 ?_
        exact aw_iret h hr dX4_days_42 (⟨by unfold daysA; rw [show daysB S mm nn w2 = false from (by unfold daysB; rw [show inI nn 1 60 = false from (inL_I (by omega) (by omega)).symm.trans c28, Bool.false_and, Bool.and_false, Bool.and_false])]; rfl, rfl, MC.rf⟩) (Nat.zero_le _) (Nat.zero_le _)
      · refine aw_iload3 h dX4_days_31 ?_
        refine aw_i2l h dX4_days_32 ?_
        refine aw_lconst h _ cl_0 dX4_days_33 ?_
        refine aw_lconst h _ cl_1 dX4_days_34 ?_
        refine aw_callSE3 h hl cl_X4_128 (met_m_in) dX4_days_35 (Nat.le_of_ble_eq_true rfl) rfl (Nat.zero_le _) (Nat.zero_le _) ?_
        refine aw_if_neB h (tgt := 43) dX4_days_38 (by decide) (fun c38 => ?_) (fun c38 => ?_)
        · have hi1 : inI mm 1 10 = true := (inL_I (by omega) (by omega)).symm.trans c16
          have hi2 : inI nn 1 60 = true := (inL_I (by omega) (by omega)).symm.trans c28
          have hi3 : inI w2 0 1 = true := (inL_I (by omega) (by omega)).symm.trans c38
          obtain ⟨m, hm1, hm2, rfl⟩ := inI_of hi1 (by decide) (by decide)
          obtain ⟨n, hn1, hn2, rfl⟩ := inI_of hi2 (by decide) (by decide)
          obtain ⟨ww, hw1, hw2, rfl⟩ := inI_of hi3 (by decide) (by decide)
          have hans : daysA fr S z0 (nI m) (nI n) (nI ww) = (dayT fr S n (3 + ww) z0 m).1 := by
            unfold daysA
            rw [show daysB S (nI m) (nI n) (nI ww) = true by unfold daysB; rw [c4, hi1, hi2, hi3]; rfl, if_pos rfl, nI_clamp (n := m) (by omega), nI_clamp (n := n) (by omega), nI_clamp (n := ww) (by omega)]
          refine aw_aload0 h dX4_days_43 ?_
          refine aw_aload0 h dX4_days_44 ?_
          refine aw_getiV h fl_X4_478 (gmt hG) dX4_days_45 rfl (hX) ?_
          refine aw_i2lN h (hz0) dX4_days_48 ?_
          refine aw_putl h fl_X4_481 ft_X4_481 (fun z => by cases z) (gmt hG) dX4_days_49 rfl ?_
          refine aw_iconst h _ ci_0 dX4_days_52 ?_
          refine aw_istore4 h rfl dX4_days_53 ?_
          refine aw_aload0 h dX4_days_55 ?_
          refine aw_callVN0 h hl cl_X4_400 (met_m_keeps hG hE) (gmt hG) rfl dX4_days_56 (Nat.le_of_ble_eq_true rfl) rfl (Nat.zero_le _) (Nat.zero_le _) (fun G1 I1 L1 hp => ?_)
          obtain ⟨rfl, rfl, fk, rfl, hfk⟩ := hp
          have hM0 : MC [] [] I L (va_up I 176 fk) (upd2 L 161 39 (lN z0)) := (MC.up fk (by decide) (Or.inl (by decide))).trans (MC.upL _)
          have keyy : ∀ (fy y : Nat) (I1 : Im) (L1 : Lm) (o6 : Option Value) (o7 : Option Value), y ≤ m → m < y + fy → I1 171 = S → I1 176 = fk → MC [] [] I L I1 L1 → L1 161 39 = lN (dayT fr S n (3 + ww) z0 y).2 → AW X 0 0 62 [some (.ref (w.1 + 161)), some (.int (nI m)), some (.int (nI n)), some (.int (nI ww)), some (.int ((dayT fr S n (3 + ww) z0 y).1)), some (.int (nI y)), o6, o7] [] G I1 L1 := by
            intro fy
            induction fy with
            | zero => intro y I1 L1 o6 o7 hle hlt; exact absurd hlt (by omega)
            | succ fy ihy =>
              intro y I1 L1 o6 o7 hle hlt hE1 hk5 hM1 hz1
              have hzy : (dayT fr S n (3 + ww) z0 y).2 < 2 ^ 31 := by
                have : ∀ y, (dayT fr S n (3 + ww) z0 y).2 < 2 ^ 31 := fun y => by
                  induction y with
                  | zero => exact hz0
                  | succ y ihz => exact dit_z (a := (S, (dayT fr S n (3 + ww) z0 y).2)) ihz n
                exact this y
              refine aw_iload5 h dX4_days_62 ?_
              refine aw_iload1 h dX4_days_64 ?_
              refine aw_icmp_geN h (tgt := 126) (by omega) (by omega) dX4_days_65 (by decide) (fun c65 => ?_) (fun c65 => ?_)
              · refine aw_iload4 h dX4_days_126 ?_
                exact aw_iret h hr dX4_days_128 (⟨by rw [hans, show m = y by omega], rfl, hM1⟩) (Nat.zero_le _) (Nat.zero_le _)
              · refine aw_aload0 h dX4_days_68 ?_
                refine aw_iconst h _ ci_3 dX4_days_69 ?_
                refine aw_iload3 h dX4_days_70 ?_
                refine aw_iaddN h dX4_days_71 ?_
                refine aw_callVE1 h hl cl_X4_498 (met_m_countOf hG hE1 hS (by omega)) (gmt hG) rfl dX4_days_72 (Nat.le_of_ble_eq_true rfl) rfl (Nat.zero_le _) (Nat.zero_le _) ?_
                refine aw_istore6 h rfl dX4_days_75 ?_
                have keyk : ∀ (fk2 k : Nat) (I2 : Im) (L2 : Lm), k ≤ n → n < k + fk2 → I2 171 = (dit fr k (S, (dayT fr S n (3 + ww) z0 y).2)).1 → I2 176 = fk → MC [171] [] I L I2 L2 → L2 161 39 = lN (dit fr k (S, (dayT fr S n (3 + ww) z0 y).2)).2 → AW X 0 0 80 [some (.ref (w.1 + 161)), some (.int (nI m)), some (.int (nI n)), some (.int (nI ww)), some (.int ((dayT fr S n (3 + ww) z0 y).1)), some (.int (nI y)), some (.int (cntA S (3 + ww))), some (.int (nI k))] [] G I2 L2 := by
                  intro fk2
                  induction fk2 with
                  | zero => intro k I2 L2 hle2 hlt2; exact absurd hlt2 (by omega)
                  | succ fk2 ihk =>
                    intro k I2 L2 hle2 hlt2 hE2 hk6 hM2 hz2
                    have hok := dit_ok (fr := fr) (a := (S, (dayT fr S n (3 + ww) z0 y).2)) hS k
                    have hzk := dit_z (fr := fr) (a := (S, (dayT fr S n (3 + ww) z0 y).2)) hzy k
                    refine aw_iload7 h dX4_days_80 ?_
                    refine aw_iload2 h dX4_days_82 ?_
                    refine aw_icmp_geN h (tgt := 101) (by omega) (by omega) dX4_days_83 (by decide) (fun c83 => ?_) (fun c83 => ?_)
                    · refine aw_iload4 h dX4_days_101 ?_
                      refine aw_aload0 h dX4_days_103 ?_
                      refine aw_iconst h _ ci_3 dX4_days_104 ?_
                      refine aw_iload3 h dX4_days_105 ?_
                      refine aw_iaddN h dX4_days_106 ?_
                      refine aw_callVE1 h hl cl_X4_498 (met_m_countOf hG hE2 hok.1 (by omega)) (gmt hG) rfl dX4_days_107 (Nat.le_of_ble_eq_true rfl) rfl (Nat.zero_le _) (Nat.zero_le _) ?_
                      refine aw_iload6 h dX4_days_110 ?_
                      refine aw_isub h dX4_days_112 ?_
                      refine aw_iadd h dX4_days_113 ?_
                      refine aw_istore4 h rfl dX4_days_114 ?_
                      refine aw_aload0 h dX4_days_116 ?_
                      refine aw_callVN0 h hl cl_X4_403 (met_m_laysBack (u := S) hG hE2 (fun i hi => (congrFun hk6 i).trans (hfk i hi))) (gmt hG) rfl dX4_days_117 (Nat.le_of_ble_eq_true rfl) rfl (Nat.zero_le _) (Nat.zero_le _) (fun G1 I1 L1 hp => ?_)
                      obtain ⟨rfl, rfl, rfl⟩ := hp
                      rw [dit_over hS]
                      refine aw_iincN5 h rfl dX4_days_120 ?_
                      refine aw_goto h (tgt := 62) dX4_days_123 (by decide) ?_
                      obtain rfl : k = n := by omega
                      exact ihy (y + 1) (va_up I2 171 S) L2 _ _ (by omega) (by omega) (vup_s _ _ _) ((vup_n _ _ (by decide)).trans hk6) (hM2.back hE) hz2
                    · refine aw_aload0 h dX4_days_86 ?_
                      refine aw_callVN0 h hl cl_X4_501 (met_m_aimsDrawn hG hE2 hok.1 hz2 hzk) (gmt hG) rfl dX4_days_87 (Nat.le_of_ble_eq_true rfl) rfl (Nat.zero_le _) (Nat.zero_le _) (fun G1 I3 L3 hp => ?_)
                      obtain ⟨rfl, rfl, rfl⟩ := hp
                      have hM3 : MC [171] [] I L (va_up I2 171 (aimD (dit fr k (S, (dayT fr S n (3 + ww) z0 y).2))).1) (upd2 L2 161 39 (lN (aimD (dit fr k (S, (dayT fr S n (3 + ww) z0 y).2))).2)) := hM2.trans ((MC.up _ (by decide) (Or.inr (by decide))).trans (MC.upL _))
                      refine aw_aload0 h dX4_days_90 ?_
                      refine aw_callVA0 h hl cl_X4_395 (met_m_passes hG (S := (aimD (dit fr k (S, (dayT fr S n (3 + ww) z0 y).2))).1) (fr := fr) (vup_s _ _ _) (aimD_ok hok.1).1 (FR.mc hM3 (by decide) (by decide) (by decide) (by decide) hF)) (gmt hG) rfl dX4_days_91 (Nat.le_of_ble_eq_true rfl) rfl (Nat.zero_le _) (Nat.zero_le _) (fun G1 I4 L4 hp3 => ?_)
                      obtain rfl := hp3.1
                      refine aw_pop h rfl dX4_days_94 ?_
                      refine aw_iincN7 h rfl dX4_days_95 ?_
                      refine aw_goto h (tgt := 80) dX4_days_98 (by decide) ?_
                      exact ihk (k + 1) I4 L4 (by omega) (by omega) hp3.2.1 ((hp3.2.2.1 176 (by decide) (by decide) (by decide) (by decide) (by decide)).trans hk6) (hM3.trans (mc_pp hp3)) ((congrFun (hp3.2.2.2.2 161 (by decide) (by decide)) 39).trans rfl)
                refine aw_iconst h _ ci_0 dX4_days_77 ?_
                refine aw_istore7 h rfl dX4_days_78 ?_
                exact keyk (n + 1) 0 I1 L1 (Nat.zero_le _) (by omega) hE1 hk5 (hM1.mono (by decide) (by decide)) hz1
          refine aw_iconst h _ ci_0 dX4_days_59 ?_
          refine aw_istore5 h rfl dX4_days_60 ?_
          exact keyy (m + 1) 0 _ _ _ _ (Nat.zero_le _) (by omega) hE (vup_s _ _ _) hM0 rfl
        · refine aw_iconst h _ ci_m1 dX4_days_41 ?_
          exact aw_iret h hr dX4_days_42 (⟨by unfold daysA; rw [show daysB S mm nn w2 = false from (by unfold daysB; rw [show inI w2 0 1 = false from (inL_I (by omega) (by omega)).symm.trans c38, Bool.and_false, Bool.and_false, Bool.and_false])]; rfl, rfl, MC.rf⟩) (Nat.zero_le _) (Nat.zero_le _)
