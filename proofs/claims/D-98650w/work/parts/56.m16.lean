/-! The reference's answer swap -/
set_option maxRecDepth 100000
def nearB (S : Nat → Int32) (p r : Nat) : Bool := decide (distV S (gl S p) r < distV S (gl S p) (rm S p))
def swB (S : Nat → Int32) (a b : Nat) : Bool := nearB S a (rm S b) && nearB S b (rm S a)
def rowF (S : Nat → Int32) (a b : Nat) : List (Nat × Nat) := ((List.range' b (np S - b)).filter (swB S a)).map (fun c => (a, c))
def allF (S : Nat → Int32) (a : Nat) : List (Nat × Nat) := (List.range' a (np S - a)).flatMap (fun c => rowF S c (c + 1))
theorem rowF_end {S : Nat → Int32} {a b : Nat} (h : np S ≤ b) : rowF S a b = [] := by
  unfold rowF
  rw [show np S - b = 0 by omega]; rfl
theorem rowF_no {S : Nat → Int32} {a b : Nat} (h : b < np S) (hs : swB S a b = false) : rowF S a b = rowF S a (b + 1) := by
  unfold rowF
  rw [show np S - b = (np S - (b + 1)) + 1 by omega, List.range'_succ, List.filter_cons_of_neg (by rw [hs]; exact Bool.false_ne_true)]
theorem rowF_yes {S : Nat → Int32} {a b : Nat} (h : b < np S) (hs : swB S a b = true) : rowF S a b = (a, b) :: rowF S a (b + 1) := by
  unfold rowF
  rw [show np S - b = (np S - (b + 1)) + 1 by omega, List.range'_succ, List.filter_cons_of_pos hs]; rfl
theorem allF_end {S : Nat → Int32} {a : Nat} (h : np S ≤ a) : allF S a = [] := by
  unfold allF
  rw [show np S - a = 0 by omega]; rfl
theorem allF_s {S : Nat → Int32} {a : Nat} (h : a < np S) : allF S a = rowF S a (a + 1) ++ allF S (a + 1) := by
  unfold allF
  rw [show np S - a = (np S - (a + 1)) + 1 by omega, List.range'_succ, List.flatMap_cons]
def hd1 : List (Nat × Nat) → Int32
  | [] => -2
  | p :: _ => nI p.1
def hd2 : List (Nat × Nat) → Int32
  | [] => -2
  | p :: _ => nI p.2
def swA (S : Nat → Int32) (what : Int32) : Int32 := if (decide (0 < nr S) && inI what 0 2) = true then (if what = 0 then nI (allF S 0).length else if what = nI 1 then hd1 (allF S 0) else hd2 (allF S 0)) else -1
theorem ofI_m1 : Int32.ofInt (-1) = -1 := by decide
theorem qI_dec (a : Nat) : nI a + Int32.ofInt (-1) = qI a := by
  rw [ofI_m1]
  unfold qI
  split
  · rename_i e; subst e; rfl
  · rename_i e
    rw [← pk_sub (by omega : 1 ≤ a), Int32.sub_eq_add_neg]; rfl
theorem nI_dec {b : Nat} (h : 0 < b) : nI b + Int32.ofInt (-1) = nI (b - 1) := by rw [qI_dec]; unfold qI; rw [if_neg (by omega)]
theorem met_m_isNearerAt {w : Wd} {G : Gm} {I : Im} {L : Lm} (hG : GM G) {S : Nat → Int32} (hE : I 171 = S) (hS : InvS S) {p r : Nat} (hp : p < np S) (hr0 : r < nr S) : AMet w yX4_isNearerAt cX4_isNearerAt 3 (some .boolean) 6 150 0 0 [.ref (w.1 + 161), .int (nI p), .int (nI r)] G I L (Ans (some (.int (bI (nearB S p r)))) (PU 172 G I L)) := by
  refine AMet.of (ls0 := [some (.ref (w.1 + 161)), some (.int (nI p)), some (.int (nI r))]) rfl (Nat.le_of_ble_eq_true rfl) rfl (fun q hq => hq) (fun X h hl hr hi => ?_)
  refine aw_aload0 h dX4_isNearerAt_0 ?_
  refine aw_iload2 h dX4_isNearerAt_1 ?_
  refine aw_aload0 h dX4_isNearerAt_2 ?_
  refine aw_iload1 h dX4_isNearerAt_3 ?_
  refine aw_iconst h _ ci_1 dX4_isNearerAt_4 ?_
  refine aw_callVE2 h hl cl_X4_279 (met_m_personOf hG hE (by have := iv2b hS; omega)) (gmt hG) rfl dX4_isNearerAt_5 (Nat.le_of_ble_eq_true rfl) rfl (Nat.zero_le _) (Nat.zero_le _) ?_
  rw [(ivp hS hp).2.2.1]
  refine aw_callVA2 h hl cl_X4_316 (met_m_leftFrom hG hE hS hr0 (ivp hS hp).2.2.2) (gmt hG) rfl dX4_isNearerAt_8 (Nat.le_of_ble_eq_true rfl) rfl (Nat.zero_le _) (Nat.zero_le _) (fun G1 I1 L1 hp => ?_)
  obtain ⟨rfl, rfl, f, rfl, hf⟩ := hp
  have hE2 : va_up I 172 f 171 = S := hE
  refine aw_aload0 h dX4_isNearerAt_11 ?_
  refine aw_iload1 h dX4_isNearerAt_12 ?_
  refine aw_callVA1 h hl cl_X4_319 (met_m_leftOf hG hE2 hS hp) (gmt hG) rfl dX4_isNearerAt_13 (Nat.le_of_ble_eq_true rfl) rfl (Nat.zero_le _) (Nat.zero_le _) (fun G1 I1 L1 hp2 => ?_)
  obtain ⟨rfl, rfl, f2, rfl, hf2⟩ := hp2
  refine aw_icmp_geN h (tgt := 23) (by have := dist_le S (gl S p) r; omega) (by have := dist_le S (gl S p) (rm S p); omega) dX4_isNearerAt_16 (by decide) (fun c16 => ?_) (fun c16 => ?_)
  · refine aw_iconst h _ ci_0 dX4_isNearerAt_23 ?_
    exact aw_zret h hr dX4_isNearerAt_24 (by first | exact z01_0 | exact z01_1 | exact z01_b _) (⟨by unfold nearB; rw [decide_eq_false (by omega)]; rfl, rfl, rfl, f2, (vup_vup I 172 f f2).symm⟩) (Nat.zero_le _) (Nat.zero_le _)
  · refine aw_iconst h _ ci_1 dX4_isNearerAt_19 ?_
    refine aw_goto h (tgt := 24) dX4_isNearerAt_20 (by decide) ?_
    exact aw_zret h hr dX4_isNearerAt_24 (by first | exact z01_0 | exact z01_1 | exact z01_b _) (⟨by unfold nearB; rw [decide_eq_true (by omega)]; rfl, rfl, rfl, f2, (vup_vup I 172 f f2).symm⟩) (Nat.zero_le _) (Nat.zero_le _)
theorem met_m_swap {w : Wd} {G : Gm} {I : Im} {L : Lm} (hG : GM G) {S : Nat → Int32} (hE : I 171 = S) (hS : InvS S) {wh : Int32} : AMet w yX4_swap cX4_swap 7 (some .int) 7 172 0 0 [.ref (w.1 + 161), .int wh] G I L (Ans (some (.int (swA S wh))) (PQ G I L)) := by
  refine AMet.of (ls0 := [some (.ref (w.1 + 161)), some (.int wh), none, none, none, none, none]) rfl (Nat.le_of_ble_eq_true rfl) rfl (fun q hq => hq) (fun X h hl hr hi => ?_)
  refine aw_aload0 h dX4_swap_0 ?_
  refine aw_callVE0 h hl cl_X4_389 (met_m_isCastle hG hE hS) (gmt hG) rfl dX4_swap_1 (Nat.le_of_ble_eq_true rfl) rfl (Nat.zero_le _) (Nat.zero_le _) ?_
  refine aw_if_eqB h (tgt := 19) dX4_swap_4 (by decide) (fun c4 => ?_) (fun c4 => ?_)
  · refine aw_iconst h _ ci_m1 dX4_swap_19 ?_
    exact aw_iret h hr dX4_swap_20 (⟨by unfold swA; rw [c4]; rfl, rfl, MC.rf⟩) (Nat.zero_le _) (Nat.zero_le _)
  · refine aw_iload1 h dX4_swap_7 ?_
    refine aw_i2l h dX4_swap_8 ?_
    refine aw_lconst h _ cl_0 dX4_swap_9 ?_
    refine aw_ldc2 h (v := lN 2) q1731 dX4_swap_10 ?_
    refine aw_callSE3 h hl cl_X4_128 (met_m_in) dX4_swap_13 (Nat.le_of_ble_eq_true rfl) rfl (Nat.zero_le _) (Nat.zero_le _) ?_
    refine aw_if_neB h (tgt := 21) dX4_swap_16 (by decide) (fun c16 => ?_) (fun c16 => ?_)
    · have hin : inI wh 0 2 = true := (inL_I (by omega) (by omega)).symm.trans c16
      have b2 := iv2b hS
      have hans : swA S wh = if wh = 0 then nI (allF S 0).length else if wh = nI 1 then hd1 (allF S 0) else hd2 (allF S 0) := by unfold swA; rw [c4, hin]; rfl
      have keya : ∀ (ka : Nat) (I1 : Im) (o6 : Option Value), ka ≤ np S → I1 171 = S → PU 172 G I L G I1 L → AW X 0 0 40 [some (.ref (w.1 + 161)), some (.int (wh)), some (.int (nI (allF S ka).length)), some (.int (hd1 (allF S ka))), some (.int (hd2 (allF S ka))), some (.int (qI ka)), o6] [] G I1 L := by
        intro ka
        induction ka with
        | zero =>
          intro I1 o6 hk hE1 hU1
          refine aw_iload5 h dX4_swap_40 ?_
          refine aw_if_lt h (tgt := 119) dX4_swap_42 (by decide) (fun c42 => ?_) (fun c42 => ?_)
          · refine aw_iload1 h dX4_swap_119 ?_
            refine aw_if_ne h (tgt := 127) dX4_swap_120 (by decide) (fun c120 => ?_) (fun c120 => ?_)
            · refine aw_iload1 h dX4_swap_127 ?_
              refine aw_iconst h _ ci_1 dX4_swap_128 ?_
              refine aw_icmp_ne h (tgt := 136) dX4_swap_129 (by decide) (fun c129 => ?_) (fun c129 => ?_)
              · refine aw_iload4 h dX4_swap_136 ?_
                exact aw_iret h hr dX4_swap_138 (⟨by rw [hans, if_neg c120, if_neg c129], rfl, by obtain ⟨-, -, g, rfl⟩ := hU1; exact MC.up g (by decide) (Or.inl (by decide))⟩) (Nat.zero_le _) (Nat.zero_le _)
              · refine aw_iload3 h dX4_swap_132 ?_
                refine aw_goto h (tgt := 138) dX4_swap_133 (by decide) ?_
                exact aw_iret h hr dX4_swap_138 (⟨by rw [hans, if_neg c120, if_pos c129], rfl, by obtain ⟨-, -, g, rfl⟩ := hU1; exact MC.up g (by decide) (Or.inl (by decide))⟩) (Nat.zero_le _) (Nat.zero_le _)
            · refine aw_iload2 h dX4_swap_123 ?_
              refine aw_goto h (tgt := 138) dX4_swap_124 (by decide) ?_
              exact aw_iret h hr dX4_swap_138 (⟨by rw [hans, if_pos c120], rfl, by obtain ⟨-, -, g, rfl⟩ := hU1; exact MC.up g (by decide) (Or.inl (by decide))⟩) (Nat.zero_le _) (Nat.zero_le _)
          · exact absurd (show (-1 : Int32) < 0 by decide) c42
        | succ a iha0 =>
          intro I1 o6 hk hE1 hU1
          have iha : ∀ (I1 : Im) (o6 : Option Value), I1 171 = S → PU 172 G I L G I1 L → AW X 0 0 40 [some (.ref (w.1 + 161)), some (.int (wh)), some (.int (nI (allF S a).length)), some (.int (hd1 (allF S a))), some (.int (hd2 (allF S a))), some (.int (qI a)), o6] [] G I1 L := fun I1 o6 h1 h2 => iha0 I1 o6 (by omega) h1 h2
          have keyb : ∀ (fb b : Nat) (I1 : Im), a ≤ b → b < np S → b < a + fb → I1 171 = S → PU 172 G I L G I1 L → AW X 0 0 55 [some (.ref (w.1 + 161)), some (.int (wh)), some (.int (nI (rowF S a (b + 1) ++ allF S (a + 1)).length)), some (.int (hd1 (rowF S a (b + 1) ++ allF S (a + 1)))), some (.int (hd2 (rowF S a (b + 1) ++ allF S (a + 1)))), some (.int (nI a)), some (.int (nI b))] [] G I1 L := by
            intro fb
            induction fb with
            | zero => intro b I1 h1 h2 h3; exact absurd h3 (by omega)
            | succ fb ihb =>
              intro b I1 hab hb hlt hE1 hU1
              have hstep : ∀ (I2 : Im) (l : List (Nat × Nat)), I2 171 = S → PU 172 G I L G I2 L → a < b → l = rowF S a b ++ allF S (a + 1) → AW X 0 0 107 [some (.ref (w.1 + 161)), some (.int (wh)), some (.int (nI (l).length)), some (.int (hd1 (l))), some (.int (hd2 (l))), some (.int (nI a)), some (.int (nI b))] [] G I2 L := by
                intro I2 l hE2 hU2 hlt2 hl
                subst hl
                refine aw_iinc6 h rfl rfl dX4_swap_107 ?_
                refine aw_goto h (tgt := 55) dX4_swap_110 (by decide) ?_
                rw [nI_dec (by omega)]
                have h9 := ihb (b - 1) I2 (by omega) (by omega) (by omega) hE2 hU2
                rw [show b - 1 + 1 = b by omega] at h9
                exact h9
              refine aw_iload6 h dX4_swap_55 ?_
              refine aw_iload5 h dX4_swap_57 ?_
              refine aw_icmp_leN h (tgt := 113) (by omega) (by omega) dX4_swap_59 (by decide) (fun c59 => ?_) (fun c59 => ?_)
              · obtain rfl : a = b := by omega
                refine aw_iinc5 h rfl rfl dX4_swap_113 ?_
                refine aw_goto h (tgt := 40) dX4_swap_116 (by decide) ?_
                rw [qI_dec]
                have h9 := iha I1 (some (.int (nI a))) hE1 hU1
                rw [allF_s (by omega)] at h9
                exact h9
              · refine aw_aload0 h dX4_swap_62 ?_
                refine aw_iload5 h dX4_swap_63 ?_
                refine aw_aload0 h dX4_swap_65 ?_
                refine aw_iload6 h dX4_swap_66 ?_
                refine aw_iconst h _ ci_0 dX4_swap_68 ?_
                refine aw_callVE2 h hl cl_X4_279 (met_m_personOf hG hE1 (by omega)) (gmt hG) rfl dX4_swap_69 (Nat.le_of_ble_eq_true rfl) rfl (Nat.zero_le _) (Nat.zero_le _) ?_
                rw [(ivp hS (by omega)).1]
                refine aw_callVA2 h hl cl_X4_461 (met_m_isNearerAt hG hE1 hS (by omega) (ivp hS (by omega)).2.1) (gmt hG) rfl dX4_swap_72 (Nat.le_of_ble_eq_true rfl) rfl (Nat.zero_le _) (Nat.zero_le _) (fun G1 I1 L1 hp => ?_)
                obtain ⟨rfl, rfl, f1, rfl⟩ := hp
                have hE2 : va_up I1 172 f1 171 = S := hE1
                have hU2 : PU 172 G I L G (va_up I1 172 f1) L := ⟨rfl, rfl, by obtain ⟨-, -, g, hg⟩ := hU1; exact ⟨f1, by rw [← hg, vup_vup]⟩⟩
                refine aw_if_eqB h (tgt := 107) dX4_swap_75 (by decide) (fun c75 => ?_) (fun c75 => ?_)
                · refine hstep _ _ hE2 hU2 (by omega) ?_
                  rw [rowF_no (a := a) (b := b) (by omega) (by unfold swB; rw [c75]; rfl)]
                · refine aw_aload0 h dX4_swap_78 ?_
                  refine aw_iload6 h dX4_swap_79 ?_
                  refine aw_aload0 h dX4_swap_81 ?_
                  refine aw_iload5 h dX4_swap_82 ?_
                  refine aw_iconst h _ ci_0 dX4_swap_84 ?_
                  refine aw_callVE2 h hl cl_X4_279 (met_m_personOf hG hE2 (by omega)) (gmt hG) rfl dX4_swap_85 (Nat.le_of_ble_eq_true rfl) rfl (Nat.zero_le _) (Nat.zero_le _) ?_
                  rw [(ivp hS (by omega)).1]
                  refine aw_callVA2 h hl cl_X4_461 (met_m_isNearerAt hG hE2 hS (by omega) (ivp hS (by omega)).2.1) (gmt hG) rfl dX4_swap_88 (Nat.le_of_ble_eq_true rfl) rfl (Nat.zero_le _) (Nat.zero_le _) (fun G1 I3 L3 hp2 => ?_)
                  obtain ⟨rfl, rfl, f2, rfl⟩ := hp2
                  have hE3 : va_up (va_up I1 172 f1) 172 f2 171 = S := hE1
                  have hU3 : PU 172 G I L G (va_up (va_up I1 172 f1) 172 f2) L := ⟨rfl, rfl, by obtain ⟨-, -, g, hg⟩ := hU1; exact ⟨f2, by rw [← hg, vup_vup, vup_vup]⟩⟩
                  refine aw_if_neB h (tgt := 97) dX4_swap_91 (by decide) (fun c91 => ?_) (fun c91 => ?_)
                  · refine aw_iincN2 h rfl dX4_swap_97 ?_
                    refine aw_iload5 h dX4_swap_100 ?_
                    refine aw_istore3 h rfl dX4_swap_102 ?_
                    refine aw_iload6 h dX4_swap_103 ?_
                    refine aw_istore4 h rfl dX4_swap_105 ?_
                    have h8 := hstep _ _ hE3 hU3 (by omega) (show (a, b) :: (rowF S a (b + 1) ++ allF S (a + 1)) = _ by rw [rowF_yes (a := a) (b := b) (by omega) (by unfold swB; rw [c75, c91]; rfl)]; rfl)
                    exact h8
                  · refine aw_goto h (tgt := 107) dX4_swap_94 (by decide) ?_
                    refine hstep _ _ hE3 hU3 (by omega) ?_
                    rw [rowF_no (a := a) (b := b) (by omega) (by unfold swB; rw [c91, Bool.and_false])]
          rw [← qI_s a]
          refine aw_iload5 h dX4_swap_40 ?_
          refine aw_if_ltN h (tgt := 119) (by omega) dX4_swap_42 (by decide) (fun c42 => ?_) (fun c42 => ?_)
          · exact absurd c42 (by omega)
          · refine aw_aload0 h dX4_swap_45 ?_
            refine aw_getr h fl_X4_39 (gmt hG) dX4_swap_46 rfl (gmp20 hG) ?_
            refine aw_iconst h _ ci_2 dX4_swap_49 ?_
            refine aw_ialdV h (gms171 hG) (by decide) (by omega) dX4_swap_50 (iv2e hE1 hS) ?_
            refine aw_iconst h _ ci_1 dX4_swap_51 ?_
            refine aw_isubN h (by omega) dX4_swap_52 ?_
            refine aw_istore6 h rfl dX4_swap_53 ?_
            have h9 := keyb (np S) (np S - 1) I1 (by omega) (by omega) (by omega) hE1 hU1
            rw [show np S - 1 + 1 = np S by omega, rowF_end (Nat.le_refl _), List.nil_append] at h9
            exact h9
      refine aw_iconst h _ ci_0 dX4_swap_21 ?_
      refine aw_istore2 h rfl dX4_swap_22 ?_
      refine aw_bipush h _ cb_m2 dX4_swap_23 ?_
      refine aw_istore3 h rfl dX4_swap_25 ?_
      refine aw_bipush h _ cb_m2 dX4_swap_26 ?_
      refine aw_istore4 h rfl dX4_swap_28 ?_
      refine aw_aload0 h dX4_swap_30 ?_
      refine aw_getr h fl_X4_39 (gmt hG) dX4_swap_31 rfl (gmp20 hG) ?_
      refine aw_iconst h _ ci_2 dX4_swap_34 ?_
      refine aw_ialdV h (gms171 hG) (by decide) (by omega) dX4_swap_35 (iv2e hE hS) ?_
      refine aw_iconst h _ ci_1 dX4_swap_36 ?_
      refine aw_isub h dX4_swap_37 ?_
      rw [show nI (np S) - nI 1 = qI (np S) by unfold qI; split; (rename_i e; rw [e]; rfl); exact pk_sub (by omega)]
      refine aw_istore5 h rfl dX4_swap_38 ?_
      have h9 := keya (np S) I none (Nat.le_refl _) hE ⟨rfl, rfl, I 172, vup_id I 172⟩
      rw [allF_end (Nat.le_refl _)] at h9
      exact h9
    · refine aw_iconst h _ ci_m1 dX4_swap_19 ?_
      exact aw_iret h hr dX4_swap_20 (⟨by unfold swA; rw [show inI wh 0 2 = false from (inL_I (by omega) (by omega)).symm.trans c16, Bool.and_false]; rfl, rfl, MC.rf⟩) (Nat.zero_le _) (Nat.zero_le _)
