/-! The reference: a moment -/
set_option maxRecDepth 100000
theorem met_m_goesOut {w : Wd} {G : Gm} {I : Im} {L : Lm} (hG : GM G) {S : Nat → Int32} (hE : I 171 = S) (hS : InvS S) {p d : Nat} (hp : p < 4) (hd : d < nd S) : AMet w yX4_goesOut cX4_goesOut 4 none 2 61 0 0 [.ref (w.1 + 161), .int (nI p), .int (nI d)] G I L (Exact none G (va_up I 171 (va_up (va_up S (10 + 6 * p) (nI (farr S d))) (10 + 6 * p + 4) (S (10 + 6 * p + 4) + nI 1))) L) := by
  refine AMet.of (ls0 := [some (.ref (w.1 + 161)), some (.int (nI p)), some (.int (nI d)), none]) rfl (Nat.le_of_ble_eq_true rfl) rfl (fun q hq => hq) (fun X h hl hr hi => ?_)
  refine aw_bipush h _ cb_10 dX4_goesOut_0 ?_
  refine aw_bipush h _ cb_6 dX4_goesOut_2 ?_
  refine aw_iload1 h dX4_goesOut_4 ?_
  refine aw_imulN h dX4_goesOut_5 ?_
  refine aw_iaddN h dX4_goesOut_6 ?_
  refine aw_istore3 h rfl dX4_goesOut_7 ?_
  refine aw_aload0 h dX4_goesOut_8 ?_
  refine aw_getr h fl_X4_39 (gmt hG) dX4_goesOut_9 rfl (gmp20 hG) ?_
  refine aw_iload3 h dX4_goesOut_12 ?_
  refine aw_aload0 h dX4_goesOut_13 ?_
  refine aw_iload2 h dX4_goesOut_14 ?_
  refine aw_callVE1 h hl cl_X4_304 (met_m_farOf hG hE hS (by omega)) (gmt hG) rfl dX4_goesOut_15 (Nat.le_of_ble_eq_true rfl) rfl (Nat.zero_le _) (Nat.zero_le _) ?_
  refine aw_iastN h (gms171 hG) (by decide) (by omega) dX4_goesOut_18 ?_
  rw [upd2_self, hE]
  refine aw_aload0 h dX4_goesOut_19 ?_
  refine aw_getr h fl_X4_39 (gmt hG) dX4_goesOut_20 rfl (gmp20 hG) ?_
  refine aw_iload3 h dX4_goesOut_23 ?_
  refine aw_iconst h _ ci_4 dX4_goesOut_24 ?_
  refine aw_iaddN h dX4_goesOut_25 ?_
  refine aw_dup2 h rfl rfl dX4_goesOut_26 ?_
  refine aw_ialdV h (gms171 hG) (by decide) (by omega) dX4_goesOut_27 ((by rw [vup_s, vup_n _ _ (by omega)])) ?_
  refine aw_iconst h _ ci_1 dX4_goesOut_28 ?_
  refine aw_iadd h dX4_goesOut_29 ?_
  refine aw_iastN h (gms171 hG) (by decide) (by omega) dX4_goesOut_30 ?_
  rw [upd2_vup]
  exact aw_vret h hr dX4_goesOut_31 (⟨rfl, rfl, rfl, rfl⟩) (Nat.zero_le _) (Nat.zero_le _)
theorem met_m_comesIn {w : Wd} {G : Gm} {I : Im} {L : Lm} (hG : GM G) {S : Nat → Int32} (hE : I 171 = S) (hS : InvS S) {p d : Nat} (hp : p < 4) (hd : d < nd S) {by_ : Int32} : AMet w yX4_comesIn cX4_comesIn 5 none 2 61 0 0 [.ref (w.1 + 161), .int (nI p), .int (nI d), .int by_] G I L (Exact none G (va_up I 171 (va_up (va_up (va_up S (10 + 6 * p) (nI (near S d))) (10 + 6 * p + 3) (S (10 + 6 * p + 3) + nI 1)) (10 + 6 * p + 5) by_)) L) := by
  refine AMet.of (ls0 := [some (.ref (w.1 + 161)), some (.int (nI p)), some (.int (nI d)), some (.int by_), none]) rfl (Nat.le_of_ble_eq_true rfl) rfl (fun q hq => hq) (fun X h hl hr hi => ?_)
  refine aw_bipush h _ cb_10 dX4_comesIn_0 ?_
  refine aw_bipush h _ cb_6 dX4_comesIn_2 ?_
  refine aw_iload1 h dX4_comesIn_4 ?_
  refine aw_imulN h dX4_comesIn_5 ?_
  refine aw_iaddN h dX4_comesIn_6 ?_
  refine aw_istore4 h rfl dX4_comesIn_7 ?_
  refine aw_aload0 h dX4_comesIn_9 ?_
  refine aw_getr h fl_X4_39 (gmt hG) dX4_comesIn_10 rfl (gmp20 hG) ?_
  refine aw_iload4 h dX4_comesIn_13 ?_
  refine aw_aload0 h dX4_comesIn_15 ?_
  refine aw_iload2 h dX4_comesIn_16 ?_
  refine aw_callVE1 h hl cl_X4_301 (met_m_nearOf hG hE hS (by omega)) (gmt hG) rfl dX4_comesIn_17 (Nat.le_of_ble_eq_true rfl) rfl (Nat.zero_le _) (Nat.zero_le _) ?_
  refine aw_iastN h (gms171 hG) (by decide) (by omega) dX4_comesIn_20 ?_
  rw [upd2_self, hE]
  refine aw_aload0 h dX4_comesIn_21 ?_
  refine aw_getr h fl_X4_39 (gmt hG) dX4_comesIn_22 rfl (gmp20 hG) ?_
  refine aw_iload4 h dX4_comesIn_25 ?_
  refine aw_iconst h _ ci_3 dX4_comesIn_27 ?_
  refine aw_iaddN h dX4_comesIn_28 ?_
  refine aw_dup2 h rfl rfl dX4_comesIn_29 ?_
  refine aw_ialdV h (gms171 hG) (by decide) (by omega) dX4_comesIn_30 ((by rw [vup_s, vup_n _ _ (by omega)])) ?_
  refine aw_iconst h _ ci_1 dX4_comesIn_31 ?_
  refine aw_iadd h dX4_comesIn_32 ?_
  refine aw_iastN h (gms171 hG) (by decide) (by omega) dX4_comesIn_33 ?_
  rw [upd2_vup]
  refine aw_aload0 h dX4_comesIn_34 ?_
  refine aw_getr h fl_X4_39 (gmt hG) dX4_comesIn_35 rfl (gmp20 hG) ?_
  refine aw_iload4 h dX4_comesIn_38 ?_
  refine aw_iconst h _ ci_5 dX4_comesIn_40 ?_
  refine aw_iaddN h dX4_comesIn_41 ?_
  refine aw_iload3 h dX4_comesIn_42 ?_
  refine aw_iastN h (gms171 hG) (by decide) (by omega) dX4_comesIn_43 ?_
  rw [upd2_vup]
  exact aw_vret h hr dX4_comesIn_44 (⟨rfl, rfl, rfl, rfl⟩) (Nat.zero_le _) (Nat.zero_le _)
theorem bI_inj {a b : Bool} : bI a = bI b ↔ a = b := by
  constructor
  · intro h
    cases a <;> cases b <;> first | rfl | exact absurd h (by decide)
  · intro h; rw [h]
def selB (WD : Nat → Int32) (OT : Nat → Bool) (d : Nat) (o : Bool) (q : Nat) : Bool := decide (WD q = nI d) && (OT q == o)
theorem met_m_willer {w : Wd} {G : Gm} {I : Im} {L : Lm} (hG : GM G) {S : Nat → Int32} (hE : I 171 = S) (hS : InvS S) {WD : Nat → Int32} {OT : Nat → Bool} (hW : ∀ q, q < np S → I 173 q = WD q) (hO : ∀ q, q < np S → I 174 q = bI (OT q)) {d k0 : Nat} {o : Bool} (hd : d < nd S) (hk : k0 < 2 ^ 30) : AMet w yX4_willer cX4_willer 6 (some .int) 1 40 0 0 [.ref (w.1 + 161), .int (nI d), .int (bI o), .int (nI k0)] G I L (Exact (some (.int (nthI (selB WD OT d o) (np S) k0))) G I L) := by
  refine AMet.of (ls0 := [some (.ref (w.1 + 161)), some (.int (nI d)), some (.int (bI o)), some (.int (nI k0)), none, none]) rfl (Nat.le_of_ble_eq_true rfl) rfl (fun q hq => hq) (fun X h hl hr hi => ?_)
  have key : ∀ (n k : Nat), k ≤ np S → np S < k + n → cntB (selB WD OT d o) k ≤ k0 → (∀ j, j < k → (selB WD OT d o j && (cntB (selB WD OT d o) j == k0)) = false) → AW X 0 0 6 [some (.ref (w.1 + 161)), some (.int (nI d)), some (.int (bI o)), some (.int (nI k0)), some (.int (nI (k0 - cntB (selB WD OT d o) k))), some (.int (nI k))] [] G I L := by
    intro n
    induction n with
    | zero => intro k h1 h2; exact absurd h2 (by omega)
    | succ n ih =>
      intro k h1 h2 hle hno
      refine aw_iload5 h dX4_willer_6 ?_
      refine aw_aload0 h dX4_willer_8 ?_
      refine aw_getr h fl_X4_39 (gmt hG) dX4_willer_9 rfl (gmp20 hG) ?_
      refine aw_iconst h _ ci_2 dX4_willer_12 ?_
      refine aw_ialdV h (gms171 hG) (by decide) (by omega) dX4_willer_13 (iv2e hE hS) ?_
      refine aw_icmp_geN h (tgt := 59) (by have := iv2b hS; omega) (by have := iv2b hS; omega) dX4_willer_14 (by decide) (fun c14 => ?_) (fun c14 => ?_)
      · refine aw_iconst h _ ci_m1 dX4_willer_59 ?_
        exact aw_iret h hr dX4_willer_60 (⟨by unfold nthI; rw [fI_none (fun j hj => hno j (by omega))], rfl, rfl, rfl⟩) (Nat.zero_le _) (Nat.zero_le _)
      · refine aw_aload0 h dX4_willer_17 ?_
        refine aw_getr h fl_X4_49 (gmt hG) dX4_willer_18 rfl (gmp24 hG) ?_
        refine aw_iload5 h dX4_willer_21 ?_
        refine aw_ialdV h (gms173 hG) (by decide) (by have := iv2b hS; omega) dX4_willer_23 (hW _ (by omega)) ?_
        refine aw_iload1 h dX4_willer_24 ?_
        refine aw_icmp_ne h (tgt := 53) dX4_willer_25 (by decide) (fun c25 => ?_) (fun c25 => ?_)
        · refine aw_iincN5 h rfl dX4_willer_53 ?_
          refine aw_goto h (tgt := 6) dX4_willer_56 (by decide) ?_
          have e : cntB (selB WD OT d o) (k + 1) = cntB (selB WD OT d o) k := by rw [cntB_s]; simp [selB, c25]
          rw [← e]
          exact ih (k + 1) (by omega) (by omega) (by omega) (fun j hj => by
            by_cases e2 : j = k
            · subst e2; simp [selB, c25]
            · exact hno j (by omega))
        · refine aw_aload0 h dX4_willer_28 ?_
          refine aw_getr h fl_X4_52 (gmt hG) dX4_willer_29 rfl (gmp25 hG) ?_
          refine aw_iload5 h dX4_willer_32 ?_
          refine aw_zaldN h (gms174 hG) (by decide) (by have := iv2b hS; omega) dX4_willer_34 ?_
          rw [hO _ (by omega : k < np S)]
          refine aw_iload2 h dX4_willer_35 ?_
          refine aw_icmp_eq h (tgt := 42) dX4_willer_36 (by decide) (fun c36 => ?_) (fun c36 => ?_)
          · refine aw_iload4 h dX4_willer_42 ?_
            refine aw_if_neN h (tgt := 50) (by omega) dX4_willer_44 (by decide) (fun c44 => ?_) (fun c44 => ?_)
            · refine aw_iinc4 h (y := nI (k0 - (cntB (selB WD OT d o) k + 1))) (by rw [show Int32.ofInt (-1) = -1 from rfl, show k0 - cntB (selB WD OT d o) k = k0 - (cntB (selB WD OT d o) k + 1) + 1 by omega, pk_m1]) rfl dX4_willer_50 ?_
              refine aw_iincN5 h rfl dX4_willer_53 ?_
              refine aw_goto h (tgt := 6) dX4_willer_56 (by decide) ?_
              have e0 := bI_inj.mp c36
              have e : cntB (selB WD OT d o) (k + 1) = cntB (selB WD OT d o) k + 1 := by rw [cntB_s]; simp [selB, c25, e0]
              rw [← e]
              exact ih (k + 1) (by omega) (by omega) (by omega) (fun j hj => by
                by_cases e2 : j = k
                · subst e2; simp [selB]; omega
                · exact hno j (by omega))
            · refine aw_iload5 h dX4_willer_47 ?_
              exact aw_iret h hr dX4_willer_49 (⟨by unfold nthI; rw [fI_at hno (by omega) (by have e := bI_inj.mp c36; simp [selB, c25, e]; omega)], rfl, rfl, rfl⟩) (Nat.zero_le _) (Nat.zero_le _)
          · refine aw_goto h (tgt := 53) dX4_willer_39 (by decide) ?_
            refine aw_iincN5 h rfl dX4_willer_53 ?_
            refine aw_goto h (tgt := 6) dX4_willer_56 (by decide) ?_
            have e0 : ¬ OT k = o := fun q => c36 (by rw [q])
            have e : cntB (selB WD OT d o) (k + 1) = cntB (selB WD OT d o) k := by rw [cntB_s]; simp [selB, e0]
            rw [← e]
            exact ih (k + 1) (by omega) (by omega) (by omega) (fun j hj => by
              by_cases e2 : j = k
              · subst e2; simp [selB, e0]
              · exact hno j (by omega))
  refine aw_iload3 h dX4_willer_0 ?_
  refine aw_istore4 h rfl dX4_willer_1 ?_
  refine aw_iconst h _ ci_0 dX4_willer_3 ?_
  refine aw_istore5 h rfl dX4_willer_4 ?_
  exact key (np S + 1) 0 (Nat.zero_le _) (by omega) (Nat.zero_le _) (fun j hj => absurd hj (by omega))
