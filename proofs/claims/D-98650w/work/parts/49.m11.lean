/-! The reference: all who are where as one number; what is reached -/
set_option maxRecDepth 100000
theorem pw31 {b p : Nat} (hb : b ≤ 8) (hp : p ≤ 5) : pw b p ≤ 32768 := pw_le (k := 5) hb hp
def isB (m p : Nat) : Bool := m.testBit p
def atB (S : Nat → Int32) (m c : Nat) : Bool := !anyN (np S) (fun p => m.testBit p && !(dg (nr S) c p == gl S p))
theorem qk_add {I : Im} {L : Lm} {a b : Nat} {x y z : Int32} : QK I L (upd2 (upd2 (upd2 I 177 a x) 178 b y) 161 31 z) L := ⟨rfl, fun n h1 h2 h3 => by
  show va_up (upd2 (upd2 I 177 a x) 178 b y) 161 _ n = _
  rw [vup_n _ _ h1]
  show va_up (upd2 I 177 a x) 178 _ n = _
  rw [vup_n _ _ h3]
  exact vup_n _ _ h2, fun j h1 _ => by
  show va_up (I 161) 31 z j = _
  exact vup_n _ _ h1⟩
theorem pw_1 (b : Nat) : nI 1 = nI (pw b 0) := rfl
theorem met_m_power {w : Wd} {G : Gm} {I : Im} {L : Lm} (hG : GM G) {S : Nat → Int32} (hE : I 171 = S) (hS : InvS S) {p : Nat} (hp : p ≤ 5) : AMet w yX4_power cX4_power 4 (some .int) 1 40 0 0 [.ref (w.1 + 161), .int (nI p)] G I L (Exact (some (.int (nI (pw (nr S) p)))) G I L) := by
  refine AMet.of (ls0 := [some (.ref (w.1 + 161)), some (.int (nI p)), none, none]) rfl (Nat.le_of_ble_eq_true rfl) rfl (fun q hq => hq) (fun X h hl hr hi => ?_)
  have b0 := iv0b hS
  have key : ∀ (n j : Nat), j ≤ p → p < j + n → AW X 0 0 4 [some (.ref (w.1 + 161)), some (.int (nI p)), some (.int (nI (pw (nr S) j))), some (.int (nI j))] [] G I L := by
    intro n
    induction n with
    | zero => intro j h1 h2; exact absurd h2 (by omega)
    | succ n ih =>
      intro j h1 h2
      refine aw_iload3 h dX4_power_4 ?_
      refine aw_iload1 h dX4_power_5 ?_
      refine aw_icmp_geN h (tgt := 24) (by omega) (by omega) dX4_power_6 (by decide) (fun c6 => ?_) (fun c6 => ?_)
      · refine aw_iload2 h dX4_power_24 ?_
        exact aw_iret h hr dX4_power_25 (by rw [show j = p by omega]; exact ⟨rfl, rfl, rfl, rfl⟩) (Nat.zero_le _) (Nat.zero_le _)
      · refine aw_iload2 h dX4_power_9 ?_
        refine aw_aload0 h dX4_power_10 ?_
        refine aw_getr h fl_X4_39 (gmt hG) dX4_power_11 rfl (gmp20 hG) ?_
        refine aw_iconst h _ ci_0 dX4_power_14 ?_
        refine aw_ialdV h (gms171 hG) (by decide) (by omega) dX4_power_15 (iv0e hE hS) ?_
        refine aw_imulN h dX4_power_16 ?_
        refine aw_istore2 h rfl dX4_power_17 ?_
        refine aw_iincN3 h rfl dX4_power_18 ?_
        refine aw_goto h (tgt := 4) dX4_power_21 (by decide) ?_
        rw [show pw (nr S) j * nr S = pw (nr S) (j + 1) from rfl]
        exact ih (j + 1) (by omega) (by omega)
  refine aw_iconst h _ ci_1 dX4_power_0 ?_
  refine aw_istore2 h rfl dX4_power_1 ?_
  refine aw_iconst h _ ci_0 dX4_power_2 ?_
  refine aw_istore3 h rfl dX4_power_3 ?_
  exact key (p + 1) 0 (Nat.zero_le _) (by omega)
theorem met_m_roomIn {w : Wd} {G : Gm} {I : Im} {L : Lm} (hG : GM G) {S : Nat → Int32} (hE : I 171 = S) (hS : InvS S) (h0 : 0 < nr S) {p c : Nat} (hp : p ≤ 5) (hc : c < 32768) : AMet w yX4_roomIn cX4_roomIn 3 (some .int) 2 63 0 0 [.ref (w.1 + 161), .int (nI c), .int (nI p)] G I L (Exact (some (.int (nI (dg (nr S) c p)))) G I L) := by
  refine AMet.of (ls0 := [some (.ref (w.1 + 161)), some (.int (nI c)), some (.int (nI p))]) rfl (Nat.le_of_ble_eq_true rfl) rfl (fun q hq => hq) (fun X h hl hr hi => ?_)
  have b0 := iv0b hS
  have h1 := pw31 b0 hp
  have h2 := pw_pos h0 p
  have h3 : c / pw (nr S) p ≤ c := Nat.div_le_self _ _
  refine aw_iload1 h dX4_roomIn_0 ?_
  refine aw_aload0 h dX4_roomIn_1 ?_
  refine aw_iload2 h dX4_roomIn_2 ?_
  refine aw_callVE1 h hl cl_X4_406 (met_m_power hG hE hS (by omega)) (gmt hG) rfl dX4_roomIn_3 (Nat.le_of_ble_eq_true rfl) rfl (Nat.zero_le _) (Nat.zero_le _) ?_
  refine aw_idivN h (by omega) (by omega) (by omega) dX4_roomIn_6 ?_
  refine aw_aload0 h dX4_roomIn_7 ?_
  refine aw_getr h fl_X4_39 (gmt hG) dX4_roomIn_8 rfl (gmp20 hG) ?_
  refine aw_iconst h _ ci_0 dX4_roomIn_11 ?_
  refine aw_ialdV h (gms171 hG) (by decide) (by omega) dX4_roomIn_12 (iv0e hE hS) ?_
  refine aw_iremN h (by omega) (by omega) (by omega) dX4_roomIn_13 ?_
  exact aw_iret h hr dX4_roomIn_14 (⟨rfl, rfl, rfl, rfl⟩) (Nat.zero_le _) (Nat.zero_le _)
theorem met_m_moved {w : Wd} {G : Gm} {I : Im} {L : Lm} (hG : GM G) {S : Nat → Int32} (hE : I 171 = S) (hS : InvS S) (h0 : 0 < nr S) {c p r : Nat} (hp : p ≤ 5) (hc : c < 32768) : AMet w yX4_moved cX4_moved 4 (some .int) 3 85 0 0 [.ref (w.1 + 161), .int (nI c), .int (nI p), .int (nI r)] G I L (Exact (some (.int (nI (mv (nr S) c p r)))) G I L) := by
  refine AMet.of (ls0 := [some (.ref (w.1 + 161)), some (.int (nI c)), some (.int (nI p)), some (.int (nI r))]) rfl (Nat.le_of_ble_eq_true rfl) rfl (fun q hq => hq) (fun X h hl hr hi => ?_)
  refine aw_iload1 h dX4_moved_0 ?_
  refine aw_iload3 h dX4_moved_1 ?_
  refine aw_aload0 h dX4_moved_2 ?_
  refine aw_iload1 h dX4_moved_3 ?_
  refine aw_iload2 h dX4_moved_4 ?_
  refine aw_callVE2 h hl cl_X4_409 (met_m_roomIn hG hE hS h0 (by omega) (by omega)) (gmt hG) rfl dX4_moved_5 (Nat.le_of_ble_eq_true rfl) rfl (Nat.zero_le _) (Nat.zero_le _) ?_
  refine aw_isub h dX4_moved_8 ?_
  refine aw_aload0 h dX4_moved_9 ?_
  refine aw_iload2 h dX4_moved_10 ?_
  refine aw_callVE1 h hl cl_X4_406 (met_m_power hG hE hS (by omega)) (gmt hG) rfl dX4_moved_11 (Nat.le_of_ble_eq_true rfl) rfl (Nat.zero_le _) (Nat.zero_le _) ?_
  refine aw_imul h dX4_moved_14 ?_
  refine aw_iadd h dX4_moved_15 ?_
  exact aw_iret h hr dX4_moved_16 (⟨by rw [nI_mv], rfl, rfl, rfl⟩) (Nat.zero_le _) (Nat.zero_le _)
theorem met_m_codeNow {w : Wd} {G : Gm} {I : Im} {L : Lm} (hG : GM G) {S : Nat → Int32} (hE : I 171 = S) (hS : InvS S) : AMet w yX4_codeNow cX4_codeNow 3 (some .int) 2 63 0 0 [.ref (w.1 + 161)] G I L (Exact (some (.int (nI (enc (nr S) (np S) (rm S))))) G I L) := by
  refine AMet.of (ls0 := [some (.ref (w.1 + 161)), none, none]) rfl (Nat.le_of_ble_eq_true rfl) rfl (fun q hq => hq) (fun X h hl hr hi => ?_)
  have b2 := iv2b hS
  have key : ∀ (n k : Nat), k ≤ np S → np S < k + n → AW X 0 0 4 [some (.ref (w.1 + 161)), some (.int (nI (enc (nr S) k (rm S)))), some (.int (nI k))] [] G I L := by
    intro n
    induction n with
    | zero => intro k h1 h2; exact absurd h2 (by omega)
    | succ n ih =>
      intro k h1 h2
      have ge : k < np S → pv S k 0 = nI (rm S k) := fun hk => (ivp hS hk).1
      refine aw_iload2 h dX4_codeNow_4 ?_
      refine aw_aload0 h dX4_codeNow_5 ?_
      refine aw_getr h fl_X4_39 (gmt hG) dX4_codeNow_6 rfl (gmp20 hG) ?_
      refine aw_iconst h _ ci_2 dX4_codeNow_9 ?_
      refine aw_ialdV h (gms171 hG) (by decide) (by omega) dX4_codeNow_10 (iv2e hE hS) ?_
      refine aw_icmp_geN h (tgt := 35) (by omega) (by omega) dX4_codeNow_11 (by decide) (fun c11 => ?_) (fun c11 => ?_)
      · refine aw_iload1 h dX4_codeNow_35 ?_
        exact aw_iret h hr dX4_codeNow_36 (by rw [show k = np S by omega]; exact ⟨rfl, rfl, rfl, rfl⟩) (Nat.zero_le _) (Nat.zero_le _)
      · refine aw_iload1 h dX4_codeNow_14 ?_
        refine aw_aload0 h dX4_codeNow_15 ?_
        refine aw_iload2 h dX4_codeNow_16 ?_
        refine aw_iconst h _ ci_0 dX4_codeNow_17 ?_
        refine aw_callVE2 h hl cl_X4_279 (met_m_personOf hG hE (by omega)) (gmt hG) rfl dX4_codeNow_18 (Nat.le_of_ble_eq_true rfl) rfl (Nat.zero_le _) (Nat.zero_le _) ?_
        rw [ge (by omega)]
        refine aw_aload0 h dX4_codeNow_21 ?_
        refine aw_iload2 h dX4_codeNow_22 ?_
        refine aw_callVE1 h hl cl_X4_406 (met_m_power hG hE hS (by omega)) (gmt hG) rfl dX4_codeNow_23 (Nat.le_of_ble_eq_true rfl) rfl (Nat.zero_le _) (Nat.zero_le _) ?_
        refine aw_imulN h dX4_codeNow_26 ?_
        refine aw_iaddN h dX4_codeNow_27 ?_
        refine aw_istore1 h rfl dX4_codeNow_28 ?_
        refine aw_iincN2 h rfl dX4_codeNow_29 ?_
        refine aw_goto h (tgt := 4) dX4_codeNow_32 (by decide) ?_
        rw [show enc (nr S) k (rm S) + rm S k * pw (nr S) k = enc (nr S) (k + 1) (rm S) from rfl]
        exact ih (k + 1) (by omega) (by omega)
  refine aw_iconst h _ ci_0 dX4_codeNow_0 ?_
  refine aw_istore1 h rfl dX4_codeNow_1 ?_
  refine aw_iconst h _ ci_0 dX4_codeNow_2 ?_
  refine aw_istore2 h rfl dX4_codeNow_3 ?_
  exact key (np S + 1) 0 (Nat.zero_le _) (by omega)
theorem met_m_areAtGoals {w : Wd} {G : Gm} {I : Im} {L : Lm} (hG : GM G) {S : Nat → Int32} (hE : I 171 = S) (hS : InvS S) (h0 : 0 < nr S) {c m : Nat} (hc : c < 32768) (hm : m < 2 ^ 31) : AMet w yX4_areAtGoals cX4_areAtGoals 4 (some .boolean) 3 85 0 0 [.ref (w.1 + 161), .int (nI c), .int (nI m)] G I L (Exact (some (.int (bI (atB S m c)))) G I L) := by
  refine AMet.of (ls0 := [some (.ref (w.1 + 161)), some (.int (nI c)), some (.int (nI m)), none]) rfl (Nat.le_of_ble_eq_true rfl) rfl (fun q hq => hq) (fun X h hl hr hi => ?_)
  have b0 := iv0b hS
  have b2 := iv2b hS
  have key : ∀ (n k : Nat), k ≤ np S → np S < k + n → (∀ j, j < k → (m.testBit j && !(dg (nr S) c j == gl S j)) = false) → AW X 0 0 2 [some (.ref (w.1 + 161)), some (.int (nI c)), some (.int (nI m)), some (.int (nI k))] [] G I L := by
    intro n
    induction n with
    | zero => intro k h1 h2; exact absurd h2 (by omega)
    | succ n ih =>
      intro k h1 h2 hno
      have ge : k < np S → pv S k 1 = nI (gl S k) ∧ gl S k < nr S := fun hk => ⟨(ivp hS hk).2.2.1, (ivp hS hk).2.2.2⟩
      refine aw_iload3 h dX4_areAtGoals_2 ?_
      refine aw_aload0 h dX4_areAtGoals_3 ?_
      refine aw_getr h fl_X4_39 (gmt hG) dX4_areAtGoals_4 rfl (gmp20 hG) ?_
      refine aw_iconst h _ ci_2 dX4_areAtGoals_7 ?_
      refine aw_ialdV h (gms171 hG) (by decide) (by omega) dX4_areAtGoals_8 (iv2e hE hS) ?_
      refine aw_icmp_geN h (tgt := 43) (by omega) (by omega) dX4_areAtGoals_9 (by decide) (fun c9 => ?_) (fun c9 => ?_)
      · refine aw_iconst h _ ci_1 dX4_areAtGoals_43 ?_
        exact aw_zret h hr dX4_areAtGoals_44 (by first | exact z01_0 | exact z01_1 | exact z01_b _) (ExB1 (by unfold atB; rw [Bool.not_eq_true', anyN_false]; intro j hj; exact hno j (by omega))) (Nat.zero_le _) (Nat.zero_le _)
      · refine aw_iload2 h dX4_areAtGoals_12 ?_
        refine aw_iload3 h dX4_areAtGoals_13 ?_
        refine aw_callSE2 h hl cl_X4_322 (met_m_isOf) dX4_areAtGoals_14 (Nat.le_of_ble_eq_true rfl) rfl (Nat.zero_le _) (Nat.zero_le _) ?_
        rw [bs_has hm (by omega)]
        refine aw_if_eqB h (tgt := 37) dX4_areAtGoals_17 (by decide) (fun c17 => ?_) (fun c17 => ?_)
        · refine aw_iincN3 h rfl dX4_areAtGoals_37 ?_
          refine aw_goto h (tgt := 2) dX4_areAtGoals_40 (by decide) ?_
          refine ih (k + 1) (by omega) (by omega) (fun j hj => ?_)
          by_cases e : j = k
          · subst e; rw [c17]; rfl
          · exact hno j (by omega)
        · refine aw_aload0 h dX4_areAtGoals_20 ?_
          refine aw_iload1 h dX4_areAtGoals_21 ?_
          refine aw_iload3 h dX4_areAtGoals_22 ?_
          refine aw_callVE2 h hl cl_X4_409 (met_m_roomIn hG hE hS h0 (by omega) (by omega)) (gmt hG) rfl dX4_areAtGoals_23 (Nat.le_of_ble_eq_true rfl) rfl (Nat.zero_le _) (Nat.zero_le _) ?_
          refine aw_aload0 h dX4_areAtGoals_26 ?_
          refine aw_iload3 h dX4_areAtGoals_27 ?_
          refine aw_iconst h _ ci_1 dX4_areAtGoals_28 ?_
          refine aw_callVE2 h hl cl_X4_279 (met_m_personOf hG hE (by omega)) (gmt hG) rfl dX4_areAtGoals_29 (Nat.le_of_ble_eq_true rfl) rfl (Nat.zero_le _) (Nat.zero_le _) ?_
          rw [(ge (by omega)).1]
          refine aw_icmp_eqN h (tgt := 37) (by have := dg_lt h0 c k; omega) (by have := (ge (by omega)).2; omega) dX4_areAtGoals_32 (by decide) (fun c32 => ?_) (fun c32 => ?_)
          · refine aw_iincN3 h rfl dX4_areAtGoals_37 ?_
            refine aw_goto h (tgt := 2) dX4_areAtGoals_40 (by decide) ?_
            refine ih (k + 1) (by omega) (by omega) (fun j hj => ?_)
            by_cases e : j = k
            · subst e; rw [c32]; simp
            · exact hno j (by omega)
          · refine aw_iconst h _ ci_0 dX4_areAtGoals_35 ?_
            exact aw_zret h hr dX4_areAtGoals_36 (by first | exact z01_0 | exact z01_1 | exact z01_b _) (ExB0 (by unfold atB; rw [Bool.not_eq_false', anyN_iff]; exact ⟨k, by omega, by rw [c17]; simpa using c32⟩)) (Nat.zero_le _) (Nat.zero_le _)
  refine aw_iconst h _ ci_0 dX4_areAtGoals_0 ?_
  refine aw_istore3 h rfl dX4_areAtGoals_1 ?_
  exact key (np S + 1) 0 (Nat.zero_le _) (by omega) (fun j hj => absurd hj (by omega))
/-- c is reached, in x passings, if it wasn't -/
def RE (n M cnt c x : Nat) (qv lv : Nat → Nat) (G : Gm) (I : Im) (L : Lm) : Gm → Im → Lm → Prop := fun G1 I1 L1 => G = G1 ∧ QK I L I1 L1 ∧ ((seenB cnt qv c ∧ QW n M cnt qv lv I1) ∨ (¬ seenB cnt qv c ∧ QW n M (cnt + 1) (va_up qv cnt c) (va_up lv c x) I1))
theorem met_m_reaches {w : Wd} {G : Gm} {I : Im} {L : Lm} (hG : GM G) {n M cnt c x : Nat} {qv lv : Nat → Nat} (hQ : QW n M cnt qv lv I) (hM : M ≤ 32768) (hc : c < M) (hx : x ≤ cnt) : AMet w yX4_reaches cX4_reaches 3 none 1 40 0 0 [.ref (w.1 + 161), .int (nI c), .int (nI x)] G I L (Ans none (RE n M cnt c x qv lv G I L)) := by
  refine AMet.of (ls0 := [some (.ref (w.1 + 161)), some (.int (nI c)), some (.int (nI x))]) rfl (Nat.le_of_ble_eq_true rfl) rfl (fun q hq => hq) (fun X h hl hr hi => ?_)
  refine aw_aload0 h dX4_reaches_0 ?_
  refine aw_getr h fl_X4_63 (gmt hG) dX4_reaches_1 rfl (gmp29 hG) ?_
  refine aw_iload1 h dX4_reaches_4 ?_
  refine aw_ialdN h (gms177 hG) (by decide) (by omega) dX4_reaches_5 ?_
  refine aw_if_lt h (tgt := 10) dX4_reaches_6 (by decide) (fun c6 => ?_) (fun c6 => ?_)
  · have hns : ¬ seenB cnt qv c := fun q => absurd ((hQ.val hc hM).mpr q) (by simpa using c6)
    have hrm := hQ.room hc hns
    refine aw_aload0 h dX4_reaches_10 ?_
    refine aw_getr h fl_X4_63 (gmt hG) dX4_reaches_11 rfl (gmp29 hG) ?_
    refine aw_iload1 h dX4_reaches_14 ?_
    refine aw_iload2 h dX4_reaches_15 ?_
    refine aw_iastN h (gms177 hG) (by decide) (by omega) dX4_reaches_16 ?_
    refine aw_aload0 h dX4_reaches_17 ?_
    refine aw_getr h fl_X4_66 (gmt hG) dX4_reaches_18 rfl (gmp30 hG) ?_
    refine aw_aload0 h dX4_reaches_21 ?_
    refine aw_getiV h fl_X4_412 (gmt hG) dX4_reaches_22 rfl (hQ.1) ?_
    refine aw_iload1 h dX4_reaches_25 ?_
    refine aw_iastN h (gms178 hG) (by decide) (by omega) dX4_reaches_26 ?_
    refine aw_aload0 h dX4_reaches_27 ?_
    refine aw_dup h rfl dX4_reaches_28 ?_
    refine aw_getiV h fl_X4_412 (gmt hG) dX4_reaches_29 rfl (hQ.1) ?_
    refine aw_iconst h _ ci_1 dX4_reaches_32 ?_
    refine aw_iaddN h dX4_reaches_33 ?_
    refine aw_puti h fl_X4_412 ft_X4_412 (fun z => by cases z) (gmt hG) dX4_reaches_34 rfl ?_
    exact aw_vret h hr dX4_reaches_37 (⟨rfl, rfl, qk_add, Or.inr ⟨hns, hQ.add hc hns hx⟩⟩) (Nat.zero_le _) (Nat.zero_le _)
  · exact aw_vret h hr dX4_reaches_9 (⟨rfl, rfl, QK.rf, Or.inl ⟨(hQ.val hc hM).mp (by simpa using c6), hQ⟩⟩) (Nat.zero_le _) (Nat.zero_le _)
