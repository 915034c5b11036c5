/-! The reference's answers room, person, door, force -/
set_option maxRecDepth 100000
noncomputable def roomN (S : Nat → Int32) (r : Nat) : Nat → Int32
  | 0 => S (34 + r)
  | 1 => nI (pinN S r)
  | 2 => nI (outV S r - (outV S r &&& 2 ^ r))
  | _ => -1
noncomputable def roomA (S : Nat → Int32) (r what : Int32) : Int32 := if (decide (0 ≤ r) && decide (r < nI (nr S))) = true then (if inI what 0 2 = true then roomN S r.toNatClampNeg what.toNatClampNeg else -1) else -1
def personN (S : Nat → Int32) (p : Nat) : Nat → Int32
  | 0 => pv S p 0
  | 1 => pv S p 1
  | 2 => pv S p 2
  | 3 => nI (distV S (gl S p) (rm S p))
  | 4 => stepI S (gl S p) (rm S p)
  | 5 => pv S p 3
  | 6 => pv S p 4
  | 7 => pv S p 5
  | _ => -2
def personA (S : Nat → Int32) (p what : Int32) : Int32 := if (decide (0 ≤ p) && decide (p < nI (np S))) = true then (if inI what 0 7 = true then personN S p.toNatClampNeg what.toNatClampNeg else -2) else -2
def doorN (S : Nat → Int32) (d : Nat) : Nat → Int32
  | 0 => dv S d 0
  | 1 => dv S d 1
  | 2 => dv S d 2
  | 3 => bI (openB S d)
  | _ => -1
def doorA (S : Nat → Int32) (d what : Int32) : Int32 := if (decide (0 ≤ d) && decide (d < nI (nd S))) = true then (if inI what 0 3 = true then doorN S d.toNatClampNeg what.toNatClampNeg else -1) else -1
theorem ifif {c1 c2 : Bool} {A B C D : Int32} (h1 : c1 = true) (h2 : c2 = true) (e : A = D) : (if c1 = true then (if c2 = true then A else B) else C) = D := by rw [if_pos h1, if_pos h2, e]
theorem ifno1 {c1 : Bool} {A C : Int32} (h1 : c1 = false) : (if c1 = true then A else C) = C := by rw [h1]; rfl
theorem ifno2 {c1 c2 : Bool} {A C : Int32} (h2 : c2 = false) : (if c1 = true then (if c2 = true then A else C) else C) = C := by rw [h2]; cases c1 <;> rfl
theorem roomA_j {S : Nat → Int32} {p j : Nat} (hp : p < nr S) (h4 : nr S ≤ 8) (hj : j ≤ 2) : roomA S (nI p) (nI j) = roomN S p j := ifif (rng_nI hp (by omega)) (by rw [inI_nI (by omega) (by decide) (by decide)]; simp [hj]) (by rw [nI_clamp (by omega), nI_clamp (by omega)])
theorem personA_j {S : Nat → Int32} {p j : Nat} (hp : p < np S) (h4 : np S ≤ 4) (hj : j ≤ 7) : personA S (nI p) (nI j) = personN S p j := ifif (rng_nI hp (by omega)) (by rw [inI_nI (by omega) (by decide) (by decide)]; simp [hj]) (by rw [nI_clamp (by omega), nI_clamp (by omega)])
theorem doorA_j {S : Nat → Int32} {p j : Nat} (hp : p < nd S) (h4 : nd S ≤ 14) (hj : j ≤ 3) : doorA S (nI p) (nI j) = doorN S p j := ifif (rng_nI hp (by omega)) (by rw [inI_nI (by omega) (by decide) (by decide)]; simp [hj]) (by rw [nI_clamp (by omega), nI_clamp (by omega)])

theorem met_m_room {w : Wd} {G : Gm} {I : Im} {L : Lm} (hG : GM G) {S : Nat → Int32} (hE : I 171 = S) (hS : InvS S) {r what : Int32} : AMet w yX4_room cX4_room 3 (some .int) 4 106 0 0 [.ref (w.1 + 161), .int r, .int what] G I L (Exact (some (.int (roomA S r what))) G I L) := by
  refine AMet.of (ls0 := [some (.ref (w.1 + 161)), some (.int r), some (.int what)]) rfl (Nat.le_of_ble_eq_true rfl) rfl (fun q hq => hq) (fun X h hl hr hi => ?_)
  refine aw_aload0 h dX4_room_0 ?_
  refine aw_iload1 h dX4_room_1 ?_
  refine aw_callVE1 h hl cl_X4_336 (met_m_isRoom hG hE hS) (gmt hG) rfl dX4_room_2 (Nat.le_of_ble_eq_true rfl) rfl (Nat.zero_le _) (Nat.zero_le _) ?_
  refine aw_if_eqB h (tgt := 20) dX4_room_5 (by decide) (fun c5 => ?_) (fun c5 => ?_)
  · refine aw_iconst h _ ci_m1 dX4_room_20 ?_
    exact aw_iret h hr dX4_room_21 (⟨by rw [show roomA S r what = -1 from ifno1 c5], rfl, rfl, rfl⟩) (Nat.zero_le _) (Nat.zero_le _)
  · refine aw_iload2 h dX4_room_8 ?_
    refine aw_i2l h dX4_room_9 ?_
    refine aw_lconst h _ cl_0 dX4_room_10 ?_
    refine aw_ldc2 h (v := lN 2) q1731 dX4_room_11 ?_
    refine aw_callSE3 h hl cl_X4_128 (met_m_in) dX4_room_14 (Nat.le_of_ble_eq_true rfl) rfl (Nat.zero_le _) (Nat.zero_le _) ?_
    rw [inL_I (by decide) (by decide)]
    refine aw_if_neB h (tgt := 22) dX4_room_17 (by decide) (fun c17 => ?_) (fun c17 => ?_)
    · obtain ⟨a, ha, rfl⟩ := of_rng c5 (by have := iv0b hS; have := iv1b hS; have := iv2b hS; omega)
      obtain ⟨j, -, hj, rfl⟩ := inI_of c17 (by decide) (by decide)
      have hca : (nI a).toNatClampNeg = a := nI_clamp (by have := iv0b hS; have := iv1b hS; have := iv2b hS; omega)
      have ej := roomA_j ha (iv0b hS) hj
      refine aw_iload2 h dX4_room_22 ?_
      refine aw_if_neN h (tgt := 38) (by omega) dX4_room_23 (by decide) (fun c23 => ?_) (fun c23 => ?_)
      · refine aw_iload2 h dX4_room_38 ?_
        refine aw_iconst h _ ci_1 dX4_room_39 ?_
        refine aw_icmp_neN h (tgt := 51) (by omega) (by omega) dX4_room_40 (by decide) (fun c40 => ?_) (fun c40 => ?_)
        · refine aw_aload0 h dX4_room_51 ?_
          refine aw_iload1 h dX4_room_52 ?_
          refine aw_callVE1 h hl cl_X4_344 (met_m_outsideOf hG hE hS (by omega)) (gmt hG) rfl dX4_room_53 (Nat.le_of_ble_eq_true rfl) rfl (Nat.zero_le _) (Nat.zero_le _) ?_
          exact aw_iret h hr dX4_room_56 (⟨by rw [ej, show j = 2 by omega]; rfl, rfl, rfl, rfl⟩) (Nat.zero_le _) (Nat.zero_le _)
        · refine aw_aload0 h dX4_room_43 ?_
          refine aw_iload1 h dX4_room_44 ?_
          refine aw_callVE1 h hl cl_X4_341 (met_m_peopleIn hG hE hS (by omega)) (gmt hG) rfl dX4_room_45 (Nat.le_of_ble_eq_true rfl) rfl (Nat.zero_le _) (Nat.zero_le _) ?_
          refine aw_goto h (tgt := 56) dX4_room_48 (by decide) ?_
          exact aw_iret h hr dX4_room_56 (⟨by rw [ej, show j = 1 by omega]; rfl, rfl, rfl, rfl⟩) (Nat.zero_le _) (Nat.zero_le _)
      · refine aw_aload0 h dX4_room_26 ?_
        refine aw_getr h fl_X4_39 (gmt hG) dX4_room_27 rfl (gmp20 hG) ?_
        refine aw_bipush h _ cb_34 dX4_room_30 ?_
        refine aw_iload1 h dX4_room_32 ?_
        refine aw_iaddN h dX4_room_33 ?_
        refine aw_ialdV h (gms171 hG) (by decide) (by have := iv0b hS; omega) dX4_room_34 (congrFun hE _) ?_
        refine aw_goto h (tgt := 56) dX4_room_35 (by decide) ?_
        exact aw_iret h hr dX4_room_56 (⟨by rw [ej, show j = 0 by omega]; rfl, rfl, rfl, rfl⟩) (Nat.zero_le _) (Nat.zero_le _)
    · refine aw_iconst h _ ci_m1 dX4_room_20 ?_
      exact aw_iret h hr dX4_room_21 (⟨by rw [show roomA S r what = -1 from ifno2 c17], rfl, rfl, rfl⟩) (Nat.zero_le _) (Nat.zero_le _)
theorem met_m_person {w : Wd} {G : Gm} {I : Im} {L : Lm} (hG : GM G) {S : Nat → Int32} (hE : I 171 = S) (hS : InvS S) {p what : Int32} : AMet w yX4_person cX4_person 3 (some .int) 7 176 0 0 [.ref (w.1 + 161), .int p, .int what] G I L (Ans (some (.int (personA S p what))) (PU 172 G I L)) := by
  refine AMet.of (ls0 := [some (.ref (w.1 + 161)), some (.int p), some (.int what)]) rfl (Nat.le_of_ble_eq_true rfl) rfl (fun q hq => hq) (fun X h hl hr hi => ?_)
  refine aw_aload0 h dX4_person_0 ?_
  refine aw_iload1 h dX4_person_1 ?_
  refine aw_callVE1 h hl cl_X4_328 (met_m_isPerson hG hE hS) (gmt hG) rfl dX4_person_2 (Nat.le_of_ble_eq_true rfl) rfl (Nat.zero_le _) (Nat.zero_le _) ?_
  refine aw_if_eqB h (tgt := 20) dX4_person_5 (by decide) (fun c5 => ?_) (fun c5 => ?_)
  · refine aw_bipush h _ cb_m2 dX4_person_20 ?_
    exact aw_iret h hr dX4_person_22 (⟨by rw [show personA S p what = -2 from ifno1 c5], PU.rf⟩) (Nat.zero_le _) (Nat.zero_le _)
  · refine aw_iload2 h dX4_person_8 ?_
    refine aw_i2l h dX4_person_9 ?_
    refine aw_lconst h _ cl_0 dX4_person_10 ?_
    refine aw_ldc2 h (v := lN 7) q1690 dX4_person_11 ?_
    refine aw_callSE3 h hl cl_X4_128 (met_m_in) dX4_person_14 (Nat.le_of_ble_eq_true rfl) rfl (Nat.zero_le _) (Nat.zero_le _) ?_
    rw [inL_I (by decide) (by decide)]
    refine aw_if_neB h (tgt := 23) dX4_person_17 (by decide) (fun c17 => ?_) (fun c17 => ?_)
    · obtain ⟨a, ha, rfl⟩ := of_rng c5 (by have := iv0b hS; have := iv1b hS; have := iv2b hS; omega)
      obtain ⟨j, -, hj, rfl⟩ := inI_of c17 (by decide) (by decide)
      have hca : (nI a).toNatClampNeg = a := nI_clamp (by have := iv0b hS; have := iv1b hS; have := iv2b hS; omega)
      have ej := personA_j ha (iv2b hS) hj
      refine aw_iload2 h dX4_person_23 ?_
      refine aw_iconst h _ ci_3 dX4_person_24 ?_
      refine aw_icmp_geN h (tgt := 37) (by omega) (by omega) dX4_person_25 (by decide) (fun c25 => ?_) (fun c25 => ?_)
      · refine aw_iload2 h dX4_person_37 ?_
        refine aw_iconst h _ ci_3 dX4_person_38 ?_
        refine aw_icmp_neN h (tgt := 50) (by omega) (by omega) dX4_person_39 (by decide) (fun c39 => ?_) (fun c39 => ?_)
        · refine aw_iload2 h dX4_person_50 ?_
          refine aw_iconst h _ ci_4 dX4_person_51 ?_
          refine aw_icmp_neN h (tgt := 63) (by omega) (by omega) dX4_person_52 (by decide) (fun c52 => ?_) (fun c52 => ?_)
          · refine aw_aload0 h dX4_person_63 ?_
            refine aw_iload1 h dX4_person_64 ?_
            refine aw_iload2 h dX4_person_65 ?_
            refine aw_iconst h _ ci_2 dX4_person_66 ?_
            refine aw_isubN h (by omega) dX4_person_67 ?_
            refine aw_callVE2 h hl cl_X4_279 (met_m_personOf hG hE (by have := iv2b hS; omega)) (gmt hG) rfl dX4_person_68 (Nat.le_of_ble_eq_true rfl) rfl (Nat.zero_le _) (Nat.zero_le _) ?_
            exact aw_iret h hr dX4_person_71 (⟨by rcases (by omega : j = 5 ∨ j = 6 ∨ j = 7) with rfl | rfl | rfl <;> (rw [ej]; rfl), PU.rf⟩) (Nat.zero_le _) (Nat.zero_le _)
          · refine aw_aload0 h dX4_person_55 ?_
            refine aw_iload1 h dX4_person_56 ?_
            refine aw_callVA1 h hl cl_X4_333 (met_m_stepOf hG hE hS (by omega)) (gmt hG) rfl dX4_person_57 (Nat.le_of_ble_eq_true rfl) rfl (Nat.zero_le _) (Nat.zero_le _) (fun G1 I1 L1 hp => ?_)
            obtain ⟨rfl, rfl, f, rfl, -⟩ := hp
            refine aw_goto h (tgt := 71) dX4_person_60 (by decide) ?_
            exact aw_iret h hr dX4_person_71 (⟨by rw [ej, show j = 4 by omega]; rfl, rfl, rfl, f, rfl⟩) (Nat.zero_le _) (Nat.zero_le _)
        · refine aw_aload0 h dX4_person_42 ?_
          refine aw_iload1 h dX4_person_43 ?_
          refine aw_callVA1 h hl cl_X4_319 (met_m_leftOf hG hE hS (by omega)) (gmt hG) rfl dX4_person_44 (Nat.le_of_ble_eq_true rfl) rfl (Nat.zero_le _) (Nat.zero_le _) (fun G1 I1 L1 hp => ?_)
          obtain ⟨rfl, rfl, f, rfl, -⟩ := hp
          refine aw_goto h (tgt := 71) dX4_person_47 (by decide) ?_
          exact aw_iret h hr dX4_person_71 (⟨by rw [ej, show j = 3 by omega]; rfl, rfl, rfl, f, rfl⟩) (Nat.zero_le _) (Nat.zero_le _)
      · refine aw_aload0 h dX4_person_28 ?_
        refine aw_iload1 h dX4_person_29 ?_
        refine aw_iload2 h dX4_person_30 ?_
        refine aw_callVE2 h hl cl_X4_279 (met_m_personOf hG hE (by have := iv2b hS; omega)) (gmt hG) rfl dX4_person_31 (Nat.le_of_ble_eq_true rfl) rfl (Nat.zero_le _) (Nat.zero_le _) ?_
        refine aw_goto h (tgt := 71) dX4_person_34 (by decide) ?_
        exact aw_iret h hr dX4_person_71 (⟨by rcases (by omega : j = 0 ∨ j = 1 ∨ j = 2) with rfl | rfl | rfl <;> (rw [ej]; rfl), PU.rf⟩) (Nat.zero_le _) (Nat.zero_le _)
    · refine aw_bipush h _ cb_m2 dX4_person_20 ?_
      exact aw_iret h hr dX4_person_22 (⟨by rw [show personA S p what = -2 from ifno2 c17], PU.rf⟩) (Nat.zero_le _) (Nat.zero_le _)
theorem met_m_door {w : Wd} {G : Gm} {I : Im} {L : Lm} (hG : GM G) {S : Nat → Int32} (hE : I 171 = S) (hS : InvS S) {p what : Int32} : AMet w yX4_door cX4_door 3 (some .int) 3 82 0 0 [.ref (w.1 + 161), .int p, .int what] G I L (Exact (some (.int (doorA S p what))) G I L) := by
  refine AMet.of (ls0 := [some (.ref (w.1 + 161)), some (.int p), some (.int what)]) rfl (Nat.le_of_ble_eq_true rfl) rfl (fun q hq => hq) (fun X h hl hr hi => ?_)
  refine aw_aload0 h dX4_door_0 ?_
  refine aw_iload1 h dX4_door_1 ?_
  refine aw_callVE1 h hl cl_X4_347 (met_m_isDoor hG hE hS) (gmt hG) rfl dX4_door_2 (Nat.le_of_ble_eq_true rfl) rfl (Nat.zero_le _) (Nat.zero_le _) ?_
  refine aw_if_eqB h (tgt := 20) dX4_door_5 (by decide) (fun c5 => ?_) (fun c5 => ?_)
  · refine aw_iconst h _ ci_m1 dX4_door_20 ?_
    exact aw_iret h hr dX4_door_21 (⟨by rw [show doorA S p what = -1 from ifno1 c5], rfl, rfl, rfl⟩) (Nat.zero_le _) (Nat.zero_le _)
  · refine aw_iload2 h dX4_door_8 ?_
    refine aw_i2l h dX4_door_9 ?_
    refine aw_lconst h _ cl_0 dX4_door_10 ?_
    refine aw_ldc2 h (v := lN 3) q1751 dX4_door_11 ?_
    refine aw_callSE3 h hl cl_X4_128 (met_m_in) dX4_door_14 (Nat.le_of_ble_eq_true rfl) rfl (Nat.zero_le _) (Nat.zero_le _) ?_
    rw [inL_I (by decide) (by decide)]
    refine aw_if_neB h (tgt := 22) dX4_door_17 (by decide) (fun c17 => ?_) (fun c17 => ?_)
    · obtain ⟨a, ha, rfl⟩ := of_rng c5 (by have := iv0b hS; have := iv1b hS; have := iv2b hS; omega)
      obtain ⟨j, -, hj, rfl⟩ := inI_of c17 (by decide) (by decide)
      have hca : (nI a).toNatClampNeg = a := nI_clamp (by have := iv0b hS; have := iv1b hS; have := iv2b hS; omega)
      have ej := doorA_j ha (iv1b hS) hj
      refine aw_iload2 h dX4_door_22 ?_
      refine aw_iconst h _ ci_3 dX4_door_23 ?_
      refine aw_icmp_geN h (tgt := 43) (by omega) (by omega) dX4_door_24 (by decide) (fun c24 => ?_) (fun c24 => ?_)
      · refine aw_aload0 h dX4_door_43 ?_
        refine aw_iload1 h dX4_door_44 ?_
        refine aw_callVE1 h hl cl_X4_310 (met_m_isOpen hG hE hS (by omega)) (gmt hG) rfl dX4_door_45 (Nat.le_of_ble_eq_true rfl) rfl (Nat.zero_le _) (Nat.zero_le _) ?_
        refine aw_if_eqB h (tgt := 55) dX4_door_48 (by decide) (fun c48 => ?_) (fun c48 => ?_)
        · refine aw_iconst h _ ci_0 dX4_door_55 ?_
          exact aw_iret h hr dX4_door_56 (⟨by rw [ej, show j = 3 by omega, show doorN S a 3 = bI (openB S a) from rfl, c48]; rfl, rfl, rfl, rfl⟩) (Nat.zero_le _) (Nat.zero_le _)
        · refine aw_iconst h _ ci_1 dX4_door_51 ?_
          refine aw_goto h (tgt := 56) dX4_door_52 (by decide) ?_
          exact aw_iret h hr dX4_door_56 (⟨by rw [ej, show j = 3 by omega, show doorN S a 3 = bI (openB S a) from rfl, c48]; rfl, rfl, rfl, rfl⟩) (Nat.zero_le _) (Nat.zero_le _)
      · refine aw_aload0 h dX4_door_27 ?_
        refine aw_getr h fl_X4_39 (gmt hG) dX4_door_28 rfl (gmp20 hG) ?_
        refine aw_bipush h _ cb_42 dX4_door_31 ?_
        refine aw_iconst h _ ci_3 dX4_door_33 ?_
        refine aw_iload1 h dX4_door_34 ?_
        refine aw_imulN h dX4_door_35 ?_
        refine aw_iaddN h dX4_door_36 ?_
        refine aw_iload2 h dX4_door_37 ?_
        refine aw_iaddN h dX4_door_38 ?_
        refine aw_ialdV h (gms171 hG) (by decide) (by have := iv1b hS; omega) dX4_door_39 (congrFun hE _) ?_
        refine aw_goto h (tgt := 56) dX4_door_40 (by decide) ?_
        exact aw_iret h hr dX4_door_56 (⟨by rcases (by omega : j = 0 ∨ j = 1 ∨ j = 2) with rfl | rfl | rfl <;> (rw [ej]; rfl), rfl, rfl, rfl⟩) (Nat.zero_le _) (Nat.zero_le _)
    · refine aw_iconst h _ ci_m1 dX4_door_20 ?_
      exact aw_iret h hr dX4_door_21 (⟨by rw [show doorA S p what = -1 from ifno2 c17], rfl, rfl, rfl⟩) (Nat.zero_le _) (Nat.zero_le _)
theorem met_m_isRule {w : Wd} {G : Gm} {I : Im} {L : Lm} (hG : GM G) {nrl : Nat} (hR : I 161 2 = nI nrl) {k : Int32} : AMet w yX4_isRule cX4_isRule 2 (some .boolean) 1 40 0 0 [.ref (w.1 + 161), .int k] G I L (Exact (some (.int (bI (decide (0 ≤ k) && decide (k < nI nrl))))) G I L) := by
  refine AMet.of (ls0 := [some (.ref (w.1 + 161)), some (.int k)]) rfl (Nat.le_of_ble_eq_true rfl) rfl (fun q hq => hq) (fun X h hl hr hi => ?_)
  refine aw_iload1 h dX4_isRule_0 ?_
  refine aw_if_lt h (tgt := 16) dX4_isRule_1 (by decide) (fun c1 => ?_) (fun c1 => ?_)
  · refine aw_iconst h _ ci_0 dX4_isRule_16 ?_
    exact aw_zret h hr dX4_isRule_17 (by first | exact z01_0 | exact z01_1 | exact z01_b _) (ExB0 (by simp [Int32.not_le.mpr c1])) (Nat.zero_le _) (Nat.zero_le _)
  · refine aw_iload1 h dX4_isRule_4 ?_
    refine aw_aload0 h dX4_isRule_5 ?_
    refine aw_getiV h fl_X4_270 (gmt hG) dX4_isRule_6 rfl (hR) ?_
    refine aw_icmp_ge h (tgt := 16) dX4_isRule_9 (by decide) (fun c9 => ?_) (fun c9 => ?_)
    · refine aw_iconst h _ ci_0 dX4_isRule_16 ?_
      exact aw_zret h hr dX4_isRule_17 (by first | exact z01_0 | exact z01_1 | exact z01_b _) (ExB0 (by simp [Int32.not_lt.mpr c9])) (Nat.zero_le _) (Nat.zero_le _)
    · refine aw_iconst h _ ci_1 dX4_isRule_12 ?_
      refine aw_goto h (tgt := 17) dX4_isRule_13 (by decide) ?_
      exact aw_zret h hr dX4_isRule_17 (by first | exact z01_0 | exact z01_1 | exact z01_b _) (ExB1 (by simp [Int32.not_lt.mp c1, Int32.not_le.mp c9])) (Nat.zero_le _) (Nat.zero_le _)
def forceOk (nrl : Nat) (k : Int32) : Bool := decide (k = -1) || (decide (0 ≤ k) && decide (k < nI nrl))
theorem met_m_force {w : Wd} {G : Gm} {I : Im} {L : Lm} (hG : GM G) {nrl : Nat} (hR : I 161 2 = nI nrl) {k : Int32} : AMet w yX4_force cX4_force 3 (some .int) 2 61 0 0 [.ref (w.1 + 161), .int k] G I L (Exact (some (.int (if forceOk nrl k then I 161 21 else -2))) G (if forceOk nrl k then upd2 I 161 21 k else I) L) := by
  refine AMet.of (ls0 := [some (.ref (w.1 + 161)), some (.int k), none]) rfl (Nat.le_of_ble_eq_true rfl) rfl (fun q hq => hq) (fun X h hl hr hi => ?_)
  refine aw_iload1 h dX4_force_0 ?_
  refine aw_iconst h _ ci_m1 dX4_force_1 ?_
  refine aw_icmp_eq h (tgt := 16) dX4_force_2 (by decide) (fun c2 => ?_) (fun c2 => ?_)
  · refine aw_aload0 h dX4_force_16 ?_
    refine aw_geti h fl_X4_42 (gmt hG) dX4_force_17 rfl ?_
    refine aw_istore2 h rfl dX4_force_20 ?_
    refine aw_aload0 h dX4_force_21 ?_
    refine aw_iload1 h dX4_force_22 ?_
    refine aw_puti h fl_X4_42 ft_X4_42 (fun z => by cases z) (gmt hG) dX4_force_23 rfl ?_
    refine aw_iload2 h dX4_force_26 ?_
    exact aw_iret h hr dX4_force_27 (by have e : forceOk nrl k = true := (by simp only [forceOk, c2, decide_true, Bool.true_or]); rw [e]; exact ⟨rfl, rfl, rfl, rfl⟩) (Nat.zero_le _) (Nat.zero_le _)
  · refine aw_aload0 h dX4_force_5 ?_
    refine aw_iload1 h dX4_force_6 ?_
    refine aw_callVE1 h hl cl_X4_325 (met_m_isRule hG hR) (gmt hG) rfl dX4_force_7 (Nat.le_of_ble_eq_true rfl) rfl (Nat.zero_le _) (Nat.zero_le _) ?_
    refine aw_if_neB h (tgt := 16) dX4_force_10 (by decide) (fun c10 => ?_) (fun c10 => ?_)
    · refine aw_aload0 h dX4_force_16 ?_
      refine aw_geti h fl_X4_42 (gmt hG) dX4_force_17 rfl ?_
      refine aw_istore2 h rfl dX4_force_20 ?_
      refine aw_aload0 h dX4_force_21 ?_
      refine aw_iload1 h dX4_force_22 ?_
      refine aw_puti h fl_X4_42 ft_X4_42 (fun z => by cases z) (gmt hG) dX4_force_23 rfl ?_
      refine aw_iload2 h dX4_force_26 ?_
      exact aw_iret h hr dX4_force_27 (by have e : forceOk nrl k = true := (by simp only [forceOk, c10, Bool.or_true]); rw [e]; exact ⟨rfl, rfl, rfl, rfl⟩) (Nat.zero_le _) (Nat.zero_le _)
    · refine aw_bipush h _ cb_m2 dX4_force_13 ?_
      exact aw_iret h hr dX4_force_15 (by have e : forceOk nrl k = false := (by simp only [forceOk, c10, Bool.or_false, decide_eq_false_iff_not]; exact c2); rw [e]; exact ⟨rfl, rfl, rfl, rfl⟩) (Nat.zero_le _) (Nat.zero_le _)
