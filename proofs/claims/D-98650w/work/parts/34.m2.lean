/-! The reference: doors between, who is in a room, what is outside; its answers room, person, door, force -/
set_option maxRecDepth 100000
def joinB (S : Nat → Int32) (a b d : Nat) : Bool := (near S d == a && farr S d == b) || (near S d == b && farr S d == a)
/-- the door between two rooms; none -/
def betI (S : Nat → Int32) (a b : Nat) : Int32 := fI (joinB S a b) (nd S)
/-- the first open door out of a room; none -/
def foI (S : Nat → Int32) (a : Nat) : Int32 := fI (fun d => openB S d && near S d == a) (nd S)
def pinN (S : Nat → Int32) (r : Nat) : Nat := mskN (np S) (fun p => rm S p == r)
theorem met_m_doorBetween {w : Wd} {G : Gm} {I : Im} {L : Lm} (hG : GM G) {S : Nat → Int32} (hE : I 171 = S) (hS : InvS S) {a b : Nat} (ha : a < nr S) (hb : b < nr S) : AMet w yX4_doorBetween cX4_doorBetween 4 (some .int) 2 61 0 0 [.ref (w.1 + 161), .int (nI a), .int (nI b)] G I L (Exact (some (.int (betI S a b))) G I L) := by
  refine AMet.of (ls0 := [some (.ref (w.1 + 161)), some (.int (nI a)), some (.int (nI b)), none]) rfl (Nat.le_of_ble_eq_true rfl) rfl (fun q hq => hq) (fun X h hl hr hi => ?_)
  have key : ∀ (n k : Nat), k ≤ nd S → nd S < k + n → (∀ j, j < k → joinB S a b j = false) → AW X 0 0 2 [some (.ref (w.1 + 161)), some (.int (nI a)), some (.int (nI b)), some (.int (nI k))] [] G I L := by
    intro n
    induction n with
    | zero => intro k h1 h2; exact absurd h2 (by omega)
    | succ n ih =>
      intro k h1 h2 hno
      refine aw_iload3 h dX4_doorBetween_2 ?_
      refine aw_aload0 h dX4_doorBetween_3 ?_
      refine aw_getr h fl_X4_39 (gmt hG) dX4_doorBetween_4 rfl (gmp20 hG) ?_
      refine aw_iconst h _ ci_1 dX4_doorBetween_7 ?_
      refine aw_ialdV h (gms171 hG) (by decide) (by omega) dX4_doorBetween_8 (iv1e hE hS) ?_
      refine aw_icmp_geN h (tgt := 56) (by have := iv1b hS; omega) (by have := iv1b hS; omega) dX4_doorBetween_9 (by decide) (fun c9 => ?_) (fun c9 => ?_)
      · refine aw_iconst h _ ci_m1 dX4_doorBetween_56 ?_
        exact aw_iret h hr dX4_doorBetween_57 (⟨by unfold betI; rw [fI_none (fun j hj => hno j (by omega))], rfl, rfl, rfl⟩) (Nat.zero_le _) (Nat.zero_le _)
      · refine aw_aload0 h dX4_doorBetween_12 ?_
        refine aw_iload3 h dX4_doorBetween_13 ?_
        refine aw_callVE1 h hl cl_X4_301 (met_m_nearOf hG hE hS (by omega)) (gmt hG) rfl dX4_doorBetween_14 (Nat.le_of_ble_eq_true rfl) rfl (Nat.zero_le _) (Nat.zero_le _) ?_
        refine aw_iload1 h dX4_doorBetween_17 ?_
        refine aw_icmp_neN h (tgt := 30) (by have := (ivd hS (by omega : k < nd S)); have := iv0b hS; omega) (by have := iv0b hS; omega) dX4_doorBetween_18 (by decide) (fun c18 => ?_) (fun c18 => ?_)
        · refine aw_aload0 h dX4_doorBetween_30 ?_
          refine aw_iload3 h dX4_doorBetween_31 ?_
          refine aw_callVE1 h hl cl_X4_301 (met_m_nearOf hG hE hS (by omega)) (gmt hG) rfl dX4_doorBetween_32 (Nat.le_of_ble_eq_true rfl) rfl (Nat.zero_le _) (Nat.zero_le _) ?_
          refine aw_iload2 h dX4_doorBetween_35 ?_
          refine aw_icmp_neN h (tgt := 50) (by have := (ivd hS (by omega : k < nd S)); have := iv0b hS; omega) (by have := iv0b hS; omega) dX4_doorBetween_36 (by decide) (fun c36 => ?_) (fun c36 => ?_)
          · refine aw_iincN3 h rfl dX4_doorBetween_50 ?_
            refine aw_goto h (tgt := 2) dX4_doorBetween_53 (by decide) ?_
            refine ih (k + 1) (by omega) (by omega) (fun j hj => ?_)
            by_cases e : j = k
            · subst e; simp [joinB]; omega
            · exact hno j (by omega)
          · refine aw_aload0 h dX4_doorBetween_39 ?_
            refine aw_iload3 h dX4_doorBetween_40 ?_
            refine aw_callVE1 h hl cl_X4_304 (met_m_farOf hG hE hS (by omega)) (gmt hG) rfl dX4_doorBetween_41 (Nat.le_of_ble_eq_true rfl) rfl (Nat.zero_le _) (Nat.zero_le _) ?_
            refine aw_iload1 h dX4_doorBetween_44 ?_
            refine aw_icmp_neN h (tgt := 50) (by have := (ivd hS (by omega : k < nd S)); have := iv0b hS; omega) (by have := iv0b hS; omega) dX4_doorBetween_45 (by decide) (fun c45 => ?_) (fun c45 => ?_)
            · refine aw_iincN3 h rfl dX4_doorBetween_50 ?_
              refine aw_goto h (tgt := 2) dX4_doorBetween_53 (by decide) ?_
              refine ih (k + 1) (by omega) (by omega) (fun j hj => ?_)
              by_cases e : j = k
              · subst e; simp [joinB]; omega
              · exact hno j (by omega)
            · refine aw_iload3 h dX4_doorBetween_48 ?_
              exact aw_iret h hr dX4_doorBetween_49 (⟨by unfold betI; rw [fI_at hno (by omega) (by simp [joinB]; omega)], rfl, rfl, rfl⟩) (Nat.zero_le _) (Nat.zero_le _)
        · refine aw_aload0 h dX4_doorBetween_21 ?_
          refine aw_iload3 h dX4_doorBetween_22 ?_
          refine aw_callVE1 h hl cl_X4_304 (met_m_farOf hG hE hS (by omega)) (gmt hG) rfl dX4_doorBetween_23 (Nat.le_of_ble_eq_true rfl) rfl (Nat.zero_le _) (Nat.zero_le _) ?_
          refine aw_iload2 h dX4_doorBetween_26 ?_
          refine aw_icmp_eqN h (tgt := 48) (by have := (ivd hS (by omega : k < nd S)); have := iv0b hS; omega) (by have := iv0b hS; omega) dX4_doorBetween_27 (by decide) (fun c27 => ?_) (fun c27 => ?_)
          · refine aw_iload3 h dX4_doorBetween_48 ?_
            exact aw_iret h hr dX4_doorBetween_49 (⟨by unfold betI; rw [fI_at hno (by omega) (by simp [joinB]; omega)], rfl, rfl, rfl⟩) (Nat.zero_le _) (Nat.zero_le _)
          · refine aw_aload0 h dX4_doorBetween_30 ?_
            refine aw_iload3 h dX4_doorBetween_31 ?_
            refine aw_callVE1 h hl cl_X4_301 (met_m_nearOf hG hE hS (by omega)) (gmt hG) rfl dX4_doorBetween_32 (Nat.le_of_ble_eq_true rfl) rfl (Nat.zero_le _) (Nat.zero_le _) ?_
            refine aw_iload2 h dX4_doorBetween_35 ?_
            refine aw_icmp_neN h (tgt := 50) (by have := (ivd hS (by omega : k < nd S)); have := iv0b hS; omega) (by have := iv0b hS; omega) dX4_doorBetween_36 (by decide) (fun c36 => ?_) (fun c36 => ?_)
            · refine aw_iincN3 h rfl dX4_doorBetween_50 ?_
              refine aw_goto h (tgt := 2) dX4_doorBetween_53 (by decide) ?_
              refine ih (k + 1) (by omega) (by omega) (fun j hj => ?_)
              by_cases e : j = k
              · subst e; simp [joinB]; omega
              · exact hno j (by omega)
            · refine aw_aload0 h dX4_doorBetween_39 ?_
              refine aw_iload3 h dX4_doorBetween_40 ?_
              refine aw_callVE1 h hl cl_X4_304 (met_m_farOf hG hE hS (by omega)) (gmt hG) rfl dX4_doorBetween_41 (Nat.le_of_ble_eq_true rfl) rfl (Nat.zero_le _) (Nat.zero_le _) ?_
              refine aw_iload1 h dX4_doorBetween_44 ?_
              refine aw_icmp_neN h (tgt := 50) (by have := (ivd hS (by omega : k < nd S)); have := iv0b hS; omega) (by have := iv0b hS; omega) dX4_doorBetween_45 (by decide) (fun c45 => ?_) (fun c45 => ?_)
              · refine aw_iincN3 h rfl dX4_doorBetween_50 ?_
                refine aw_goto h (tgt := 2) dX4_doorBetween_53 (by decide) ?_
                refine ih (k + 1) (by omega) (by omega) (fun j hj => ?_)
                by_cases e : j = k
                · subst e; simp [joinB]; omega
                · exact hno j (by omega)
              · refine aw_iload3 h dX4_doorBetween_48 ?_
                exact aw_iret h hr dX4_doorBetween_49 (⟨by unfold betI; rw [fI_at hno (by omega) (by simp [joinB]; omega)], rfl, rfl, rfl⟩) (Nat.zero_le _) (Nat.zero_le _)
  refine aw_iconst h _ ci_0 dX4_doorBetween_0 ?_
  refine aw_istore3 h rfl dX4_doorBetween_1 ?_
  exact key (nd S + 1) 0 (Nat.zero_le _) (by omega) (fun j hj => absurd hj (by omega))
theorem met_m_firstOut {w : Wd} {G : Gm} {I : Im} {L : Lm} (hG : GM G) {S : Nat → Int32} (hE : I 171 = S) (hS : InvS S) {a : Nat} (ha : a < nr S) : AMet w yX4_firstOut cX4_firstOut 3 (some .int) 3 82 0 0 [.ref (w.1 + 161), .int (nI a)] G I L (Exact (some (.int (foI S a))) G I L) := by
  refine AMet.of (ls0 := [some (.ref (w.1 + 161)), some (.int (nI a)), none]) rfl (Nat.le_of_ble_eq_true rfl) rfl (fun q hq => hq) (fun X h hl hr hi => ?_)
  have key : ∀ (n k : Nat), k ≤ nd S → nd S < k + n → (∀ j, j < k → (openB S j && near S j == a) = false) → AW X 0 0 2 [some (.ref (w.1 + 161)), some (.int (nI a)), some (.int (nI k))] [] G I L := by
    intro n
    induction n with
    | zero => intro k h1 h2; exact absurd h2 (by omega)
    | succ n ih =>
      intro k h1 h2 hno
      refine aw_iload2 h dX4_firstOut_2 ?_
      refine aw_aload0 h dX4_firstOut_3 ?_
      refine aw_getr h fl_X4_39 (gmt hG) dX4_firstOut_4 rfl (gmp20 hG) ?_
      refine aw_iconst h _ ci_1 dX4_firstOut_7 ?_
      refine aw_ialdV h (gms171 hG) (by decide) (by omega) dX4_firstOut_8 (iv1e hE hS) ?_
      refine aw_icmp_geN h (tgt := 37) (by have := iv1b hS; omega) (by have := iv1b hS; omega) dX4_firstOut_9 (by decide) (fun c9 => ?_) (fun c9 => ?_)
      · refine aw_iconst h _ ci_m1 dX4_firstOut_37 ?_
        exact aw_iret h hr dX4_firstOut_38 (⟨by unfold foI; rw [fI_none (fun j hj => hno j (by omega))], rfl, rfl, rfl⟩) (Nat.zero_le _) (Nat.zero_le _)
      · refine aw_aload0 h dX4_firstOut_12 ?_
        refine aw_iload2 h dX4_firstOut_13 ?_
        refine aw_callVE1 h hl cl_X4_310 (met_m_isOpen hG hE hS (by omega)) (gmt hG) rfl dX4_firstOut_14 (Nat.le_of_ble_eq_true rfl) rfl (Nat.zero_le _) (Nat.zero_le _) ?_
        refine aw_if_eqB h (tgt := 31) dX4_firstOut_17 (by decide) (fun c17 => ?_) (fun c17 => ?_)
        · refine aw_iincN2 h rfl dX4_firstOut_31 ?_
          refine aw_goto h (tgt := 2) dX4_firstOut_34 (by decide) ?_
          refine ih (k + 1) (by omega) (by omega) (fun j hj => ?_)
          by_cases e : j = k
          · subst e; simp [c17]
          · exact hno j (by omega)
        · refine aw_aload0 h dX4_firstOut_20 ?_
          refine aw_iload2 h dX4_firstOut_21 ?_
          refine aw_callVE1 h hl cl_X4_301 (met_m_nearOf hG hE hS (by omega)) (gmt hG) rfl dX4_firstOut_22 (Nat.le_of_ble_eq_true rfl) rfl (Nat.zero_le _) (Nat.zero_le _) ?_
          refine aw_iload1 h dX4_firstOut_25 ?_
          refine aw_icmp_neN h (tgt := 31) (by have := (ivd hS (by omega : k < nd S)); have := iv0b hS; omega) (by have := iv0b hS; omega) dX4_firstOut_26 (by decide) (fun c26 => ?_) (fun c26 => ?_)
          · refine aw_iincN2 h rfl dX4_firstOut_31 ?_
            refine aw_goto h (tgt := 2) dX4_firstOut_34 (by decide) ?_
            refine ih (k + 1) (by omega) (by omega) (fun j hj => ?_)
            by_cases e : j = k
            · subst e; simp [c26]
            · exact hno j (by omega)
          · refine aw_iload2 h dX4_firstOut_29 ?_
            exact aw_iret h hr dX4_firstOut_30 (⟨by unfold foI; rw [fI_at hno (by omega) (by simp [c17, c26])], rfl, rfl, rfl⟩) (Nat.zero_le _) (Nat.zero_le _)
  refine aw_iconst h _ ci_0 dX4_firstOut_0 ?_
  refine aw_istore2 h rfl dX4_firstOut_1 ?_
  exact key (nd S + 1) 0 (Nat.zero_le _) (by omega) (fun j hj => absurd hj (by omega))
theorem met_m_peopleIn {w : Wd} {G : Gm} {I : Im} {L : Lm} (hG : GM G) {S : Nat → Int32} (hE : I 171 = S) (hS : InvS S) {a : Nat} (ha : a < nr S) : AMet w yX4_peopleIn cX4_peopleIn 4 (some .int) 2 62 0 0 [.ref (w.1 + 161), .int (nI a)] G I L (Exact (some (.int (nI (pinN S a)))) G I L) := by
  refine AMet.of (ls0 := [some (.ref (w.1 + 161)), some (.int (nI a)), none, none]) rfl (Nat.le_of_ble_eq_true rfl) rfl (fun q hq => hq) (fun X h hl hr hi => ?_)
  have key : ∀ (n k : Nat), k ≤ np S → np S < k + n → AW X 0 0 4 [some (.ref (w.1 + 161)), some (.int (nI a)), some (.int (nI (mskN k (fun p => rm S p == a)))), some (.int (nI k))] [] G I L := by
    intro n
    induction n with
    | zero => intro k h1 h2; exact absurd h2 (by omega)
    | succ n ih =>
      intro k h1 h2
      refine aw_iload3 h dX4_peopleIn_4 ?_
      refine aw_aload0 h dX4_peopleIn_5 ?_
      refine aw_getr h fl_X4_39 (gmt hG) dX4_peopleIn_6 rfl (gmp20 hG) ?_
      refine aw_iconst h _ ci_2 dX4_peopleIn_9 ?_
      refine aw_ialdV h (gms171 hG) (by decide) (by omega) dX4_peopleIn_10 (iv2e hE hS) ?_
      refine aw_icmp_geN h (tgt := 40) (by have := iv2b hS; omega) (by have := iv2b hS; omega) dX4_peopleIn_11 (by decide) (fun c11 => ?_) (fun c11 => ?_)
      · refine aw_iload2 h dX4_peopleIn_40 ?_
        exact aw_iret h hr dX4_peopleIn_41 (⟨by rw [show k = np S by omega]; rfl, rfl, rfl, rfl⟩) (Nat.zero_le _) (Nat.zero_le _)
      · refine aw_iload2 h dX4_peopleIn_14 ?_
        refine aw_aload0 h dX4_peopleIn_15 ?_
        refine aw_iload3 h dX4_peopleIn_16 ?_
        refine aw_iconst h _ ci_0 dX4_peopleIn_17 ?_
        refine aw_callVE2 h hl cl_X4_279 (met_m_personOf hG hE (by have := iv2b hS; omega)) (gmt hG) rfl dX4_peopleIn_18 (Nat.le_of_ble_eq_true rfl) rfl (Nat.zero_le _) (Nat.zero_le _) ?_
        rw [(ivp hS (by omega : k < np S)).1]
        refine aw_iload1 h dX4_peopleIn_21 ?_
        refine aw_icmp_neN h (tgt := 31) (by have := (ivp hS (by omega : k < np S)); have := iv0b hS; omega) (by have := iv0b hS; omega) dX4_peopleIn_22 (by decide) (fun c22 => ?_) (fun c22 => ?_)
        · refine aw_iconst h _ ci_0 dX4_peopleIn_31 ?_
          refine aw_ior h dX4_peopleIn_32 ?_
          refine aw_istore2 h rfl dX4_peopleIn_33 ?_
          refine aw_iincN3 h rfl dX4_peopleIn_34 ?_
          refine aw_goto h (tgt := 4) dX4_peopleIn_37 (by decide) ?_
          rw [bs_or, Nat.or_zero]
          have e : mskN (k + 1) (fun p => rm S p == a) = mskN k (fun p => rm S p == a) := by simp [mskN, c22]
          rw [← e]
          exact ih (k + 1) (by omega) (by omega)
        · refine aw_iconst h _ ci_1 dX4_peopleIn_25 ?_
          refine aw_iload3 h dX4_peopleIn_26 ?_
          refine aw_ishl h dX4_peopleIn_27 ?_
          refine aw_goto h (tgt := 32) dX4_peopleIn_28 (by decide) ?_
          refine aw_ior h dX4_peopleIn_32 ?_
          refine aw_istore2 h rfl dX4_peopleIn_33 ?_
          refine aw_iincN3 h rfl dX4_peopleIn_34 ?_
          refine aw_goto h (tgt := 4) dX4_peopleIn_37 (by decide) ?_
          have hk4 := iv2b hS
          rw [bs_shl1 (by omega), bs_or, msk_or (msk_lt _ _)]
          have e : mskN (k + 1) (fun p => rm S p == a) = mskN k (fun p => rm S p == a) + 2 ^ k := by simp [mskN, c22]
          rw [← e]
          exact ih (k + 1) (by omega) (by omega)
  refine aw_iconst h _ ci_0 dX4_peopleIn_0 ?_
  refine aw_istore2 h rfl dX4_peopleIn_1 ?_
  refine aw_iconst h _ ci_0 dX4_peopleIn_2 ?_
  refine aw_istore3 h rfl dX4_peopleIn_3 ?_
  exact key (np S + 1) 0 (Nat.zero_le _) (by omega)
theorem met_m_outsideOf {w : Wd} {G : Gm} {I : Im} {L : Lm} (hG : GM G) {S : Nat → Int32} (hE : I 171 = S) (hS : InvS S) {a : Nat} (ha : a < nr S) : AMet w yX4_outsideOf cX4_outsideOf 5 (some .int) 3 82 0 0 [.ref (w.1 + 161), .int (nI a)] G I L (Exact (some (.int (nI (outV S a - (outV S a &&& 2 ^ a))))) G I L) := by
  refine AMet.of (ls0 := [some (.ref (w.1 + 161)), some (.int (nI a)), none, none, none]) rfl (Nat.le_of_ble_eq_true rfl) rfl (fun q hq => hq) (fun X h hl hr hi => ?_)
  have keyO : ∀ (n i : Nat) (m0 : Nat) (o4 : Option Value), i ≤ 8 → 8 < i + n → OW S a m0 → (closedS S m0 (nd S) ∨ i + 1 ≤ cntS m0) → AW X 0 0 6 [some (.ref (w.1 + 161)), some (.int (nI a)), some (.int (nI m0)), some (.int (nI i)), o4] [] G I L := by
    intro n
    induction n with
    | zero => intro i m0 o4 h1 h2; exact absurd h2 (by omega)
    | succ n ih =>
      intro i m0 o4 h1 h2 hO0 hC
      have kx : i < 8 → ∀ m, OW S a m → OP S m0 m (nd S) → AW X 0 0 65 [some (.ref (w.1 + 161)), some (.int (nI a)), some (.int (nI m)), some (.int (nI i)), some (.int (nI (nd S)))] [] G I L := by
        intro hi8 m hO hP
        refine aw_iincN3 h rfl dX4_outsideOf_65 ?_
        refine aw_goto h (tgt := 6) dX4_outsideOf_68 (by decide) ?_
        refine ih (i + 1) m _ (by omega) (by omega) hO ?_
        rcases hP with ⟨rfl, hc⟩ | ⟨h3, h4⟩
        · exact Or.inl hc
        · rcases hC with hC | hC
          · exact absurd hC h4
          · exact Or.inr (by omega)
      have key : ∀ (n k : Nat) (m : Nat), k ≤ nd S → nd S < k + n → OW S a m → OP S m0 m k → (i < 8 → AW X 0 0 15 [some (.ref (w.1 + 161)), some (.int (nI a)), some (.int (nI m)), some (.int (nI i)), some (.int (nI k))] [] G I L) := by
        intro n
        induction n with
        | zero => intro k m h1 h2; exact absurd h2 (by omega)
        | succ n ih2 =>
          intro k m h1 h2 hO hP hi8
          refine aw_iload4 h dX4_outsideOf_15 ?_
          refine aw_aload0 h dX4_outsideOf_17 ?_
          refine aw_getr h fl_X4_39 (gmt hG) dX4_outsideOf_18 rfl (gmp20 hG) ?_
          refine aw_iconst h _ ci_1 dX4_outsideOf_21 ?_
          refine aw_ialdV h (gms171 hG) (by decide) (by omega) dX4_outsideOf_22 (iv1e hE hS) ?_
          refine aw_icmp_geN h (tgt := 65) (by have := iv1b hS; omega) (by have := iv1b hS; omega) dX4_outsideOf_23 (by decide) (fun c23 => ?_) (fun c23 => ?_)
          · have hP2 := hP
            rw [show k = nd S by omega] at hP2 ⊢
            exact kx hi8 m hO hP2
          · refine aw_aload0 h dX4_outsideOf_26 ?_
            refine aw_iload4 h dX4_outsideOf_27 ?_
            refine aw_callVE1 h hl cl_X4_310 (met_m_isOpen hG hE hS (by omega)) (gmt hG) rfl dX4_outsideOf_29 (Nat.le_of_ble_eq_true rfl) rfl (Nat.zero_le _) (Nat.zero_le _) ?_
            refine aw_if_eqB h (tgt := 59) dX4_outsideOf_32 (by decide) (fun c32 => ?_) (fun c32 => ?_)
            · refine aw_iincN4 h rfl dX4_outsideOf_59 ?_
              refine aw_goto h (tgt := 15) dX4_outsideOf_62 (by decide) ?_
              exact ih2 (k + 1) m (by omega) (by omega) hO (hP.skip (fun q _ => by rw [c32] at q; cases q)) hi8
            · refine aw_iload2 h dX4_outsideOf_35 ?_
              refine aw_aload0 h dX4_outsideOf_36 ?_
              refine aw_iload4 h dX4_outsideOf_37 ?_
              refine aw_callVE1 h hl cl_X4_301 (met_m_nearOf hG hE hS (by omega)) (gmt hG) rfl dX4_outsideOf_39 (Nat.le_of_ble_eq_true rfl) rfl (Nat.zero_le _) (Nat.zero_le _) ?_
              refine aw_callSE2 h hl cl_X4_322 (met_m_isOf) dX4_outsideOf_42 (Nat.le_of_ble_eq_true rfl) rfl (Nat.zero_le _) (Nat.zero_le _) ?_
              rw [bs_has (by have := hO.2.1; omega) (by have := (ivd hS (by omega : k < nd S)).2.1; have := iv0b hS; omega)]
              refine aw_if_eqB h (tgt := 59) dX4_outsideOf_45 (by decide) (fun c45 => ?_) (fun c45 => ?_)
              · refine aw_iincN4 h rfl dX4_outsideOf_59 ?_
                refine aw_goto h (tgt := 15) dX4_outsideOf_62 (by decide) ?_
                exact ih2 (k + 1) m (by omega) (by omega) hO (hP.skip (fun _ q => by rw [c45] at q; cases q)) hi8
              · refine aw_iload2 h dX4_outsideOf_48 ?_
                refine aw_iconst h _ ci_1 dX4_outsideOf_49 ?_
                refine aw_aload0 h dX4_outsideOf_50 ?_
                refine aw_iload4 h dX4_outsideOf_51 ?_
                refine aw_callVE1 h hl cl_X4_304 (met_m_farOf hG hE hS (by omega)) (gmt hG) rfl dX4_outsideOf_53 (Nat.le_of_ble_eq_true rfl) rfl (Nat.zero_le _) (Nat.zero_le _) ?_
                refine aw_ishl h dX4_outsideOf_56 ?_
                refine aw_ior h dX4_outsideOf_57 ?_
                rw [bs_shl1 (by have := (ivd hS (by omega : k < nd S)).2.2.2; have := iv0b hS; omega), bs_or]
                refine aw_istore2 h rfl dX4_outsideOf_58 ?_
                refine aw_iincN4 h rfl dX4_outsideOf_59 ?_
                refine aw_goto h (tgt := 15) dX4_outsideOf_62 (by decide) ?_
                exact ih2 (k + 1) _ (by omega) (by omega) (hO.or hS (by omega) c32 c45) (hP.step hS (by omega) c32 c45) hi8
      refine aw_iload3 h dX4_outsideOf_6 ?_
      refine aw_bipush h _ cb_8 dX4_outsideOf_7 ?_
      refine aw_icmp_geN h (tgt := 71) (by omega) (by omega) dX4_outsideOf_9 (by decide) (fun c9 => ?_) (fun c9 => ?_)
      · refine aw_iload2 h dX4_outsideOf_71 ?_
        refine aw_iconst h _ ci_1 dX4_outsideOf_72 ?_
        refine aw_iload1 h dX4_outsideOf_73 ?_
        refine aw_ishl h dX4_outsideOf_74 ?_
        rw [bs_shl1 (by have := iv0b hS; omega)]
        refine aw_iconst h _ ci_m1 dX4_outsideOf_75 ?_
        refine aw_ixor h dX4_outsideOf_76 ?_
        refine aw_iand h dX4_outsideOf_77 ?_
        rw [bs_not _ _ (by have := hO0.2.1; omega)]
        exact aw_iret h hr dX4_outsideOf_78 (⟨by rw [← OutSet.eq ⟨hO0, hC.resolve_right (by have := cnt_le m0; omega)⟩], rfl, rfl, rfl⟩) (Nat.zero_le _) (Nat.zero_le _)
      · refine aw_iconst h _ ci_0 dX4_outsideOf_12 ?_
        refine aw_istore4 h rfl dX4_outsideOf_13 ?_
        exact key (nd S + 1) 0 m0 (Nat.zero_le _) (by omega) hO0 (Or.inl ⟨rfl, fun d hd => absurd hd (by omega)⟩) (by omega)
  refine aw_iconst h _ ci_1 dX4_outsideOf_0 ?_
  refine aw_iload1 h dX4_outsideOf_1 ?_
  refine aw_ishl h dX4_outsideOf_2 ?_
  rw [bs_shl1 (by have := iv0b hS; omega)]
  refine aw_istore2 h rfl dX4_outsideOf_3 ?_
  refine aw_iconst h _ ci_0 dX4_outsideOf_4 ?_
  refine aw_istore3 h rfl dX4_outsideOf_5 ?_
  refine keyO 9 0 (2 ^ a) none (by omega) (by omega) ⟨by rw [Nat.testBit_two_pow]; simp, Nat.pow_lt_pow_right (by decide) (by have := iv0b hS; omega), fun r hr => ?_⟩ (Or.inr ?_)
  · rw [Nat.testBit_two_pow] at hr
    have e : a = r := by simpa using hr
    subst e; exact ⟨ha, 0, rfl⟩
  · have := cnt_or (m := 0) (r := a) (by have := iv0b hS; omega) (by simp)
    rw [Nat.zero_or] at this
    omega
