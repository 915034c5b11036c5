/-! The reference's answers moment, aim, send, undo, ahead, comes -/
set_option maxRecDepth 100000
/-- an act's end: the vector and what was are these, all else that matters is as it was -/
def MO (S : Nat → Int32) (hist : List (Nat → Int32)) (G : Gm) (I : Im) (L : Lm) : Gm → Im → Lm → Prop := fun G1 I1 L1 => G = G1 ∧ I1 171 = S ∧ HistAt I1 hist ∧ MC [171, 175] [27] I L I1 L1
theorem mc_pp {S : Nat → Int32} {fr : Option (List Cl)} {G G1 : Gm} {I I1 : Im} {L L1 : Lm} (h : PP S fr G I L G1 I1 L1) : MC [171] [] I L I1 L1 := by
  obtain ⟨-, -, a, b, c⟩ := h
  refine ⟨fun n h1 h2 => ?_, fun j h1 _ => b j (fun e => by subst e; exact absurd h1 (by decide)), fun n hn => c n (fun e => hn (by simp [e])) (fun e => hn (by simp [e]))⟩
  simp only [scrL, List.mem_cons, List.not_mem_nil, or_false, not_or] at h1 h2
  exact a n h1.1 h2 h1.2.2.2.2.1 h1.2.2.2.2.2.1 h1.2.2.2.2.2.2.1
theorem MC.back {I I1 : Im} {L L1 : Lm} {S : Nat → Int32} (h : MC [171] [] I L I1 L1) (hE : I 171 = S) : MC [] [] I L (va_up I1 171 S) L1 := by
  refine ⟨fun n h1 _ => ?_, fun j h1 h2 => h.2.1 j h1 h2, h.2.2⟩
  by_cases e : n = 171
  · subst e; rw [vup_s, hE]
  · rw [vup_n _ _ e]; exact h.1 n h1 (by simpa using e)
def momB (S : Nat → Int32) : Bool := decide (0 < nr S) && !decide (S 3 = nI 999)
def aimB (S : Nat → Int32) (p r : Int32) : Bool := (decide (0 ≤ p) && decide (p < nI (np S))) && ((decide (0 ≤ r) && decide (r < nI (nr S))) && !decide (pv S p.toNatClampNeg 1 = r))
def aimS (S : Nat → Int32) (p r : Int32) : Nat → Int32 := va_up S (10 + 6 * p.toNatClampNeg + 1) r
def aheadA (S : Nat → Int32) (fr : Option (List Cl)) (p n : Int32) : Int32 := if (decide (0 ≤ p) && decide (p < nI (np S))) = true then (if inI n 0 100 = true then pv (itP fr n.toNatClampNeg S) p.toNatClampNeg 0 else -1) else -1
def comeK (S : Nat → Int32) (fr : Option (List Cl)) (p : Nat) : Nat := firstT (fun k => decide (pv (itP fr k S) p 0 = pv (itP fr k S) p 1)) 201
def comesA (S : Nat → Int32) (fr : Option (List Cl)) (p : Int32) : Int32 := if (decide (0 ≤ p) && decide (p < nI (np S))) = true then (if comeK S fr p.toNatClampNeg < 201 then itP fr (comeK S fr p.toNatClampNeg) S 3 else -2) else -1
theorem HistAt.up {I : Im} {hist : List (Nat → Int32)} {n : Nat} (f : Nat → Int32) (h1 : n ≠ 161) (h2 : n ≠ 175) (h : HistAt I hist) : HistAt (va_up I n f) hist := ⟨by rw [vup_n _ _ (Ne.symm h1)]; exact h.1, h.2.1, by rw [vup_n _ _ (Ne.symm h2)]; exact h.2.2⟩
theorem met_m_moment {w : Wd} {G : Gm} {I : Im} {L : Lm} (hG : GM G) {S : Nat → Int32} (hE : I 171 = S) (hS : InvS S) {fr : Option (List Cl)} (hF : FR I fr) {hist : List (Nat → Int32)} (hH : HistAt I hist) : AMet w yX4_moment cX4_moment 1 (some .int) 11 270 0 0 [.ref (w.1 + 161)] G I L (Ans (some (.int (if momB S = true then nI (passN S fr) else -1))) (MO (if momB S = true then passS S fr else S) (if momB S = true then keepH hist S else hist) G I L)) := by
  refine AMet.of (ls0 := [some (.ref (w.1 + 161))]) rfl (Nat.le_of_ble_eq_true rfl) rfl (fun q hq => hq) (fun X h hl hr hi => ?_)
  refine aw_aload0 h dX4_moment_0 ?_
  refine aw_callVE0 h hl cl_X4_389 (met_m_isCastle hG hE hS) (gmt hG) rfl dX4_moment_1 (Nat.le_of_ble_eq_true rfl) rfl (Nat.zero_le _) (Nat.zero_le _) ?_
  refine aw_if_eqB h (tgt := 19) dX4_moment_4 (by decide) (fun c4 => ?_) (fun c4 => ?_)
  · refine aw_iconst h _ ci_m1 dX4_moment_19 ?_
    exact aw_iret h hr dX4_moment_20 (⟨by rw [show momB S = false from (by unfold momB; rw [c4]; rfl)]; rfl, rfl, by rw [show momB S = false from (by unfold momB; rw [c4]; rfl)]; exact hE, by rw [show momB S = false from (by unfold momB; rw [c4]; rfl)]; exact hH, MC.rf⟩) (Nat.zero_le _) (Nat.zero_le _)
  · refine aw_aload0 h dX4_moment_7 ?_
    refine aw_getr h fl_X4_39 (gmt hG) dX4_moment_8 rfl (gmp20 hG) ?_
    refine aw_iconst h _ ci_3 dX4_moment_11 ?_
    refine aw_ialdV h (gms171 hG) (by decide) (by omega) dX4_moment_12 (congrFun hE 3) ?_
    refine aw_sipush h _ cs_999 dX4_moment_13 ?_
    refine aw_icmp_ne h (tgt := 21) dX4_moment_16 (by decide) (fun c16 => ?_) (fun c16 => ?_)
    · refine aw_aload0 h dX4_moment_21 ?_
      refine aw_callVN0 h hl cl_X4_392 (met_m_keepsAct hG hE hH) (gmt hG) rfl dX4_moment_22 (Nat.le_of_ble_eq_true rfl) rfl (Nat.zero_le _) (Nat.zero_le _) (fun G1 I1 L1 hp => ?_)
      obtain ⟨rfl, rfl, hH2, hM2⟩ := hp
      refine aw_aload0 h dX4_moment_25 ?_
      refine aw_callVA0 h hl cl_X4_395 (met_m_passes hG ((hM2.1 171 (by decide) (by decide)).trans hE) hS (FR.mc hM2 (by decide) (by decide) (by decide) (by decide) hF)) (gmt hG) rfl dX4_moment_26 (Nat.le_of_ble_eq_true rfl) rfl (Nat.zero_le _) (Nat.zero_le _) (fun G1 I1 L1 hp3 => ?_)
      obtain rfl := hp3.1
      exact aw_iret h hr dX4_moment_29 (⟨by rw [show momB S = true from (by unfold momB; rw [decide_eq_false c16, c4]; rfl)]; rfl, rfl, by rw [show momB S = true from (by unfold momB; rw [decide_eq_false c16, c4]; rfl)]; exact hp3.2.1, by rw [show momB S = true from (by unfold momB; rw [decide_eq_false c16, c4]; rfl)]; exact hH2.mc (mc_pp hp3) (by decide) (by decide), (hM2.mono (by decide) (by decide)).trans ((mc_pp hp3).mono (by decide) (by decide))⟩) (Nat.zero_le _) (Nat.zero_le _)
    · refine aw_iconst h _ ci_m1 dX4_moment_19 ?_
      exact aw_iret h hr dX4_moment_20 (⟨by rw [show momB S = false from (by unfold momB; rw [decide_eq_true c16, c4]; rfl)]; rfl, rfl, by rw [show momB S = false from (by unfold momB; rw [decide_eq_true c16, c4]; rfl)]; exact hE, by rw [show momB S = false from (by unfold momB; rw [decide_eq_true c16, c4]; rfl)]; exact hH, MC.rf⟩) (Nat.zero_le _) (Nat.zero_le _)
theorem met_m_ahead {w : Wd} {G : Gm} {I : Im} {L : Lm} (hG : GM G) {S : Nat → Int32} (hE : I 171 = S) (hS : InvS S) {fr : Option (List Cl)} (hF : FR I fr) {p n : Int32} : AMet w yX4_ahead cX4_ahead 4 (some .int) 11 270 0 0 [.ref (w.1 + 161), .int p, .int n] G I L (Ans (some (.int (aheadA S fr p n))) (PQ G I L)) := by
  refine AMet.of (ls0 := [some (.ref (w.1 + 161)), some (.int p), some (.int n), none]) rfl (Nat.le_of_ble_eq_true rfl) rfl (fun q hq => hq) (fun X h hl hr hi => ?_)
  refine aw_aload0 h dX4_ahead_0 ?_
  refine aw_iload1 h dX4_ahead_1 ?_
  refine aw_callVE1 h hl cl_X4_328 (met_m_isPerson hG hE hS) (gmt hG) rfl dX4_ahead_2 (Nat.le_of_ble_eq_true rfl) rfl (Nat.zero_le _) (Nat.zero_le _) ?_
  refine aw_if_eqB h (tgt := 20) dX4_ahead_5 (by decide) (fun c5 => ?_) (fun c5 => ?_)
  · refine aw_iconst h _ ci_m1 dX4_ahead_20 ?_
    exact aw_iret h hr dX4_ahead_21 (⟨by rw [show aheadA S fr p n = -1 from ifno1 c5], rfl, MC.rf⟩) (Nat.zero_le _) (Nat.zero_le _)
  · refine aw_iload2 h dX4_ahead_8 ?_
    refine aw_i2l h dX4_ahead_9 ?_
    refine aw_lconst h _ cl_0 dX4_ahead_10 ?_
    refine aw_ldc2 h (v := lN 100) q1838 dX4_ahead_11 ?_
    refine aw_callSE3 h hl cl_X4_128 (met_m_in) dX4_ahead_14 (Nat.le_of_ble_eq_true rfl) rfl (Nat.zero_le _) (Nat.zero_le _) ?_
    rw [inL_I (by decide) (by decide)]
    refine aw_if_neB h (tgt := 22) dX4_ahead_17 (by decide) (fun c17 => ?_) (fun c17 => ?_)
    · obtain ⟨a, ha, rfl⟩ := of_rng c5 (by have := iv2b hS; omega)
      obtain ⟨j, -, hj, rfl⟩ := inI_of c17 (by decide) (by decide)
      have hans : aheadA S fr (nI a) (nI j) = pv (itP fr j S) a 0 := ifif c5 c17 (by rw [nI_clamp (n := a) (by have := iv2b hS; omega), nI_clamp (n := j) (by omega)])
      refine aw_aload0 h dX4_ahead_22 ?_
      refine aw_callVN0 h hl cl_X4_400 (met_m_keeps hG hE) (gmt hG) rfl dX4_ahead_23 (Nat.le_of_ble_eq_true rfl) rfl (Nat.zero_le _) (Nat.zero_le _) (fun G1 I1 L1 hp => ?_)
      obtain ⟨rfl, rfl, fk, rfl, hfk⟩ := hp
      have hM0 : MC [171] [] I L (va_up I 176 fk) L := MC.up fk (by decide) (Or.inl (by decide))
      have key : ∀ (n k : Nat) (I1 : Im) (L1 : Lm), k ≤ j → j < k + n → I1 171 = itP fr k S → I1 176 = fk → MC [171] [] I L I1 L1 → AW X 0 0 28 [some (.ref (w.1 + 161)), some (.int (nI a)), some (.int (nI j)), some (.int (nI (k)))] [] G I1 L1 := by
        intro n
        induction n with
        | zero => intro k I1 L1 h1 h2; exact absurd h2 (by omega)
        | succ n ih =>
          intro k I1 L1 h1 h2 hI1 hk6 hM
          refine aw_iload3 h dX4_ahead_28 ?_
          refine aw_iload2 h dX4_ahead_29 ?_
          refine aw_icmp_geN h (tgt := 44) (by omega) (by omega) dX4_ahead_30 (by decide) (fun c30 => ?_) (fun c30 => ?_)
          · rw [show k = j by omega] at hI1
            refine aw_aload0 h dX4_ahead_44 ?_
            refine aw_iload1 h dX4_ahead_45 ?_
            refine aw_iconst h _ ci_0 dX4_ahead_46 ?_
            refine aw_callVE2 h hl cl_X4_279 (met_m_personOf hG hI1 (by have := iv2b hS; omega)) (gmt hG) rfl dX4_ahead_47 (Nat.le_of_ble_eq_true rfl) rfl (Nat.zero_le _) (Nat.zero_le _) ?_
            refine aw_istore3 h rfl dX4_ahead_50 ?_
            refine aw_aload0 h dX4_ahead_51 ?_
            refine aw_callVN0 h hl cl_X4_403 (met_m_laysBack (u := S) hG hI1 (fun i hi => (congrFun hk6 i).trans (hfk i hi))) (gmt hG) rfl dX4_ahead_52 (Nat.le_of_ble_eq_true rfl) rfl (Nat.zero_le _) (Nat.zero_le _) (fun G1 I1 L1 hp => ?_)
            obtain ⟨rfl, rfl, rfl⟩ := hp
            rw [over_it]
            refine aw_iload3 h dX4_ahead_55 ?_
            exact aw_iret h hr dX4_ahead_56 (⟨by rw [hans], rfl, hM.back hE⟩) (Nat.zero_le _) (Nat.zero_le _)
          · refine aw_aload0 h dX4_ahead_33 ?_
            refine aw_callVA0 h hl cl_X4_395 (met_m_passes hG hI1 (hS.it fr k) (FR.mc hM (by decide) (by decide) (by decide) (by decide) hF)) (gmt hG) rfl dX4_ahead_34 (Nat.le_of_ble_eq_true rfl) rfl (Nat.zero_le _) (Nat.zero_le _) (fun G1 I2 L2 hp3 => ?_)
            obtain rfl := hp3.1
            refine aw_pop h rfl dX4_ahead_37 ?_
            refine aw_iincN3 h rfl dX4_ahead_38 ?_
            refine aw_goto h (tgt := 28) dX4_ahead_41 (by decide) ?_
            exact ih (k + 1) I2 L2 (by omega) (by omega) hp3.2.1 ((hp3.2.2.1 176 (by decide) (by decide) (by decide) (by decide) (by decide)).trans hk6) (hM.trans (mc_pp hp3))
      refine aw_iconst h _ ci_0 dX4_ahead_26 ?_
      refine aw_istore3 h rfl dX4_ahead_27 ?_
      exact key (j + 1) 0 _ _ (Nat.zero_le _) (by omega) hE (vup_s _ _ _) hM0
    · refine aw_iconst h _ ci_m1 dX4_ahead_20 ?_
      exact aw_iret h hr dX4_ahead_21 (⟨by rw [show aheadA S fr p n = -1 from ifno2 c17], rfl, MC.rf⟩) (Nat.zero_le _) (Nat.zero_le _)
theorem met_m_comes {w : Wd} {G : Gm} {I : Im} {L : Lm} (hG : GM G) {S : Nat → Int32} (hE : I 171 = S) (hS : InvS S) {fr : Option (List Cl)} (hF : FR I fr) (hmo : ∀ k, 0 ≤ itP fr k S 3) {p : Int32} : AMet w yX4_comes cX4_comes 4 (some .int) 11 270 0 0 [.ref (w.1 + 161), .int p] G I L (Ans (some (.int (comesA S fr p))) (PQ G I L)) := by
  refine AMet.of (ls0 := [some (.ref (w.1 + 161)), some (.int p), none, none]) rfl (Nat.le_of_ble_eq_true rfl) rfl (fun q hq => hq) (fun X h hl hr hi => ?_)
  refine aw_aload0 h dX4_comes_0 ?_
  refine aw_iload1 h dX4_comes_1 ?_
  refine aw_callVE1 h hl cl_X4_328 (met_m_isPerson hG hE hS) (gmt hG) rfl dX4_comes_2 (Nat.le_of_ble_eq_true rfl) rfl (Nat.zero_le _) (Nat.zero_le _) ?_
  refine aw_if_neB h (tgt := 10) dX4_comes_5 (by decide) (fun c5 => ?_) (fun c5 => ?_)
  · obtain ⟨a, ha, rfl⟩ := of_rng c5 (by have := iv2b hS; omega)
    have hca : (nI a).toNatClampNeg = a := nI_clamp (by have := iv2b hS; omega)
    have hge : ∀ k, 0 ≤ itP fr k S 3 := hmo
    have hfound : ∀ k, k < 201 → (∀ j, j < k → decide (pv (itP fr j S) a 0 = pv (itP fr j S) a 1) = false) → decide (pv (itP fr k S) a 0 = pv (itP fr k S) a 1) = true → itP fr k S 3 = comesA S fr (nI a) := by
      intro k hk h1 h2
      have h3 := fI_at (p := fun k => decide (pv (itP fr k S) a 0 = pv (itP fr k S) a 1)) h1 hk h2
      have h4 := firstT_of (p := fun k => decide (pv (itP fr k S) a 0 = pv (itP fr k S) a 1)) hk h2
      unfold comesA
      rw [if_pos c5, hca]
      have h5 : comeK S fr a = k := by
        unfold comeK
        unfold fI at h3
        rw [if_pos (by omega)] at h3
        exact (nI_eq (by omega) (by omega)).mp h3
      rw [h5, if_pos hk]
    have hnone : (∀ j, j < 201 → decide (pv (itP fr j S) a 0 = pv (itP fr j S) a 1) = false) → (-2 : Int32) = comesA S fr (nI a) := by
      intro h1
      unfold comesA
      rw [if_pos c5, hca, if_neg]
      intro h2
      have h3 := (firstT_spec (fun k => decide (pv (itP fr k S) a 0 = pv (itP fr k S) a 1)) 201).1 h2
      have h9 := h1 _ h2
      unfold comeK at h9
      rw [h9] at h3
      cases h3
    refine aw_bipush h _ cb_m2 dX4_comes_10 ?_
    refine aw_istore2 h rfl dX4_comes_12 ?_
    refine aw_aload0 h dX4_comes_13 ?_
    refine aw_callVN0 h hl cl_X4_400 (met_m_keeps hG hE) (gmt hG) rfl dX4_comes_14 (Nat.le_of_ble_eq_true rfl) rfl (Nat.zero_le _) (Nat.zero_le _) (fun G1 I1 L1 hp => ?_)
    obtain ⟨rfl, rfl, fk, rfl, hfk⟩ := hp
    have hM0 : MC [171] [] I L (va_up I 176 fk) L := MC.up fk (by decide) (Or.inl (by decide))
    have keyX : ∀ (v : Int32) (kk : Nat) (I1 : Im) (L1 : Lm) (x3 : Int32), I1 171 = itP fr kk S → I1 176 = fk → MC [171] [] I L I1 L1 → v = comesA S fr (nI a) → AW X 0 0 63 [some (.ref (w.1 + 161)), some (.int (nI a)), some (.int v), some (.int x3)] [] G I1 L1 := by
      intro v kk I1 L1 x3 hI1 hk6 hM hv
      refine aw_aload0 h dX4_comes_63 ?_
      refine aw_callVN0 h hl cl_X4_403 (met_m_laysBack (u := S) hG hI1 (fun i hi => (congrFun hk6 i).trans (hfk i hi))) (gmt hG) rfl dX4_comes_64 (Nat.le_of_ble_eq_true rfl) rfl (Nat.zero_le _) (Nat.zero_le _) (fun G1 I1 L1 hp => ?_)
      obtain ⟨rfl, rfl, rfl⟩ := hp
      rw [over_it]
      refine aw_iload2 h dX4_comes_67 ?_
      exact aw_iret h hr dX4_comes_68 (⟨by rw [hv], rfl, hM.back hE⟩) (Nat.zero_le _) (Nat.zero_le _)
    have key : ∀ (n k : Nat) (I1 : Im) (L1 : Lm), k ≤ 201 → 201 < k + n → I1 171 = itP fr k S → I1 176 = fk → MC [171] [] I L I1 L1 → (∀ j, j < k → decide (pv (itP fr j S) a 0 = pv (itP fr j S) a 1) = false) → AW X 0 0 19 [some (.ref (w.1 + 161)), some (.int (nI a)), some (.int (-2)), some (.int (nI (k)))] [] G I1 L1 := by
      intro n
      induction n with
      | zero => intro k I1 L1 h1 h2; exact absurd h2 (by omega)
      | succ n ih =>
        intro k I1 L1 h1 h2 hI1 hk6 hM hno
        refine aw_iload3 h dX4_comes_19 ?_
        refine aw_sipush h _ cs_200 dX4_comes_20 ?_
        refine aw_icmp_gtN h (tgt := 63) (by omega) (by omega) dX4_comes_23 (by decide) (fun c23 => ?_) (fun c23 => ?_)
        · exact keyX _ k I1 L1 _ hI1 hk6 hM (hnone (fun j hj => hno j (by omega)))
        · refine aw_iload2 h dX4_comes_26 ?_
          refine aw_if_ge h (tgt := 63) dX4_comes_27 (by decide) (fun c27 => ?_) (fun c27 => ?_)
          · exact absurd c27 (by decide)
          · refine aw_aload0 h dX4_comes_30 ?_
            refine aw_iload1 h dX4_comes_31 ?_
            refine aw_iconst h _ ci_0 dX4_comes_32 ?_
            refine aw_callVE2 h hl cl_X4_279 (met_m_personOf hG hI1 (by have := iv2b hS; omega)) (gmt hG) rfl dX4_comes_33 (Nat.le_of_ble_eq_true rfl) rfl (Nat.zero_le _) (Nat.zero_le _) ?_
            refine aw_aload0 h dX4_comes_36 ?_
            refine aw_iload1 h dX4_comes_37 ?_
            refine aw_iconst h _ ci_1 dX4_comes_38 ?_
            refine aw_callVE2 h hl cl_X4_279 (met_m_personOf hG hI1 (by have := iv2b hS; omega)) (gmt hG) rfl dX4_comes_39 (Nat.le_of_ble_eq_true rfl) rfl (Nat.zero_le _) (Nat.zero_le _) ?_
            refine aw_icmp_ne h (tgt := 52) dX4_comes_42 (by decide) (fun c42 => ?_) (fun c42 => ?_)
            · refine aw_aload0 h dX4_comes_52 ?_
              refine aw_callVA0 h hl cl_X4_395 (met_m_passes hG hI1 (hS.it fr k) (FR.mc hM (by decide) (by decide) (by decide) (by decide) hF)) (gmt hG) rfl dX4_comes_53 (Nat.le_of_ble_eq_true rfl) rfl (Nat.zero_le _) (Nat.zero_le _) (fun G1 I2 L2 hp3 => ?_)
              obtain rfl := hp3.1
              refine aw_pop h rfl dX4_comes_56 ?_
              refine aw_iincN3 h rfl dX4_comes_57 ?_
              refine aw_goto h (tgt := 19) dX4_comes_60 (by decide) ?_
              refine ih (k + 1) I2 L2 (by omega) (by omega) hp3.2.1 ((hp3.2.2.1 176 (by decide) (by decide) (by decide) (by decide) (by decide)).trans hk6) (hM.trans (mc_pp hp3)) (fun j hj => ?_)
              by_cases e : j = k
              · subst e; exact decide_eq_false c42
              · exact hno j (by omega)
            · refine aw_aload0 h dX4_comes_45 ?_
              refine aw_getr h fl_X4_39 (gmt hG) dX4_comes_46 rfl (gmp20 hG) ?_
              refine aw_iconst h _ ci_3 dX4_comes_49 ?_
              refine aw_ialdV h (gms171 hG) (by decide) (by omega) dX4_comes_50 (congrFun hI1 3) ?_
              refine aw_istore2 h rfl dX4_comes_51 ?_
              refine aw_aload0 h dX4_comes_52 ?_
              refine aw_callVA0 h hl cl_X4_395 (met_m_passes hG hI1 (hS.it fr k) (FR.mc hM (by decide) (by decide) (by decide) (by decide) hF)) (gmt hG) rfl dX4_comes_53 (Nat.le_of_ble_eq_true rfl) rfl (Nat.zero_le _) (Nat.zero_le _) (fun G1 I2 L2 hp3 => ?_)
              obtain rfl := hp3.1
              refine aw_pop h rfl dX4_comes_56 ?_
              refine aw_iincN3 h rfl dX4_comes_57 ?_
              refine aw_goto h (tgt := 19) dX4_comes_60 (by decide) ?_
              refine aw_iload3 h dX4_comes_19 ?_
              refine aw_sipush h _ cs_200 dX4_comes_20 ?_
              refine aw_icmp_gtN h (tgt := 63) (by omega) (by omega) dX4_comes_23 (by decide) (fun c23 => ?_) (fun c23 => ?_)
              · exact keyX _ (k + 1) I2 L2 _ hp3.2.1 ((hp3.2.2.1 176 (by decide) (by decide) (by decide) (by decide) (by decide)).trans hk6) (hM.trans (mc_pp hp3)) (hfound k (by omega) hno (decide_eq_true c42))
              · refine aw_iload2 h dX4_comes_26 ?_
                refine aw_if_ge h (tgt := 63) dX4_comes_27 (by decide) (fun c27 => ?_) (fun c27 => ?_)
                · exact keyX _ (k + 1) I2 L2 _ hp3.2.1 ((hp3.2.2.1 176 (by decide) (by decide) (by decide) (by decide) (by decide)).trans hk6) (hM.trans (mc_pp hp3)) (hfound k (by omega) hno (decide_eq_true c42))
                · exact absurd (hge k) c27
    refine aw_iconst h _ ci_0 dX4_comes_17 ?_
    refine aw_istore3 h rfl dX4_comes_18 ?_
    exact key 202 0 _ _ (Nat.zero_le _) (by omega) hE (vup_s _ _ _) hM0 (fun j hj => absurd hj (by omega))
  · refine aw_iconst h _ ci_m1 dX4_comes_8 ?_
    exact aw_iret h hr dX4_comes_9 (⟨by rw [show comesA S fr p = -1 from ifno1 c5], rfl, MC.rf⟩) (Nat.zero_le _) (Nat.zero_le _)
theorem va_same {S : Nat → Int32} {n : Nat} {I1 : Im} (f : Nat → Int32) : va_up I1 n f n = f := vup_s _ _ _
def undoS (S : Nat → Int32) (hist : List (Nat → Int32)) : Nat → Int32 := if hist = [] then S else overV S (hist.getD (hist.length - 1) (fun _ => 0))
theorem HistAt.pop {I : Im} {hist : List (Nat → Int32)} (h : HistAt I hist) (hn : hist ≠ []) : HistAt (upd2 I 161 27 (nI (hist.length - 1))) hist.dropLast := by
  refine ⟨by rw [List.length_dropLast]; rfl, by rw [List.length_dropLast]; have := h.2.1; omega, fun j hj i hi => ?_⟩
  rw [List.length_dropLast] at hj
  show I 175 (34 * j + i) = _
  rw [h.2.2 j (by omega) i hi]
  simp [List.getD, List.getElem?_dropLast, hj, show j < hist.length by omega]
theorem met_m_undo {w : Wd} {G : Gm} {I : Im} {L : Lm} (hG : GM G) {S : Nat → Int32} (hE : I 171 = S) {hist : List (Nat → Int32)} (hH : HistAt I hist) : AMet w yX4_undo cX4_undo 2 (some .int) 1 40 0 0 [.ref (w.1 + 161)] G I L (Ans (some (.int (nI hist.length - nI 1))) (MO (undoS S hist) hist.dropLast G I L)) := by
  refine AMet.of (ls0 := [some (.ref (w.1 + 161)), none]) rfl (Nat.le_of_ble_eq_true rfl) rfl (fun q hq => hq) (fun X h hl hr hi => ?_)
  have hl := hH.2.1
  have hu0 : I 161 27 = nI hist.length := hH.1
  cases hn : hist with
  | nil =>
    rw [hn] at hu0
    have hu0 : I 161 27 = nI 0 := hu0
    subst hn
    refine aw_aload0 h dX4_undo_0 ?_
    refine aw_getiV h fl_X4_283 (gmt hG) dX4_undo_1 rfl (hu0) ?_
    refine aw_if_neN h (tgt := 9) (by decide) dX4_undo_4 (by decide) (fun c4 => ?_) (fun c4 => ?_)
    · exact absurd rfl c4
    · refine aw_iconst h _ ci_m1 dX4_undo_7 ?_
      exact aw_iret h hr dX4_undo_8 (⟨rfl, rfl, hE, hH, MC.rf⟩) (Nat.zero_le _) (Nat.zero_le _)
  | cons a0 r0 =>
    obtain ⟨u, hu⟩ : ∃ u, hist.length = u + 1 := ⟨r0.length, by rw [hn]; rfl⟩
    have hne : hist ≠ [] := by rw [hn]; exact fun q => by cases q
    rw [hu] at hu0
    have fin : ∀ f : Nat → Int32, (∀ i, i < 34 → f i = hist.getD u (fun _ => 0) i) → (∀ i, 34 ≤ i → f i = S i) → Ans (some (.int (nI hist.length - nI 1))) (MO (undoS S hist) hist.dropLast G I L) (some (.int (nI u))) G (va_up (upd2 I 161 27 (nI u)) 171 f) L := by
      intro f h1 h2
      refine ⟨by rw [hu, pk_sub (by omega)]; rfl, rfl, ?_, ?_, (MC.upF _ (Or.inr (by decide))).trans (MC.up f (by decide) (Or.inr (by decide)))⟩
      · rw [vup_s]
        unfold undoS
        rw [if_neg hne, show hist.length - 1 = u by omega]
        funext i
        unfold overV
        split
        · exact h1 i (by omega)
        · exact h2 i (by omega)
      · have h3 := hH.pop hne
        rw [show hist.length - 1 = u by omega] at h3
        exact h3.up f (by decide) (by decide)
    have key : ∀ (n k : Nat) (f : Nat → Int32), k ≤ 34 → 34 < k + n → (∀ i, i < k → f i = hist.getD u (fun _ => 0) i) → (∀ i, k ≤ i → f i = S i) → AW X 0 0 21 [some (.ref (w.1 + 161)), some (.int (nI k))] [] G (va_up (upd2 I 161 27 (nI u)) 171 f) L := by
      intro n
      induction n with
      | zero => intro k f h1 h2; exact absurd h2 (by omega)
      | succ n ih =>
        intro k f h1 h2 hf1 hf2
        refine aw_iload1 h dX4_undo_21 ?_
        refine aw_bipush h _ cb_34 dX4_undo_22 ?_
        refine aw_icmp_geN h (tgt := 53) (by omega) (by omega) dX4_undo_24 (by decide) (fun c24 => ?_) (fun c24 => ?_)
        · refine aw_aload0 h dX4_undo_53 ?_
          refine aw_getiV h fl_X4_283 (gmt hG) dX4_undo_54 rfl ((show va_up (upd2 I 161 27 (nI u)) 171 f 161 27 = nI u from rfl)) ?_
          exact aw_iret h hr dX4_undo_57 (fin f (fun i hi => hf1 i (by omega)) (fun i hi => hf2 i (by omega))) (Nat.zero_le _) (Nat.zero_le _)
        · refine aw_aload0 h dX4_undo_27 ?_
          refine aw_getr h fl_X4_39 (gmt hG) dX4_undo_28 rfl (gmp20 hG) ?_
          refine aw_iload1 h dX4_undo_31 ?_
          refine aw_aload0 h dX4_undo_32 ?_
          refine aw_getr h fl_X4_56 (gmt hG) dX4_undo_33 rfl (gmp26 hG) ?_
          refine aw_bipush h _ cb_34 dX4_undo_36 ?_
          refine aw_aload0 h dX4_undo_38 ?_
          refine aw_getiV h fl_X4_283 (gmt hG) dX4_undo_39 rfl ((show va_up (upd2 I 161 27 (nI u)) 171 f 161 27 = nI u from rfl)) ?_
          refine aw_imulN h dX4_undo_42 ?_
          refine aw_iload1 h dX4_undo_43 ?_
          refine aw_iaddN h dX4_undo_44 ?_
          refine aw_ialdV h (gms175 hG) (by decide) (by have := hH.2.1; omega) dX4_undo_45 ((show va_up (upd2 I 161 27 (nI u)) 171 f 175 (34 * u + k) = _ from hH.2.2 u (by omega) k (by omega))) ?_
          refine aw_iastN h (gms171 hG) (by decide) (by omega) dX4_undo_46 ?_
          rw [upd2_vup]
          refine aw_iincN1 h rfl dX4_undo_47 ?_
          refine aw_goto h (tgt := 21) dX4_undo_50 (by decide) ?_
          refine ih (k + 1) _ (by omega) (by omega) (fun i hi => ?_) (fun i hi => ?_)
          · by_cases e : i = k
            · subst e; rw [vup_s]
            · rw [vup_n _ _ e]; exact hf1 i (by omega)
          · rw [vup_n _ _ (by omega)]; exact hf2 i (by omega)
    refine aw_aload0 h dX4_undo_0 ?_
    refine aw_getiV h fl_X4_283 (gmt hG) dX4_undo_1 rfl (hu0) ?_
    refine aw_if_neN h (tgt := 9) (by omega) dX4_undo_4 (by decide) (fun c4 => ?_) (fun c4 => ?_)
    · refine aw_aload0 h dX4_undo_9 ?_
      refine aw_dup h rfl dX4_undo_10 ?_
      refine aw_getiV h fl_X4_283 (gmt hG) dX4_undo_11 rfl (hu0) ?_
      refine aw_iconst h _ ci_1 dX4_undo_14 ?_
      refine aw_isubN h (by omega) dX4_undo_15 ?_
      rw [Nat.add_sub_cancel]
      refine aw_puti h fl_X4_283 ft_X4_283 (fun z => by cases z) (gmt hG) dX4_undo_16 rfl ?_
      refine aw_iconst h _ ci_0 dX4_undo_19 ?_
      refine aw_istore1 h rfl dX4_undo_20 ?_
      have h9 := key 35 0 (I 171) (by omega) (by omega) (fun i hi => absurd hi (by omega)) (fun i _ => congrFun hE i)
      rw [show va_up (upd2 I 161 27 (nI u)) 171 (I 171) = upd2 I 161 27 (nI u) from vup_id (upd2 I 161 27 (nI u)) 171] at h9
      exact h9
    · exact absurd c4 (by omega)
theorem met_m_aim {w : Wd} {G : Gm} {I : Im} {L : Lm} (hG : GM G) {S : Nat → Int32} (hE : I 171 = S) (hS : InvS S) {hist : List (Nat → Int32)} (hH : HistAt I hist) {p r : Int32} : AMet w yX4_aim cX4_aim 4 (some .int) 2 62 0 0 [.ref (w.1 + 161), .int p, .int r] G I L (Ans (some (.int (if aimB S p r = true then pv S p.toNatClampNeg 1 else -1))) (MO (if aimB S p r = true then aimS S p r else S) (if aimB S p r = true then keepH hist S else hist) G I L)) := by
  refine AMet.of (ls0 := [some (.ref (w.1 + 161)), some (.int p), some (.int r), none]) rfl (Nat.le_of_ble_eq_true rfl) rfl (fun q hq => hq) (fun X h hl hr hi => ?_)
  refine aw_aload0 h dX4_aim_0 ?_
  refine aw_iload1 h dX4_aim_1 ?_
  refine aw_callVE1 h hl cl_X4_328 (met_m_isPerson hG hE hS) (gmt hG) rfl dX4_aim_2 (Nat.le_of_ble_eq_true rfl) rfl (Nat.zero_le _) (Nat.zero_le _) ?_
  refine aw_if_eqB h (tgt := 26) dX4_aim_5 (by decide) (fun c5 => ?_) (fun c5 => ?_)
  · refine aw_iconst h _ ci_m1 dX4_aim_26 ?_
    exact aw_iret h hr dX4_aim_27 (⟨by rw [show aimB S p r = false from (by unfold aimB; rw [c5]; rfl)]; rfl, rfl, by rw [show aimB S p r = false from (by unfold aimB; rw [c5]; rfl)]; exact hE, by rw [show aimB S p r = false from (by unfold aimB; rw [c5]; rfl)]; exact hH, MC.rf⟩) (Nat.zero_le _) (Nat.zero_le _)
  · refine aw_aload0 h dX4_aim_8 ?_
    refine aw_iload2 h dX4_aim_9 ?_
    refine aw_callVE1 h hl cl_X4_336 (met_m_isRoom hG hE hS) (gmt hG) rfl dX4_aim_10 (Nat.le_of_ble_eq_true rfl) rfl (Nat.zero_le _) (Nat.zero_le _) ?_
    refine aw_if_eqB h (tgt := 26) dX4_aim_13 (by decide) (fun c13 => ?_) (fun c13 => ?_)
    · refine aw_iconst h _ ci_m1 dX4_aim_26 ?_
      exact aw_iret h hr dX4_aim_27 (⟨by rw [show aimB S p r = false from (by unfold aimB; rw [c5, c13]; rfl)]; rfl, rfl, by rw [show aimB S p r = false from (by unfold aimB; rw [c5, c13]; rfl)]; exact hE, by rw [show aimB S p r = false from (by unfold aimB; rw [c5, c13]; rfl)]; exact hH, MC.rf⟩) (Nat.zero_le _) (Nat.zero_le _)
    · obtain ⟨a, ha, rfl⟩ := of_rng c5 (by have := iv2b hS; omega)
      have hca : (nI a).toNatClampNeg = a := nI_clamp (by have := iv2b hS; omega)
      refine aw_aload0 h dX4_aim_16 ?_
      refine aw_iload1 h dX4_aim_17 ?_
      refine aw_iconst h _ ci_1 dX4_aim_18 ?_
      refine aw_callVE2 h hl cl_X4_279 (met_m_personOf hG hE (by have := iv2b hS; omega)) (gmt hG) rfl dX4_aim_19 (Nat.le_of_ble_eq_true rfl) rfl (Nat.zero_le _) (Nat.zero_le _) ?_
      refine aw_iload2 h dX4_aim_22 ?_
      refine aw_icmp_ne h (tgt := 28) dX4_aim_23 (by decide) (fun c23 => ?_) (fun c23 => ?_)
      · have hy : aimB S (nI a) r = true := by unfold aimB; rw [c5, c13, hca, decide_eq_false c23]; rfl
        refine aw_aload0 h dX4_aim_28 ?_
        refine aw_callVN0 h hl cl_X4_392 (met_m_keepsAct hG hE hH) (gmt hG) rfl dX4_aim_29 (Nat.le_of_ble_eq_true rfl) rfl (Nat.zero_le _) (Nat.zero_le _) (fun G1 I1 L1 hp => ?_)
        obtain ⟨rfl, rfl, hH2, hM2⟩ := hp
        have hE3 : I1 171 = S := (hM2.1 171 (by decide) (by decide)).trans hE
        refine aw_aload0 h dX4_aim_32 ?_
        refine aw_iload1 h dX4_aim_33 ?_
        refine aw_iconst h _ ci_1 dX4_aim_34 ?_
        refine aw_callVE2 h hl cl_X4_279 (met_m_personOf hG hE3 (by have := iv2b hS; omega)) (gmt hG) rfl dX4_aim_35 (Nat.le_of_ble_eq_true rfl) rfl (Nat.zero_le _) (Nat.zero_le _) ?_
        refine aw_istore3 h rfl dX4_aim_38 ?_
        refine aw_aload0 h dX4_aim_39 ?_
        refine aw_getr h fl_X4_39 (gmt hG) dX4_aim_40 rfl (gmp20 hG) ?_
        refine aw_bipush h _ cb_10 dX4_aim_43 ?_
        refine aw_bipush h _ cb_6 dX4_aim_45 ?_
        refine aw_iload1 h dX4_aim_47 ?_
        refine aw_imulN h dX4_aim_48 ?_
        refine aw_iaddN h dX4_aim_49 ?_
        refine aw_iconst h _ ci_1 dX4_aim_50 ?_
        refine aw_iaddN h dX4_aim_51 ?_
        refine aw_iload2 h dX4_aim_52 ?_
        refine aw_iastN h (gms171 hG) (by decide) (by have := iv2b hS; omega) dX4_aim_53 ?_
        rw [upd2_self, hE3]
        refine aw_iload3 h dX4_aim_54 ?_
        exact aw_iret h hr dX4_aim_55 (⟨by rw [hy, hca]; rfl, rfl, by rw [hy, vup_s]; unfold aimS; rw [hca]; rfl, by rw [hy]; exact hH2.up _ (by decide) (by decide), (hM2.mono (by decide) (by decide)).trans (MC.up _ (by decide) (Or.inr (by decide)))⟩) (Nat.zero_le _) (Nat.zero_le _)
      · refine aw_iconst h _ ci_m1 dX4_aim_26 ?_
        exact aw_iret h hr dX4_aim_27 (⟨by rw [show aimB S (nI a) r = false from (by unfold aimB; rw [c5, c13, hca, decide_eq_true c23]; rfl)]; rfl, rfl, by rw [show aimB S (nI a) r = false from (by unfold aimB; rw [c5, c13, hca, decide_eq_true c23]; rfl)]; exact hE, by rw [show aimB S (nI a) r = false from (by unfold aimB; rw [c5, c13, hca, decide_eq_true c23]; rfl)]; exact hH, MC.rf⟩) (Nat.zero_le _) (Nat.zero_le _)
def sendB (S : Nat → Int32) (o d i : Int32) : Bool := (decide (0 ≤ o) && decide (o < nI (np S))) && ((decide (0 ≤ d) && decide (d < nI (nd S))) && (openB S d.toNatClampNeg && (decide (rm S o.toNatClampNeg = near S d.toNatClampNeg) &&
  (decide (i = -1) || ((decide (0 ≤ i) && decide (i < nI (np S))) && (!decide (i = o) && decide (rm S i.toNatClampNeg = farr S d.toNatClampNeg)))))))
def sendS (S : Nat → Int32) (o d i : Int32) : Nat → Int32 :=
  let V := vecP S (va_up (pv S) o.toNatClampNeg (rowOut S o.toNatClampNeg d.toNatClampNeg))
  if i = -1 then V else vecP S (va_up (va_up (pv S) o.toNatClampNeg (rowOut S o.toNatClampNeg d.toNatClampNeg)) i.toNatClampNeg (rowIn S i.toNatClampNeg d.toNatClampNeg o))
theorem InvS.out {S : Nat → Int32} (h : InvS S) {p d : Nat} (hd : d < nd S) : InvS (vecP S (va_up (pv S) p (rowOut S p d))) := by
  refine h.vec (fun q hq => ?_)
  have h0 := okN_pv h q hq
  have h8 := iv0b h
  have hf := ivd h hd
  by_cases e : q = p
  · subst e
    rw [vup_s]
    have e0 : rowOut S q d 0 = nI (farr S d) := rfl
    have e1 : rowOut S q d 1 = pv S q 1 := rfl
    rw [e0, e1, nI_clamp (by omega)]
    exact ⟨rfl, hf.2.2.2, h0.2.2⟩
  · rw [vup_n _ _ e]; exact h0
theorem met_m_send {w : Wd} {G : Gm} {I : Im} {L : Lm} (hG : GM G) {S : Nat → Int32} (hE : I 171 = S) (hS : InvS S) {hist : List (Nat → Int32)} (hH : HistAt I hist) {o d i : Int32} : AMet w yX4_send cX4_send 4 (some .boolean) 3 85 0 0 [.ref (w.1 + 161), .int o, .int d, .int i] G I L (Ans (some (.int (bI (sendB S o d i)))) (MO (if sendB S o d i = true then sendS S o d i else S) (if sendB S o d i = true then keepH hist S else hist) G I L)) := by
  refine AMet.of (ls0 := [some (.ref (w.1 + 161)), some (.int o), some (.int d), some (.int i)]) rfl (Nat.le_of_ble_eq_true rfl) rfl (fun q hq => hq) (fun X h hl hr hi => ?_)
  refine aw_aload0 h dX4_send_0 ?_
  refine aw_iload1 h dX4_send_1 ?_
  refine aw_callVE1 h hl cl_X4_328 (met_m_isPerson hG hE hS) (gmt hG) rfl dX4_send_2 (Nat.le_of_ble_eq_true rfl) rfl (Nat.zero_le _) (Nat.zero_le _) ?_
  refine aw_if_eqB h (tgt := 38) dX4_send_5 (by decide) (fun c5 => ?_) (fun c5 => ?_)
  · refine aw_iconst h _ ci_0 dX4_send_38 ?_
    exact aw_zret h hr dX4_send_39 (by first | exact z01_0 | exact z01_1 | exact z01_b _) (⟨by rw [show sendB S o d i = false from (by unfold sendB; rw [c5]; rfl)]; rfl, rfl, by rw [show sendB S o d i = false from (by unfold sendB; rw [c5]; rfl)]; exact hE, by rw [show sendB S o d i = false from (by unfold sendB; rw [c5]; rfl)]; exact hH, MC.rf⟩) (Nat.zero_le _) (Nat.zero_le _)
  · refine aw_aload0 h dX4_send_8 ?_
    refine aw_iload2 h dX4_send_9 ?_
    refine aw_callVE1 h hl cl_X4_347 (met_m_isDoor hG hE hS) (gmt hG) rfl dX4_send_10 (Nat.le_of_ble_eq_true rfl) rfl (Nat.zero_le _) (Nat.zero_le _) ?_
    refine aw_if_eqB h (tgt := 38) dX4_send_13 (by decide) (fun c13 => ?_) (fun c13 => ?_)
    · refine aw_iconst h _ ci_0 dX4_send_38 ?_
      exact aw_zret h hr dX4_send_39 (by first | exact z01_0 | exact z01_1 | exact z01_b _) (⟨by rw [show sendB S o d i = false from (by unfold sendB; rw [c5, c13]; rfl)]; rfl, rfl, by rw [show sendB S o d i = false from (by unfold sendB; rw [c5, c13]; rfl)]; exact hE, by rw [show sendB S o d i = false from (by unfold sendB; rw [c5, c13]; rfl)]; exact hH, MC.rf⟩) (Nat.zero_le _) (Nat.zero_le _)
    · obtain ⟨a, ha, rfl⟩ := of_rng c5 (by have := iv2b hS; omega)
      obtain ⟨b, hb, rfl⟩ := of_rng c13 (by have := iv1b hS; omega)
      have hoa : (nI a).toNatClampNeg = a := nI_clamp (by have := iv2b hS; omega)
      have hdb : (nI b).toNatClampNeg = b := nI_clamp (by have := iv1b hS; omega)
      have nob : ∀ (e : openB S b = true), rm S a = near S b → ∀ i, (decide (i = -1) || ((decide (0 ≤ i) && decide (i < nI (np S))) && (!decide (i = nI a) && decide (rm S i.toNatClampNeg = farr S b)))) = sendB S (nI a) (nI b) i := by
        intro e1 e2 i
        unfold sendB
        rw [c5, c13, hoa, hdb, e1, decide_eq_true e2]
        rfl
      refine aw_aload0 h dX4_send_16 ?_
      refine aw_iload2 h dX4_send_17 ?_
      refine aw_callVE1 h hl cl_X4_310 (met_m_isOpen hG hE hS hb) (gmt hG) rfl dX4_send_18 (Nat.le_of_ble_eq_true rfl) rfl (Nat.zero_le _) (Nat.zero_le _) ?_
      refine aw_if_eqB h (tgt := 38) dX4_send_21 (by decide) (fun c21 => ?_) (fun c21 => ?_)
      · refine aw_iconst h _ ci_0 dX4_send_38 ?_
        exact aw_zret h hr dX4_send_39 (by first | exact z01_0 | exact z01_1 | exact z01_b _) (⟨by rw [show sendB S (nI a) (nI b) i = false from (by unfold sendB; rw [hoa, hdb, c5, c13, c21]; rfl)]; rfl, rfl, by rw [show sendB S (nI a) (nI b) i = false from (by unfold sendB; rw [hoa, hdb, c5, c13, c21]; rfl)]; exact hE, by rw [show sendB S (nI a) (nI b) i = false from (by unfold sendB; rw [hoa, hdb, c5, c13, c21]; rfl)]; exact hH, MC.rf⟩) (Nat.zero_le _) (Nat.zero_le _)
      · refine aw_aload0 h dX4_send_24 ?_
        refine aw_iload1 h dX4_send_25 ?_
        refine aw_iconst h _ ci_0 dX4_send_26 ?_
        refine aw_callVE2 h hl cl_X4_279 (met_m_personOf hG hE (by have := iv2b hS; omega)) (gmt hG) rfl dX4_send_27 (Nat.le_of_ble_eq_true rfl) rfl (Nat.zero_le _) (Nat.zero_le _) ?_
        rw [(ivp hS ha).1]
        refine aw_aload0 h dX4_send_30 ?_
        refine aw_iload2 h dX4_send_31 ?_
        refine aw_callVE1 h hl cl_X4_301 (met_m_nearOf hG hE hS hb) (gmt hG) rfl dX4_send_32 (Nat.le_of_ble_eq_true rfl) rfl (Nat.zero_le _) (Nat.zero_le _) ?_
        refine aw_icmp_eqN h (tgt := 40) (by have := (ivp hS ha).2.1; have := iv0b hS; omega) (by have := (ivd hS hb).2.1; have := iv0b hS; omega) dX4_send_35 (by decide) (fun c35 => ?_) (fun c35 => ?_)
        · refine aw_iload3 h dX4_send_40 ?_
          refine aw_iconst h _ ci_m1 dX4_send_41 ?_
          refine aw_icmp_eq h (tgt := 74) dX4_send_42 (by decide) (fun c42 => ?_) (fun c42 => ?_)
          · subst c42
            have hy : sendB S (nI a) (nI b) (-1) = true := by rw [← nob c21 c35]; rfl
            refine aw_aload0 h dX4_send_74 ?_
            refine aw_callVN0 h hl cl_X4_392 (met_m_keepsAct hG hE hH) (gmt hG) rfl dX4_send_75 (Nat.le_of_ble_eq_true rfl) rfl (Nat.zero_le _) (Nat.zero_le _) (fun G1 I1 L1 hp => ?_)
            obtain ⟨rfl, rfl, hH2, hM2⟩ := hp
            have hE3 : I1 171 = S := (hM2.1 171 (by decide) (by decide)).trans hE
            refine aw_aload0 h dX4_send_78 ?_
            refine aw_iload1 h dX4_send_79 ?_
            refine aw_iload2 h dX4_send_80 ?_
            refine aw_callVD2 h hl cl_X4_378 (met_m_goesOut hG hE3 hS (by have := iv2b hS; omega) hb) (gmt hG) rfl dX4_send_81 (Nat.le_of_ble_eq_true rfl) rfl (Nat.zero_le _) (Nat.zero_le _) ?_
            have hgv := goes_vec (S := S) (N := pv S) (k := a) (d := b) (by have := iv2b hS; omega) rfl
            rw [vecP_id] at hgv
            rw [hgv]
            have hE4 : va_up I1 171 (vecP S (va_up (pv S) a (rowOut S a b))) 171 = vecP S (va_up (pv S) a (rowOut S a b)) := vup_s _ _ _
            have hS4 : InvS (vecP S (va_up (pv S) a (rowOut S a b))) := hS.out hb
            refine aw_iload3 h dX4_send_84 ?_
            refine aw_iconst h _ ci_m1 dX4_send_85 ?_
            refine aw_icmp_eq h (tgt := 96) dX4_send_86 (by decide) (fun c86 => ?_) (fun c86 => ?_)
            · refine aw_iconst h _ ci_1 dX4_send_96 ?_
              exact aw_zret h hr dX4_send_97 (by first | exact z01_0 | exact z01_1 | exact z01_b _) (⟨by rw [hy]; rfl, rfl, by rw [hy, vup_s]; simp only [sendS, if_true]; rw [hoa, hdb], by rw [hy]; exact hH2.up _ (by decide) (by decide), (hM2.mono (by decide) (by decide)).trans (MC.up _ (by decide) (Or.inr (by decide)))⟩) (Nat.zero_le _) (Nat.zero_le _)
            · exact absurd rfl c86
          · refine aw_aload0 h dX4_send_45 ?_
            refine aw_iload3 h dX4_send_46 ?_
            refine aw_callVE1 h hl cl_X4_328 (met_m_isPerson hG hE hS) (gmt hG) rfl dX4_send_47 (Nat.le_of_ble_eq_true rfl) rfl (Nat.zero_le _) (Nat.zero_le _) ?_
            refine aw_if_eqB h (tgt := 72) dX4_send_50 (by decide) (fun c50 => ?_) (fun c50 => ?_)
            · refine aw_iconst h _ ci_0 dX4_send_72 ?_
              exact aw_zret h hr dX4_send_73 (by first | exact z01_0 | exact z01_1 | exact z01_b _) (⟨by rw [show sendB S (nI a) (nI b) i = false from (by rw [← nob c21 c35, decide_eq_false c42, c50]; rfl)]; rfl, rfl, by rw [show sendB S (nI a) (nI b) i = false from (by rw [← nob c21 c35, decide_eq_false c42, c50]; rfl)]; exact hE, by rw [show sendB S (nI a) (nI b) i = false from (by rw [← nob c21 c35, decide_eq_false c42, c50]; rfl)]; exact hH, MC.rf⟩) (Nat.zero_le _) (Nat.zero_le _)
            · obtain ⟨cc0, hcc, rfl⟩ := of_rng c50 (by have := iv2b hS; omega)
              have hic : (nI cc0).toNatClampNeg = cc0 := nI_clamp (by have := iv2b hS; omega)
              have hne : ¬ nI cc0 = -1 := c42
              refine aw_iload3 h dX4_send_53 ?_
              refine aw_iload1 h dX4_send_54 ?_
              refine aw_icmp_eqN h (tgt := 72) (by have := iv2b hS; omega) (by have := iv2b hS; omega) dX4_send_55 (by decide) (fun c55 => ?_) (fun c55 => ?_)
              · refine aw_iconst h _ ci_0 dX4_send_72 ?_
                exact aw_zret h hr dX4_send_73 (by first | exact z01_0 | exact z01_1 | exact z01_b _) (⟨by rw [show sendB S (nI a) (nI b) (nI cc0) = false from (by rw [← nob c21 c35, decide_eq_false c42, c50, c55, decide_eq_true rfl]; rfl)]; rfl, rfl, by rw [show sendB S (nI a) (nI b) (nI cc0) = false from (by rw [← nob c21 c35, decide_eq_false c42, c50, c55, decide_eq_true rfl]; rfl)]; exact hE, by rw [show sendB S (nI a) (nI b) (nI cc0) = false from (by rw [← nob c21 c35, decide_eq_false c42, c50, c55, decide_eq_true rfl]; rfl)]; exact hH, MC.rf⟩) (Nat.zero_le _) (Nat.zero_le _)
              · refine aw_aload0 h dX4_send_58 ?_
                refine aw_iload3 h dX4_send_59 ?_
                refine aw_iconst h _ ci_0 dX4_send_60 ?_
                refine aw_callVE2 h hl cl_X4_279 (met_m_personOf hG hE (by have := iv2b hS; omega)) (gmt hG) rfl dX4_send_61 (Nat.le_of_ble_eq_true rfl) rfl (Nat.zero_le _) (Nat.zero_le _) ?_
                rw [(ivp hS hcc).1]
                refine aw_aload0 h dX4_send_64 ?_
                refine aw_iload2 h dX4_send_65 ?_
                refine aw_callVE1 h hl cl_X4_304 (met_m_farOf hG hE hS hb) (gmt hG) rfl dX4_send_66 (Nat.le_of_ble_eq_true rfl) rfl (Nat.zero_le _) (Nat.zero_le _) ?_
                refine aw_icmp_eqN h (tgt := 74) (by have := (ivp hS hcc).2.1; have := iv0b hS; omega) (by have := (ivd hS hb).2.2.2; have := iv0b hS; omega) dX4_send_69 (by decide) (fun c69 => ?_) (fun c69 => ?_)
                · have hca : cc0 ≠ a := c55
                  have hy : sendB S (nI a) (nI b) (nI cc0) = true := by rw [← nob c21 c35, c50, hic, decide_eq_true c69, decide_eq_false (nI_ne hca (by have := iv2b hS; omega) (by have := iv2b hS; omega))]; simp
                  refine aw_aload0 h dX4_send_74 ?_
                  refine aw_callVN0 h hl cl_X4_392 (met_m_keepsAct hG hE hH) (gmt hG) rfl dX4_send_75 (Nat.le_of_ble_eq_true rfl) rfl (Nat.zero_le _) (Nat.zero_le _) (fun G1 I1 L1 hp => ?_)
                  obtain ⟨rfl, rfl, hH2, hM2⟩ := hp
                  have hE3 : I1 171 = S := (hM2.1 171 (by decide) (by decide)).trans hE
                  refine aw_aload0 h dX4_send_78 ?_
                  refine aw_iload1 h dX4_send_79 ?_
                  refine aw_iload2 h dX4_send_80 ?_
                  refine aw_callVD2 h hl cl_X4_378 (met_m_goesOut hG hE3 hS (by have := iv2b hS; omega) hb) (gmt hG) rfl dX4_send_81 (Nat.le_of_ble_eq_true rfl) rfl (Nat.zero_le _) (Nat.zero_le _) ?_
                  have hgv := goes_vec (S := S) (N := pv S) (k := a) (d := b) (by have := iv2b hS; omega) rfl
                  rw [vecP_id] at hgv
                  rw [hgv]
                  have hE4 : va_up I1 171 (vecP S (va_up (pv S) a (rowOut S a b))) 171 = vecP S (va_up (pv S) a (rowOut S a b)) := vup_s _ _ _
                  have hS4 : InvS (vecP S (va_up (pv S) a (rowOut S a b))) := hS.out hb
                  refine aw_iload3 h dX4_send_84 ?_
                  refine aw_iconst h _ ci_m1 dX4_send_85 ?_
                  refine aw_icmp_eq h (tgt := 96) dX4_send_86 (by decide) (fun c86 => ?_) (fun c86 => ?_)
                  · exact absurd c86 hne
                  · refine aw_aload0 h dX4_send_89 ?_
                    refine aw_iload3 h dX4_send_90 ?_
                    refine aw_iload2 h dX4_send_91 ?_
                    refine aw_iload1 h dX4_send_92 ?_
                    refine aw_callVD3 h hl cl_X4_385 (met_m_comesIn hG hE4 hS4 (by have := iv2b hS; omega) (by rw [vecP_static.2.1]; exact hb)) (gmt hG) rfl dX4_send_93 (Nat.le_of_ble_eq_true rfl) rfl (Nat.zero_le _) (Nat.zero_le _) ?_
                    rw [vup_vup, comes_vec (by have := iv2b hS; omega) (vup_n _ _ hca)]
                    refine aw_iconst h _ ci_1 dX4_send_96 ?_
                    exact aw_zret h hr dX4_send_97 (by first | exact z01_0 | exact z01_1 | exact z01_b _) (⟨by rw [hy]; rfl, rfl, by rw [hy, vup_s]; simp only [sendS, if_neg hne, if_true]; rw [hoa, hdb, hic], by rw [hy]; exact hH2.up _ (by decide) (by decide), (hM2.mono (by decide) (by decide)).trans (MC.up _ (by decide) (Or.inr (by decide)))⟩) (Nat.zero_le _) (Nat.zero_le _)
                · refine aw_iconst h _ ci_0 dX4_send_72 ?_
                  exact aw_zret h hr dX4_send_73 (by first | exact z01_0 | exact z01_1 | exact z01_b _) (⟨by rw [show sendB S (nI a) (nI b) (nI cc0) = false from (by rw [← nob c21 c35, decide_eq_false c42, c50, hic, decide_eq_false c69, Bool.and_false]; rfl)]; rfl, rfl, by rw [show sendB S (nI a) (nI b) (nI cc0) = false from (by rw [← nob c21 c35, decide_eq_false c42, c50, hic, decide_eq_false c69, Bool.and_false]; rfl)]; exact hE, by rw [show sendB S (nI a) (nI b) (nI cc0) = false from (by rw [← nob c21 c35, decide_eq_false c42, c50, hic, decide_eq_false c69, Bool.and_false]; rfl)]; exact hH, MC.rf⟩) (Nat.zero_le _) (Nat.zero_le _)
        · refine aw_iconst h _ ci_0 dX4_send_38 ?_
          exact aw_zret h hr dX4_send_39 (by first | exact z01_0 | exact z01_1 | exact z01_b _) (⟨by rw [show sendB S (nI a) (nI b) i = false from (by unfold sendB; rw [hoa, hdb, c5, c13, c21, decide_eq_false c35]; rfl)]; rfl, rfl, by rw [show sendB S (nI a) (nI b) i = false from (by unfold sendB; rw [hoa, hdb, c5, c13, c21, decide_eq_false c35]; rfl)]; exact hE, by rw [show sendB S (nI a) (nI b) i = false from (by unfold sendB; rw [hoa, hdb, c5, c13, c21, decide_eq_false c35]; rfl)]; exact hH, MC.rf⟩) (Nat.zero_le _) (Nat.zero_le _)
