/-! The component: ruled, look -/
set_option maxRecDepth 100000
theorem qI_v {k : Nat} (h : k < 2 ^ 31) : (qI k).toInt = (k : Int) - 1 := by
  unfold qI
  split
  · rename_i e; subst e; decide
  · rw [nI_toInt (by omega)]; omega
theorem qI_ge {n k : Nat} (hn : n < 2 ^ 31) (hk : k < 2 ^ 31) : nI n ≤ qI k ↔ n + 1 ≤ k := by
  rw [Int32.le_iff_toInt_le, nI_toInt hn, qI_v hk]; omega
theorem qI_inc (k : Nat) : qI k + Int32.ofInt 1 = qI (k + 1) := by
  rw [← qI_s]
  unfold qI
  split
  · rename_i e; subst e; decide
  · rw [show nI (k - 1) + Int32.ofInt 1 = nI (k - 1) + nI 1 from rfl, nI_add]
    congr 1; omega
theorem nI_q {k : Nat} : nI k - nI 1 = qI k := by
  unfold qI
  split
  · rename_i e; subst e; decide
  · rw [pk_sub (by omega)]
def FLp (S : Nat → Int32) (RL : List (List Cl)) (k : Nat) : List Nat := (List.range k).filter (fun j => fitB S RL j 61)
theorem FLp_yes {S : Nat → Int32} {RL : List (List Cl)} {k : Nat} (h : fitB S RL k 61 = true) : FLp S RL (k + 1) = FLp S RL k ++ [k] := by
  unfold FLp
  rw [List.range_succ, List.filter_append, List.filter_cons_of_pos (p := fun j => fitB S RL j 61) h]; rfl
theorem FLp_no {S : Nat → Int32} {RL : List (List Cl)} {k : Nat} (h : fitB S RL k 61 = false) : FLp S RL (k + 1) = FLp S RL k := by
  unfold FLp
  rw [List.range_succ, List.filter_append, List.filter_cons_of_neg (by rw [h]; exact Bool.false_ne_true)]; simp
theorem FLp_end {S : Nat → Int32} {RL : List (List Cl)} : FLp S RL (RL.length + 1) = FLs S RL 0 := by
  unfold FLp FLs
  rw [List.range_eq_range']; rfl
theorem FLp_le (S : Nat → Int32) (RL : List (List Cl)) (k : Nat) : (FLp S RL k).length ≤ k := by
  unfold FLp
  have := List.length_filter_le (fun j => fitB S RL j 61) (List.range k)
  rw [List.length_range] at this; exact this
theorem hdR_app {l : List Nat} {k : Nat} : hdR (l ++ [k]) = if l.length = 0 then qI k else hdR l := by
  cases l with
  | nil => exact nI_q
  | cons a r => rfl
theorem len_app1 {l : List Nat} {k : Nat} : (l ++ [k]).length = l.length + 1 := by simp
theorem met_x_ruled {w : Wd} {G : Gm} {I : Im} {L : Lm} (hX : XG G) {sl : Nat → Prop} {K : CS} {c : Nat} {S : Nat → Int32} {t : Nat} (hV : XV sl G I K c S t) (hT : TolS S K) (hN : InvN S) (hNx : NoteX I S) {RL : List (List Cl)} (hRu : XRu sl G I RL) {wh : Int32} : AMet w yX0_ruled cX0_ruled 5 (some .int) 416 12436 0 0 [.ref (w.1 + 0), .int wh] G I L (Ans (some (.int (ruledA S RL wh))) (XQ G I L)) := by
  refine AMet.of (ls0 := [some (.ref (w.1 + 0)), some (.int wh), none, none, none]) rfl (Nat.le_of_ble_eq_true rfl) rfl (fun q hq => hq) (fun X h hl hr hi => ?_)
  obtain ⟨hC0, hS, hcs, ht, ht2, hdj⟩ := id hV
  have hC := hC0
  obtain ⟨hc0, ⟨pl, pa, dl, da, fa, ps, ds, hK, hsp⟩, hok, hsl⟩ := id hC
  obtain ⟨cp, hLp⟩ := hK.2.2.2.2.2.1
  obtain ⟨cd, hLd⟩ := hK.2.2.2.2.2.2.1
  have hpl := hK.2.2.2.2.2.2.2.1
  have hdl := hK.2.2.2.2.2.2.2.2.1
  have hdk := hK.2.2.2.2.2.2.2.2.2.2.1
  have hpk := hK.2.2.2.2.2.2.2.2.2.1
  have hrm := hK.2.2.2.2.2.2.2.2.2.2.2.1
  have hfr := hK.2.2.2.2.2.2.2.2.2.2.2.2.2
  have hR8 := hok.2.1
  have hD14 := hok.2.2.1
  have hP4 := hok.2.2.2.1
  have hdo := hok.2.2.2.2.1
  have hpo := hok.2.2.2.2.2.1
  have hf9 := hok.2.2.2.2.2.2.2
  have hn := cas_n hcs hok
  have hr6 := hRu.choose_spec.choose_spec.choose_spec.2.2.1
  refine aw_aload0 h dX0_ruled_0 ?_
  refine aw_callVE0 h hl cl_X0_139 (met_x_isCastle hX hC) (gx0 hX) rfl dX0_ruled_1 (Nat.le_of_ble_eq_true rfl) rfl (Nat.zero_le _) (Nat.zero_le _) ?_
  rw [← hn.1]
  refine aw_if_eqB h (tgt := 17) dX0_ruled_4 (by decide) (fun c4 => ?_) (fun c4 => ?_)
  · refine aw_bipush h _ cb_m3 dX0_ruled_17 ?_
    exact aw_iret h hr dX0_ruled_19 (⟨by unfold ruledA; rw [c4]; rfl, rfl, XM.rf⟩) (Nat.zero_le _) (Nat.zero_le _)
  · refine aw_iload1 h dX0_ruled_7 ?_
    refine aw_i2l h dX0_ruled_8 ?_
    refine aw_lconst h _ cl_0 dX0_ruled_9 ?_
    refine aw_lconst h _ cl_1 dX0_ruled_10 ?_
    refine aw_callSE3 h hl cl_X0_129 (met_x_in) dX0_ruled_11 (Nat.le_of_ble_eq_true rfl) rfl (Nat.zero_le _) (Nat.zero_le _) ?_
    rw [inL_I (by decide) (by decide)]
    refine aw_if_neB h (tgt := 20) dX0_ruled_14 (by decide) (fun c14 => ?_) (fun c14 => ?_)
    · have hans : ruledA S RL wh = if wh = 0 then nI (FLs S RL 0).length else hdR (FLs S RL 0) := by unfold ruledA; rw [c4, c14]; rfl
      have key : ∀ (fu kk : Nat) (I1 : Im) (L1 : Lm), kk ≤ RL.length + 1 → RL.length + 1 < kk + fu → XM gtE noF I L I1 L1 → AW X 0 0 28 [some (.ref (w.1 + 0)), some (.int (wh)), some (.int (nI (FLp S RL kk).length)), some (.int (hdR (FLp S RL kk))), some (.int (qI kk))] [] G I1 L1 := by
        intro fu
        induction fu with
        | zero => intro kk I1 L1 hle hlt; exact absurd hlt (by omega)
        | succ fu ih =>
          intro kk I1 L1 hle hlt hm
          have hV1 : XV sl G I1 K c S t := hV.ix (hm.nm gt_mut)
          have hR1 : XRu sl G I1 RL := hRu.ix (hm.nm gt_mut)
          obtain ⟨ra, capr, els, hAl, hel, hr6, -, -, hslm, hRu2⟩ := id hR1
          have hRl := hAl
          have hfl := FLp_le S RL kk
          refine aw_iload4 h dX0_ruled_28 ?_
          refine aw_aload0 h dX0_ruled_30 ?_
          refine aw_getr h fl_X0_31 (gx0 hX) dX0_ruled_31 rfl (gxp3 hX) ?_
          refine aw_callVE0 h hl cl_X0_136 (met_j_size hAl) hRl.1 rfl dX0_ruled_34 (Nat.le_of_ble_eq_true rfl) rfl (Nat.zero_le _) (Nat.zero_le _) ?_
          rw [hel]
          refine aw_icmp_ge h (tgt := 72) dX0_ruled_37 (by decide) (fun c37 => ?_) (fun c37 => ?_)
          · have hend : kk = RL.length + 1 := by have := (qI_ge (by omega) (by omega)).mp c37; omega
            subst hend
            rw [FLp_end]
            refine aw_iload1 h dX0_ruled_72 ?_
            refine aw_if_ne h (tgt := 80) dX0_ruled_73 (by decide) (fun c73 => ?_) (fun c73 => ?_)
            · refine aw_iload3 h dX0_ruled_80 ?_
              exact aw_iret h hr dX0_ruled_81 (⟨by rw [hans, if_neg c73], rfl, hm⟩) (Nat.zero_le _) (Nat.zero_le _)
            · refine aw_iload2 h dX0_ruled_76 ?_
              refine aw_goto h (tgt := 81) dX0_ruled_77 (by decide) ?_
              exact aw_iret h hr dX0_ruled_81 (⟨by rw [hans, if_pos c73], rfl, hm⟩) (Nat.zero_le _) (Nat.zero_le _)
          · have hkk : kk ≤ RL.length := by have hz : ¬ (RL.length + 1 ≤ kk) := fun z => c37 ((qI_ge (n := RL.length) (k := kk) (by omega) (by omega)).mpr z); omega
            refine aw_aload0 h dX0_ruled_40 ?_
            refine aw_iload4 h dX0_ruled_41 ?_
            refine aw_callVA1 h hl cl_X0_378 (met_x_couldRule hX hV1 hT hN (hNx.xm hm rfl rfl rfl rfl) hR1 (kk := kk) hkk) (gx0 hX) rfl dX0_ruled_43 (Nat.le_of_ble_eq_true rfl) rfl (Nat.zero_le _) (Nat.zero_le _) (fun G1 I2 L2 hp9 => ?_)
            obtain ⟨rfl, hm2⟩ := hp9
            refine aw_if_neB h (tgt := 52) dX0_ruled_46 (by decide) (fun c46 => ?_) (fun c46 => ?_)
            · refine aw_iload2 h dX0_ruled_52 ?_
              refine aw_if_neN h (tgt := 61) (by omega) dX0_ruled_53 (by decide) (fun c53 => ?_) (fun c53 => ?_)
              · refine aw_iload3 h dX0_ruled_61 ?_
                refine aw_istore3 h rfl dX0_ruled_62 ?_
                refine aw_iincN2 h rfl dX0_ruled_63 ?_
                refine aw_iinc4 h rfl rfl dX0_ruled_66 ?_
                refine aw_goto h (tgt := 28) dX0_ruled_69 (by decide) ?_
                have h9 := ih (kk + 1) I2 L2 (by omega) (by omega) (hm.trans hm2)
                rw [FLp_yes c46, len_app1, hdR_app, if_neg c53, ← qI_inc] at h9
                exact h9
              · refine aw_iload4 h dX0_ruled_56 ?_
                refine aw_goto h (tgt := 62) dX0_ruled_58 (by decide) ?_
                refine aw_istore3 h rfl dX0_ruled_62 ?_
                refine aw_iincN2 h rfl dX0_ruled_63 ?_
                refine aw_iinc4 h rfl rfl dX0_ruled_66 ?_
                refine aw_goto h (tgt := 28) dX0_ruled_69 (by decide) ?_
                have h9 := ih (kk + 1) I2 L2 (by omega) (by omega) (hm.trans hm2)
                rw [FLp_yes c46, len_app1, hdR_app, if_pos c53, ← qI_inc] at h9
                exact h9
            · refine aw_goto h (tgt := 66) dX0_ruled_49 (by decide) ?_
              refine aw_iinc4 h rfl rfl dX0_ruled_66 ?_
              refine aw_goto h (tgt := 28) dX0_ruled_69 (by decide) ?_
              have h9 := ih (kk + 1) I2 L2 (by omega) (by omega) (hm.trans hm2)
              rw [FLp_no c46, ← qI_inc] at h9
              exact h9
      refine aw_iconst h _ ci_0 dX0_ruled_20 ?_
      refine aw_istore2 h rfl dX0_ruled_21 ?_
      refine aw_bipush h _ cb_m2 dX0_ruled_22 ?_
      refine aw_istore3 h rfl dX0_ruled_24 ?_
      refine aw_iconst h _ ci_m1 dX0_ruled_25 ?_
      refine aw_istore4 h rfl dX0_ruled_26 ?_
      exact key (RL.length + 2) 0 I L (Nat.zero_le _) (by omega) XM.rf
    · refine aw_bipush h _ cb_m3 dX0_ruled_17 ?_
      exact aw_iret h hr dX0_ruled_19 (⟨by unfold ruledA; rw [c14, Bool.and_false]; rfl, rfl, XM.rf⟩) (Nat.zero_le _) (Nat.zero_le _)
def lrE (m : Nat) : Bool := gtE m || m == 159
theorem lr_scr (m : Nat) (h : lrE m = true) : scrE m = true := by
  unfold lrE gtE at h
  unfold scrE
  simp only [Bool.or_eq_true, Bool.and_eq_true, decide_eq_true_eq, beq_iff_eq] at h ⊢
  omega
theorem lr_mut (m : Nat) (h : lrE m = true) : MutB m = true := scr_mut m (lr_scr m h)
theorem gt_lr (m : Nat) (h : gtE m = true) : lrE m = true := by unfold lrE; rw [h]; rfl
def RowsL (S : Nat → Int32) (RL : List (List Cl)) (mo : Nat) (I : Im) (l : List Nat) : Prop := ∀ b, b < l.length → ∀ p, p < np S → I 159 (4 * b + p) = pv (TJ S RL (l.getD b 0) mo) p 0
def LRt (S : Nat → Int32) (RL : List (List Cl)) (mo : Nat) (G : Gm) (I : Im) (L : Lm) : Gm → Im → Lm → Prop := fun G1 I1 L1 => G = G1 ∧ XM lrE noF I L I1 L1 ∧ RowsL S RL mo I1 (FLs S RL 0)
theorem getA_lt {l r : List Nat} {j : Nat} (h : j < l.length) : (l ++ r).getD j 0 = l.getD j 0 := by simp [List.getD, List.getElem?_append_left h]
theorem getA_eq {l : List Nat} {x : Nat} : (l ++ [x]).getD l.length 0 = x := by simp [List.getD]
theorem RowsL.app {S : Nat → Int32} {RL : List (List Cl)} {mo : Nat} {I : Im} {l : List Nat} {k : Nat} (h : RowsL S RL mo I l) (h2 : ∀ p, p < np S → I 159 (4 * l.length + p) = pv (TJ S RL k mo) p 0) : RowsL S RL mo I (l ++ [k]) := by
  intro b hb p hp
  rw [len_app1] at hb
  by_cases e : b < l.length
  · rw [getA_lt e]; exact h b e p hp
  · have e2 : b = l.length := by omega
    subst e2
    rw [getA_eq]; exact h2 p hp
theorem met_x_laysRooms {w : Wd} {G : Gm} {I : Im} {L : Lm} (hX : XG G) {sl : Nat → Prop} {K : CS} {c : Nat} {S : Nat → Int32} {t : Nat} (hV : XV sl G I K c S t) (hT : TolS S K) (hN : InvN S) (hNx : NoteX I S) {RL : List (List Cl)} (hRu : XRu sl G I RL) {mo : Nat} (hmo : mo ≤ 60) : AMet w yX0_laysRooms cX0_laysRooms 6 (some .int) 416 12436 0 0 [.ref (w.1 + 0), .int (nI mo)] G I L (Ans (some (.int (nI (FLs S RL 0).length))) (LRt S RL mo G I L)) := by
  refine AMet.of (ls0 := [some (.ref (w.1 + 0)), some (.int (nI mo)), none, none, none, none]) rfl (Nat.le_of_ble_eq_true rfl) rfl (fun q hq => hq) (fun X h hl hr hi => ?_)
  obtain ⟨hC0, hS, hcs, ht, ht2, hdj⟩ := id hV
  have hC := hC0
  obtain ⟨hc0, ⟨pl, pa, dl, da, fa, ps, ds, hK, hsp⟩, hok, hsl⟩ := id hC
  obtain ⟨cp, hLp⟩ := hK.2.2.2.2.2.1
  obtain ⟨cd, hLd⟩ := hK.2.2.2.2.2.2.1
  have hpl := hK.2.2.2.2.2.2.2.1
  have hdl := hK.2.2.2.2.2.2.2.2.1
  have hdk := hK.2.2.2.2.2.2.2.2.2.2.1
  have hpk := hK.2.2.2.2.2.2.2.2.2.1
  have hrm := hK.2.2.2.2.2.2.2.2.2.2.2.1
  have hfr := hK.2.2.2.2.2.2.2.2.2.2.2.2.2
  have hR8 := hok.2.1
  have hD14 := hok.2.2.1
  have hP4 := hok.2.2.2.1
  have hdo := hok.2.2.2.2.1
  have hpo := hok.2.2.2.2.2.1
  have hf9 := hok.2.2.2.2.2.2.2
  have hn := cas_n hcs hok
  have hr6 := hRu.choose_spec.choose_spec.choose_spec.2.2.1
  have b2 := iv2b hS
  have key : ∀ (fu kk : Nat) (I1 : Im) (L1 : Lm), kk ≤ RL.length + 1 → RL.length + 1 < kk + fu → XM lrE noF I L I1 L1 → RowsL S RL mo I1 (FLp S RL kk) → ∀ o4 o5 : Option Value, AW X 0 0 4 [some (.ref (w.1 + 0)), some (.int (nI mo)), some (.int (nI (FLp S RL kk).length)), some (.int (qI kk)), o4, o5] [] G I1 L1 := by
    intro fu
    induction fu with
    | zero => intro kk I1 L1 hle hlt; exact absurd hlt (by omega)
    | succ fu ih =>
      intro kk I1 L1 hle hlt hm hrows
      intro o4 o5
      have hV1 : XV sl G I1 K c S t := hV.ix (hm.nm lr_mut)
      have hR1 : XRu sl G I1 RL := hRu.ix (hm.nm lr_mut)
      obtain ⟨ra, capr, els, hAl, hel, hr6, -, -, hslm, hRu2⟩ := id hR1
      have hRl := hAl
      have hfl := FLp_le S RL kk
      refine aw_iload3 h dX0_laysRooms_4 ?_
      refine aw_aload0 h dX0_laysRooms_5 ?_
      refine aw_getr h fl_X0_31 (gx0 hX) dX0_laysRooms_6 rfl (gxp3 hX) ?_
      refine aw_callVE0 h hl cl_X0_136 (met_j_size hAl) hRl.1 rfl dX0_laysRooms_9 (Nat.le_of_ble_eq_true rfl) rfl (Nat.zero_le _) (Nat.zero_le _) ?_
      rw [hel]
      refine aw_icmp_ge h (tgt := 110) dX0_laysRooms_12 (by decide) (fun c12 => ?_) (fun c12 => ?_)
      · have hend : kk = RL.length + 1 := by have := (qI_ge (by omega) (by omega)).mp c12; omega
        subst hend
        rw [FLp_end]
        rw [FLp_end] at hrows
        refine aw_iload2 h dX0_laysRooms_110 ?_
        exact aw_iret h hr dX0_laysRooms_111 (⟨rfl, rfl, hm, hrows⟩) (Nat.zero_le _) (Nat.zero_le _)
      · have hkk : kk ≤ RL.length := by have hz : ¬ (RL.length + 1 ≤ kk) := fun z => c12 ((qI_ge (n := RL.length) (k := kk) (by omega) (by omega)).mpr z); omega
        refine aw_aload0 h dX0_laysRooms_15 ?_
        refine aw_iload3 h dX0_laysRooms_16 ?_
        refine aw_callVA1 h hl cl_X0_378 (met_x_couldRule hX hV1 hT hN (hNx.xm hm rfl rfl rfl rfl) hR1 (kk := kk) hkk) (gx0 hX) rfl dX0_laysRooms_17 (Nat.le_of_ble_eq_true rfl) rfl (Nat.zero_le _) (Nat.zero_le _) (fun G1 I2 L2 hp9 => ?_)
        obtain ⟨rfl, hm2⟩ := hp9
        refine aw_if_neB h (tgt := 26) dX0_laysRooms_20 (by decide) (fun c20 => ?_) (fun c20 => ?_)
        · refine aw_aload0 h dX0_laysRooms_26 ?_
          refine aw_getiV h fl_X0_35 (gx0 hX) dX0_laysRooms_27 rfl ((hm2.2.1 4 rfl)) ?_
          have hm3 : XM gtE fr4 I2 L2 (upd2 I2 0 4 (qI kk)) L2 := XM.f rfl
          have hV3 : XV sl G (upd2 I2 0 4 (qI kk)) K c S t := (hV1.ix (hm2.nm gt_mut)).ix (hm3.nm gt_mut)
          refine aw_istore4 h rfl dX0_laysRooms_30 ?_
          refine aw_aload0 h dX0_laysRooms_32 ?_
          refine aw_iload3 h dX0_laysRooms_33 ?_
          refine aw_puti h fl_X0_35 ft_X0_35 (fun z => by cases z) (gx0 hX) dX0_laysRooms_34 rfl ?_
          refine aw_aload0 h dX0_laysRooms_37 ?_
          refine aw_getr h fl_X0_23 (gx0 hX) dX0_laysRooms_38 rfl (gxp2 hX) ?_
          refine aw_aload0 h dX0_laysRooms_41 ?_
          refine aw_getr h fl_X0_12 (gx0 hX) dX0_laysRooms_42 rfl hc0 ?_
          refine aw_callVN1 h hl cl_X0_160 (met_x_begin hX hV3 (gxt13 hX) (Or.inr rfl) hT) (gxt13 hX).1 rfl dX0_laysRooms_45 (Nat.le_of_ble_eq_true rfl) rfl (Nat.zero_le _) (Nat.zero_le _) (fun G1 I3 L3 hp9 => ?_)
          obtain ⟨rfl, hix3, hA3⟩ := hp9
          have hmb : XM gtE fr4 I2 L2 I3 L3 := hm3.trans (XM.ix hix3 (by decide) (by decide))
          have hVb : XV sl G I3 K c (begS S) 0 := hV.beg ((hm.trans ((hm2.mono gt_lr (fun _ q => q)))).nm lr_mut |> fun z m q => (hmb.nm gt_mut m q).trans (z m q)) hT
          have hRb : XRu sl G I3 RL := (hR1.ix (hm2.nm gt_mut)).ix (hmb.nm gt_mut)
          have hFb : XFr I3 RL (frO RL kk) := XFr.o hr6 hkk ((congrFun (hix3 0 (by decide)).1 4).trans rfl)
          refine aw_aload0 h dX0_laysRooms_48 ?_
          refine aw_iload1 h dX0_laysRooms_49 ?_
          refine aw_callVN1 h hl cl_X0_325 (met_x_goesTill hX hVb hA3 hRb hFb (n := mo) (by omega)) (gx0 hX) rfl dX0_laysRooms_50 (Nat.le_of_ble_eq_true rfl) rfl (Nat.zero_le _) (Nat.zero_le _) (fun G1 I4 L4 hp9 => ?_)
          obtain ⟨rfl, hmc, hA4⟩ := hp9
          have hmd : XM gtE fr4 I2 L2 I4 L4 := hmb.trans (hmc.mono (fun _ q => q) (fun _ q => by cases q))
          refine aw_aload0 h dX0_laysRooms_53 ?_
          refine aw_iload4 h dX0_laysRooms_54 ?_
          refine aw_puti h fl_X0_35 ft_X0_35 (fun z => by cases z) (gx0 hX) dX0_laysRooms_56 rfl ?_
          refine aw_iconst h _ ci_0 dX0_laysRooms_59 ?_
          refine aw_istore5 h rfl dX0_laysRooms_60 ?_
          have hm4 : XM gtE noF I2 L2 (upd2 I4 0 4 (I2 0 4)) L4 := hmd.back4
          have e4 : I2 0 4 = I1 0 4 := hm2.2.1 4 rfl
          rw [e4] at hm4
          have hm12 := hm2.trans hm4
          generalize hI5 : upd2 I4 0 4 (I1 0 4) = I6 at hm4 hm12
          have hA6 : StAt I6 13 (itP (frO RL kk) mo (begS S)) := hA4.ix7 (fun m a b => by rw [← hI5]; exact upd2_n _ _ _ (by omega))
          have hV6 : XV sl G I6 K c S t := hV1.ix (hm12.nm gt_mut)
          have hnpi : np (itP (frO RL kk) mo (begS S)) = np S := (it_np mo).trans (np_beg hS)
          have hold4 : RowsL S RL mo I6 (FLp S RL kk) := fun b hb q hq => (congrFun (hm12.1 159 (by decide) rfl).1 _).trans (hrows b hb q hq)
          have keyp : ∀ (fp p : Nat) (I5 : Im), p ≤ np S → np S < p + fp → (∀ m, m ≠ 159 → I5 m = I6 m) → (∀ q, q < p → I5 159 (4 * (FLp S RL kk).length + q) = pv (TJ S RL kk mo) q 0) → RowsL S RL mo I5 (FLp S RL kk) → AW X 0 0 62 [some (.ref (w.1 + 0)), some (.int (nI mo)), some (.int (nI (FLp S RL kk).length)), some (.int (qI kk)), some (.int (I1 0 4)), some (.int (nI p))] [] G I5 L4 := by
            intro fp
            induction fp with
            | zero => intro p I5 hle hlt; exact absurd hlt (by omega)
            | succ fp ihp =>
              intro p I5 hle hlt h159 hrow hold
              obtain ⟨-, ⟨pl, pa, dl, da, fa, ps, ds, hK, hsp⟩, -, -⟩ := id (hV6.ix (I1 := I5) (fun m hm => h159 m (fun e => by subst e; cases hm))).1
              obtain ⟨cp, hLp⟩ := hK.2.2.2.2.2.1
              refine aw_iload5 h dX0_laysRooms_62 ?_
              refine aw_aload0 h dX0_laysRooms_64 ?_
              refine aw_getr h fl_X0_12 (gx0 hX) dX0_laysRooms_65 rfl hc0 ?_
              refine aw_callVE0 h hl cl_X0_125 (met_x_many hK hok) hK.1 rfl dX0_laysRooms_68 (Nat.le_of_ble_eq_true rfl) rfl (Nat.zero_le _) (Nat.zero_le _) ?_
              refine aw_icmp_geN h (tgt := 101) (by omega) (by omega) dX0_laysRooms_71 (by decide) (fun c71 => ?_) (fun c71 => ?_)
              · refine aw_iincN2 h rfl dX0_laysRooms_101 ?_
                refine aw_iinc3 h rfl rfl dX0_laysRooms_104 ?_
                refine aw_goto h (tgt := 4) dX0_laysRooms_107 (by decide) ?_
                have h9 := ih (kk + 1) I5 L4 (by omega) (by omega) (hm.trans ((hm12.mono gt_lr (fun _ q => q)).trans ⟨fun m a b => ⟨h159 m (fun e => by subst e; cases b), rfl⟩, fun j _ => congrFun (h159 0 (by decide)) j, rfl⟩)) (by rw [FLp_yes c20]; exact RowsL.app hold (fun q hq => hrow q (by omega))) (some (.int (I1 0 4))) (some (.int (nI p)))
                rw [FLp_yes c20, len_app1, ← qI_inc] at h9
                exact h9
              · refine aw_aload0 h dX0_laysRooms_74 ?_
                refine aw_getr h fl_X0_114 (gx0 hX) dX0_laysRooms_75 rfl (gxp30 hX) ?_
                refine aw_iconst h _ ci_4 dX0_laysRooms_78 ?_
                refine aw_iload2 h dX0_laysRooms_79 ?_
                refine aw_imulN h dX0_laysRooms_80 ?_
                refine aw_iload5 h dX0_laysRooms_81 ?_
                refine aw_iaddN h dX0_laysRooms_83 ?_
                refine aw_aload0 h dX0_laysRooms_84 ?_
                refine aw_getr h fl_X0_23 (gx0 hX) dX0_laysRooms_85 rfl (gxp2 hX) ?_
                refine aw_getr h fl_X0_202 (gxt13 hX).1 dX0_laysRooms_88 rfl ((gxt13 hX).2 0 (by decide)).1 ?_
                refine aw_iload5 h dX0_laysRooms_91 ?_
                refine aw_ialdV h ((gxt13 hX).2 0 (by decide)).2 (by decide) (by omega) dX0_laysRooms_93 (((congrFun (h159 14 (by decide)) p).trans (hA6.2.1 p (by rw [hnpi]; omega)).1)) ?_
                refine aw_iastN h (gxs159 hX) (by decide) (by omega) dX0_laysRooms_94 ?_
                refine aw_iincN5 h rfl dX0_laysRooms_95 ?_
                refine aw_goto h (tgt := 62) dX0_laysRooms_98 (by decide) ?_
                refine ihp (p + 1) (upd2 I5 159 (4 * (FLp S RL kk).length + p) (pv (TJ S RL kk mo) p 0)) (by omega) (by omega) (fun m hm => (upd2_n _ _ _ hm).trans (h159 m hm)) (fun q hq => ?_) (fun b hb q hq => ?_)
                · rw [upd2_s]
                  by_cases e : q = p
                  · subst e; rw [vup_s]
                  · rw [vup_n _ _ (by omega)]; exact hrow q (by omega)
                · rw [upd2_s, vup_n _ _ (by omega)]; exact hold b hb q hq
          exact keyp (np S + 1) 0 I6 (Nat.zero_le _) (by omega) (fun _ _ => rfl) (fun q hq => absurd hq (Nat.not_lt_zero _)) hold4
        · refine aw_goto h (tgt := 104) dX0_laysRooms_23 (by decide) ?_
          refine aw_iinc3 h rfl rfl dX0_laysRooms_104 ?_
          refine aw_goto h (tgt := 4) dX0_laysRooms_107 (by decide) ?_
          have h9 := ih (kk + 1) I2 L2 (by omega) (by omega) (hm.trans (hm2.mono gt_lr (fun _ q => q))) (by rw [FLp_no c20]; exact fun b hb q hq => (congrFun (hm2.1 159 (by decide) rfl).1 _).trans (hrows b hb q hq)) o4 o5
          rw [FLp_no c20, ← qI_inc] at h9
          exact h9
  refine aw_iconst h _ ci_0 dX0_laysRooms_0 ?_
  refine aw_istore2 h rfl dX0_laysRooms_1 ?_
  refine aw_iconst h _ ci_m1 dX0_laysRooms_2 ?_
  refine aw_istore3 h rfl dX0_laysRooms_3 ?_
  exact key (RL.length + 2) 0 I L (Nat.zero_le _) (by omega) XM.rf (fun b hb => absurd hb (Nat.not_lt_zero _)) _ _
