/-! The component: what was, kept; undo, moment -/
set_option maxRecDepth 100000
/-- cells but those of ex stay, the object's own numbers but those of exf -/
def XM (ex exf : Nat → Bool) (I : Im) (L : Lm) (I1 : Im) (L1 : Lm) : Prop := (∀ m, m ≠ 0 → ex m = false → I1 m = I m ∧ L1 m = L m) ∧ (∀ j, exf j = false → I1 0 j = I 0 j) ∧ L1 0 = L 0
theorem XM.rf {ex exf : Nat → Bool} {I : Im} {L : Lm} : XM ex exf I L I L := ⟨fun _ _ _ => ⟨rfl, rfl⟩, fun _ _ => rfl, rfl⟩
theorem XM.trans {ex exf : Nat → Bool} {I I1 I2 : Im} {L L1 L2 : Lm} (h : XM ex exf I L I1 L1) (h2 : XM ex exf I1 L1 I2 L2) : XM ex exf I L I2 L2 := ⟨fun m a b => ⟨(h2.1 m a b).1.trans (h.1 m a b).1, (h2.1 m a b).2.trans (h.1 m a b).2⟩, fun j a => (h2.2.1 j a).trans (h.2.1 j a), h2.2.2.trans h.2.2⟩
theorem XM.mono {ex exf ex2 exf2 : Nat → Bool} {I I1 : Im} {L L1 : Lm} (h : XM ex exf I L I1 L1) (h1 : ∀ m, ex m = true → ex2 m = true) (h2 : ∀ m, exf m = true → exf2 m = true) : XM ex2 exf2 I L I1 L1 := ⟨fun m a b => h.1 m a (by cases he : ex m with | false => rfl | true => rw [h1 m he] at b; cases b), fun j a => h.2.1 j (by cases he : exf j with | false => rfl | true => rw [h2 j he] at a; cases a), h.2.2⟩
theorem XM.ix {ex exf : Nat → Bool} {l : List Nat} {I I1 : Im} {L L1 : Lm} (h : IX l I L I1 L1) (h0 : 0 ∉ l) (he : ∀ m ∈ l, ex m = true) : XM ex exf I L I1 L1 := ⟨fun m _ a => h m (fun q => by rw [he m q] at a; cases a), fun j _ => congrFun (h 0 h0).1 j, (h 0 h0).2⟩
theorem XM.f {ex exf : Nat → Bool} {I : Im} {L : Lm} {j : Nat} {x : Int32} (h : exf j = true) : XM ex exf I L (upd2 I 0 j x) L := by
  refine ⟨fun m a _ => ⟨upd2_n _ _ _ a, rfl⟩, fun i a => ?_, rfl⟩
  rw [upd2_s, vup_n]
  intro e; subst e; rw [h] at a; cases a
theorem XM.i {ex exf : Nat → Bool} {I : Im} {L : Lm} {n j : Nat} {x : Int32} (h0 : n ≠ 0) (h : ex n = true) : XM ex exf I L (upd2 I n j x) L := ⟨fun m _ a => ⟨upd2_n _ _ _ (fun e => by rw [e, h] at a; cases a), rfl⟩, fun i a => upd2_r (Ne.symm h0), rfl⟩
/-- scratch of questions; what acts change -/
def scrE (m : Nat) : Bool := (decide (13 ≤ m) && decide (m ≤ 18)) || ((decide (26 ≤ m) && decide (m ≤ 31)) || (decide (153 ≤ m) && decide (m ≤ 159)))
def scrF (j : Nat) : Bool := j == 26 || j == 27
def pastE (m : Nat) : Bool := decide (33 ≤ m) && decide (m ≤ 152)
def pastF (j : Nat) : Bool := j == 20 || j == 21
def actE (m : Nat) : Bool := scrE m || (pastE m || (decide (7 ≤ m) && decide (m ≤ 12)))
def actF (j : Nat) : Bool := scrF j || pastF j
theorem XM.nm {ex exf : Nat → Bool} {I I1 : Im} {L L1 : Lm} (h : XM ex exf I L I1 L1) (he : ∀ m, ex m = true → MutB m = true) : ∀ m, MutB m = false → I1 m = I m := fun m hm => (h.1 m (fun e => by subst e; cases hm) (by cases q : ex m with | false => rfl | true => rw [he m q] at hm; cases hm)).1
theorem act_mut (m : Nat) (h : actE m = true) : MutB m = true := by
  unfold actE scrE pastE at h
  unfold MutB
  simp only [Bool.or_eq_true, Bool.and_eq_true, decide_eq_true_eq] at h ⊢
  omega
theorem past_act (m : Nat) (h : pastE m = true) : actE m = true := by unfold actE; rw [h]; simp
theorem pastf_act (m : Nat) (h : pastF m = true) : actF m = true := by unfold actF; rw [h]; simp
theorem scr_act (m : Nat) (h : scrE m = true) : actE m = true := by unfold actE; rw [h]; rfl
theorem scrf_act (m : Nat) (h : scrF m = true) : actF m = true := by unfold actF; rw [h]; rfl
/-- what was, in the ring -/
def PastX (I : Im) (H : List (Nat → Int32)) : Prop := ∃ at_, at_ < 20 ∧ I 0 21 = nI at_ ∧ I 0 20 = nI H.length ∧ H.length ≤ 20 ∧ ∀ j, j < H.length → StAt I (33 + 6 * ((at_ + 20 - H.length + j) % 20)) (H.getD j (fun _ => 0))
theorem min20 {n : Nat} (h : n ≤ 20) : (if nI (n + 1) < nI 20 then nI (n + 1) else nI 20) = nI (min 20 (n + 1)) := by
  by_cases e : n + 1 < 20
  · rw [if_pos ((nI_ltI (by omega) (by omega)).mpr e), Nat.min_eq_right (by omega)]
  · rw [if_neg (fun q => e ((nI_ltI (by omega) (by omega)).mp q)), Nat.min_eq_left (by omega)]
theorem StAt.ix7 {I I1 : Im} {s : Nat} {S : Nat → Int32} (h : StAt I s S) (he : ∀ m, s ≤ m → m ≤ s + 5 → I1 m = I m) : StAt I1 s S := h.ix (fun m hm => he m (by simp [SCs] at hm; omega) (by simp [SCs] at hm; omega))
theorem PastX.keep {I I1 : Im} {H : List (Nat → Int32)} {S : Nat → Int32} {a : Nat} (ha : a < 20) (hl : H.length ≤ 20) (hs : ∀ j, j < H.length → StAt I (33 + 6 * ((a + 20 - H.length + j) % 20)) (H.getD j (fun _ => 0))) (hn : StAt I1 (33 + 6 * a) S) (h1 : ∀ m, 33 ≤ m → (m < 33 + 6 * a ∨ 33 + 6 * a + 5 < m) → I1 m = I m) (h20 : I1 0 20 = nI (min 20 (H.length + 1))) (h21 : I1 0 21 = nI ((a + 1) % 20)) : PastX I1 (keepH H S) := by
  have key : ∀ b, b < 20 → b ≠ a → ∀ V, StAt I (33 + 6 * b) V → StAt I1 (33 + 6 * b) V := fun b hb hba V hV => hV.ix7 (fun m p1 p2 => h1 m (by omega) (by omega))
  unfold keepH
  by_cases e : H.length = 20
  · rw [if_pos e]
    have et : H.tail.length = 19 := by rw [List.length_tail, e]
    refine ⟨(a + 1) % 20, by omega, h21, by rw [h20, e, List.length_append, et]; rfl, by rw [List.length_append, et]; show 19 + 1 ≤ 20; decide, fun j hj => ?_⟩
    rw [List.length_append, et] at hj ⊢
    have hj : j < 20 := hj
    by_cases e2 : j < 19
    · rw [getD_app_lt (by omega)]
      have h3 := hs (j + 1) (by omega)
      rw [show H.getD (j + 1) (fun _ => 0) = H.tail.getD j (fun _ => 0) by cases H with | nil => rfl | cons _ _ => simp, e] at h3
      have e4 : (a + 20 - 20 + (j + 1)) % 20 = ((a + 1) % 20 + 20 - (19 + [S].length) + j) % 20 := by
        rw [show [S].length = 1 from rfl]; omega
      rw [e4] at h3
      exact key _ (Nat.mod_lt _ (by decide)) (by rw [show [S].length = 1 from rfl]; omega) _ h3
    · have e3 : j = H.tail.length := by omega
      rw [e3, getD_app_eq, et]
      rw [show ((a + 1) % 20 + 20 - (19 + [S].length) + 19) % 20 = a by rw [show [S].length = 1 from rfl]; omega]
      exact hn
  · rw [if_neg e]
    refine ⟨(a + 1) % 20, by omega, h21, by rw [h20, Nat.min_eq_right (by omega), List.length_append]; rfl, by rw [List.length_append]; show H.length + 1 ≤ 20; omega, fun j hj => ?_⟩
    rw [List.length_append] at hj ⊢
    have hj : j < H.length + 1 := hj
    rw [show [S].length = 1 from rfl]
    by_cases e2 : j < H.length
    · rw [getD_app_lt e2]
      have h3 := hs j e2
      rw [show (a + 20 - H.length + j) % 20 = ((a + 1) % 20 + 20 - (H.length + 1) + j) % 20 by omega] at h3
      exact key _ (Nat.mod_lt _ (by decide)) (by omega) _ h3
    · have e3 : j = H.length := by omega
      rw [e3, getD_app_eq]
      rw [show ((a + 1) % 20 + 20 - (H.length + 1) + H.length) % 20 = a by omega]
      exact hn
theorem PastX.xm {ex exf : Nat → Bool} {I I1 : Im} {L L1 : Lm} {H : List (Nat → Int32)} (h : PastX I H) (hm : XM ex exf I L I1 L1) (h1 : ∀ m, 33 ≤ m → m ≤ 152 → ex m = false) (h2 : exf 20 = false) (h3 : exf 21 = false) : PastX I1 H := by
  obtain ⟨a, ha, b1, b2, b3, b4⟩ := h
  exact ⟨a, ha, (hm.2.1 21 h3).trans b1, (hm.2.1 20 h2).trans b2, b3, fun j hj => (b4 j hj).ix7 (fun m p1 p2 => (hm.1 m (by omega) (h1 m (by omega) (by omega))).1)⟩
def KHt (S : Nat → Int32) (H : List (Nat → Int32)) (G : Gm) (I : Im) (L : Lm) : Gm → Im → Lm → Prop := fun G1 I1 L1 => G = G1 ∧ XM pastE pastF I L I1 L1 ∧ PastX I1 (keepH H S)
theorem met_x_keeps {w : Wd} {G : Gm} {I : Im} {L : Lm} (hX : XG G) {S : Nat → Int32} (hS : InvS S) (hA : StAt I 7 S) {H : List (Nat → Int32)} (hP : PastX I H) : AMet w yX0_keeps cX0_keeps 1 none 2 62 0 0 [.ref (w.1 + 0)] G I L (Ans none (KHt S H G I L)) := by
  refine AMet.of (ls0 := [some (.ref (w.1 + 0))]) rfl (Nat.le_of_ble_eq_true rfl) rfl (fun q hq => hq) (fun X h hl hr hi => ?_)
  obtain ⟨a, ha, h21, h20, hl20, hst⟩ := id hP
  have hps := (hX.2.2.2.2.2 a ha).1
  refine aw_aload0 h dX0_keeps_0 ?_
  refine aw_getr h fl_X0_87 (gx0 hX) dX0_keeps_1 rfl (gxp19 hX) ?_
  refine aw_aload0 h dX0_keeps_4 ?_
  refine aw_getiV h fl_X0_306 (gx0 hX) dX0_keeps_5 rfl (h21) ?_
  refine aw_aaldN h (gxs32 hX) (by simp) (by decide) (by omega) dX0_keeps_8 ((hX.2.2.2.2.2 a (by omega)).2) ?_
  refine aw_aload0 h dX0_keeps_9 ?_
  refine aw_getr h fl_X0_19 (gx0 hX) dX0_keeps_10 rfl (gxp1 hX) ?_
  refine aw_callVN1 h hl cl_X0_309 (met_x_copyFrom hps (gxt7 hX) (by omega)) hps.1 rfl dX0_keeps_13 (Nat.le_of_ble_eq_true rfl) rfl (Nat.zero_le _) (Nat.zero_le _) (fun G1 I1 L1 hp9 => ?_)
  have hcst := hp9.st hS hA
  obtain ⟨rfl, hixc, -, -⟩ := hp9
  refine aw_aload0 h dX0_keeps_16 ?_
  refine aw_aload0 h dX0_keeps_17 ?_
  refine aw_getiV h fl_X0_306 (gx0 hX) dX0_keeps_18 rfl (((congrFun (hixc 0 (by simp [SCs]; omega)).1 21).trans h21)) ?_
  refine aw_iconst h _ ci_1 dX0_keeps_21 ?_
  refine aw_iaddN h dX0_keeps_22 ?_
  refine aw_bipush h _ cb_20 dX0_keeps_23 ?_
  refine aw_iremN h (by omega) (by omega) (by omega) dX0_keeps_25 ?_
  refine aw_puti h fl_X0_306 ft_X0_306 (fun z => by cases z) (gx0 hX) dX0_keeps_26 rfl ?_
  refine aw_aload0 h dX0_keeps_29 ?_
  refine aw_bipush h _ cb_20 dX0_keeps_30 ?_
  refine aw_aload0 h dX0_keeps_32 ?_
  refine aw_getiV h fl_X0_167 (gx0 hX) dX0_keeps_33 rfl ((show upd2 I1 0 21 (nI ((a + 1) % 20)) 0 20 = nI H.length from (congrFun (hixc 0 (by simp [SCs]; omega)).1 20).trans h20)) ?_
  refine aw_iconst h _ ci_1 dX0_keeps_36 ?_
  refine aw_iaddN h dX0_keeps_37 ?_
  refine aw_mmin h (by decide) (by decide) q990 q726 q169 q727 (Nat.le_of_ble_eq_true rfl) (Nat.zero_le _) (Nat.zero_le _) dX0_keeps_38 ?_
  rw [min20 hl20]
  refine aw_puti h fl_X0_167 ft_X0_167 (fun z => by cases z) (gx0 hX) dX0_keeps_41 rfl ?_
  exact aw_vret h hr dX0_keeps_44 (⟨rfl, rfl, ((XM.ix hixc (by simp [SCs]; omega) (fun m hm => by simp [SCs] at hm; simp [pastE]; omega)).trans (XM.f rfl)).trans (XM.f rfl), PastX.keep ha hl20 hst (hcst.ix7 (fun m p1 p2 => (upd2_n _ _ _ (by omega)).trans (upd2_n _ _ _ (by omega)))) (fun m p1 p2 => ((upd2_n _ _ _ (by omega)).trans (upd2_n _ _ _ (by omega))).trans (hixc m (by simp [SCs]; omega)).1) (by rw [upd2_s, vup_s]) (by rw [upd2_s, vup_n _ _ (by decide), upd2_s, vup_s])⟩) (Nat.zero_le _) (Nat.zero_le _)
theorem np_over {S u : Nat → Int32} : np (overV S u) = np u := rfl
theorem StAt.over {I : Im} {s : Nat} {S u : Nat → Int32} (h : StAt I s u) (hu : InvS u) : StAt I s (overV S u) := by
  have h4 := iv2b hu
  have e : ∀ p k, p < np u → k < 6 → pv (overV S u) p k = pv u p k := fun p k hp hk => by
    show overV S u (10 + 6 * p + k) = u (10 + 6 * p + k)
    unfold overV; rw [if_pos (by omega)]
  refine ⟨h.1, fun p hp => ?_, h.2.2⟩
  rw [np_over] at hp
  rw [e p 0 hp (by decide), e p 1 hp (by decide), e p 3 hp (by decide), e p 4 hp (by decide), e p 5 hp (by decide)]
  exact h.2.1 p hp
/-- an act's end on the component's side -/
def XO (S : Nat → Int32) (H : List (Nat → Int32)) (G : Gm) (I : Im) (L : Lm) : Gm → Im → Lm → Prop := fun G1 I1 L1 => G = G1 ∧ XM actE actF I L I1 L1 ∧ StAt I1 7 S ∧ PastX I1 H
theorem PastX.pop {I I1 : Im} {H : List (Nat → Int32)} {a : Nat} (hn : H ≠ []) (ha : a < 20) (hl : H.length ≤ 20) (hs : ∀ j, j < H.length → StAt I (33 + 6 * ((a + 20 - H.length + j) % 20)) (H.getD j (fun _ => 0))) (h1 : ∀ m, 33 ≤ m → I1 m = I m) (h20 : I1 0 20 = nI (H.length - 1)) (h21 : I1 0 21 = nI ((a + 20 - 1) % 20)) : PastX I1 H.dropLast := by
  have hp : 0 < H.length := List.length_pos_iff.mpr hn
  refine ⟨(a + 20 - 1) % 20, by omega, h21, by rw [h20, List.length_dropLast], by rw [List.length_dropLast]; omega, fun j hj => ?_⟩
  rw [List.length_dropLast] at hj ⊢
  have h3 := hs j (by omega)
  rw [show (a + 20 - H.length + j) % 20 = ((a + 20 - 1) % 20 + 20 - (H.length - 1) + j) % 20 by omega] at h3
  rw [show H.dropLast.getD j (fun _ => 0) = H.getD j (fun _ => 0) by simp [List.getD, List.getElem?_dropLast, hj, show j < H.length by omega]]
  exact h3.ix7 (fun m p1 p2 => h1 m (by omega))
theorem met_x_undo {w : Wd} {G : Gm} {I : Im} {L : Lm} (hX : XG G) {S : Nat → Int32} (hA : StAt I 7 S) {H : List (Nat → Int32)} (hP : PastX I H) (hH : ∀ j, j < H.length → InvS (H.getD j (fun _ => 0))) : AMet w yX0_undo cX0_undo 1 (some .int) 2 62 0 0 [.ref (w.1 + 0)] G I L (Ans (some (.int (nI H.length - nI 1))) (XO (undoS S H) H.dropLast G I L)) := by
  refine AMet.of (ls0 := [some (.ref (w.1 + 0))]) rfl (Nat.le_of_ble_eq_true rfl) rfl (fun q hq => hq) (fun X h hl hr hi => ?_)
  obtain ⟨a, ha, h21, h20, hl20, hst⟩ := id hP
  by_cases hn : H = []
  · subst hn
    have h20 : I 0 20 = nI 0 := h20
    refine aw_aload0 h dX0_undo_0 ?_
    refine aw_getiV h fl_X0_167 (gx0 hX) dX0_undo_1 rfl (h20) ?_
    refine aw_if_neN h (tgt := 9) (by decide) dX0_undo_4 (by decide) (fun c4 => ?_) (fun c4 => ?_)
    · exact absurd rfl c4
    · refine aw_iconst h _ ci_m1 dX0_undo_7 ?_
      exact aw_iret h hr dX0_undo_8 (⟨rfl, rfl, XM.rf, hA, hP⟩) (Nat.zero_le _) (Nat.zero_le _)
  · have hp : 0 < H.length := List.length_pos_iff.mpr hn
    have hps := (hX.2.2.2.2.2 ((a + 20 - 1) % 20) (by omega)).1
    have hlast := hst (H.length - 1) (by omega)
    rw [show (a + 20 - H.length + (H.length - 1)) % 20 = ((a + 20 - 1) % 20) by omega] at hlast
    have hinv := hH (H.length - 1) (by omega)
    refine aw_aload0 h dX0_undo_0 ?_
    refine aw_getiV h fl_X0_167 (gx0 hX) dX0_undo_1 rfl (h20) ?_
    refine aw_if_neN h (tgt := 9) (by omega) dX0_undo_4 (by decide) (fun c4 => ?_) (fun c4 => ?_)
    · refine aw_aload0 h dX0_undo_9 ?_
      refine aw_aload0 h dX0_undo_10 ?_
      refine aw_getiV h fl_X0_306 (gx0 hX) dX0_undo_11 rfl (h21) ?_
      refine aw_bipush h _ cb_20 dX0_undo_14 ?_
      refine aw_iaddN h dX0_undo_16 ?_
      refine aw_iconst h _ ci_1 dX0_undo_17 ?_
      refine aw_isubN h (by omega) dX0_undo_18 ?_
      refine aw_bipush h _ cb_20 dX0_undo_19 ?_
      refine aw_iremN h (by omega) (by omega) (by omega) dX0_undo_21 ?_
      refine aw_puti h fl_X0_306 ft_X0_306 (fun z => by cases z) (gx0 hX) dX0_undo_22 rfl ?_
      refine aw_aload0 h dX0_undo_25 ?_
      refine aw_dup h rfl dX0_undo_26 ?_
      refine aw_getiV h fl_X0_167 (gx0 hX) dX0_undo_27 rfl ((show upd2 I 0 21 (nI ((a + 20 - 1) % 20)) 0 20 = nI H.length from h20)) ?_
      refine aw_iconst h _ ci_1 dX0_undo_30 ?_
      refine aw_isubN h (by omega) dX0_undo_31 ?_
      refine aw_puti h fl_X0_167 ft_X0_167 (fun z => by cases z) (gx0 hX) dX0_undo_32 rfl ?_
      refine aw_aload0 h dX0_undo_35 ?_
      refine aw_getr h fl_X0_19 (gx0 hX) dX0_undo_36 rfl (gxp1 hX) ?_
      refine aw_aload0 h dX0_undo_39 ?_
      refine aw_getr h fl_X0_87 (gx0 hX) dX0_undo_40 rfl (gxp19 hX) ?_
      refine aw_aload0 h dX0_undo_43 ?_
      refine aw_getiV h fl_X0_306 (gx0 hX) dX0_undo_44 rfl ((show upd2 (upd2 I 0 21 (nI ((a + 20 - 1) % 20))) 0 20 (nI (H.length - 1)) 0 21 = nI ((a + 20 - 1) % 20) from rfl)) ?_
      refine aw_aaldN h (gxs32 hX) (by simp) (by decide) (by omega) dX0_undo_47 ((hX.2.2.2.2.2 ((a + 20 - 1) % 20) (by omega)).2) ?_
      refine aw_callVN1 h hl cl_X0_309 (met_x_copyFrom (gxt7 hX) hps (by omega)) (gxt7 hX).1 rfl dX0_undo_48 (Nat.le_of_ble_eq_true rfl) rfl (Nat.zero_le _) (Nat.zero_le _) (fun G1 I1 L1 hp9 => ?_)
      have hcst := hp9.st hinv (hlast.ix7 (fun m p1 p2 => (upd2_n _ _ _ (by omega)).trans (upd2_n _ _ _ (by omega))))
      obtain ⟨rfl, hixc, -, -⟩ := hp9
      refine aw_aload0 h dX0_undo_51 ?_
      refine aw_getiV h fl_X0_167 (gx0 hX) dX0_undo_52 rfl (((congrFun (hixc 0 (by decide)).1 20).trans rfl : I1 0 20 = nI (H.length - 1))) ?_
      exact aw_iret h hr dX0_undo_55 (⟨by rw [pk_sub (by omega)], rfl, ((XM.f rfl).trans (XM.f rfl)).trans (XM.ix hixc (by decide) (by decide)), by unfold undoS; rw [if_neg hn]; exact hcst.over hinv, PastX.pop hn ha hl20 hst (fun m p1 => (hixc m (by simp [SCs]; omega)).1.trans ((upd2_n _ _ _ (by omega)).trans (upd2_n _ _ _ (by omega)))) (congrFun (hixc 0 (by decide)).1 20) (congrFun (hixc 0 (by decide)).1 21)⟩) (Nat.zero_le _) (Nat.zero_le _)
    · omega
theorem XFr.f {I I1 : Im} {RL : List (List Cl)} {fr : Option (List Cl)} (h : XFr I RL fr) (he : I1 0 4 = I 0 4) : XFr I1 RL fr := by
  unfold XFr
  rw [he]; exact h
def scrE2 (m : Nat) : Bool := scrE m || (decide (7 ≤ m) && decide (m ≤ 12))
theorem GOt.xo {S : Nat → Int32} {fr : Option (List Cl)} {G G1 : Gm} {I I1 : Im} {L L1 : Lm} (h : GOt S fr 7 G I L G1 I1 L1) : XM actE actF I L I1 L1 := XM.ix h.2.1 (by decide) (by decide)
theorem momK {S : Nat → Int32} {K : CS} (h : CasS S K) (hok : CSok K) {t : Nat} (ht : S 3 = nI t) (ht2 : t < 2 ^ 30) : momB S = (decide (0 < kR K) && !decide (t = 999)) := by
  unfold momB
  rw [(cas_n h hok).1, ht, decide_eq_decide.mpr (nI_eq (by omega) (by decide))]
theorem met_x_moment {w : Wd} {G : Gm} {I : Im} {L : Lm} (hX : XG G) {sl : Nat → Prop} {K : CS} {c : Nat} {S : Nat → Int32} {t : Nat} (hV : XV sl G I K c S t) (hA : StAt I 7 S) {RL : List (List Cl)} {fr : Option (List Cl)} (hRu : XRu sl G I RL) (hFr : XFr I RL fr) {H : List (Nat → Int32)} (hP : PastX I H) : AMet w yX0_moment cX0_moment 1 (some .int) 414 12391 0 0 [.ref (w.1 + 0)] G I L (Ans (some (.int (if momB S = true then nI (passN S fr) else -1))) (XO (if momB S = true then passS S fr else S) (if momB S = true then keepH H S else H) G I L)) := by
  refine AMet.of (ls0 := [some (.ref (w.1 + 0))]) rfl (Nat.le_of_ble_eq_true rfl) rfl (fun q hq => hq) (fun X h hl hr hi => ?_)
  obtain ⟨hC0, hS, hcs, ht, ht2, hdj⟩ := id hV
  have hC := hC0
  obtain ⟨hc0, ⟨pl, pa, dl, da, fa, ps, ds, hK, hsp⟩, hok, hsl⟩ := id hC
  obtain ⟨cp, hLp⟩ := hK.2.2.2.2.2.1
  obtain ⟨cd, hLd⟩ := hK.2.2.2.2.2.2.1
  have hpl := hK.2.2.2.2.2.2.2.1
  have hdl := hK.2.2.2.2.2.2.2.2.1
  have hdk := hK.2.2.2.2.2.2.2.2.2.2.1
  have hpk := hK.2.2.2.2.2.2.2.2.2.1
  have hrm := hK.2.2.2.2.2.2.2.2.2.2.2.1
  have hfr := hK.2.2.2.2.2.2.2.2.2.2.2.2.2
  have hR8 := hok.2.1
  have hD14 := hok.2.2.1
  have hP4 := hok.2.2.2.1
  have hdo := hok.2.2.2.2.1
  have hpo := hok.2.2.2.2.2.1
  have hf9 := hok.2.2.2.2.2.2.2
  have hn := cas_n hcs hok
  have hmK := momK hcs hok ht ht2
  refine aw_aload0 h dX0_moment_0 ?_
  refine aw_callVE0 h hl cl_X0_139 (met_x_isCastle hX hC) (gx0 hX) rfl dX0_moment_1 (Nat.le_of_ble_eq_true rfl) rfl (Nat.zero_le _) (Nat.zero_le _) ?_
  refine aw_if_eqB h (tgt := 20) dX0_moment_4 (by decide) (fun c4 => ?_) (fun c4 => ?_)
  · refine aw_iconst h _ ci_m1 dX0_moment_20 ?_
    exact aw_iret h hr dX0_moment_21 (⟨by rw [show momB S = false from (by rw [hmK, c4]; rfl)]; rfl, rfl, XM.rf, by rw [show momB S = false from (by rw [hmK, c4]; rfl)]; exact hA, by rw [show momB S = false from (by rw [hmK, c4]; rfl)]; exact hP⟩) (Nat.zero_le _) (Nat.zero_le _)
  · refine aw_aload0 h dX0_moment_7 ?_
    refine aw_getr h fl_X0_19 (gx0 hX) dX0_moment_8 rfl (gxp1 hX) ?_
    refine aw_getiV h fl_X0_195 (gxt7 hX).1 dX0_moment_11 rfl (hA.1.trans ht) ?_
    refine aw_sipush h _ cs_999 dX0_moment_14 ?_
    refine aw_icmp_neN h (tgt := 22) (by omega) (by decide) dX0_moment_17 (by decide) (fun c17 => ?_) (fun c17 => ?_)
    · refine aw_aload0 h dX0_moment_22 ?_
      refine aw_callVN0 h hl cl_X0_312 (met_x_keeps hX hS hA hP) (gx0 hX) rfl dX0_moment_23 (Nat.le_of_ble_eq_true rfl) rfl (Nat.zero_le _) (Nat.zero_le _) (fun G1 I1 L1 hp9 => ?_)
      obtain ⟨rfl, hm1, hP1⟩ := hp9
      have hV1 : XV sl G I1 K c S t := hV.ix (hm1.nm (fun m hm => act_mut m (past_act m hm)))
      have hA1 : StAt I1 7 S := hA.ix7 (fun m p1 p2 => (hm1.1 m (by omega) (by simp [pastE]; omega)).1)
      refine aw_aload0 h dX0_moment_26 ?_
      refine aw_aload0 h dX0_moment_27 ?_
      refine aw_getr h fl_X0_19 (gx0 hX) dX0_moment_28 rfl (gxp1 hX) ?_
      refine aw_callVA1 h hl cl_X0_315 (met_x_goesOn hX hV1 (gxt7 hX) hA1 (Or.inl rfl) (hRu.ix (hm1.nm (fun m hm => act_mut m (past_act m hm)))) (hFr.f (hm1.2.1 4 rfl))) (gx0 hX) rfl dX0_moment_31 (Nat.le_of_ble_eq_true rfl) rfl (Nat.zero_le _) (Nat.zero_le _) (fun G1 I2 L2 hp9 => ?_)
      have hm2 := hp9.xo
      obtain ⟨rfl, hix2, hA2⟩ := hp9
      exact aw_iret h hr dX0_moment_34 (⟨by rw [show momB S = true from (by rw [hmK, c4, decide_eq_false c17]; rfl)]; rfl, rfl, (hm1.mono past_act pastf_act).trans hm2, by rw [show momB S = true from (by rw [hmK, c4, decide_eq_false c17]; rfl)]; exact hA2, by rw [show momB S = true from (by rw [hmK, c4, decide_eq_false c17]; rfl)]; exact hP1.xm (XM.ix (ex := scrE2) (exf := scrF) hix2 (by decide) (by decide)) (fun m p1 p2 => by unfold scrE2 scrE; simp; omega) rfl rfl⟩) (Nat.zero_le _) (Nat.zero_le _)
    · refine aw_iconst h _ ci_m1 dX0_moment_20 ?_
      exact aw_iret h hr dX0_moment_21 (⟨by rw [show momB S = false from (by rw [hmK, c17]; simp)]; rfl, rfl, XM.rf, by rw [show momB S = false from (by rw [hmK, c17]; simp)]; exact hA, by rw [show momB S = false from (by rw [hmK, c17]; simp)]; exact hP⟩) (Nat.zero_le _) (Nat.zero_le _)
