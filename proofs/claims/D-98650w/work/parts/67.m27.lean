/-! The reference's parser: signs that are open -/
set_option maxRecDepth 100000
def strN (s : Nat) : Nat := if s = 13 then 1 else if s = 12 then 2 else if s = 11 then 3 else 0
/-- the open signs, the last first -/
def OpAt (I : Im) : List Nat → Prop
  | [] => True
  | o :: r => I 168 r.length = nI o ∧ OpAt I r
def PO (I : Im) (ops : List Nat) (dp : Nat) : Prop := I 161 16 = nI ops.length ∧ ops.length ≤ 400 ∧ OpAt I ops ∧ I 161 13 = nI dp ∧ dp ≤ 10 ∧ ∀ o ∈ ops, o = 11 ∨ o = 12 ∨ o = 13 ∨ o = 91
def PF1 (t : Nat) (I : Im) (L : Lm) (I1 : Im) (L1 : Lm) : Prop := L = L1 ∧ (∀ m, m ≠ 161 → m ≠ 163 → m ≠ 164 → m ≠ 168 → I1 m = I m) ∧ (∀ j, j ∉ [8, 9, 10, 12, 13, 16] → I1 161 j = I 161 j) ∧ (∀ j, j < 400 * t → I1 163 j = I 163 j) ∧ ∀ j, j ≠ t → I1 164 j = I 164 j
theorem PF1.rf {t : Nat} {I : Im} {L : Lm} : PF1 t I L I L := ⟨rfl, fun _ _ _ _ _ => rfl, fun _ _ => rfl, fun _ _ => rfl, fun _ _ => rfl⟩
theorem PF1.trans {t : Nat} {I I1 I2 : Im} {L L1 L2 : Lm} (h : PF1 t I L I1 L1) (h2 : PF1 t I1 L1 I2 L2) : PF1 t I L I2 L2 := ⟨h.1.trans h2.1, fun m a b c d => (h2.2.1 m a b c d).trans (h.2.1 m a b c d), fun j a => (h2.2.2.1 j a).trans (h.2.2.1 j a), fun j a => (h2.2.2.2.1 j a).trans (h.2.2.2.1 j a), fun j a => (h2.2.2.2.2 j a).trans (h.2.2.2.2 j a)⟩
theorem PF0.to1 {t : Nat} {I I1 : Im} {L L1 : Lm} (h : PF0 t I L I1 L1) : PF1 t I L I1 L1 := ⟨h.1, fun m a b c _ => h.2.1 m a b c, fun j hj => h.2.2.1 j (fun q => hj (by simp at q ⊢; omega)), h.2.2.2.1, h.2.2.2.2⟩
theorem PF1.f {t j : Nat} {I : Im} {L : Lm} {x : Int32} (h : j ∈ [8, 9, 10, 12, 13, 16]) : PF1 t I L (upd2 I 161 j x) L := by
  refine ⟨rfl, fun m a _ _ _ => vup_n _ _ a, fun q hq => ?_, fun _ _ => rfl, fun _ _ => rfl⟩
  show va_up (I 161) j x q = _
  exact vup_n _ _ (fun e => hq (e ▸ h))
theorem PF1.o {t j : Nat} {I : Im} {L : Lm} {x : Int32} : PF1 t I L (upd2 I 168 j x) L := ⟨rfl, fun m _ _ _ a => vup_n _ _ a, fun _ _ => rfl, fun _ _ => rfl, fun _ _ => rfl⟩
theorem OpAt.of {I I1 : Im} {ops : List Nat} (h : OpAt I ops) (h1 : ∀ j, j < ops.length → I1 168 j = I 168 j) : OpAt I1 ops := by
  induction ops with
  | nil => trivial
  | cons o r ih => exact ⟨(h1 _ (Nat.lt_succ_self _)).trans h.1, ih h.2 (fun j hj => h1 j (Nat.lt_succ_of_lt hj))⟩
theorem PO.of {I I1 : Im} {ops : List Nat} {dp : Nat} (h : PO I ops dp) (h1 : I1 168 = I 168) (h2 : I1 161 16 = I 161 16) (h3 : I1 161 13 = I 161 13) : PO I1 ops dp := ⟨h2.trans h.1, h.2.1, h.2.2.1.of (fun j _ => by rw [h1]), h3.trans h.2.2.2.1, h.2.2.2.2⟩
theorem PO.pf0 {t : Nat} {I I1 : Im} {L L1 : Lm} {ops : List Nat} {dp : Nat} (h : PO I ops dp) (hF : PF0 t I L I1 L1) : PO I1 ops dp := h.of (hF.2.1 168 (by decide) (by decide) (by decide)) (hF.2.2.1 16 (by decide)) (hF.2.2.1 13 (by decide))
theorem met_m_strength {w : Wd} {G : Gm} {I : Im} {L : Lm} {s : Nat} (hs : s < 100) : AMet w yX4_strength cX4_strength 1 (some .int) 1 40 0 0 [.int (nI s)] G I L (Exact (some (.int (nI (strN s)))) G I L) := by
  refine AMet.of (ls0 := [some (.int (nI s))]) rfl (Nat.le_of_ble_eq_true rfl) rfl (fun q hq => hq) (fun X h hl hr hi => ?_)
  refine aw_iload0 h dX4_strength_0 ?_
  refine aw_bipush h _ cb_13 dX4_strength_1 ?_
  refine aw_icmp_neN h (tgt := 10) (by omega) (by omega) dX4_strength_3 (by decide) (fun c3 => ?_) (fun c3 => ?_)
  · refine aw_iload0 h dX4_strength_10 ?_
    refine aw_bipush h _ cb_12 dX4_strength_11 ?_
    refine aw_icmp_neN h (tgt := 20) (by omega) (by omega) dX4_strength_13 (by decide) (fun c13 => ?_) (fun c13 => ?_)
    · refine aw_iload0 h dX4_strength_20 ?_
      refine aw_bipush h _ cb_11 dX4_strength_21 ?_
      refine aw_icmp_neN h (tgt := 30) (by omega) (by omega) dX4_strength_23 (by decide) (fun c23 => ?_) (fun c23 => ?_)
      · refine aw_iconst h _ ci_0 dX4_strength_30 ?_
        exact aw_iret h hr dX4_strength_31 (⟨by unfold strN; rw [if_neg c3, if_neg c13, if_neg c23], rfl, rfl, rfl⟩) (Nat.zero_le _) (Nat.zero_le _)
      · refine aw_iconst h _ ci_3 dX4_strength_26 ?_
        refine aw_goto h (tgt := 31) dX4_strength_27 (by decide) ?_
        exact aw_iret h hr dX4_strength_31 (⟨by unfold strN; rw [if_neg c3, if_neg c13, if_pos c23], rfl, rfl, rfl⟩) (Nat.zero_le _) (Nat.zero_le _)
    · refine aw_iconst h _ ci_2 dX4_strength_16 ?_
      refine aw_goto h (tgt := 31) dX4_strength_17 (by decide) ?_
      exact aw_iret h hr dX4_strength_31 (⟨by unfold strN; rw [if_neg c3, if_pos c13], rfl, rfl, rfl⟩) (Nat.zero_le _) (Nat.zero_le _)
  · refine aw_iconst h _ ci_1 dX4_strength_6 ?_
    refine aw_goto h (tgt := 31) dX4_strength_7 (by decide) ?_
    exact aw_iret h hr dX4_strength_31 (⟨by unfold strN; rw [if_pos c3], rfl, rfl, rfl⟩) (Nat.zero_le _) (Nat.zero_le _)
theorem met_m_opens {w : Wd} {G : Gm} {I : Im} {L : Lm} (hG : GM G) {ops : List Nat} {dp i at2 : Nat} (hO : PO I ops dp) (h8 : I 161 8 = nI i) (hl : ops.length < 400) : AMet w yX4_opens cX4_opens 2 (some .boolean) 2 62 0 0 [.ref (w.1 + 161), .int (nI at2)] G I L (Exact (some (.int (bI (!decide (dp = 10))))) G (if dp = 10 then upd2 I 161 9 (failW (I 161 9) 2 i) else upd2 (upd2 (upd2 I 161 13 (nI (dp + 1))) 168 ops.length (nI at2)) 161 16 (nI (ops.length + 1))) L) := by
  refine AMet.of (ls0 := [some (.ref (w.1 + 161)), some (.int (nI at2))]) rfl (Nat.le_of_ble_eq_true rfl) rfl (fun q hq => hq) (fun X h hl hr hi => ?_)
  have hdp := hO.2.2.2.2.1
  have hO2 := hO.1
  have hO3 := hO.2.2.2.1
  refine aw_aload0 h dX4_opens_0 ?_
  refine aw_getiV h fl_X4_162 (gmt hG) dX4_opens_1 rfl (hO3) ?_
  refine aw_bipush h _ cb_10 dX4_opens_4 ?_
  refine aw_icmp_neN h (tgt := 19) (by omega) (by omega) dX4_opens_6 (by decide) (fun c6 => ?_) (fun c6 => ?_)
  · refine aw_aload0 h dX4_opens_19 ?_
    refine aw_dup h rfl dX4_opens_20 ?_
    refine aw_getiV h fl_X4_162 (gmt hG) dX4_opens_21 rfl (hO3) ?_
    refine aw_iconst h _ ci_1 dX4_opens_24 ?_
    refine aw_iaddN h dX4_opens_25 ?_
    refine aw_puti h fl_X4_162 ft_X4_162 (fun z => by cases z) (gmt hG) dX4_opens_26 rfl ?_
    refine aw_aload0 h dX4_opens_29 ?_
    refine aw_getr h fl_X4_29 (gmt hG) dX4_opens_30 rfl (gmp15 hG) ?_
    refine aw_aload0 h dX4_opens_33 ?_
    refine aw_getiV h fl_X4_165 (gmt hG) dX4_opens_34 rfl ((show (upd2 I 161 13 (nI (dp + 1))) 161 16 = nI ops.length from hO2)) ?_
    refine aw_iload1 h dX4_opens_37 ?_
    refine aw_iastN h (gms168 hG) (by decide) (by omega) dX4_opens_38 ?_
    refine aw_aload0 h dX4_opens_39 ?_
    refine aw_dup h rfl dX4_opens_40 ?_
    refine aw_getiV h fl_X4_165 (gmt hG) dX4_opens_41 rfl ((show (upd2 (upd2 I 161 13 (nI (dp + 1))) 168 ops.length (nI at2)) 161 16 = nI ops.length from hO2)) ?_
    refine aw_iconst h _ ci_1 dX4_opens_44 ?_
    refine aw_iaddN h dX4_opens_45 ?_
    refine aw_puti h fl_X4_165 ft_X4_165 (fun z => by cases z) (gmt hG) dX4_opens_46 rfl ?_
    refine aw_iconst h _ ci_1 dX4_opens_49 ?_
    exact aw_zret h hr dX4_opens_50 (by first | exact z01_0 | exact z01_1 | exact z01_b _) (⟨by rw [decide_eq_false c6]; rfl, rfl, by rw [if_neg c6], rfl⟩) (Nat.zero_le _) (Nat.zero_le _)
  · refine aw_aload0 h dX4_opens_9 ?_
    refine aw_iconst h _ ci_2 dX4_opens_10 ?_
    refine aw_aload0 h dX4_opens_11 ?_
    refine aw_getiV h fl_X4_100 (gmt hG) dX4_opens_12 rfl (h8) ?_
    refine aw_callVE2 h hl cl_X4_121 (met_m_fails hG (kd := 2) (at2 := i)) (gmt hG) rfl dX4_opens_15 (Nat.le_of_ble_eq_true rfl) rfl (Nat.zero_le _) (Nat.zero_le _) ?_
    exact aw_zret h hr dX4_opens_18 (by first | exact z01_0 | exact z01_1 | exact z01_b _) (⟨by rw [decide_eq_true c6]; rfl, rfl, by rw [if_pos c6], rfl⟩) (Nat.zero_le _) (Nat.zero_le _)
def gO (ops : List Nat) (k : Nat) : Nat := ops.getD (ops.length - 1 - k) 0
theorem OpAt.get {I : Im} {ops : List Nat} (h : OpAt I ops) : ∀ k, k < ops.length → I 168 k = nI (gO ops k) := by
  induction ops with
  | nil => intro k hk; exact absurd hk (by simp)
  | cons o r ih =>
    intro k hk
    have hk2 : k < r.length + 1 := hk
    by_cases e : k = r.length
    · subst e
      rw [h.1]
      unfold gO
      rw [show (o :: r).length - 1 - r.length = 0 by simp]; rfl
    · rw [ih h.2 k (by omega)]
      unfold gO
      rw [show (o :: r).length - 1 - k = (r.length - 1 - k) + 1 by rw [List.length_cons]; omega]; rfl
def insO (ops : List Nat) : Bool := anyN ops.length (fun k => decide (gO ops k = 91))
theorem gO_lt {ops : List Nat} {k : Nat} (h : ∀ o ∈ ops, o < 100) : gO ops k < 100 := by
  unfold gO
  rw [List.getD_eq_getElem?_getD]
  cases e : ops[ops.length - 1 - k]? with
  | none => decide
  | some v => exact h v (List.mem_of_getElem? e)
def dpN (ops : List Nat) : Nat := match ops with
  | [] => 0
  | o :: r => (if o = 11 ∨ o = 91 then 1 else 0) + dpN r
def settleP (least : Nat) : List Nat → List Sg × List Nat
  | [] => ([], [])
  | o :: r => if least ≤ strN o then ((o, 0) :: (settleP least r).1, (settleP least r).2) else ([], o :: r)
theorem strN_91 {o : Nat} (h : 0 < strN o) : o ≠ 91 := by
  intro e; subst e; exact absurd h (by decide)
theorem met_m_isInside {w : Wd} {G : Gm} {I : Im} {L : Lm} (hG : GM G) {ops : List Nat} {dp : Nat} (hO : PO I ops dp) : AMet w yX4_isInside cX4_isInside 2 (some .boolean) 1 40 0 0 [.ref (w.1 + 161)] G I L (Exact (some (.int (bI (insO ops)))) G I L) := by
  refine AMet.of (ls0 := [some (.ref (w.1 + 161)), none]) rfl (Nat.le_of_ble_eq_true rfl) rfl (fun q hq => hq) (fun X h hl hr hi => ?_)
  have hl4 := hO.2.1
  have key : ∀ (fu k : Nat), k ≤ ops.length → ops.length < k + fu → (∀ j, j < k → decide (gO ops j = 91) = false) → AW X 0 0 2 [some (.ref (w.1 + 161)), some (.int (nI k))] [] G I L := by
    intro fu
    induction fu with
    | zero => intro k hle hlt; exact absurd hlt (by omega)
    | succ fu ih =>
      intro k hle hlt hno
      refine aw_iload1 h dX4_isInside_2 ?_
      refine aw_aload0 h dX4_isInside_3 ?_
      refine aw_getiV h fl_X4_165 (gmt hG) dX4_isInside_4 rfl (hO.1) ?_
      refine aw_icmp_geN h (tgt := 29) (by omega) (by omega) dX4_isInside_7 (by decide) (fun c7 => ?_) (fun c7 => ?_)
      · refine aw_iconst h _ ci_0 dX4_isInside_29 ?_
        exact aw_zret h hr dX4_isInside_30 (by first | exact z01_0 | exact z01_1 | exact z01_b _) (ExB0 (by unfold insO; rw [anyN_false]; intro j hj; exact hno j (by omega))) (Nat.zero_le _) (Nat.zero_le _)
      · refine aw_aload0 h dX4_isInside_10 ?_
        refine aw_getr h fl_X4_29 (gmt hG) dX4_isInside_11 rfl (gmp15 hG) ?_
        refine aw_iload1 h dX4_isInside_14 ?_
        refine aw_ialdV h (gms168 hG) (by decide) (by omega) dX4_isInside_15 (hO.2.2.1.get k (by omega)) ?_
        refine aw_bipush h _ cb_91 dX4_isInside_16 ?_
        refine aw_icmp_neN h (tgt := 23) (by have := gO_lt (k := k) (fun o h => show o < 100 by have := hO.2.2.2.2.2 o h; omega); omega) (by omega) dX4_isInside_18 (by decide) (fun c18 => ?_) (fun c18 => ?_)
        · refine aw_iincN1 h rfl dX4_isInside_23 ?_
          refine aw_goto h (tgt := 2) dX4_isInside_26 (by decide) ?_
          refine ih (k + 1) (by omega) (by omega) (fun j hj => ?_)
          by_cases e : j = k
          · subst e; exact decide_eq_false c18
          · exact hno j (by omega)
        · refine aw_iconst h _ ci_1 dX4_isInside_21 ?_
          exact aw_zret h hr dX4_isInside_22 (by first | exact z01_0 | exact z01_1 | exact z01_b _) (ExB1 (by unfold insO; rw [anyN_iff]; exact ⟨k, by omega, decide_eq_true c18⟩)) (Nat.zero_le _) (Nat.zero_le _)
  refine aw_iconst h _ ci_0 dX4_isInside_0 ?_
  refine aw_istore1 h rfl dX4_isInside_1 ?_
  exact key (ops.length + 1) 0 (Nat.zero_le _) (by omega) (fun j hj => absurd hj (by omega))
/-- signs are settled -/
def SPt (T : Nat → Int32) (n t i md : Nat) (cs : List Sg) (least : Nat) (ops : List Nat) (G : Gm) (I : Im) (L : Lm) : Gm → Im → Lm → Prop := fun G1 I1 L1 => G = G1 ∧ PF1 t I L I1 L1 ∧ PZ I1 T n t i md (cs ++ (settleP least ops).1) ∧ PO I1 (settleP least ops).2 (dpN (settleP least ops).2)
theorem PF1.put {t x : Nat} {I : Im} {L : Lm} {u v : Int32} : PF1 t I L (upd2 (upd2 I 163 (400 * t + x) u) 164 t v) L := PF0.put.to1
theorem met_m_settles {w : Wd} {G : Gm} {I : Im} {L : Lm} (hG : GM G) {T : Nat → Int32} {n t i md least : Nat} {cs : List Sg} {ops0 : List Nat} (hZ : PZ I T n t i md cs) (hO : PO I ops0 (dpN ops0)) (hb : cs.length + ops0.length ≤ i) (hls : 1 ≤ least) (hl3 : least ≤ 3) : AMet w yX4_settles cX4_settles 2 none 2 62 0 0 [.ref (w.1 + 161), .int (nI least)] G I L (Ans none (SPt T n t i md cs least ops0 G I L)) := by
  refine AMet.of (ls0 := [some (.ref (w.1 + 161)), some (.int (nI least))]) rfl (Nat.le_of_ble_eq_true rfl) rfl (fun q hq => hq) (fun X h hl hr hi => ?_)
  have hle1 : 1 ≤ least := hls
  have key : ∀ (ops : List Nat) (cs1 : List Sg) (I1 : Im) (L1 : Lm), PZ I1 T n t i md cs1 → PO I1 ops (dpN ops) → PF1 t I L I1 L1 → cs1.length + ops.length ≤ i → cs1 ++ (settleP least ops).1 = cs ++ (settleP least ops0).1 → (settleP least ops).2 = (settleP least ops0).2 → AW X 0 0 0 [some (.ref (w.1 + 161)), some (.int (nI least))] [] G I1 L1 := by
    intro ops
    induction ops with
    | nil =>
      intro cs1 I1 L1 hZ1 hO1 hF1 hb he1 he2
      rw [show (settleP least []).1 = [] from rfl, List.append_nil] at he1
      rw [show (settleP least []).2 = [] from rfl] at he2
      refine aw_aload0 h dX4_settles_0 ?_
      refine aw_getiV h fl_X4_165 (gmt hG) dX4_settles_1 rfl ((show I1 161 16 = nI 0 from hO1.1)) ?_
      refine aw_if_leN h (tgt := 76) (by decide) dX4_settles_4 (by decide) (fun c4 => ?_) (fun c4 => ?_)
      · exact aw_vret h hr dX4_settles_76 (⟨rfl, rfl, hF1, by rw [← he1]; exact hZ1, by rw [← he2]; exact hO1⟩) (Nat.zero_le _) (Nat.zero_le _)
      · exact absurd c4 (by decide)
    | cons o r ih =>
      intro cs1 I1 L1 hZ1 hO1 hF1 hb he1 he2
      have ho : o < 100 := by have := hO1.2.2.2.2.2 o (List.mem_cons_self ..); omega
      have hln : (o :: r).length = r.length + 1 := rfl
      have hl4 := hO1.2.1
      have hdc : dpN (o :: r) = (if o = 11 ∨ o = 91 then 1 else 0) + dpN r := rfl
      have hd10 := hO1.2.2.2.2.1
      have hin := hZ1.1.2.2.2.2
      have hn4 := hZ1.1.2.2.1
      have hO16 : I1 161 16 = nI (r.length + 1) := hO1.1
      have htop : I1 168 r.length = nI o := hO1.2.2.1.1
      refine aw_aload0 h dX4_settles_0 ?_
      refine aw_getiV h fl_X4_165 (gmt hG) dX4_settles_1 rfl (hO16) ?_
      refine aw_if_leN h (tgt := 76) (by omega) dX4_settles_4 (by decide) (fun c4 => ?_) (fun c4 => ?_)
      · exact absurd c4 (by omega)
      · refine aw_aload0 h dX4_settles_7 ?_
        refine aw_getr h fl_X4_29 (gmt hG) dX4_settles_8 rfl (gmp15 hG) ?_
        refine aw_aload0 h dX4_settles_11 ?_
        refine aw_getiV h fl_X4_165 (gmt hG) dX4_settles_12 rfl (hO16) ?_
        refine aw_iconst h _ ci_1 dX4_settles_15 ?_
        refine aw_isubN h (by omega) dX4_settles_16 ?_
        rw [Nat.add_sub_cancel]
        refine aw_ialdV h (gms168 hG) (by decide) (by omega) dX4_settles_17 (htop) ?_
        refine aw_callSE1 h hl cl_X4_168 (met_m_strength ho) dX4_settles_18 (Nat.le_of_ble_eq_true rfl) rfl (Nat.zero_le _) (Nat.zero_le _) ?_
        refine aw_iload1 h dX4_settles_21 ?_
        refine aw_icmp_ltN h (tgt := 76) (by unfold strN; split <;> (try split) <;> (try split) <;> omega) (by omega) dX4_settles_22 (by decide) (fun c22 => ?_) (fun c22 => ?_)
        · have hst : ¬ least ≤ strN o := by omega
          rw [show settleP least (o :: r) = ([], o :: r) by rw [settleP, if_neg hst]] at he1 he2
          rw [List.append_nil] at he1
          exact aw_vret h hr dX4_settles_76 (⟨rfl, rfl, hF1, by rw [← he1]; exact hZ1, by rw [← he2]; exact hO1⟩) (Nat.zero_le _) (Nat.zero_le _)
        · have hst : least ≤ strN o := by omega
          have hne : o ≠ 91 := strN_91 (by omega)
          have hs : settleP least (o :: r) = ((o, 0) :: (settleP least r).1, (settleP least r).2) := by rw [settleP, if_pos hst]
          rw [hs] at he1 he2
          have hZ2 : PZ (upd2 I1 161 16 (nI r.length)) T n t i md cs1 := hZ1.f ⟨hZ1.1.1, hZ1.1.2.1, hZ1.1.2.2.1, hZ1.1.2.2.2.1, hZ1.1.2.2.2.2⟩ hZ1.2.1 hZ1.2.2.2.2.1 hZ1.2.2.2.2.2.1 rfl rfl rfl
          have hZ3 := hZ2.put (o, 0)
          have hF3 : PF1 t I L (upd2 (upd2 (upd2 I1 161 16 (nI r.length)) 163 (400 * t + cs1.length) (cellOf (o, 0))) 164 t (nI (cs1.length + 1))) L1 := hF1.trans ((PF1.f (j := 16) (by decide)).trans PF1.put)
          have hl5 : (cs1 ++ [(o, 0)]).length = cs1.length + 1 := List.length_append
          have he1b : cs1 ++ [(o, 0)] ++ (settleP least r).1 = cs ++ (settleP least ops0).1 := by rw [← he1]; simp
          refine aw_aload0 h dX4_settles_25 ?_
          refine aw_dup h rfl dX4_settles_26 ?_
          refine aw_getiV h fl_X4_165 (gmt hG) dX4_settles_27 rfl (hO16) ?_
          refine aw_iconst h _ ci_1 dX4_settles_30 ?_
          refine aw_isubN h (by omega) dX4_settles_31 ?_
          rw [Nat.add_sub_cancel]
          refine aw_puti h fl_X4_165 ft_X4_165 (fun z => by cases z) (gmt hG) dX4_settles_32 rfl ?_
          refine aw_aload0 h dX4_settles_35 ?_
          refine aw_aload0 h dX4_settles_36 ?_
          refine aw_getr h fl_X4_29 (gmt hG) dX4_settles_37 rfl (gmp15 hG) ?_
          refine aw_aload0 h dX4_settles_40 ?_
          refine aw_getiV h fl_X4_165 (gmt hG) dX4_settles_41 rfl ((rfl : (upd2 I1 161 16 (nI r.length)) 161 16 = nI r.length)) ?_
          refine aw_ialdV h (gms168 hG) (by decide) (by omega) dX4_settles_44 ((show (upd2 I1 161 16 (nI r.length)) 168 r.length = nI o from htop)) ?_
          refine aw_iconst h _ ci_0 dX4_settles_45 ?_
          refine aw_callVD2 h hl cl_X4_172 (met_m_puts hG hZ2 (s := o) (v := 0) (by omega)) (gmt hG) rfl dX4_settles_46 (Nat.le_of_ble_eq_true rfl) rfl (Nat.zero_le _) (Nat.zero_le _) ?_
          refine aw_aload0 h dX4_settles_49 ?_
          refine aw_getr h fl_X4_29 (gmt hG) dX4_settles_50 rfl (gmp15 hG) ?_
          refine aw_aload0 h dX4_settles_53 ?_
          refine aw_getiV h fl_X4_165 (gmt hG) dX4_settles_54 rfl ((rfl : (upd2 (upd2 (upd2 I1 161 16 (nI r.length)) 163 (400 * t + cs1.length) (cellOf (o, 0))) 164 t (nI (cs1.length + 1))) 161 16 = nI r.length)) ?_
          refine aw_ialdV h (gms168 hG) (by decide) (by omega) dX4_settles_57 ((show (upd2 (upd2 (upd2 I1 161 16 (nI r.length)) 163 (400 * t + cs1.length) (cellOf (o, 0))) 164 t (nI (cs1.length + 1))) 168 r.length = nI o from htop)) ?_
          refine aw_bipush h _ cb_11 dX4_settles_58 ?_
          refine aw_icmp_neN h (tgt := 0) (by omega) (by omega) dX4_settles_60 (by decide) (fun c60 => ?_) (fun c60 => ?_)
          · exact ih (cs1 ++ [(o, 0)]) (upd2 (upd2 (upd2 I1 161 16 (nI r.length)) 163 (400 * t + cs1.length) (cellOf (o, 0))) 164 t (nI (cs1.length + 1))) L1 hZ3 ⟨rfl, by omega, hO1.2.2.1.2.of (fun _ _ => rfl), (hO1.2.2.2.1).trans (by rw [hdc, if_neg (by omega), Nat.zero_add]), by rw [hdc, if_neg (by omega)] at hd10; omega, fun x hx => hO1.2.2.2.2.2 x (List.mem_cons_of_mem _ hx)⟩ hF3 (by omega) he1b he2
          · refine aw_aload0 h dX4_settles_63 ?_
            refine aw_dup h rfl dX4_settles_64 ?_
            refine aw_getiV h fl_X4_162 (gmt hG) dX4_settles_65 rfl ((show (upd2 (upd2 (upd2 I1 161 16 (nI r.length)) 163 (400 * t + cs1.length) (cellOf (o, 0))) 164 t (nI (cs1.length + 1))) 161 13 = nI (dpN r + 1) from hO1.2.2.2.1.trans (by rw [hdc, if_pos (Or.inl c60), Nat.add_comm]))) ?_
            refine aw_iconst h _ ci_1 dX4_settles_68 ?_
            refine aw_isubN h (by omega) dX4_settles_69 ?_
            rw [Nat.add_sub_cancel]
            refine aw_puti h fl_X4_162 ft_X4_162 (fun z => by cases z) (gmt hG) dX4_settles_70 rfl ?_
            refine aw_goto h (tgt := 0) dX4_settles_73 (by decide) ?_
            exact ih (cs1 ++ [(o, 0)]) (upd2 (upd2 (upd2 (upd2 I1 161 16 (nI r.length)) 163 (400 * t + cs1.length) (cellOf (o, 0))) 164 t (nI (cs1.length + 1))) 161 13 (nI (dpN r))) L1 (hZ3.f ⟨hZ3.1.1, hZ3.1.2.1, hZ3.1.2.2.1, hZ3.1.2.2.2.1, hZ3.1.2.2.2.2⟩ hZ3.2.1 hZ3.2.2.2.2.1 hZ3.2.2.2.2.2.1 rfl rfl rfl) ⟨rfl, by omega, hO1.2.2.1.2.of (fun _ _ => rfl), rfl, by rw [hdc] at hd10; omega, fun x hx => hO1.2.2.2.2.2 x (List.mem_cons_of_mem _ hx)⟩ (hF3.trans (PF1.f (j := 13) (by decide))) (by omega) he1b he2
  exact key ops0 cs I L hZ hO PF1.rf hb rfl rfl
