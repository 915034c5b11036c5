/-! The reference's parser: a clause of a rule -/
set_option maxRecDepth 100000
def ifB (T : Nat → Int32) (n j : Nat) : Bool := wordB T n j (lN 26982)
def goB (T : Nat → Int32) (n j : Nat) : Bool := wordB T n j (lN 26479)
/-- a clause behind its word: an error, or the place, what is made, the clause -/
def goP (T : Nat → Int32) (n i md : Nat) : Sum Nat (Nat × Nat × Cl) := match sumP T n (i + lrun T n i) md with
  | .inl e => .inl e
  | .inr q => if ifB T n (skip T n q.1) = true then (match testedP T n (skip T n q.1 + lrun T n (skip T n q.1)) q.2.1 with
    | .inl e => .inl e
    | .inr r => .inr (r.1, r.2.1, (q.2.2, some r.2.2))) else .inr (skip T n q.1, q.2.1, (q.2.2, none))
def clC (q : Cl) : List Sg := match q.2 with
  | none => q.1
  | some t => q.1 ++ t
/-- a clause's cells, its code ahead of m -/
def ClP (I : Im) (rl c : Nat) (q : Cl) (m : Nat) : Prop := ∃ b e, I 165 (48 * rl + 4 * c) = nI b ∧ I 165 (48 * rl + 4 * c + 1) = nI e ∧ e = b + q.1.length ∧ e ≤ m ∧ CodeAt I (400 * rl + b) q.1 ∧ okR q.1 0 ∧
  (match q.2 with
   | none => I 165 (48 * rl + 4 * c + 2) = -1
   | some t => ∃ b2 e2, I 165 (48 * rl + 4 * c + 2) = nI b2 ∧ I 165 (48 * rl + 4 * c + 3) = nI e2 ∧ e2 = b2 + t.length ∧ e2 ≤ m ∧ CodeAt I (400 * rl + b2) t ∧ okR t 0)
theorem ClP.cl {I : Im} {rl c m : Nat} {q : Cl} (h : ClP I rl c q m) (hm : m ≤ 400) : ClAt I rl c q := by
  obtain ⟨b, e, h1, h2, h3, h4, h5, h6, h7⟩ := h
  refine ⟨b, e, h1, h2, h3, by omega, h5, h6, ?_⟩
  cases hq : q.2 with
  | none => rw [hq] at h7; exact h7
  | some t =>
    rw [hq] at h7
    obtain ⟨b2, e2, g1, g2, g3, g4, g5, g6⟩ := h7
    exact ⟨b2, e2, g1, g2, g3, by omega, g5, g6⟩
theorem CodeAt.keep {I I1 : Im} {a b m : Nat} {cs : List Sg} (h : CodeAt I (a + b) cs) (hm : b + cs.length ≤ m) (h3 : ∀ j, j < m → I1 163 (a + j) = I 163 (a + j)) : CodeAt I1 (a + b) cs := fun j hj => by
  rw [show a + b + j = a + (b + j) by omega, h3 (b + j) (by omega), show a + (b + j) = a + b + j by omega]
  exact h j hj
theorem ClP.keep {I I1 : Im} {rl c m m2 : Nat} {q : Cl} (h : ClP I rl c q m) (hm : m ≤ m2) (h3 : ∀ j, j < m → I1 163 (400 * rl + j) = I 163 (400 * rl + j)) (h5 : ∀ j, j < 4 → I1 165 (48 * rl + 4 * c + j) = I 165 (48 * rl + 4 * c + j)) : ClP I1 rl c q m2 := by
  obtain ⟨b, e, h1, h2, h3', h4, h5', h6, h7⟩ := h
  refine ⟨b, e, (h5 0 (by decide)).trans h1, (h5 1 (by decide)).trans h2, h3', by omega, h5'.keep (by omega) h3, h6, ?_⟩
  cases hq : q.2 with
  | none => rw [hq] at h7; exact (h5 2 (by decide)).trans h7
  | some t =>
    rw [hq] at h7
    obtain ⟨b2, e2, g1, g2, g3, g4, g5, g6⟩ := h7
    exact ⟨b2, e2, (h5 2 (by decide)).trans g1, (h5 3 (by decide)).trans g2, g3, by omega, g5.keep (by omega) h3, g6⟩
theorem CodeAt.drop {I : Im} {a : Nat} {xs ys : List Sg} (h : CodeAt I a (xs ++ ys)) : CodeAt I (a + xs.length) ys := fun j hj => by
  have h1 := h (xs.length + j) (by rw [List.length_append]; omega)
  rw [← Nat.add_assoc] at h1
  rw [h1, List.getD_eq_getElem?_getD, List.getD_eq_getElem?_getD, List.getElem?_append_right (by omega), Nat.add_sub_cancel_left]
theorem CodeAt.take {I : Im} {a : Nat} {xs ys : List Sg} (h : CodeAt I a (xs ++ ys)) : CodeAt I a xs := fun j hj => by
  rw [h j (by rw [List.length_append]; omega), List.getD_eq_getElem?_getD, List.getD_eq_getElem?_getD, List.getElem?_append_left hj]
/-- code that is kept: both hold it -/
theorem CodeAt.same {I I1 : Im} {a : Nat} {cs xs : List Sg} (h : CodeAt I a cs) (h1 : CodeAt I1 a (cs ++ xs)) : ∀ j, j < cs.length → I1 163 (a + j) = I 163 (a + j) := fun j hj => by
  rw [h1.take j hj, h j hj]
theorem row4 (f : Nat → Int32) (a : Nat) (x0 x1 x2 x3 : Int32) : va_up (va_up (va_up (va_up f a x0) (a + 1) x1) (a + 2) x2) (a + 3) x3 a = x0 ∧ va_up (va_up (va_up (va_up f a x0) (a + 1) x1) (a + 2) x2) (a + 3) x3 (a + 1) = x1 ∧ va_up (va_up (va_up (va_up f a x0) (a + 1) x1) (a + 2) x2) (a + 3) x3 (a + 2) = x2 ∧ va_up (va_up (va_up (va_up f a x0) (a + 1) x1) (a + 2) x2) (a + 3) x3 (a + 3) = x3 ∧ ∀ j, j < a → va_up (va_up (va_up (va_up f a x0) (a + 1) x1) (a + 2) x2) (a + 3) x3 j = f j := by
  refine ⟨?_, ?_, ?_, ?_, fun j hj => ?_⟩
  · rw [vup_n _ _ (by omega), vup_n _ _ (by omega), vup_n _ _ (by omega), vup_s]
  · rw [vup_n _ _ (by omega), vup_n _ _ (by omega), vup_s]
  · rw [vup_n _ _ (by omega), vup_s]
  · rw [vup_s]
  · rw [vup_n _ _ (by omega), vup_n _ _ (by omega), vup_n _ _ (by omega), vup_n _ _ (by omega)]
/-- what parsing of a rule leaves as it was -/
def PFR (t : Nat) (I : Im) (L : Lm) (I1 : Im) (L1 : Lm) : Prop := L = L1 ∧ (∀ m, m ∉ [161, 163, 164, 165, 166, 168] → I1 m = I m) ∧ (∀ j, j ∉ [8, 9, 10, 12, 13, 16] → I1 161 j = I 161 j) ∧ (∀ j, j < 400 * t → I1 163 j = I 163 j) ∧ (∀ j, j ≠ t → I1 164 j = I 164 j) ∧ (∀ j, j < 48 * t → I1 165 j = I 165 j) ∧ ∀ j, j ≠ t → I1 166 j = I 166 j
theorem PFR.rf {t : Nat} {I : Im} {L : Lm} : PFR t I L I L := ⟨rfl, fun _ _ => rfl, fun _ _ => rfl, fun _ _ => rfl, fun _ _ => rfl, fun _ _ => rfl, fun _ _ => rfl⟩
theorem PFR.trans {t : Nat} {I I1 I2 : Im} {L L1 L2 : Lm} (h : PFR t I L I1 L1) (h2 : PFR t I1 L1 I2 L2) : PFR t I L I2 L2 := ⟨h.1.trans h2.1, fun m a => (h2.2.1 m a).trans (h.2.1 m a), fun j a => (h2.2.2.1 j a).trans (h.2.2.1 j a), fun j a => (h2.2.2.2.1 j a).trans (h.2.2.2.1 j a), fun j a => (h2.2.2.2.2.1 j a).trans (h.2.2.2.2.1 j a), fun j a => (h2.2.2.2.2.2.1 j a).trans (h.2.2.2.2.2.1 j a), fun j a => (h2.2.2.2.2.2.2 j a).trans (h.2.2.2.2.2.2 j a)⟩
theorem PF1.toR {t : Nat} {I I1 : Im} {L L1 : Lm} (h : PF1 t I L I1 L1) : PFR t I L I1 L1 := by
  refine ⟨h.1, fun m hm => ?_, fun j hj => ?_, h.2.2.2.1, h.2.2.2.2, fun j _ => ?_, fun j _ => ?_⟩
  · simp at hm; exact h.2.1 m hm.1 hm.2.1 hm.2.2.1 hm.2.2.2.2.2
  · simp at hj; exact h.2.2.1 j (by simp; omega)
  · rw [h.2.1 165 (by decide) (by decide) (by decide) (by decide)]
  · rw [h.2.1 166 (by decide) (by decide) (by decide) (by decide)]
theorem PFR.f {t j : Nat} {I : Im} {L : Lm} {x : Int32} (h : j ∈ [8, 9, 10, 12, 13, 16]) : PFR t I L (upd2 I 161 j x) L := by
  refine ⟨rfl, fun m a => vup_n _ _ (fun e => a (by rw [e]; decide)), fun q hq => ?_, fun _ _ => rfl, fun _ _ => rfl, fun _ _ => rfl, fun _ _ => rfl⟩
  show va_up (I 161) j x q = _
  exact vup_n _ _ (fun e => hq (e ▸ h))
theorem PFR.k {t j : Nat} {I : Im} {L : Lm} {x : Int32} (h : 48 * t ≤ j) : PFR t I L (upd2 I 165 j x) L := by
  refine ⟨rfl, fun m a => vup_n _ _ (fun e => a (by rw [e]; decide)), fun _ _ => rfl, fun _ _ => rfl, fun _ _ => rfl, fun q hq => ?_, fun _ _ => rfl⟩
  show va_up (I 165) j x q = _
  exact vup_n _ _ (by omega)
theorem PFR.m {t : Nat} {I : Im} {L : Lm} {x : Int32} : PFR t I L (upd2 I 166 t x) L := by
  refine ⟨rfl, fun m a => vup_n _ _ (fun e => a (by rw [e]; decide)), fun _ _ => rfl, fun _ _ => rfl, fun _ _ => rfl, fun _ _ => rfl, fun q hq => ?_⟩
  show va_up (I 166) t x q = _
  exact vup_n _ _ hq
theorem PZ.k {I : Im} {T : Nat → Int32} {n t i md j : Nat} {x : Int32} {cs : List Sg} (h : PZ I T n t i md cs) : PZ (upd2 I 165 j x) T n t i md cs := h.f ⟨h.1.1, h.1.2.1, h.1.2.2.1, h.1.2.2.2.1, h.1.2.2.2.2⟩ h.2.1 h.2.2.2.2.1 h.2.2.2.2.2.1 rfl rfl rfl
theorem PZ.m {I : Im} {T : Nat → Int32} {n t i md j : Nat} {x : Int32} {cs : List Sg} (h : PZ I T n t i md cs) : PZ (upd2 I 166 j x) T n t i md cs := h.f ⟨h.1.1, h.1.2.1, h.1.2.2.1, h.1.2.2.2.1, h.1.2.2.2.2⟩ h.2.1 h.2.2.2.2.1 h.2.2.2.2.2.1 rfl rfl rfl
/-- what comes of a clause -/
def GPt (r : Sum Nat (Nat × Nat × Cl)) (T : Nat → Int32) (n t c : Nat) (cs : List Sg) (G : Gm) (I : Im) (L : Lm) : Gm → Im → Lm → Prop := fun G1 I1 L1 => G = G1 ∧ PFR t I L I1 L1 ∧ match r with
  | .inl e => I1 161 9 = nI e
  | .inr x => PZ I1 T n t x.1 x.2.1 (cs ++ clC x.2.2) ∧ ClP I1 t c x.2.2 (cs ++ clC x.2.2).length ∧ I1 166 t = nI (c + 1) ∧ (∀ j, j < 48 * t + 4 * c → I1 165 j = I 165 j) ∧ (cs ++ clC x.2.2).length ≤ x.1
theorem met_m_isGoHere {w : Wd} {G : Gm} {I : Im} {L : Lm} (hG : GM G) {T : Nat → Int32} {n t i md c : Nat} {cs : List Sg} (hZ : PZ I T n t i md cs) (hci : cs.length ≤ i) (h6 : I 166 t = nI c) (hc : c < 12) : AMet w yX4_isGoHere cX4_isGoHere 2 (some .boolean) 10 238 0 0 [.ref (w.1 + 161)] G I L (Ans (some (.int (bI (okF (goP T n i md))))) (GPt (goP T n i md) T n t c cs G I L)) := by
  refine AMet.of (ls0 := [some (.ref (w.1 + 161)), none]) rfl (Nat.le_of_ble_eq_true rfl) rfl (fun q hq => hq) (fun X h hl hr hi => ?_)
  have hn4 := hZ.1.2.2.1
  have ht6 := hZ.2.2.2.1
  have hmd0 := hZ.2.2.2.2.2.1
  have hln0 : i + lrun T n i ≤ n := run_le (f := letB T n) hZ.1.2.2.2.2
  have hZ0 : PZ (upd2 (upd2 I 161 8 (nI (i + lrun T n i))) 165 (48 * t + 4 * c) (nI cs.length)) T n t (i + lrun T n i) md cs := (hZ.at hln0).k
  have hF0 : PFR t I L (upd2 (upd2 I 161 8 (nI (i + lrun T n i))) 165 (48 * t + 4 * c) (nI cs.length)) L := (PFR.f (by decide)).trans (PFR.k (by omega))
  cases hv : sumP T n (i + lrun T n i) md with
  | inl e =>
    have hgo : goP T n i md = .inl e := by unfold goP; rw [hv]
    refine aw_aload0 h dX4_isGoHere_0 ?_
    refine aw_callVD0 h hl cl_X4_115 (met_m_passWord hG hZ.1) (gmt hG) rfl dX4_isGoHere_1 (Nat.le_of_ble_eq_true rfl) rfl (Nat.zero_le _) (Nat.zero_le _) ?_
    refine aw_bipush h _ cb_48 dX4_isGoHere_4 ?_
    refine aw_aload0 h dX4_isGoHere_6 ?_
    refine aw_getiV h fl_X4_156 (gmt hG) dX4_isGoHere_7 rfl (hZ.2.2.1) ?_
    refine aw_imulN h dX4_isGoHere_10 ?_
    refine aw_iconst h _ ci_4 dX4_isGoHere_11 ?_
    refine aw_aload0 h dX4_isGoHere_12 ?_
    refine aw_getr h fl_X4_23 (gmt hG) dX4_isGoHere_13 rfl (gmp6 hG) ?_
    refine aw_aload0 h dX4_isGoHere_16 ?_
    refine aw_getiV h fl_X4_156 (gmt hG) dX4_isGoHere_17 rfl (hZ.2.2.1) ?_
    refine aw_ialdV h (gms166 hG) (by decide) (by omega) dX4_isGoHere_20 (h6) ?_
    refine aw_imulN h dX4_isGoHere_21 ?_
    refine aw_iaddN h dX4_isGoHere_22 ?_
    refine aw_istore1 h rfl dX4_isGoHere_23 ?_
    refine aw_aload0 h dX4_isGoHere_24 ?_
    refine aw_getr h fl_X4_20 (gmt hG) dX4_isGoHere_25 rfl (gmp5 hG) ?_
    refine aw_iload1 h dX4_isGoHere_28 ?_
    refine aw_aload0 h dX4_isGoHere_29 ?_
    refine aw_getr h fl_X4_17 (gmt hG) dX4_isGoHere_30 rfl (gmp4 hG) ?_
    refine aw_aload0 h dX4_isGoHere_33 ?_
    refine aw_getiV h fl_X4_156 (gmt hG) dX4_isGoHere_34 rfl (hZ.2.2.1) ?_
    refine aw_ialdV h (gms164 hG) (by decide) (by omega) dX4_isGoHere_37 (hZ.2.2.2.2.2.2.1) ?_
    refine aw_iastN h (gms165 hG) (by decide) (by omega) dX4_isGoHere_38 ?_
    refine aw_aload0 h dX4_isGoHere_39 ?_
    refine aw_callVA0 h hl cl_X4_193 (met_m_sum hG hZ0 (by omega)) (gmt hG) rfl dX4_isGoHere_40 (Nat.le_of_ble_eq_true rfl) rfl (Nat.zero_le _) (Nat.zero_le _) (fun G1 I1 L1 hp => ?_)
    obtain ⟨rfl, hF, hpt⟩ := hp
    rw [hv] at hpt
    rw [hv]
    refine aw_if_neB h (tgt := 48) dX4_isGoHere_43 (by decide) (fun c43 => ?_) (fun c43 => ?_)
    · exact absurd c43 Bool.false_ne_true
    · refine aw_iconst h _ ci_0 dX4_isGoHere_46 ?_
      exact aw_zret h hr dX4_isGoHere_47 (by first | exact z01_0 | exact z01_1 | exact z01_b _) (⟨by rw [hgo]; rfl, rfl, by rw [hgo]; exact ⟨hF0.trans hF.to1.toR, hpt⟩⟩) (Nat.zero_le _) (Nat.zero_le _)
  | inr q =>
    have hso := sumP_ok T n _ _ _ hln0 hmd0 hv
    refine aw_aload0 h dX4_isGoHere_0 ?_
    refine aw_callVD0 h hl cl_X4_115 (met_m_passWord hG hZ.1) (gmt hG) rfl dX4_isGoHere_1 (Nat.le_of_ble_eq_true rfl) rfl (Nat.zero_le _) (Nat.zero_le _) ?_
    refine aw_bipush h _ cb_48 dX4_isGoHere_4 ?_
    refine aw_aload0 h dX4_isGoHere_6 ?_
    refine aw_getiV h fl_X4_156 (gmt hG) dX4_isGoHere_7 rfl (hZ.2.2.1) ?_
    refine aw_imulN h dX4_isGoHere_10 ?_
    refine aw_iconst h _ ci_4 dX4_isGoHere_11 ?_
    refine aw_aload0 h dX4_isGoHere_12 ?_
    refine aw_getr h fl_X4_23 (gmt hG) dX4_isGoHere_13 rfl (gmp6 hG) ?_
    refine aw_aload0 h dX4_isGoHere_16 ?_
    refine aw_getiV h fl_X4_156 (gmt hG) dX4_isGoHere_17 rfl (hZ.2.2.1) ?_
    refine aw_ialdV h (gms166 hG) (by decide) (by omega) dX4_isGoHere_20 (h6) ?_
    refine aw_imulN h dX4_isGoHere_21 ?_
    refine aw_iaddN h dX4_isGoHere_22 ?_
    refine aw_istore1 h rfl dX4_isGoHere_23 ?_
    refine aw_aload0 h dX4_isGoHere_24 ?_
    refine aw_getr h fl_X4_20 (gmt hG) dX4_isGoHere_25 rfl (gmp5 hG) ?_
    refine aw_iload1 h dX4_isGoHere_28 ?_
    refine aw_aload0 h dX4_isGoHere_29 ?_
    refine aw_getr h fl_X4_17 (gmt hG) dX4_isGoHere_30 rfl (gmp4 hG) ?_
    refine aw_aload0 h dX4_isGoHere_33 ?_
    refine aw_getiV h fl_X4_156 (gmt hG) dX4_isGoHere_34 rfl (hZ.2.2.1) ?_
    refine aw_ialdV h (gms164 hG) (by decide) (by omega) dX4_isGoHere_37 (hZ.2.2.2.2.2.2.1) ?_
    refine aw_iastN h (gms165 hG) (by decide) (by omega) dX4_isGoHere_38 ?_
    refine aw_aload0 h dX4_isGoHere_39 ?_
    refine aw_callVA0 h hl cl_X4_193 (met_m_sum hG hZ0 (by omega)) (gmt hG) rfl dX4_isGoHere_40 (Nat.le_of_ble_eq_true rfl) rfl (Nat.zero_le _) (Nat.zero_le _) (fun G1 I1 L1 hp => ?_)
    obtain ⟨rfl, hF, hpt⟩ := hp
    rw [hv] at hpt
    rw [hv]
    refine aw_if_neB h (tgt := 48) dX4_isGoHere_43 (by decide) (fun c43 => ?_) (fun c43 => ?_)
    · have hpt : PZ I1 T n t q.1 q.2.1 (cs ++ q.2.2) := hpt
      have hl1 : (cs ++ q.2.2).length = cs.length + q.2.2.length := List.length_append
      have hsk := skip_le (T := T) hpt.1.2.2.2.2
      have hb165 : I1 165 = va_up (I 165) (48 * t + 4 * c) (nI cs.length) := (hF.2.1 165 (by decide) (by decide) (by decide)).trans rfl
      have h6b : I1 166 t = nI c := (congrFun (hF.2.1 166 (by decide) (by decide) (by decide)) t).trans h6
      refine aw_aload0 h dX4_isGoHere_48 ?_
      refine aw_getr h fl_X4_20 (gmt hG) dX4_isGoHere_49 rfl (gmp5 hG) ?_
      refine aw_iload1 h dX4_isGoHere_52 ?_
      refine aw_iconst h _ ci_1 dX4_isGoHere_53 ?_
      refine aw_iaddN h dX4_isGoHere_54 ?_
      refine aw_aload0 h dX4_isGoHere_55 ?_
      refine aw_getr h fl_X4_17 (gmt hG) dX4_isGoHere_56 rfl (gmp4 hG) ?_
      refine aw_aload0 h dX4_isGoHere_59 ?_
      refine aw_getiV h fl_X4_156 (gmt hG) dX4_isGoHere_60 rfl (hpt.2.2.1) ?_
      refine aw_ialdV h (gms164 hG) (by decide) (by omega) dX4_isGoHere_63 (hpt.2.2.2.2.2.2.1) ?_
      refine aw_iastN h (gms165 hG) (by decide) (by omega) dX4_isGoHere_64 ?_
      refine aw_aload0 h dX4_isGoHere_65 ?_
      refine aw_getr h fl_X4_20 (gmt hG) dX4_isGoHere_66 rfl (gmp5 hG) ?_
      refine aw_iload1 h dX4_isGoHere_69 ?_
      refine aw_iconst h _ ci_2 dX4_isGoHere_70 ?_
      refine aw_iaddN h dX4_isGoHere_71 ?_
      refine aw_iconst h _ ci_m1 dX4_isGoHere_72 ?_
      refine aw_iastN h (gms165 hG) (by decide) (by omega) dX4_isGoHere_73 ?_
      refine aw_aload0 h dX4_isGoHere_74 ?_
      refine aw_ldc2 h (v := lN 26982) q1623 dX4_isGoHere_75 ?_
      refine aw_callVE1 h hl cl_X4_222 (met_m_takesWord hG (T := T) (n := n) (i := q.1) (hpt.k.k).1) (gmt hG) rfl dX4_isGoHere_78 (Nat.le_of_ble_eq_true rfl) rfl (Nat.zero_le _) (Nat.zero_le _) ?_
      refine aw_if_eqB h (tgt := 110) dX4_isGoHere_81 (by decide) (fun c81 => ?_) (fun c81 => ?_)
      · rw [if_neg (by rw [c81]; exact Bool.false_ne_true)]
        have hnf : ifB T n (skip T n q.1) = false := c81
        have hgo : goP T n i md = .inr (skip T n q.1, q.2.1, (q.2.2, none)) := by unfold goP; rw [hv]; dsimp only; rw [if_neg (by rw [hnf]; exact Bool.false_ne_true)]
        have hZn : PZ (upd2 (upd2 (upd2 I1 165 ((48 * t + 4 * c) + 1) (nI (cs ++ q.2.2).length)) 165 ((48 * t + 4 * c) + 2) (-1)) 161 8 (nI (skip T n q.1))) T n t (skip T n q.1) q.2.1 (cs ++ q.2.2) := (hpt.k.k).at hsk.2
        have hMf : PFR t I L (upd2 (upd2 (upd2 (upd2 (upd2 I1 165 ((48 * t + 4 * c) + 1) (nI (cs ++ q.2.2).length)) 165 ((48 * t + 4 * c) + 2) (-1)) 161 8 (nI (skip T n q.1))) 165 ((48 * t + 4 * c) + 3) (nI (cs ++ q.2.2).length)) 166 t (nI (c + 1))) L1 := ((((hF0.trans hF.to1.toR).trans (PFR.k (by omega))).trans (PFR.k (by omega))).trans (PFR.f (by decide))).trans ((PFR.k (by omega)).trans PFR.m)
        have hr4 : (upd2 (upd2 (upd2 (upd2 (upd2 I1 165 ((48 * t + 4 * c) + 1) (nI (cs ++ q.2.2).length)) 165 ((48 * t + 4 * c) + 2) (-1)) 161 8 (nI (skip T n q.1))) 165 ((48 * t + 4 * c) + 3) (nI (cs ++ q.2.2).length)) 166 t (nI (c + 1))) 165 = va_up (va_up (va_up (va_up (I 165) (48 * t + 4 * c) (nI cs.length)) ((48 * t + 4 * c) + 1) (nI (cs ++ q.2.2).length)) ((48 * t + 4 * c) + 2) (-1)) ((48 * t + 4 * c) + 3) (nI (cs ++ q.2.2).length) := by
          show va_up (va_up (va_up (I1 165) _ _) _ _) _ _ = _
          rw [hb165]
        have hrr := row4 (I 165) (48 * t + 4 * c) (nI cs.length) (nI (cs ++ q.2.2).length) (-1) (nI (cs ++ q.2.2).length)
        rw [← hr4] at hrr
        obtain ⟨g0, g1, g2, g3, g4⟩ := hrr
        have hZe := (hZn.k (j := (48 * t + 4 * c) + 3) (x := nI (cs ++ q.2.2).length)).m (j := t) (x := nI (c + 1))
        have hcl2 : ClP (upd2 (upd2 (upd2 (upd2 (upd2 I1 165 ((48 * t + 4 * c) + 1) (nI (cs ++ q.2.2).length)) 165 ((48 * t + 4 * c) + 2) (-1)) 161 8 (nI (skip T n q.1))) 165 ((48 * t + 4 * c) + 3) (nI (cs ++ q.2.2).length)) 166 t (nI (c + 1))) t c (q.2.2, none) (cs ++ q.2.2).length := ⟨cs.length, (cs ++ q.2.2).length, g0, g1, hl1, Nat.le_refl _, hZe.2.2.2.2.2.2.2.drop, sumP_R (by omega) hmd0 hv, g2⟩
        refine aw_aload0 h dX4_isGoHere_110 ?_
        refine aw_getr h fl_X4_20 (gmt hG) dX4_isGoHere_111 rfl (gmp5 hG) ?_
        refine aw_iload1 h dX4_isGoHere_114 ?_
        refine aw_iconst h _ ci_3 dX4_isGoHere_115 ?_
        refine aw_iaddN h dX4_isGoHere_116 ?_
        refine aw_aload0 h dX4_isGoHere_117 ?_
        refine aw_getr h fl_X4_17 (gmt hG) dX4_isGoHere_118 rfl (gmp4 hG) ?_
        refine aw_aload0 h dX4_isGoHere_121 ?_
        refine aw_getiV h fl_X4_156 (gmt hG) dX4_isGoHere_122 rfl (hZn.2.2.1) ?_
        refine aw_ialdV h (gms164 hG) (by decide) (by omega) dX4_isGoHere_125 (hZn.2.2.2.2.2.2.1) ?_
        refine aw_iastN h (gms165 hG) (by decide) (by omega) dX4_isGoHere_126 ?_
        refine aw_aload0 h dX4_isGoHere_127 ?_
        refine aw_getr h fl_X4_23 (gmt hG) dX4_isGoHere_128 rfl (gmp6 hG) ?_
        refine aw_aload0 h dX4_isGoHere_131 ?_
        refine aw_getiV h fl_X4_156 (gmt hG) dX4_isGoHere_132 rfl (hZn.2.2.1) ?_
        refine aw_dup2 h rfl rfl dX4_isGoHere_135 ?_
        refine aw_ialdV h (gms166 hG) (by decide) (by omega) dX4_isGoHere_136 (h6b) ?_
        refine aw_iconst h _ ci_1 dX4_isGoHere_137 ?_
        refine aw_iaddN h dX4_isGoHere_138 ?_
        refine aw_iastN h (gms166 hG) (by decide) (by omega) dX4_isGoHere_139 ?_
        refine aw_iconst h _ ci_1 dX4_isGoHere_140 ?_
        exact aw_zret h hr dX4_isGoHere_141 (by first | exact z01_0 | exact z01_1 | exact z01_b _) (⟨by rw [hgo]; rfl, rfl, by rw [hgo]; exact ⟨hMf, hZe, hcl2, vup_s _ _ _, g4, by show (cs ++ q.2.2).length ≤ _; omega⟩⟩) (Nat.zero_le _) (Nat.zero_le _)
      · rw [if_pos c81]
        have hnf : ifB T n (skip T n q.1) = true := c81
        have hgo : goP T n i md = match testedP T n (skip T n q.1 + lrun T n (skip T n q.1)) q.2.1 with
            | .inl e => .inl e
            | .inr r => .inr (r.1, r.2.1, (q.2.2, some r.2.2)) := by unfold goP; rw [hv]; dsimp only; rw [if_pos hnf]
        have hln : skip T n q.1 + lrun T n (skip T n q.1) ≤ n := run_le (f := letB T n) hsk.2
        have hZn : PZ (upd2 (upd2 (upd2 I1 165 ((48 * t + 4 * c) + 1) (nI (cs ++ q.2.2).length)) 165 ((48 * t + 4 * c) + 2) (-1)) 161 8 (nI (skip T n q.1 + lrun T n (skip T n q.1)))) T n t (skip T n q.1 + lrun T n (skip T n q.1)) q.2.1 (cs ++ q.2.2) := (hpt.k.k).at hln
        have hZ3 : PZ (upd2 (upd2 (upd2 (upd2 I1 165 ((48 * t + 4 * c) + 1) (nI (cs ++ q.2.2).length)) 165 ((48 * t + 4 * c) + 2) (-1)) 161 8 (nI (skip T n q.1 + lrun T n (skip T n q.1)))) 165 ((48 * t + 4 * c) + 2) (nI (cs ++ q.2.2).length)) T n t (skip T n q.1 + lrun T n (skip T n q.1)) q.2.1 (cs ++ q.2.2) := hZn.k
        have hF3 : PFR t I L (upd2 (upd2 (upd2 (upd2 I1 165 ((48 * t + 4 * c) + 1) (nI (cs ++ q.2.2).length)) 165 ((48 * t + 4 * c) + 2) (-1)) 161 8 (nI (skip T n q.1 + lrun T n (skip T n q.1)))) 165 ((48 * t + 4 * c) + 2) (nI (cs ++ q.2.2).length)) L1 := ((((hF0.trans hF.to1.toR).trans (PFR.k (by omega))).trans (PFR.k (by omega))).trans (PFR.f (by decide))).trans (PFR.k (by omega))
        cases hv2 : testedP T n (skip T n q.1 + lrun T n (skip T n q.1)) q.2.1 with
        | inl e =>
          rw [hv2] at hgo
          refine aw_aload0 h dX4_isGoHere_84 ?_
          refine aw_getr h fl_X4_20 (gmt hG) dX4_isGoHere_85 rfl (gmp5 hG) ?_
          refine aw_iload1 h dX4_isGoHere_88 ?_
          refine aw_iconst h _ ci_2 dX4_isGoHere_89 ?_
          refine aw_iaddN h dX4_isGoHere_90 ?_
          refine aw_aload0 h dX4_isGoHere_91 ?_
          refine aw_getr h fl_X4_17 (gmt hG) dX4_isGoHere_92 rfl (gmp4 hG) ?_
          refine aw_aload0 h dX4_isGoHere_95 ?_
          refine aw_getiV h fl_X4_156 (gmt hG) dX4_isGoHere_96 rfl (hZn.2.2.1) ?_
          refine aw_ialdV h (gms164 hG) (by decide) (by omega) dX4_isGoHere_99 (hZn.2.2.2.2.2.2.1) ?_
          refine aw_iastN h (gms165 hG) (by decide) (by omega) dX4_isGoHere_100 ?_
          refine aw_aload0 h dX4_isGoHere_101 ?_
          refine aw_callVA0 h hl cl_X4_225 (met_m_tested hG hZ3 (by omega)) (gmt hG) rfl dX4_isGoHere_102 (Nat.le_of_ble_eq_true rfl) rfl (Nat.zero_le _) (Nat.zero_le _) (fun G1 I5 L5 hp => ?_)
          obtain ⟨rfl, hF5, hpt5⟩ := hp
          rw [hv2] at hpt5
          rw [hv2]
          refine aw_if_neB h (tgt := 110) dX4_isGoHere_105 (by decide) (fun c105 => ?_) (fun c105 => ?_)
          · exact absurd c105 Bool.false_ne_true
          · refine aw_iconst h _ ci_0 dX4_isGoHere_108 ?_
            exact aw_zret h hr dX4_isGoHere_109 (by first | exact z01_0 | exact z01_1 | exact z01_b _) (⟨by rw [hgo]; rfl, rfl, by rw [hgo]; exact ⟨hF3.trans hF5.toR, hpt5⟩⟩) (Nat.zero_le _) (Nat.zero_le _)
        | inr r =>
          rw [hv2] at hgo
          have htd := testedP_d hln hpt.2.2.2.2.2.1 hv2
          refine aw_aload0 h dX4_isGoHere_84 ?_
          refine aw_getr h fl_X4_20 (gmt hG) dX4_isGoHere_85 rfl (gmp5 hG) ?_
          refine aw_iload1 h dX4_isGoHere_88 ?_
          refine aw_iconst h _ ci_2 dX4_isGoHere_89 ?_
          refine aw_iaddN h dX4_isGoHere_90 ?_
          refine aw_aload0 h dX4_isGoHere_91 ?_
          refine aw_getr h fl_X4_17 (gmt hG) dX4_isGoHere_92 rfl (gmp4 hG) ?_
          refine aw_aload0 h dX4_isGoHere_95 ?_
          refine aw_getiV h fl_X4_156 (gmt hG) dX4_isGoHere_96 rfl (hZn.2.2.1) ?_
          refine aw_ialdV h (gms164 hG) (by decide) (by omega) dX4_isGoHere_99 (hZn.2.2.2.2.2.2.1) ?_
          refine aw_iastN h (gms165 hG) (by decide) (by omega) dX4_isGoHere_100 ?_
          refine aw_aload0 h dX4_isGoHere_101 ?_
          refine aw_callVA0 h hl cl_X4_225 (met_m_tested hG hZ3 (by omega)) (gmt hG) rfl dX4_isGoHere_102 (Nat.le_of_ble_eq_true rfl) rfl (Nat.zero_le _) (Nat.zero_le _) (fun G1 I5 L5 hp => ?_)
          obtain ⟨rfl, hF5, hpt5⟩ := hp
          rw [hv2] at hpt5
          rw [hv2]
          refine aw_if_neB h (tgt := 110) dX4_isGoHere_105 (by decide) (fun c105 => ?_) (fun c105 => ?_)
          · have hpt5 : PZ I5 T n t r.1 r.2.1 (cs ++ q.2.2 ++ r.2.2) ∧ (cs ++ q.2.2 ++ r.2.2).length ≤ r.1 ∧ skip T n r.1 = r.1 := hpt5
            obtain ⟨hZ5, hl5, -⟩ := hpt5
            have h6c : I5 166 t = nI c := (congrFun (hF5.2.1 166 (by decide) (by decide) (by decide) (by decide)) t).trans h6b
            have hr4 : (upd2 (upd2 I5 165 ((48 * t + 4 * c) + 3) (nI (cs ++ q.2.2 ++ r.2.2).length)) 166 t (nI (c + 1))) 165 = va_up (va_up (va_up (va_up (I 165) (48 * t + 4 * c) (nI cs.length)) ((48 * t + 4 * c) + 1) (nI (cs ++ q.2.2).length)) ((48 * t + 4 * c) + 2) (nI (cs ++ q.2.2).length)) ((48 * t + 4 * c) + 3) (nI (cs ++ q.2.2 ++ r.2.2).length) := by
              show va_up (I5 165) _ _ = _
              rw [hF5.2.1 165 (by decide) (by decide) (by decide) (by decide)]
              show va_up (va_up (va_up (va_up (I1 165) _ _) _ _) _ _) _ _ = _
              rw [hb165, vup_vup]
            have hrr := row4 (I 165) (48 * t + 4 * c) (nI cs.length) (nI (cs ++ q.2.2).length) (nI (cs ++ q.2.2).length) (nI (cs ++ q.2.2 ++ r.2.2).length)
            rw [← hr4] at hrr
            obtain ⟨g0, g1, g2, g3, g4⟩ := hrr
            have hZe := (hZ5.k (j := (48 * t + 4 * c) + 3) (x := nI (cs ++ q.2.2 ++ r.2.2).length)).m (j := t) (x := nI (c + 1))
            have hl6 : (cs ++ q.2.2 ++ r.2.2).length = (cs ++ q.2.2).length + r.2.2.length := List.length_append
            have hea : cs ++ q.2.2 ++ r.2.2 = cs ++ (q.2.2 ++ r.2.2) := by simp [List.append_assoc]
            have hcl2 : ClP (upd2 (upd2 I5 165 ((48 * t + 4 * c) + 3) (nI (cs ++ q.2.2 ++ r.2.2).length)) 166 t (nI (c + 1))) t c (q.2.2, some r.2.2) (cs ++ q.2.2 ++ r.2.2).length := ⟨cs.length, (cs ++ q.2.2).length, g0, g1, hl1, by omega, hZe.2.2.2.2.2.2.2.take.drop, sumP_R (by omega) hmd0 hv, (cs ++ q.2.2).length, (cs ++ q.2.2 ++ r.2.2).length, g2, g3, hl6, Nat.le_refl _, hZe.2.2.2.2.2.2.2.drop, htd.1⟩
            have hMf : PFR t I L (upd2 (upd2 I5 165 ((48 * t + 4 * c) + 3) (nI (cs ++ q.2.2 ++ r.2.2).length)) 166 t (nI (c + 1))) L5 := (hF3.trans hF5.toR).trans ((PFR.k (by omega)).trans PFR.m)
            have hZe2 : PZ (upd2 (upd2 I5 165 ((48 * t + 4 * c) + 3) (nI (cs ++ q.2.2 ++ r.2.2).length)) 166 t (nI (c + 1))) T n t r.1 r.2.1 (cs ++ (q.2.2 ++ r.2.2)) := hea ▸ hZe
            have hcl3 : ClP (upd2 (upd2 I5 165 ((48 * t + 4 * c) + 3) (nI (cs ++ q.2.2 ++ r.2.2).length)) 166 t (nI (c + 1))) t c (q.2.2, some r.2.2) (cs ++ (q.2.2 ++ r.2.2)).length := hea ▸ hcl2
            have hl7 : (cs ++ (q.2.2 ++ r.2.2)).length ≤ r.1 := hea ▸ hl5
            have g5 : ∀ j, j < 48 * t + 4 * c → (upd2 (upd2 I5 165 ((48 * t + 4 * c) + 3) (nI (cs ++ q.2.2 ++ r.2.2).length)) 166 t (nI (c + 1))) 165 j = I 165 j := g4
            refine aw_aload0 h dX4_isGoHere_110 ?_
            refine aw_getr h fl_X4_20 (gmt hG) dX4_isGoHere_111 rfl (gmp5 hG) ?_
            refine aw_iload1 h dX4_isGoHere_114 ?_
            refine aw_iconst h _ ci_3 dX4_isGoHere_115 ?_
            refine aw_iaddN h dX4_isGoHere_116 ?_
            refine aw_aload0 h dX4_isGoHere_117 ?_
            refine aw_getr h fl_X4_17 (gmt hG) dX4_isGoHere_118 rfl (gmp4 hG) ?_
            refine aw_aload0 h dX4_isGoHere_121 ?_
            refine aw_getiV h fl_X4_156 (gmt hG) dX4_isGoHere_122 rfl (hZ5.2.2.1) ?_
            refine aw_ialdV h (gms164 hG) (by decide) (by omega) dX4_isGoHere_125 (hZ5.2.2.2.2.2.2.1) ?_
            refine aw_iastN h (gms165 hG) (by decide) (by omega) dX4_isGoHere_126 ?_
            refine aw_aload0 h dX4_isGoHere_127 ?_
            refine aw_getr h fl_X4_23 (gmt hG) dX4_isGoHere_128 rfl (gmp6 hG) ?_
            refine aw_aload0 h dX4_isGoHere_131 ?_
            refine aw_getiV h fl_X4_156 (gmt hG) dX4_isGoHere_132 rfl (hZ5.2.2.1) ?_
            refine aw_dup2 h rfl rfl dX4_isGoHere_135 ?_
            refine aw_ialdV h (gms166 hG) (by decide) (by omega) dX4_isGoHere_136 (h6c) ?_
            refine aw_iconst h _ ci_1 dX4_isGoHere_137 ?_
            refine aw_iaddN h dX4_isGoHere_138 ?_
            refine aw_iastN h (gms166 hG) (by decide) (by omega) dX4_isGoHere_139 ?_
            refine aw_iconst h _ ci_1 dX4_isGoHere_140 ?_
            exact aw_zret h hr dX4_isGoHere_141 (by first | exact z01_0 | exact z01_1 | exact z01_b _) (⟨by rw [hgo]; rfl, rfl, by rw [hgo]; exact ⟨hMf, hZe2, hcl3, vup_s _ _ _, g5, hl7⟩⟩) (Nat.zero_le _) (Nat.zero_le _)
          · exact absurd c105.symm Bool.false_ne_true
    · exact absurd c43.symm Bool.false_ne_true
