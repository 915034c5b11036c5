/-! The reference's parser: all of a rule's text -/
set_option maxRecDepth 100000
def clsC (cls : List Cl) : List Sg := (cls.map clC).flatten
theorem clsC_s (cls : List Cl) (q : Cl) : clsC (cls ++ [q]) = clsC cls ++ clC q := by
  unfold clsC
  rw [List.map_append, List.flatten_append]
  simp
/-- the clauses so far, their code ahead of m -/
def RZ (I : Im) (t m : Nat) (cls : List Cl) : Prop := ∀ c, c < cls.length → ClP I t c (cls.getD c ([], none)) m
theorem RZ.step {I I1 : Im} {T : Nat → Int32} {n t i md i2 md2 : Nat} {cls : List Cl} {q : Cl} (h : RZ I t (clsC cls).length cls) (hZ : PZ I T n t i md (clsC cls)) (hZ1 : PZ I1 T n t i2 md2 (clsC cls ++ clC q)) (hc : ClP I1 t cls.length q (clsC cls ++ clC q).length) (h5 : ∀ j, j < 48 * t + 4 * cls.length → I1 165 j = I 165 j) : RZ I1 t (clsC (cls ++ [q])).length (cls ++ [q]) := by
  intro c hcl
  rw [List.length_append] at hcl
  have hcl : c < cls.length + 1 := hcl
  rw [clsC_s]
  by_cases e : c = cls.length
  · subst e
    rw [List.getD_eq_getElem?_getD, List.getElem?_append_right (Nat.le_refl _), Nat.sub_self]
    exact hc
  · rw [List.getD_eq_getElem?_getD, List.getElem?_append_left (by omega), ← List.getD_eq_getElem?_getD]
    exact (h c (by omega)).keep (by rw [List.length_append]; omega) (hZ.2.2.2.2.2.2.2.same hZ1.2.2.2.2.2.2.2) (fun j hj => h5 _ (by omega))
theorem RZ.rule {I : Im} {t m : Nat} {cls : List Cl} (h : RZ I t m cls) (hm : m ≤ 400) (hl : cls.length ≤ 12) (h6 : I 166 t = nI cls.length) : RuleAt I t cls := ⟨hl, h6, fun c hc => (h c hc).cl hm⟩
/-- rules ahead of a text are not touched -/
theorem RuleAt.keep {I I1 : Im} {r t : Nat} {cl : List Cl} (hr : r < t) (h : RuleAt I r cl) (h3 : ∀ j, j < 400 * t → I1 163 j = I 163 j) (h5 : ∀ j, j < 48 * t → I1 165 j = I 165 j) (h6 : ∀ j, j ≠ t → I1 166 j = I 166 j) : RuleAt I1 r cl := by
  refine ⟨h.1, (h6 r (by omega)).trans h.2.1, fun c hc => ?_⟩
  have hc12 := h.1
  obtain ⟨b, e, g1, g2, g3, g4, g5, g6, g7⟩ := h.2.2 c hc
  refine ⟨b, e, (h5 _ (by omega)).trans g1, (h5 _ (by omega)).trans g2, g3, g4, fun j hj => (h3 _ (by omega)).trans (g5 j hj), g6, ?_⟩
  cases hq : (cl.getD c ([], none)).2 with
  | none => rw [hq] at g7; exact (h5 _ (by omega)).trans g7
  | some tt =>
    rw [hq] at g7
    obtain ⟨b2, e2, k1, k2, k3, k4, k5, k6⟩ := g7
    exact ⟨b2, e2, (h5 _ (by omega)).trans k1, (h5 _ (by omega)).trans k2, k3, k4, fun j hj => (h3 _ (by omega)).trans (k5 j hj), k6⟩
def rrP (T : Nat → Int32) (n : Nat) : Nat → List Cl → Sum Nat (Nat × Nat × Cl) → Sum Nat (List Cl)
  | 0, _, _ => .inl 1
  | f + 1, cls, r => match r with
    | .inl e => .inl e
    | .inr q => if chV T n (skip T n q.1) = nI 59 then rrP T n f (cls ++ [q.2.2]) (gcP T n (skip T n q.1 + 1) (cls.length + 1) q.2.1) else if chV T n (skip T n q.1) = -1 then .inr (cls ++ [q.2.2]) else .inl (errN 0 (skip T n q.1))
def ruleP (T : Nat → Int32) (n : Nat) : Sum Nat (List Cl) := rrP T n 13 [] (gcP T n 0 0 0)
def PFT (t : Nat) (I : Im) (L : Lm) (I1 : Im) (L1 : Lm) : Prop := L = L1 ∧ (∀ m, m ∉ [161, 163, 164, 165, 166, 168] → I1 m = I m) ∧ (∀ j, j ∉ [1, 8, 9, 10, 12, 13, 14, 16] → I1 161 j = I 161 j) ∧ (∀ j, j < 400 * t → I1 163 j = I 163 j) ∧ (∀ j, j < 48 * t → I1 165 j = I 165 j) ∧ ∀ j, j ≠ t → I1 166 j = I 166 j
def RQt (r : Sum Nat (List Cl)) (t : Nat) (G : Gm) (I : Im) (L : Lm) : Gm → Im → Lm → Prop := fun G1 I1 L1 => G = G1 ∧ PFT t I L I1 L1 ∧ I1 161 1 = nI 0 ∧ match r with
  | .inl e => I1 161 9 = nI e
  | .inr cls => RuleAt I1 t cls
theorem met_m_readsR {w : Wd} {G : Gm} {I : Im} {L : Lm} (hG : GM G) {T : Nat → Int32} {n t : Nat} (hT : I 162 = T) (hn : I 161 1 = nI n) (hn4 : n ≤ 400) (h11 : I 161 11 = nI t) (ht6 : t < 6) (h6 : I 166 t = nI 0) : AMet w yX4_readsAll cX4_readsAll 2 (some .boolean) 12 281 0 0 [.ref (w.1 + 161)] G I L (Ans (some (.int (bI (okF (ruleP T n))))) (RQt (ruleP T n) t G I L)) := by
  refine AMet.of (ls0 := [some (.ref (w.1 + 161)), none]) rfl (Nat.le_of_ble_eq_true rfl) rfl (fun q hq => hq) (fun X h hl hr hi => ?_)
  have fr : ∀ (I1 : Im) (L1 : Lm) (x : Int32), PFS t (upd2 (upd2 (upd2 (upd2 (upd2 I 164 t (nI 0)) 161 14 (nI 0)) 161 8 (nI 0)) 161 9 (nI 0)) 161 12 (nI 0)) L I1 L1 → PFT t I L (upd2 I1 161 1 x) L1 := by
    intro I1 L1 x h
    refine ⟨h.1, fun m hm => ?_, fun j hj => ?_, fun j hj => (h.2.2.2.1 j hj).trans rfl, fun j hj => (h.2.2.2.2.2.1 j hj).trans rfl, fun j hj => (h.2.2.2.2.2.2 j hj).trans rfl⟩
    · have hm2 := hm
      simp only [List.mem_cons, List.not_mem_nil, or_false, not_or] at hm
      rw [show (upd2 I1 161 1 x) m = I1 m from vup_n _ _ hm.1, h.2.1 m hm2]
      rw [upd2_n _ _ _ hm.1, upd2_n _ _ _ hm.1, upd2_n _ _ _ hm.1, upd2_n _ _ _ hm.1, upd2_n _ _ _ hm.2.2.1]
    · simp only [List.mem_cons, List.not_mem_nil, or_false, not_or] at hj
      show va_up (I1 161) 1 x j = _
      rw [vup_n _ _ hj.1, h.2.2.1 j (by simp only [List.mem_cons, List.not_mem_nil, or_false, not_or]; omega)]
      show va_up (va_up (va_up (va_up (I 161) 14 _) 8 _) 9 _) 12 _ j = _
      rw [vup_n _ _ hj.2.2.2.2.1, vup_n _ _ hj.2.2.1, vup_n _ _ hj.2.1, vup_n _ _ hj.2.2.2.2.2.2.1]
  have key : ∀ (f : Nat) (cls : List Cl) (r : Sum Nat (Nat × Nat × Cl)) (I1 : Im) (L1 : Lm), 12 < cls.length + f → cls.length ≤ 12 → PFS t (upd2 (upd2 (upd2 (upd2 (upd2 I 164 t (nI 0)) 161 14 (nI 0)) 161 8 (nI 0)) 161 9 (nI 0)) 161 12 (nI 0)) L I1 L1 → (∀ e, r = .inl e → I1 161 9 = nI e ∧ EOK n e) → (∀ q, r = .inr q → PZ I1 T n t q.1 q.2.1 (clsC (cls ++ [q.2.2])) ∧ (clsC (cls ++ [q.2.2])).length ≤ q.1 ∧ I1 166 t = nI (cls.length + 1) ∧ I1 161 14 = nI (cls.length + 1) ∧ cls.length < 12 ∧ RZ I1 t (clsC (cls ++ [q.2.2])).length (cls ++ [q.2.2])) → rrP T n f cls r = ruleP T n → AW X 0 0 35 [some (.ref (w.1 + 161)), some (.int (bI (okF r)))] [] G I1 L1 := by
    intro f
    induction f with
    | zero => intro cls r I1 L1 h1 h2; omega
    | succ f ih =>
      intro cls r I1 L1 h1 h2 hF hE hQ hR
      cases r with
      | inl e =>
        obtain ⟨he, hok⟩ := hE e rfl
        have hR : .inl e = ruleP T n := hR
        have hez := hok.z hn4
        have h3 := fr I1 L1 (nI 0) hF
        refine aw_iload1 h dX4_readsAll_35 ?_
        refine aw_if_eqB h (tgt := 66) dX4_readsAll_36 (by decide) (fun c36 => ?_) (fun c36 => ?_)
        · refine aw_iload1 h dX4_readsAll_66 ?_
          refine aw_if_eqB h (tgt := 88) dX4_readsAll_67 (by decide) (fun c67 => ?_) (fun c67 => ?_)
          · refine aw_aload0 h dX4_readsAll_88 ?_
            refine aw_iconst h _ ci_0 dX4_readsAll_89 ?_
            refine aw_puti h fl_X4_90 ft_X4_90 (fun z => by cases z) (gmt hG) dX4_readsAll_90 rfl ?_
            refine aw_aload0 h dX4_readsAll_93 ?_
            refine aw_getiV h fl_X4_97 (gmt hG) dX4_readsAll_94 rfl ((show (upd2 I1 161 1 (nI 0)) 161 9 = nI e from he)) ?_
            refine aw_if_ne h (tgt := 104) dX4_readsAll_97 (by decide) (fun c97 => ?_) (fun c97 => ?_)
            · refine aw_iconst h _ ci_0 dX4_readsAll_104 ?_
              exact aw_zret h hr dX4_readsAll_105 (by first | exact z01_0 | exact z01_1 | exact z01_b _) (⟨by rw [← hR]; rfl, rfl, h3, rfl, by rw [← hR]; exact he⟩) (Nat.zero_le _) (Nat.zero_le _)
            · exact absurd c97 hez
          · exact absurd c67 Bool.false_ne_true
        · exact absurd c36 Bool.false_ne_true
      | inr q =>
        obtain ⟨hZ, hcl, h6, h14, hl12, hRZ⟩ := hQ q rfl
        have hR : (if chV T n (skip T n q.1) = nI 59 then rrP T n f (cls ++ [q.2.2]) (gcP T n (skip T n q.1 + 1) (cls.length + 1) q.2.1) else if chV T n (skip T n q.1) = -1 then .inr (cls ++ [q.2.2]) else .inl (errN 0 (skip T n q.1))) = ruleP T n := hR
        have hsk := skip_le (T := T) hZ.1.2.2.2.2
        have hj2 := skip_idem (T := T) hZ.1.2.2.2.2
        have hcn : (cls ++ [q.2.2]).length = cls.length + 1 := List.length_append
        refine aw_iload1 h dX4_readsAll_35 ?_
        refine aw_if_eqB h (tgt := 66) dX4_readsAll_36 (by decide) (fun c36 => ?_) (fun c36 => ?_)
        · exact absurd c36.symm Bool.false_ne_true
        · refine aw_aload0 h dX4_readsAll_39 ?_
          refine aw_callVE0 h hl cl_X4_103 (met_m_see hG hZ.1) (gmt hG) rfl dX4_readsAll_40 (Nat.le_of_ble_eq_true rfl) rfl (Nat.zero_le _) (Nat.zero_le _) ?_
          generalize hjj : skip T n q.1 = j at *
          have hZ2 : PZ (upd2 I1 161 8 (nI j)) T n t j q.2.1 (clsC (cls ++ [q.2.2])) := hZ.at hsk.2
          have hF2 : PFS t (upd2 (upd2 (upd2 (upd2 (upd2 I 164 t (nI 0)) 161 14 (nI 0)) 161 8 (nI 0)) 161 9 (nI 0)) 161 12 (nI 0)) L (upd2 I1 161 8 (nI j)) L1 := hF.trans (PFS.f (by decide))
          refine aw_bipush h _ cb_59 dX4_readsAll_43 ?_
          refine aw_icmp_ne h (tgt := 66) dX4_readsAll_45 (by decide) (fun c45 => ?_) (fun c45 => ?_)
          · rw [if_neg c45] at hR
            refine aw_iload1 h dX4_readsAll_66 ?_
            refine aw_if_eqB h (tgt := 88) dX4_readsAll_67 (by decide) (fun c67 => ?_) (fun c67 => ?_)
            · exact absurd c67.symm Bool.false_ne_true
            · refine aw_aload0 h dX4_readsAll_70 ?_
              refine aw_callVE0 h hl cl_X4_103 (met_m_see0 hG hZ2.1 hj2) (gmt hG) rfl dX4_readsAll_71 (Nat.le_of_ble_eq_true rfl) rfl (Nat.zero_le _) (Nat.zero_le _) ?_
              refine aw_iconst h _ ci_m1 dX4_readsAll_74 ?_
              refine aw_icmp_eq h (tgt := 88) dX4_readsAll_75 (by decide) (fun c75 => ?_) (fun c75 => ?_)
              · rw [if_pos c75] at hR
                have h3 := fr (upd2 I1 161 8 (nI j)) L1 (nI 0) hF2
                have hlen : (clsC (cls ++ [q.2.2])).length ≤ 400 := by omega
                have hRA : RuleAt I1 t (cls ++ [q.2.2]) := hRZ.rule hlen (by omega) (by rw [hcn]; exact h6)
                refine aw_aload0 h dX4_readsAll_88 ?_
                refine aw_iconst h _ ci_0 dX4_readsAll_89 ?_
                refine aw_puti h fl_X4_90 ft_X4_90 (fun z => by cases z) (gmt hG) dX4_readsAll_90 rfl ?_
                refine aw_aload0 h dX4_readsAll_93 ?_
                refine aw_getiV h fl_X4_97 (gmt hG) dX4_readsAll_94 rfl ((show (upd2 (upd2 I1 161 8 (nI j)) 161 1 (nI 0)) 161 9 = 0 from hZ.2.1)) ?_
                refine aw_if_ne h (tgt := 104) dX4_readsAll_97 (by decide) (fun c97 => ?_) (fun c97 => ?_)
                · exact absurd rfl c97
                · refine aw_iconst h _ ci_1 dX4_readsAll_100 ?_
                  refine aw_goto h (tgt := 105) dX4_readsAll_101 (by decide) ?_
                  exact aw_zret h hr dX4_readsAll_105 (by first | exact z01_0 | exact z01_1 | exact z01_b _) (⟨by rw [← hR]; rfl, rfl, h3, rfl, by rw [← hR]; exact hRA.of rfl rfl rfl⟩) (Nat.zero_le _) (Nat.zero_le _)
              · rw [if_neg c75] at hR
                have hw9 : (upd2 (upd2 I1 161 8 (nI j)) 161 9 (failW ((upd2 I1 161 8 (nI j)) 161 9) 0 j)) 161 9 = nI (errN 0 j) := by show failW (I1 161 9) 0 j = _; rw [hZ.2.1]; rfl
                have h3 := fr (upd2 (upd2 I1 161 8 (nI j)) 161 9 (failW ((upd2 I1 161 8 (nI j)) 161 9) 0 j)) L1 (nI 0) (hF2.trans (PFS.f (by decide)))
                have hez := (EOK.e (n := n) (kd := 0) (at2 := j) (by decide) hsk.2).z hn4
                refine aw_aload0 h dX4_readsAll_78 ?_
                refine aw_iconst h _ ci_0 dX4_readsAll_79 ?_
                refine aw_aload0 h dX4_readsAll_80 ?_
                refine aw_getiV h fl_X4_100 (gmt hG) dX4_readsAll_81 rfl ((rfl : (upd2 I1 161 8 (nI j)) 161 8 = nI j)) ?_
                refine aw_callVE2 h hl cl_X4_121 (met_m_fails hG (kd := 0) (at2 := j)) (gmt hG) rfl dX4_readsAll_84 (Nat.le_of_ble_eq_true rfl) rfl (Nat.zero_le _) (Nat.zero_le _) ?_
                refine aw_pop h rfl dX4_readsAll_87 ?_
                refine aw_aload0 h dX4_readsAll_88 ?_
                refine aw_iconst h _ ci_0 dX4_readsAll_89 ?_
                refine aw_puti h fl_X4_90 ft_X4_90 (fun z => by cases z) (gmt hG) dX4_readsAll_90 rfl ?_
                refine aw_aload0 h dX4_readsAll_93 ?_
                refine aw_getiV h fl_X4_97 (gmt hG) dX4_readsAll_94 rfl ((show (upd2 (upd2 (upd2 I1 161 8 (nI j)) 161 9 (failW ((upd2 I1 161 8 (nI j)) 161 9) 0 j)) 161 1 (nI 0)) 161 9 = nI (errN 0 j) from hw9)) ?_
                refine aw_if_ne h (tgt := 104) dX4_readsAll_97 (by decide) (fun c97 => ?_) (fun c97 => ?_)
                · refine aw_iconst h _ ci_0 dX4_readsAll_104 ?_
                  exact aw_zret h hr dX4_readsAll_105 (by first | exact z01_0 | exact z01_1 | exact z01_b _) (⟨by rw [← hR]; rfl, rfl, h3, rfl, by rw [← hR]; exact hw9⟩) (Nat.zero_le _) (Nat.zero_le _)
                · exact absurd c97 hez
          · rw [if_pos c45] at hR
            have hjn : j < n := chV_lt c45 (by decide)
            have hZ3 : PZ (upd2 I1 161 8 (nI (j + 1))) T n t (j + 1) q.2.1 (clsC (cls ++ [q.2.2])) := hZ.at hjn
            refine aw_aload0 h dX4_readsAll_48 ?_
            refine aw_dup h rfl dX4_readsAll_49 ?_
            refine aw_getiV h fl_X4_100 (gmt hG) dX4_readsAll_50 rfl ((rfl : (upd2 I1 161 8 (nI j)) 161 8 = nI j)) ?_
            refine aw_iconst h _ ci_1 dX4_readsAll_53 ?_
            refine aw_iaddN h dX4_readsAll_54 ?_
            refine aw_puti h fl_X4_100 ft_X4_100 (fun z => by cases z) (gmt hG) dX4_readsAll_55 rfl ?_
            rw [upd2_upd2]
            refine aw_aload0 h dX4_readsAll_58 ?_
            refine aw_callVA0 h hl cl_X4_267 (met_m_clauseR hG (I := (upd2 I1 161 8 (nI (j + 1)))) (T := T) (n := n) (i := j + 1) (c := cls.length + 1) hZ3 (by omega) h6 h14 (by omega)) (gmt hG) rfl dX4_readsAll_59 (Nat.le_of_ble_eq_true rfl) rfl (Nat.zero_le _) (Nat.zero_le _) (fun G1 I5 L5 hp => ?_)
            obtain ⟨rfl, hF5, hpt⟩ := hp
            refine aw_istore1 h rfl dX4_readsAll_62 ?_
            refine aw_goto h (tgt := 35) dX4_readsAll_63 (by decide) ?_
            refine ih (cls ++ [q.2.2]) (gcP T n (j + 1) (cls.length + 1) q.2.1) I5 L5 (by omega) (by omega) ((hF.trans (PFS.f (by decide))).trans hF5) (fun e he => ?_) (fun q5 hq5 => ?_) hR
            · rw [he] at hpt; exact ⟨hpt, gcP_e hjn hZ.2.2.2.2.2.1 he⟩
            · rw [hq5] at hpt
              obtain ⟨⟨g1, g2, g3, g4, g5⟩, g6, g7⟩ := hpt
              rw [hcn]
              have hst := RZ.step (I1 := I5) (q := q5.2.2) hRZ hZ g1 (by rw [hcn]; exact g2) (by rw [hcn]; exact g4)
              exact ⟨by rw [clsC_s (cls ++ [q.2.2])]; exact g1, by rw [clsC_s (cls ++ [q.2.2])]; exact g5, g3, g6, by omega, hst⟩
  have hZ0 : PZ (upd2 (upd2 (upd2 (upd2 (upd2 I 164 t (nI 0)) 161 14 (nI 0)) 161 8 (nI 0)) 161 9 (nI 0)) 161 12 (nI 0)) T n t 0 0 [] := ⟨⟨hT, hn, hn4, rfl, Nat.zero_le _⟩, rfl, h11, ht6, rfl, by decide, vup_s _ _ _, fun j hj => absurd hj (Nat.not_lt_zero _)⟩
  refine aw_aload0 h dX4_readsAll_0 ?_
  refine aw_getr h fl_X4_17 (gmt hG) dX4_readsAll_1 rfl (gmp4 hG) ?_
  refine aw_aload0 h dX4_readsAll_4 ?_
  refine aw_getiV h fl_X4_156 (gmt hG) dX4_readsAll_5 rfl (h11) ?_
  refine aw_iconst h _ ci_0 dX4_readsAll_8 ?_
  refine aw_iastN h (gms164 hG) (by decide) (by omega) dX4_readsAll_9 ?_
  refine aw_aload0 h dX4_readsAll_10 ?_
  refine aw_iconst h _ ci_0 dX4_readsAll_11 ?_
  refine aw_puti h fl_X4_258 ft_X4_258 (fun z => by cases z) (gmt hG) dX4_readsAll_12 rfl ?_
  refine aw_aload0 h dX4_readsAll_15 ?_
  refine aw_iconst h _ ci_0 dX4_readsAll_16 ?_
  refine aw_puti h fl_X4_100 ft_X4_100 (fun z => by cases z) (gmt hG) dX4_readsAll_17 rfl ?_
  refine aw_aload0 h dX4_readsAll_20 ?_
  refine aw_iconst h _ ci_0 dX4_readsAll_21 ?_
  refine aw_puti h fl_X4_97 ft_X4_97 (fun z => by cases z) (gmt hG) dX4_readsAll_22 rfl ?_
  refine aw_aload0 h dX4_readsAll_25 ?_
  refine aw_iconst h _ ci_0 dX4_readsAll_26 ?_
  refine aw_puti h fl_X4_159 ft_X4_159 (fun z => by cases z) (gmt hG) dX4_readsAll_27 rfl ?_
  refine aw_aload0 h dX4_readsAll_30 ?_
  refine aw_callVA0 h hl cl_X4_267 (met_m_clauseR hG (I := (upd2 (upd2 (upd2 (upd2 (upd2 I 164 t (nI 0)) 161 14 (nI 0)) 161 8 (nI 0)) 161 9 (nI 0)) 161 12 (nI 0))) (T := T) (n := n) (i := 0) (c := 0) (cs := []) hZ0 (Nat.zero_le _) h6 rfl (by decide)) (gmt hG) rfl dX4_readsAll_31 (Nat.le_of_ble_eq_true rfl) rfl (Nat.zero_le _) (Nat.zero_le _) (fun G1 I5 L5 hp => ?_)
  obtain ⟨rfl, hF5, hpt⟩ := hp
  refine aw_istore1 h rfl dX4_readsAll_34 ?_
  refine key 13 [] (gcP T n 0 0 0) I5 L5 (by decide) (by decide) hF5 (fun e he => ?_) (fun q5 hq5 => ?_) rfl
  · rw [he] at hpt; exact ⟨hpt, gcP_e (Nat.zero_le _) (by decide) he⟩
  · rw [hq5] at hpt
    obtain ⟨⟨g1, g2, g3, g4, g5⟩, g6, g7⟩ := hpt
    have hst := RZ.step (I := (upd2 (upd2 (upd2 (upd2 (upd2 I 164 t (nI 0)) 161 14 (nI 0)) 161 8 (nI 0)) 161 9 (nI 0)) 161 12 (nI 0))) (I1 := I5) (cls := []) (q := q5.2.2) (fun c hc => absurd hc (Nat.not_lt_zero _)) hZ0 g1 g2 g4
    exact ⟨by rw [clsC_s []]; exact g1, by rw [clsC_s []]; exact g5, g3, g6, by decide, hst⟩
def ruleV (r : Sum Nat (List Cl)) (RL : List (List Cl)) : Int32 := match r with
  | .inl e => -2 - nI e
  | .inr _ => nI RL.length
def ruleL (r : Sum Nat (List Cl)) (RL : List (List Cl)) : List (List Cl) := match r with
  | .inl _ => RL
  | .inr cls => RL ++ [cls]
/-- a rule is told: its rules after, what is left as it was -/
def UQt (RL1 : List (List Cl)) (G : Gm) (I : Im) (L : Lm) : Gm → Im → Lm → Prop := fun G1 I1 L1 => G = G1 ∧ L = L1 ∧ (∀ m, m ∉ [161, 163, 164, 165, 166, 168] → I1 m = I m) ∧ (∀ j, j ∉ [1, 2, 8, 9, 10, 11, 12, 13, 14, 16] → I1 161 j = I 161 j) ∧ I1 161 1 = nI 0 ∧ RulesAt I1 RL1
theorem RulesAt.keep {I I1 : Im} {RL : List (List Cl)} (h : RulesAt I RL) (h2 : I1 161 2 = I 161 2) (h3 : ∀ j, j < 400 * RL.length → I1 163 j = I 163 j) (h5 : ∀ j, j < 48 * RL.length → I1 165 j = I 165 j) (h6 : ∀ j, j ≠ RL.length → I1 166 j = I 166 j) : RulesAt I1 RL := ⟨h2.trans h.1, h.2.1, fun r hr => (h.2.2 r hr).keep hr h3 h5 h6⟩
theorem RulesAt.more {I I1 : Im} {RL : List (List Cl)} {cls : List Cl} (h : RulesAt I RL) (hl : RL.length < 6) (h2 : I1 161 2 = nI (RL.length + 1)) (h3 : ∀ j, j < 400 * RL.length → I1 163 j = I 163 j) (h5 : ∀ j, j < 48 * RL.length → I1 165 j = I 165 j) (h6 : ∀ j, j ≠ RL.length → I1 166 j = I 166 j) (hn : RuleAt I1 RL.length cls) : RulesAt I1 (RL ++ [cls]) := by
  have e : (RL ++ [cls]).length = RL.length + 1 := List.length_append
  refine ⟨by rw [e]; exact h2, by omega, fun r hr => ?_⟩
  by_cases e2 : r = RL.length
  · subst e2
    rw [List.getD_eq_getElem?_getD, List.getElem?_append_right (Nat.le_refl _), Nat.sub_self]
    exact hn
  · rw [List.getD_eq_getElem?_getD, List.getElem?_append_left (by omega), ← List.getD_eq_getElem?_getD]
    exact (h.2.2 r (by omega)).keep (by omega) h3 h5 h6
theorem met_m_rule {w : Wd} {G : Gm} {I : Im} {L : Lm} (hG : GM G) {T : Nat → Int32} {n : Nat} {RL : List (List Cl)} (hT : I 162 = T) (hn : I 161 1 = nI n) (hn4 : n ≤ 400) (hR : RulesAt I RL) (hlt0 : RL.length < 6) : AMet w yX4_rule cX4_rule 1 (some .int) 13 302 0 0 [.ref (w.1 + 161)] G I L (Ans (some (.int (ruleV (ruleP T n) RL))) (UQt (ruleL (ruleP T n) RL) G I L)) := by
  refine AMet.of (ls0 := [some (.ref (w.1 + 161))]) rfl (Nat.le_of_ble_eq_true rfl) rfl (fun q hq => hq) (fun X h hl hr hi => ?_)
  have hl6 := hR.2.1
  rcases Nat.lt_or_ge RL.length 6 with hlt | hge
  · cases hv : ruleP T n with
    | inl e =>
      refine aw_aload0 h dX4_rule_0 ?_
      refine aw_getiV h fl_X4_270 (gmt hG) dX4_rule_1 rfl (hR.1) ?_
      refine aw_bipush h _ cb_6 dX4_rule_4 ?_
      refine aw_icmp_neN h (tgt := 11) (by omega) (by decide) dX4_rule_6 (by decide) (fun c6 => ?_) (fun c6 => ?_)
      · refine aw_aload0 h dX4_rule_11 ?_
        refine aw_aload0 h dX4_rule_12 ?_
        refine aw_getiV h fl_X4_270 (gmt hG) dX4_rule_13 rfl (hR.1) ?_
        refine aw_puti h fl_X4_156 ft_X4_156 (fun z => by cases z) (gmt hG) dX4_rule_16 rfl ?_
        refine aw_aload0 h dX4_rule_19 ?_
        refine aw_getr h fl_X4_23 (gmt hG) dX4_rule_20 rfl (gmp6 hG) ?_
        refine aw_aload0 h dX4_rule_23 ?_
        refine aw_getiV h fl_X4_156 (gmt hG) dX4_rule_24 rfl ((rfl : (upd2 I 161 11 (nI RL.length)) 161 11 = nI RL.length)) ?_
        refine aw_iconst h _ ci_0 dX4_rule_27 ?_
        refine aw_iastN h (gms166 hG) (by decide) (by omega) dX4_rule_28 ?_
        refine aw_aload0 h dX4_rule_29 ?_
        refine aw_callVA0 h hl cl_X4_273 (met_m_readsR hG (I := (upd2 (upd2 I 161 11 (nI RL.length)) 166 RL.length (nI 0))) (T := T) (n := n) (t := RL.length) hT hn hn4 rfl hlt (vup_s _ _ _)) (gmt hG) rfl dX4_rule_30 (Nat.le_of_ble_eq_true rfl) rfl (Nat.zero_le _) (Nat.zero_le _) (fun G1 I1 L1 hp => ?_)
        obtain ⟨rfl, hF, ht1, hpt⟩ := hp
        rw [hv] at hpt
        have hfm : ∀ m, m ∉ [161, 163, 164, 165, 166, 168] → I1 m = I m := fun m hm => by
          have hm2 := hm
          simp only [List.mem_cons, List.not_mem_nil, or_false, not_or] at hm
          rw [hF.2.1 m hm2, upd2_n _ _ _ hm.2.2.2.2.1, upd2_n _ _ _ hm.1]
        have hfj : ∀ j, j ∉ [1, 2, 8, 9, 10, 11, 12, 13, 14, 16] → I1 161 j = I 161 j := fun j hj => by
          simp only [List.mem_cons, List.not_mem_nil, or_false, not_or] at hj
          rw [hF.2.2.1 j (by simp only [List.mem_cons, List.not_mem_nil, or_false, not_or]; omega)]
          show va_up (I 161) 11 _ j = _
          exact vup_n _ _ hj.2.2.2.2.2.1
        have h2 : I1 161 2 = nI RL.length := (hF.2.2.1 2 (by decide)).trans hR.1
        have h66 : ∀ j, j ≠ RL.length → I1 166 j = I 166 j := fun j hj => (hF.2.2.2.2.2 j hj).trans (vup_n _ _ hj)
        rw [hv]
        refine aw_if_neB h (tgt := 44) dX4_rule_33 (by decide) (fun c33 => ?_) (fun c33 => ?_)
        · exact absurd c33 Bool.false_ne_true
        · refine aw_bipush h _ cb_m2 dX4_rule_36 ?_
          refine aw_aload0 h dX4_rule_38 ?_
          refine aw_getiV h fl_X4_97 (gmt hG) dX4_rule_39 rfl (hpt) ?_
          refine aw_isub h dX4_rule_42 ?_
          exact aw_iret h hr dX4_rule_43 (⟨by rw [hv]; rfl, by rw [hv]; exact ⟨rfl, hF.1, hfm, hfj, ht1, hR.keep (h2.trans hR.1.symm) hF.2.2.2.1 hF.2.2.2.2.1 h66⟩⟩) (Nat.zero_le _) (Nat.zero_le _)
      · exact absurd c6 (by omega)
    | inr cls =>
      refine aw_aload0 h dX4_rule_0 ?_
      refine aw_getiV h fl_X4_270 (gmt hG) dX4_rule_1 rfl (hR.1) ?_
      refine aw_bipush h _ cb_6 dX4_rule_4 ?_
      refine aw_icmp_neN h (tgt := 11) (by omega) (by decide) dX4_rule_6 (by decide) (fun c6 => ?_) (fun c6 => ?_)
      · refine aw_aload0 h dX4_rule_11 ?_
        refine aw_aload0 h dX4_rule_12 ?_
        refine aw_getiV h fl_X4_270 (gmt hG) dX4_rule_13 rfl (hR.1) ?_
        refine aw_puti h fl_X4_156 ft_X4_156 (fun z => by cases z) (gmt hG) dX4_rule_16 rfl ?_
        refine aw_aload0 h dX4_rule_19 ?_
        refine aw_getr h fl_X4_23 (gmt hG) dX4_rule_20 rfl (gmp6 hG) ?_
        refine aw_aload0 h dX4_rule_23 ?_
        refine aw_getiV h fl_X4_156 (gmt hG) dX4_rule_24 rfl ((rfl : (upd2 I 161 11 (nI RL.length)) 161 11 = nI RL.length)) ?_
        refine aw_iconst h _ ci_0 dX4_rule_27 ?_
        refine aw_iastN h (gms166 hG) (by decide) (by omega) dX4_rule_28 ?_
        refine aw_aload0 h dX4_rule_29 ?_
        refine aw_callVA0 h hl cl_X4_273 (met_m_readsR hG (I := (upd2 (upd2 I 161 11 (nI RL.length)) 166 RL.length (nI 0))) (T := T) (n := n) (t := RL.length) hT hn hn4 rfl hlt (vup_s _ _ _)) (gmt hG) rfl dX4_rule_30 (Nat.le_of_ble_eq_true rfl) rfl (Nat.zero_le _) (Nat.zero_le _) (fun G1 I1 L1 hp => ?_)
        obtain ⟨rfl, hF, ht1, hpt⟩ := hp
        rw [hv] at hpt
        have hfm : ∀ m, m ∉ [161, 163, 164, 165, 166, 168] → I1 m = I m := fun m hm => by
          have hm2 := hm
          simp only [List.mem_cons, List.not_mem_nil, or_false, not_or] at hm
          rw [hF.2.1 m hm2, upd2_n _ _ _ hm.2.2.2.2.1, upd2_n _ _ _ hm.1]
        have hfj : ∀ j, j ∉ [1, 2, 8, 9, 10, 11, 12, 13, 14, 16] → I1 161 j = I 161 j := fun j hj => by
          simp only [List.mem_cons, List.not_mem_nil, or_false, not_or] at hj
          rw [hF.2.2.1 j (by simp only [List.mem_cons, List.not_mem_nil, or_false, not_or]; omega)]
          show va_up (I 161) 11 _ j = _
          exact vup_n _ _ hj.2.2.2.2.2.1
        have h2 : I1 161 2 = nI RL.length := (hF.2.2.1 2 (by decide)).trans hR.1
        have h66 : ∀ j, j ≠ RL.length → I1 166 j = I 166 j := fun j hj => (hF.2.2.2.2.2 j hj).trans (vup_n _ _ hj)
        rw [hv]
        refine aw_if_neB h (tgt := 44) dX4_rule_33 (by decide) (fun c33 => ?_) (fun c33 => ?_)
        · refine aw_aload0 h dX4_rule_44 ?_
          refine aw_dup h rfl dX4_rule_45 ?_
          refine aw_getiV h fl_X4_270 (gmt hG) dX4_rule_46 rfl (h2) ?_
          refine aw_iconst h _ ci_1 dX4_rule_49 ?_
          refine aw_iaddN h dX4_rule_50 ?_
          refine aw_puti h fl_X4_270 ft_X4_270 (fun z => by cases z) (gmt hG) dX4_rule_51 rfl ?_
          refine aw_aload0 h dX4_rule_54 ?_
          refine aw_getiV h fl_X4_270 (gmt hG) dX4_rule_55 rfl ((rfl : (upd2 I1 161 2 (nI (RL.length + 1))) 161 2 = nI (RL.length + 1))) ?_
          refine aw_iconst h _ ci_1 dX4_rule_58 ?_
          refine aw_isubN h (by omega) dX4_rule_59 ?_
          rw [Nat.add_sub_cancel]
          exact aw_iret h hr dX4_rule_60 (⟨by rw [hv]; rfl, by rw [hv]; exact ⟨rfl, hF.1, fun m hm => by
  have hm2 := hm
  simp only [List.mem_cons, List.not_mem_nil, or_false, not_or] at hm
  rw [upd2_n _ _ _ hm.1]; exact hfm m hm2, fun j hj => by
  have hj2 := hj
  simp only [List.mem_cons, List.not_mem_nil, or_false, not_or] at hj
  show va_up (I1 161) 2 _ j = _
  rw [vup_n _ _ hj.2.1]; exact hfj j hj2, ht1, hR.more (I1 := (upd2 I1 161 2 (nI (RL.length + 1)))) hlt rfl hF.2.2.2.1 hF.2.2.2.2.1 h66 (RuleAt.of rfl rfl rfl hpt)⟩⟩) (Nat.zero_le _) (Nat.zero_le _)
        · exact absurd c33.symm Bool.false_ne_true
      · exact absurd c6 (by omega)
  · exact absurd hge (by omega)
theorem met_m_ruleFull {w : Wd} {G : Gm} {I : Im} {L : Lm} (hG : GM G) {RL : List (List Cl)} (hR : RulesAt I RL) (hf : RL.length = 6) : AMet w yX4_rule cX4_rule 1 (some .int) 13 302 0 0 [.ref (w.1 + 161)] G I L (Exact (some (.int (-1))) G I L) := by
  refine AMet.of (ls0 := [some (.ref (w.1 + 161))]) rfl (Nat.le_of_ble_eq_true rfl) rfl (fun q hq => hq) (fun X h hl hr hi => ?_)
  refine aw_aload0 h dX4_rule_0 ?_
  refine aw_getiV h fl_X4_270 (gmt hG) dX4_rule_1 rfl (hR.1) ?_
  refine aw_bipush h _ cb_6 dX4_rule_4 ?_
  refine aw_icmp_neN h (tgt := 11) (by omega) (by decide) dX4_rule_6 (by decide) (fun c6 => ?_) (fun c6 => ?_)
  · exact absurd c6 (by omega)
  · refine aw_iconst h _ ci_m1 dX4_rule_9 ?_
    exact aw_iret h hr dX4_rule_10 (⟨rfl, rfl, rfl, rfl⟩) (Nat.zero_le _) (Nat.zero_le _)
