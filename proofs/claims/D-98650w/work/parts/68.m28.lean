/-! The reference's parser: a fact -/
set_option maxRecDepth 100000
def notB (T : Nat → Int32) (n j : Nat) : Bool := wordB T n j (lN 7237492)
/-- signs opened ahead of a comparison: where it begins, what is open then; or an error -/
def openP (T : Nat → Int32) (n : Nat) : Nat → Nat → List Nat → Sum Nat (Nat × List Nat)
  | 0, _, _ => .inl 1
  | f + 1, i, ops => if notB T n (skip T n i) = true then (if dpN ops = 10 then .inl (errN 2 (skip T n i)) else openP T n f (skip T n i + lrun T n (skip T n i)) (11 :: ops))
    else if chV T n (skip T n i) = nI 91 then (if dpN ops = 10 then .inl (errN 2 (skip T n i)) else openP T n f (skip T n i + 1) (91 :: ops)) else .inr (skip T n i, ops)
/-- a fact: an error, or the place, what is made, the code more, what is open -/
def factP (T : Nat → Int32) (n i md : Nat) (ops : List Nat) : Sum Nat ((Nat × Nat × List Sg) × List Nat) := match openP T n (n + 1) i ops with
  | .inl e => .inl e
  | .inr q => match compareP T n q.1 md with
    | .inl e => .inl e
    | .inr r => .inr (r, q.2)
def okF {α : Type} (r : Sum Nat α) : Bool := match r with
  | .inl _ => false
  | .inr _ => true
def FPt (r : Sum Nat ((Nat × Nat × List Sg) × List Nat)) (T : Nat → Int32) (n t : Nat) (cs : List Sg) (G : Gm) (I : Im) (L : Lm) : Gm → Im → Lm → Prop := fun G1 I1 L1 => G = G1 ∧ PF1 t I L I1 L1 ∧ match r with
  | .inl e => I1 161 9 = nI e
  | .inr x => PZ I1 T n t x.1.1 x.1.2.1 (cs ++ x.1.2.2) ∧ PO I1 x.2 (dpN x.2) ∧ (cs ++ x.1.2.2).length + x.2.length ≤ x.1.1
def opI (I : Im) (ops : List Nat) (o : Nat) : Im := upd2 (upd2 (upd2 I 161 13 (nI (dpN ops + 1))) 168 ops.length (nI o)) 161 16 (nI (ops.length + 1))
theorem PO.push {I : Im} {ops : List Nat} {o : Nat} (h : PO I ops (dpN ops)) (ho : o = 11 ∨ o = 91) (hl : ops.length < 400) (hd : dpN ops ≠ 10) : PO (opI I ops o) (o :: ops) (dpN (o :: ops)) := by
  have e : dpN (o :: ops) = dpN ops + 1 := by
    show (if o = 11 ∨ o = 91 then 1 else 0) + dpN ops = _
    rw [if_pos ho, Nat.add_comm]
  have hd2 := h.2.2.2.2.1
  refine ⟨rfl, hl, ⟨?_, h.2.2.1.of (fun j hj => ?_)⟩, by rw [e]; rfl, by omega, fun x hx => ?_⟩
  · show va_up (I 168) ops.length (nI o) ops.length = _
    exact vup_s _ _ _
  · show va_up (I 168) ops.length (nI o) j = _
    exact vup_n _ _ (by omega)
  · rcases List.mem_cons.mp hx with q | q
    · subst q; omega
    · exact h.2.2.2.2.2 x q
theorem PZ.op {I : Im} {T : Nat → Int32} {n t i md : Nat} {cs : List Sg} {ops : List Nat} {o : Nat} (h : PZ I T n t i md cs) : PZ (opI I ops o) T n t i md cs := h.f ⟨h.1.1, h.1.2.1, h.1.2.2.1, h.1.2.2.2.1, h.1.2.2.2.2⟩ h.2.1 h.2.2.2.2.1 h.2.2.2.2.2.1 rfl rfl rfl
theorem PF1.op {t : Nat} {I : Im} {L : Lm} {ops : List Nat} {o : Nat} : PF1 t I L (opI I ops o) L := (PF1.f (j := 13) (by decide)).trans (PF1.o.trans (PF1.f (j := 16) (by decide)))
theorem PZ.at {I : Im} {T : Nat → Int32} {n t i j md : Nat} {cs : List Sg} (h : PZ I T n t i md cs) (hj : j ≤ n) : PZ (upd2 I 161 8 (nI j)) T n t j md cs := h.f (h.1.to hj) h.2.1 h.2.2.2.2.1 h.2.2.2.2.2.1 rfl rfl rfl
theorem met_m_fact {w : Wd} {G : Gm} {I : Im} {L : Lm} (hG : GM G) {T : Nat → Int32} {n t i md : Nat} {cs : List Sg} {ops : List Nat} (hZ : PZ I T n t i md cs) (hO : PO I ops (dpN ops)) (hb : cs.length + ops.length ≤ i) : AMet w yX4_fact cX4_fact 3 (some .boolean) 8 194 0 0 [.ref (w.1 + 161)] G I L (Ans (some (.int (bI (okF (factP T n i md ops))))) (FPt (factP T n i md ops) T n t cs G I L)) := by
  refine AMet.of (ls0 := [some (.ref (w.1 + 161)), none, none]) rfl (Nat.le_of_ble_eq_true rfl) rfl (fun q hq => hq) (fun X h hl hr hi => ?_)
  have key : ∀ (fu i1 : Nat) (ops1 : List Nat) (I1 : Im) (L1 : Lm) (o2 : Option Value), n < i1 + fu → PZ I1 T n t i1 md cs → PO I1 ops1 (dpN ops1) → PF1 t I L I1 L1 → cs.length + ops1.length ≤ i1 → openP T n fu i1 ops1 = openP T n (n + 1) i ops → AW X 0 0 2 [some (.ref (w.1 + 161)), some (.int (bI true)), o2] [] G I1 L1 := by
    intro fu
    induction fu with
    | zero => intro i1 ops1 I1 L1 o2 hlt hZ1; have := hZ1.1.2.2.2.2; omega
    | succ fu ih =>
      intro i1 ops1 I1 L1 o2 hlt hZ1 hO1 hF1 hbd hop
      have hn4 := hZ1.1.2.2.1
      have hsk := skip_le (T := T) hZ1.1.2.2.2.2
      have hj2 := skip_idem (T := T) hZ1.1.2.2.2.2
      rw [openP] at hop
      refine aw_iload1 h dX4_fact_2 ?_
      refine aw_if_eqB h (tgt := 75) dX4_fact_3 (by decide) (fun c3 => ?_) (fun c3 => ?_)
      · exact absurd c3.symm Bool.false_ne_true
      · refine aw_iconst h _ ci_0 dX4_fact_6 ?_
        refine aw_istore1 h rfl dX4_fact_7 ?_
        refine aw_aload0 h dX4_fact_8 ?_
        refine aw_callVE0 h hl cl_X4_103 (met_m_see hG hZ1.1) (gmt hG) rfl dX4_fact_9 (Nat.le_of_ble_eq_true rfl) rfl (Nat.zero_le _) (Nat.zero_le _) ?_
        generalize hjj : skip T n i1 = j at *
        have hT2 := hZ1.1.to hsk.2
        have hZ2 : PZ (upd2 I1 161 8 (nI j)) T n t j md cs := hZ1.at hsk.2
        have hO2 : PO (upd2 I1 161 8 (nI j)) ops1 (dpN ops1) := hO1.of rfl rfl rfl
        have hF2 : PF1 t I L (upd2 I1 161 8 (nI j)) L1 := hF1.trans (PF1.f (by decide))
        refine aw_istore2 h rfl dX4_fact_12 ?_
        refine aw_aload0 h dX4_fact_13 ?_
        refine aw_ldc2 h (v := lN 7237492) q1636 dX4_fact_14 ?_
        refine aw_callVE1 h hl cl_X4_111 (met_m_isWord0 hG hT2 hj2) (gmt hG) rfl dX4_fact_17 (Nat.le_of_ble_eq_true rfl) rfl (Nat.zero_le _) (Nat.zero_le _) ?_
        refine aw_if_eqB h (tgt := 43) dX4_fact_20 (by decide) (fun c20 => ?_) (fun c20 => ?_)
        · refine aw_iload2 h dX4_fact_43 ?_
          refine aw_bipush h _ cb_91 dX4_fact_44 ?_
          refine aw_icmp_ne h (tgt := 72) dX4_fact_46 (by decide) (fun c46 => ?_) (fun c46 => ?_)
          · have hnb : notB T n j = false := c20
            rw [if_neg (by rw [hnb]; exact Bool.false_ne_true), if_neg c46] at hop
            have keyE : ∀ (o2 : Option Value), AW X 0 0 2 [some (.ref (w.1 + 161)), some (.int (bI false)), o2] [] G (upd2 I1 161 8 (nI j)) L1 := by
              intro o2
              have hfq : factP T n i md ops = match compareP T n j md with
                  | .inl e => .inl e
                  | .inr r => .inr (r, ops1) := by unfold factP; rw [← hop]
              cases hv : compareP T n j md with
              | inl e =>
                rw [hv] at hfq
                refine aw_iload1 h dX4_fact_2 ?_
                refine aw_if_eqB h (tgt := 75) dX4_fact_3 (by decide) (fun c3 => ?_) (fun c3 => ?_)
                · refine aw_aload0 h dX4_fact_75 ?_
                  refine aw_callVA0 h hl cl_X4_201 (met_m_compare hG hZ2 (by omega)) (gmt hG) rfl dX4_fact_76 (Nat.le_of_ble_eq_true rfl) rfl (Nat.zero_le _) (Nat.zero_le _) (fun G1 I5 L5 hp => ?_)
                  obtain ⟨rfl, hF5, hpt⟩ := hp
                  rw [hv] at hpt
                  rw [hv]
                  exact aw_zret h hr dX4_fact_79 (by first | exact z01_0 | exact z01_1 | exact z01_b _) (⟨by rw [hfq]; rfl, rfl, by rw [hfq]; exact ⟨hF2.trans hF5.to1, hpt⟩⟩) (Nat.zero_le _) (Nat.zero_le _)
                · exact absurd c3 Bool.false_ne_true
              | inr r =>
                rw [hv] at hfq
                have hcb := compareP_ok T n _ _ _ hsk.2 hZ2.2.2.2.2.2.1 hv
                refine aw_iload1 h dX4_fact_2 ?_
                refine aw_if_eqB h (tgt := 75) dX4_fact_3 (by decide) (fun c3 => ?_) (fun c3 => ?_)
                · refine aw_aload0 h dX4_fact_75 ?_
                  refine aw_callVA0 h hl cl_X4_201 (met_m_compare hG hZ2 (by omega)) (gmt hG) rfl dX4_fact_76 (Nat.le_of_ble_eq_true rfl) rfl (Nat.zero_le _) (Nat.zero_le _) (fun G1 I5 L5 hp => ?_)
                  obtain ⟨rfl, hF5, hpt⟩ := hp
                  rw [hv] at hpt
                  rw [hv]
                  exact aw_zret h hr dX4_fact_79 (by first | exact z01_0 | exact z01_1 | exact z01_b _) (⟨by rw [hfq]; rfl, rfl, by rw [hfq]; exact ⟨hF2.trans hF5.to1, hpt, hO2.pf0 hF5, by show (cs ++ r.2.2).length + ops1.length ≤ r.1; rw [List.length_append]; omega⟩⟩) (Nat.zero_le _) (Nat.zero_le _)
                · exact absurd c3 Bool.false_ne_true
            refine aw_goto h (tgt := 2) dX4_fact_72 (by decide) ?_
            exact keyE _
          · have hnb : notB T n j = false := c20
            rw [if_neg (by rw [hnb]; exact Bool.false_ne_true), if_pos c46] at hop
            have hjn : j < n := chV_lt c46 (by decide)
            refine aw_aload0 h dX4_fact_49 ?_
            refine aw_bipush h _ cb_91 dX4_fact_50 ?_
            refine aw_callVE1 h hl cl_X4_198 (met_m_opens hG (i := j) hO2 rfl (by omega)) (gmt hG) rfl dX4_fact_52 (Nat.le_of_ble_eq_true rfl) rfl (Nat.zero_le _) (Nat.zero_le _) ?_
            refine aw_if_neB h (tgt := 60) dX4_fact_55 (by decide) (fun c55 => ?_) (fun c55 => ?_)
            · have hd : dpN ops1 ≠ 10 := by simpa using c55
              rw [if_neg hd] at hop
              rw [if_neg hd]
              show AW X _ _ _ _ _ G (opI (upd2 I1 161 8 (nI j)) ops1 91) L1
              refine aw_aload0 h dX4_fact_60 ?_
              refine aw_dup h rfl dX4_fact_61 ?_
              refine aw_getiV h fl_X4_100 (gmt hG) dX4_fact_62 rfl ((rfl : (opI (upd2 I1 161 8 (nI j)) ops1 91) 161 8 = nI j)) ?_
              refine aw_iconst h _ ci_1 dX4_fact_65 ?_
              refine aw_iaddN h dX4_fact_66 ?_
              refine aw_puti h fl_X4_100 ft_X4_100 (fun z => by cases z) (gmt hG) dX4_fact_67 rfl ?_
              refine aw_iconst h _ ci_1 dX4_fact_70 ?_
              refine aw_istore1 h rfl dX4_fact_71 ?_
              refine aw_goto h (tgt := 2) dX4_fact_72 (by decide) ?_
              exact ih _ (91 :: ops1) (upd2 (opI (upd2 I1 161 8 (nI j)) ops1 91) 161 8 (nI (j + 1))) L1 _ (by omega) ((hZ2.op).at (by omega)) ((hO2.push (Or.inr rfl) (by omega) hd).of rfl rfl rfl) ((hF2.trans PF1.op).trans (PF1.f (by decide))) (by rw [List.length_cons]; omega) hop
            · have hd : dpN ops1 = 10 := by simpa using c55
              rw [if_pos hd] at hop
              rw [if_pos hd]
              have hfe : factP T n i md ops = .inl (errN 2 j) := by unfold factP; rw [← hop]
              refine aw_iconst h _ ci_0 dX4_fact_58 ?_
              exact aw_zret h hr dX4_fact_59 (by first | exact z01_0 | exact z01_1 | exact z01_b _) (⟨by rw [hfe]; rfl, rfl, by rw [hfe]; exact ⟨hF2.trans (PF1.f (by decide)), by show failW (I1 161 9) 2 j = nI (errN 2 j); rw [hZ1.2.1]; rfl⟩⟩) (Nat.zero_le _) (Nat.zero_le _)
        · have hnb : notB T n j = true := c20
          rw [if_pos hnb] at hop
          have hlp : 0 < lrun T n j := of_decide_eq_true ((Bool.and_eq_true _ _).mp hnb).1
          have hln : j + lrun T n j ≤ n := run_le (f := letB T n) hsk.2
          refine aw_aload0 h dX4_fact_23 ?_
          refine aw_bipush h _ cb_11 dX4_fact_24 ?_
          refine aw_callVE1 h hl cl_X4_198 (met_m_opens hG (i := j) hO2 rfl (by omega)) (gmt hG) rfl dX4_fact_26 (Nat.le_of_ble_eq_true rfl) rfl (Nat.zero_le _) (Nat.zero_le _) ?_
          refine aw_if_neB h (tgt := 34) dX4_fact_29 (by decide) (fun c29 => ?_) (fun c29 => ?_)
          · have hd : dpN ops1 ≠ 10 := by simpa using c29
            rw [if_neg hd] at hop
            rw [if_neg hd]
            show AW X _ _ _ _ _ G (opI (upd2 I1 161 8 (nI j)) ops1 11) L1
            refine aw_aload0 h dX4_fact_34 ?_
            refine aw_callVD0 h hl cl_X4_115 (met_m_passWord hG (hZ2.op (ops := ops1) (o := 11)).1) (gmt hG) rfl dX4_fact_35 (Nat.le_of_ble_eq_true rfl) rfl (Nat.zero_le _) (Nat.zero_le _) ?_
            refine aw_iconst h _ ci_1 dX4_fact_38 ?_
            refine aw_istore1 h rfl dX4_fact_39 ?_
            refine aw_goto h (tgt := 72) dX4_fact_40 (by decide) ?_
            refine aw_goto h (tgt := 2) dX4_fact_72 (by decide) ?_
            exact ih _ (11 :: ops1) (upd2 (opI (upd2 I1 161 8 (nI j)) ops1 11) 161 8 (nI (j + lrun T n j))) L1 _ (by omega) ((hZ2.op).at hln) ((hO2.push (Or.inl rfl) (by omega) hd).of rfl rfl rfl) ((hF2.trans PF1.op).trans (PF1.f (by decide))) (by rw [List.length_cons]; omega) hop
          · have hd : dpN ops1 = 10 := by simpa using c29
            rw [if_pos hd] at hop
            rw [if_pos hd]
            have hfe : factP T n i md ops = .inl (errN 2 j) := by unfold factP; rw [← hop]
            refine aw_iconst h _ ci_0 dX4_fact_32 ?_
            exact aw_zret h hr dX4_fact_33 (by first | exact z01_0 | exact z01_1 | exact z01_b _) (⟨by rw [hfe]; rfl, rfl, by rw [hfe]; exact ⟨hF2.trans (PF1.f (by decide)), by show failW (I1 161 9) 2 j = nI (errN 2 j); rw [hZ1.2.1]; rfl⟩⟩) (Nat.zero_le _) (Nat.zero_le _)
  refine aw_iconst h _ ci_1 dX4_fact_0 ?_
  refine aw_istore1 h rfl dX4_fact_1 ?_
  exact key (n + 1) i ops I L _ (by omega) hZ hO PF1.rf hb rfl
