/-! The reference's parser: what closes -/
set_option maxRecDepth 100000
/-- all that closes behind a comparison: the place, the code more, what is open still -/
def clsP (T : Nat → Int32) (n : Nat) : Nat → Nat → List Sg → List Nat → Nat × List Sg × List Nat
  | 0, i, code, ops => (i, code, ops)
  | f + 1, i, code, ops => if chV T n (skip T n i) = nI 93 ∧ insO ops = true then clsP T n f (skip T n i + 1) (code ++ (settleP 1 ops).1 ++ (settleP 3 (settleP 1 ops).2.tail).1) (settleP 3 (settleP 1 ops).2.tail).2 else (skip T n i, code, ops)
def closeP (T : Nat → Int32) (n i : Nat) (ops : List Nat) : Nat × List Sg × List Nat := clsP T n (n + 1) i (settleP 3 ops).1 (settleP 3 ops).2
theorem settle_len (least : Nat) (ops : List Nat) : (settleP least ops).1.length + (settleP least ops).2.length = ops.length := by
  induction ops with
  | nil => rfl
  | cons o r ih =>
    rw [settleP]
    split
    · show (settleP least r).1.length + 1 + (settleP least r).2.length = r.length + 1
      omega
    · show 0 + (r.length + 1) = r.length + 1
      omega
/-- what is inside stays: a bracket is on top then -/
theorem settle_in {ops : List Nat} (hk : ∀ o ∈ ops, o = 11 ∨ o = 12 ∨ o = 13 ∨ o = 91) (h : 91 ∈ ops) : ∃ r, (settleP 1 ops).2 = 91 :: r := by
  induction ops with
  | nil => cases h
  | cons o r ih =>
    rw [settleP]
    split
    · rename_i hs
      have hne := strN_91 (show 0 < strN o from hs)
      rcases List.mem_cons.mp h with q | q
      · exact absurd q.symm hne
      · exact ih (fun x hx => hk x (List.mem_cons_of_mem _ hx)) q
    · rename_i hs
      rcases hk o (List.mem_cons_self ..) with q | q | q | q
      · subst q; exact absurd (by decide) hs
      · subst q; exact absurd (by decide) hs
      · subst q; exact absurd (by decide) hs
      · subst q; exact ⟨r, rfl⟩
theorem ins_mem {ops : List Nat} (h : insO ops = true) : 91 ∈ ops := by
  unfold insO at h
  obtain ⟨k, hk, h2⟩ := anyN_iff.mp h
  have h3 : gO ops k = 91 := of_decide_eq_true h2
  unfold gO at h3
  rw [List.getD_eq_getElem?_getD, List.getElem?_eq_getElem (by omega), Option.getD_some] at h3
  rw [← h3]
  exact List.getElem_mem _
def CPt (x : Nat × List Sg × List Nat) (T : Nat → Int32) (n t md : Nat) (cs : List Sg) (G : Gm) (I : Im) (L : Lm) : Gm → Im → Lm → Prop := fun G1 I1 L1 => G = G1 ∧ PF1 t I L I1 L1 ∧ PZ I1 T n t x.1 md (cs ++ x.2.1) ∧ PO I1 x.2.2 (dpN x.2.2) ∧ (cs ++ x.2.1).length + x.2.2.length ≤ x.1 ∧ skip T n x.1 = x.1
theorem met_m_closes {w : Wd} {G : Gm} {I : Im} {L : Lm} (hG : GM G) {T : Nat → Int32} {n t i md : Nat} {cs : List Sg} {ops : List Nat} (hZ : PZ I T n t i md cs) (hO : PO I ops (dpN ops)) (hb : cs.length + ops.length ≤ i) : AMet w yX4_closes cX4_closes 1 none 3 83 0 0 [.ref (w.1 + 161)] G I L (Ans none (CPt (closeP T n i ops) T n t md cs G I L)) := by
  refine AMet.of (ls0 := [some (.ref (w.1 + 161))]) rfl (Nat.le_of_ble_eq_true rfl) rfl (fun q hq => hq) (fun X h hl hr hi => ?_)
  have key : ∀ (fu i1 : Nat) (code : List Sg) (ops1 : List Nat) (I1 : Im) (L1 : Lm), n < i1 + fu → PZ I1 T n t i1 md (cs ++ code) → PO I1 ops1 (dpN ops1) → PF1 t I L I1 L1 → (cs ++ code).length + ops1.length ≤ i1 → clsP T n fu i1 code ops1 = closeP T n i ops → AW X 0 0 5 [some (.ref (w.1 + 161))] [] G I1 L1 := by
    intro fu
    induction fu with
    | zero => intro i1 code ops1 I1 L1 hlt hZ1; have := hZ1.1.2.2.2.2; omega
    | succ fu ih =>
      intro i1 code ops1 I1 L1 hlt hZ1 hO1 hF1 hbd hop
      have hn4 := hZ1.1.2.2.1
      have hsk := skip_le (T := T) hZ1.1.2.2.2.2
      have hj2 := skip_idem (T := T) hZ1.1.2.2.2.2
      rw [clsP] at hop
      refine aw_aload0 h dX4_closes_5 ?_
      refine aw_callVE0 h hl cl_X4_103 (met_m_see hG hZ1.1) (gmt hG) rfl dX4_closes_6 (Nat.le_of_ble_eq_true rfl) rfl (Nat.zero_le _) (Nat.zero_le _) ?_
      generalize hjj : skip T n i1 = j at *
      have hZ2 : PZ (upd2 I1 161 8 (nI j)) T n t j md (cs ++ code) := hZ1.at hsk.2
      have hO2 : PO (upd2 I1 161 8 (nI j)) ops1 (dpN ops1) := hO1.of rfl rfl rfl
      have hF2 : PF1 t I L (upd2 I1 161 8 (nI j)) L1 := hF1.trans (PF1.f (by decide))
      refine aw_bipush h _ cb_93 dX4_closes_9 ?_
      refine aw_icmp_ne h (tgt := 64) dX4_closes_11 (by decide) (fun c11 => ?_) (fun c11 => ?_)
      · rw [if_neg (fun q => c11 q.1)] at hop
        exact aw_vret h hr dX4_closes_64 (⟨rfl, rfl, by rw [← hop]; exact ⟨hF2, hZ2, hO2, by show (cs ++ code).length + ops1.length ≤ j; omega, hj2⟩⟩) (Nat.zero_le _) (Nat.zero_le _)
      · refine aw_aload0 h dX4_closes_14 ?_
        refine aw_callVE0 h hl cl_X4_207 (met_m_isInside hG hO2) (gmt hG) rfl dX4_closes_15 (Nat.le_of_ble_eq_true rfl) rfl (Nat.zero_le _) (Nat.zero_le _) ?_
        refine aw_if_eqB h (tgt := 64) dX4_closes_18 (by decide) (fun c18 => ?_) (fun c18 => ?_)
        · rw [if_neg (fun q => by rw [c18] at q; exact Bool.false_ne_true q.2)] at hop
          exact aw_vret h hr dX4_closes_64 (⟨rfl, rfl, by rw [← hop]; exact ⟨hF2, hZ2, hO2, by show (cs ++ code).length + ops1.length ≤ j; omega, hj2⟩⟩) (Nat.zero_le _) (Nat.zero_le _)
        · refine aw_aload0 h dX4_closes_21 ?_
          refine aw_iconst h _ ci_1 dX4_closes_22 ?_
          refine aw_callVN1 h hl cl_X4_204 (met_m_settles hG hZ2 hO2 (by omega) (by decide) (by decide)) (gmt hG) rfl dX4_closes_23 (Nat.le_of_ble_eq_true rfl) rfl (Nat.zero_le _) (Nat.zero_le _) (fun G1 I2 L2 hp => ?_)
          obtain ⟨rfl, hF3, hZ3, hO3⟩ := hp
          obtain ⟨r, hr⟩ := settle_in hO1.2.2.2.2.2 (ins_mem c18)
          rw [if_pos ⟨c11, c18⟩, hr] at hop
          rw [hr] at hO3
          have hop : clsP T n fu (j + 1) (code ++ (settleP 1 ops1).1 ++ (settleP 3 r).1) (settleP 3 r).2 = closeP T n i ops := hop
          have hjn : j < n := chV_lt c11 (by decide)
          have hsl1 := settle_len 1 ops1
          rw [hr, List.length_cons] at hsl1
          have hsl3 := settle_len 3 r
          have hl6 : (cs ++ code ++ (settleP 1 ops1).1).length = (cs ++ code).length + (settleP 1 ops1).1.length := List.length_append
          have hl7 : (cs ++ code ++ (settleP 1 ops1).1 ++ (settleP 3 r).1).length = (cs ++ code ++ (settleP 1 ops1).1).length + (settleP 3 r).1.length := List.length_append
          have hd91 : dpN (91 :: r) = dpN r + 1 := by
            show (if (91 : Nat) = 11 ∨ (91 : Nat) = 91 then 1 else 0) + dpN r = _
            rw [if_pos (Or.inr rfl), Nat.add_comm]
          have hd10 := hO3.2.2.2.2.1
          have h16 : I2 161 16 = nI (r.length + 1) := hO3.1
          have h13 : I2 161 13 = nI (dpN r + 1) := hd91 ▸ hO3.2.2.2.1
          have hln : r.length + 1 ≤ 400 := hO3.2.1
          refine aw_aload0 h dX4_closes_26 ?_
          refine aw_dup h rfl dX4_closes_27 ?_
          refine aw_getiV h fl_X4_165 (gmt hG) dX4_closes_28 rfl (h16) ?_
          refine aw_iconst h _ ci_1 dX4_closes_31 ?_
          refine aw_isubN h (by omega) dX4_closes_32 ?_
          rw [Nat.add_sub_cancel]
          refine aw_puti h fl_X4_165 ft_X4_165 (fun z => by cases z) (gmt hG) dX4_closes_33 rfl ?_
          refine aw_aload0 h dX4_closes_36 ?_
          refine aw_dup h rfl dX4_closes_37 ?_
          refine aw_getiV h fl_X4_162 (gmt hG) dX4_closes_38 rfl ((show (upd2 I2 161 16 (nI r.length)) 161 13 = nI (dpN r + 1) from h13)) ?_
          refine aw_iconst h _ ci_1 dX4_closes_41 ?_
          refine aw_isubN h (by omega) dX4_closes_42 ?_
          rw [Nat.add_sub_cancel]
          refine aw_puti h fl_X4_162 ft_X4_162 (fun z => by cases z) (gmt hG) dX4_closes_43 rfl ?_
          refine aw_aload0 h dX4_closes_46 ?_
          refine aw_dup h rfl dX4_closes_47 ?_
          refine aw_getiV h fl_X4_100 (gmt hG) dX4_closes_48 rfl ((show (upd2 (upd2 I2 161 16 (nI r.length)) 161 13 (nI (dpN r))) 161 8 = nI j from hZ3.1.2.2.2.1)) ?_
          refine aw_iconst h _ ci_1 dX4_closes_51 ?_
          refine aw_iaddN h dX4_closes_52 ?_
          refine aw_puti h fl_X4_100 ft_X4_100 (fun z => by cases z) (gmt hG) dX4_closes_53 rfl ?_
          have hZ4 : PZ (upd2 (upd2 (upd2 I2 161 16 (nI r.length)) 161 13 (nI (dpN r))) 161 8 (nI (j + 1))) T n t (j + 1) md (cs ++ code ++ (settleP 1 ops1).1) := hZ3.f ⟨hZ3.1.1, hZ3.1.2.1, hZ3.1.2.2.1, rfl, by omega⟩ hZ3.2.1 hZ3.2.2.2.2.1 hZ3.2.2.2.2.2.1 rfl rfl rfl
          have hO4 : PO (upd2 (upd2 (upd2 I2 161 16 (nI r.length)) 161 13 (nI (dpN r))) 161 8 (nI (j + 1))) r (dpN r) := ⟨rfl, by omega, hO3.2.2.1.2.of (fun _ _ => rfl), rfl, by omega, fun x hx => hO3.2.2.2.2.2 x (List.mem_cons_of_mem _ hx)⟩
          have hF4 : PF1 t I L (upd2 (upd2 (upd2 I2 161 16 (nI r.length)) 161 13 (nI (dpN r))) 161 8 (nI (j + 1))) L2 := (hF2.trans hF3).trans ((PF1.f (j := 16) (by decide)).trans ((PF1.f (j := 13) (by decide)).trans (PF1.f (j := 8) (by decide))))
          refine aw_aload0 h dX4_closes_56 ?_
          refine aw_iconst h _ ci_3 dX4_closes_57 ?_
          refine aw_callVN1 h hl cl_X4_204 (met_m_settles (i := j + 1) hG hZ4 hO4 (by omega) (by decide) (by decide)) (gmt hG) rfl dX4_closes_58 (Nat.le_of_ble_eq_true rfl) rfl (Nat.zero_le _) (Nat.zero_le _) (fun G1 I5 L5 hp => ?_)
          obtain ⟨rfl, hF5, hZ5, hO5⟩ := hp
          refine aw_goto h (tgt := 5) dX4_closes_61 (by decide) ?_
          have e9 : cs ++ code ++ (settleP 1 ops1).1 ++ (settleP 3 r).1 = cs ++ (code ++ (settleP 1 ops1).1 ++ (settleP 3 r).1) := by simp [List.append_assoc]
          rw [e9] at hZ5 hl7
          exact ih (j + 1) _ _ I5 L5 (by omega) hZ5 hO5 (hF4.trans hF5) (by omega) hop
  refine aw_aload0 h dX4_closes_0 ?_
  refine aw_iconst h _ ci_3 dX4_closes_1 ?_
  refine aw_callVN1 h hl cl_X4_204 (met_m_settles hG hZ hO hb (by decide) (by decide)) (gmt hG) rfl dX4_closes_2 (Nat.le_of_ble_eq_true rfl) rfl (Nat.zero_le _) (Nat.zero_le _) (fun G1 I1 L1 hp => ?_)
  obtain ⟨rfl, hF3, hZ3, hO3⟩ := hp
  have hsl3 := settle_len 3 ops
  exact key (n + 1) i _ _ I1 L1 (by omega) hZ3 hO3 hF3 (by rw [List.length_append]; omega) rfl
