/-! The reference: all rules by which all notes are so -/
set_option maxRecDepth 100000
/-- the rules, one after another -/
def RulesAt (I : Im) (RL : List (List Cl)) : Prop := I 161 2 = nI RL.length ∧ RL.length ≤ 6 ∧ ∀ r, r < RL.length → RuleAt I r (RL.getD r [])
theorem RulesAt.mc {ex exf : List Nat} {I I1 : Im} {L L1 : Lm} {RL : List (List Cl)} (h : MC ex exf I L I1 L1) (h1 : 163 ∉ ex) (h2 : 165 ∉ ex) (h3 : 166 ∉ ex) (h4 : 2 ∉ exf) (hR : RulesAt I RL) : RulesAt I1 RL := by
  refine ⟨by rw [h.2.1 2 (by decide) h4]; exact hR.1, hR.2.1, fun r hr => ?_⟩
  obtain ⟨a, b, c⟩ := hR.2.2 r hr
  exact ⟨a, by rw [h.1 166 (by decide) h3]; exact b, fun q hq => (c q hq).of (h.1 163 (by decide) h1) (h.1 165 (by decide) h2)⟩
/-- the force of the k-th: none first -/
def frO (RL : List (List Cl)) (k : Nat) : Option (List Cl) := if k = 0 then none else some (RL.getD (k - 1) [])
theorem FR.o {I : Im} {RL : List (List Cl)} {k : Nat} (h : RulesAt I RL) (hk : k ≤ RL.length) (h2 : I 161 21 = nI k - nI 1) : FR I (frO RL k) := by
  unfold frO
  by_cases e : k = 0
  · subst e
    rw [if_pos rfl]
    show I 161 21 < 0
    rw [h2]; decide
  · rw [if_neg e]
    have := h.2.1
    exact ⟨k - 1, by omega, by rw [h2, pk_sub (by omega)], h.2.2 (k - 1) (by omega)⟩
def TJ (S : Nat → Int32) (RL : List (List Cl)) (k m : Nat) : Nat → Int32 := itP (frO RL k) m (begS S)
def fitB (S : Nat → Int32) (RL : List (List Cl)) (k m : Nat) : Bool := !anyN m (fun j => !notesB (TJ S RL k j))
theorem fit_s (S : Nat → Int32) (RL : List (List Cl)) (k m : Nat) : fitB S RL k (m + 1) = (fitB S RL k m && notesB (TJ S RL k m)) := by
  unfold fitB
  rw [anyN, Bool.not_or, Bool.not_not]
theorem TJ_hi {S : Nat → Int32} {RL : List (List Cl)} (hS : InvS S) (k m : Nat) : ∀ i, 34 ≤ i ∨ (i < 10 ∧ i ≠ 3) → TJ S RL k m i = S i := fun i hi => (it_hi hi m).trans (begP_hi (iv2b hS) hi)
theorem TJ_inv {S : Nat → Int32} {RL : List (List Cl)} (hS : InvS S) (hT : InvT S) (k m : Nat) : InvS (TJ S RL k m) := (hS.beg hT).it _ m
theorem TJ_over {S : Nat → Int32} {RL : List (List Cl)} (hS : InvS S) (k m : Nat) : overV (TJ S RL k m) S = S := by
  funext i
  unfold overV
  split
  · rfl
  · exact TJ_hi hS k m i (by omega)
def rq (S : Nat → Int32) (mo m p : Nat) : Nat := if mo < m then np S else if m = mo then p else 0
/-- what is gathered so far -/
def GD (S : Nat → Int32) (RL : List (List Cl)) (mo k : Nat) (I2 : Im) : Prop := ∀ k2, k2 < k → I2 180 k2 = bI (fitB S RL k2 61) ∧ ∀ p, p < np S → I2 181 (4 * k2 + p) = pv (TJ S RL k2 mo) p 0
def GQ (S : Nat → Int32) (RL : List (List Cl)) (mo : Nat) (fk : Nat → Int32) (I : Im) (L : Lm) (k m fm rp : Nat) (I2 : Im) (L2 : Lm) : Prop :=
  I2 171 = TJ S RL k m ∧ I2 176 = fk ∧ I2 161 21 = nI k - nI 1 ∧ MC [171] [21] I L I2 L2 ∧ GD S RL mo k I2 ∧ I2 180 k = bI (fitB S RL k fm) ∧ ∀ p, p < rp → I2 181 (4 * k + p) = pv (TJ S RL k mo) p 0
theorem GQ.fit {S : Nat → Int32} {RL : List (List Cl)} {mo : Nat} {fk : Nat → Int32} {I : Im} {L : Lm} {k m fm fm2 rp : Nat} {I2 : Im} {L2 : Lm} {x : Int32} (h : GQ S RL mo fk I L k m fm rp I2 L2) (hx : x = bI (fitB S RL k fm2)) : GQ S RL mo fk I L k m fm2 rp (upd2 I2 180 k x) L2 := by
  obtain ⟨a, b, c, d, e, f, g⟩ := h
  refine ⟨a, b, c, d.trans (MC.up _ (by decide) (Or.inl (by decide))), fun k2 hk2 => ⟨?_, (e k2 hk2).2⟩, ?_, g⟩
  · show va_up (I2 180) k x k2 = _
    rw [vup_n _ _ (by omega)]; exact (e k2 hk2).1
  · show va_up (I2 180) k x k = _
    rw [vup_s]; exact hx
theorem GQ.room {S : Nat → Int32} {RL : List (List Cl)} {mo : Nat} {fk : Nat → Int32} {I : Im} {L : Lm} {k fm p : Nat} {I2 : Im} {L2 : Lm} (h : GQ S RL mo fk I L k mo fm p I2 L2) (hp : p < 4) (hn : np S ≤ 4) : GQ S RL mo fk I L k mo fm (p + 1) (upd2 I2 181 (4 * k + p) (pv (TJ S RL k mo) p 0)) L2 := by
  obtain ⟨a, b, c, d, e, f, g⟩ := h
  refine ⟨a, b, c, d.trans (MC.up _ (by decide) (Or.inl (by decide))), fun k2 hk2 => ⟨(e k2 hk2).1, fun p2 hp2 => ?_⟩, f, fun p2 hp2 => ?_⟩
  · show va_up (I2 181) (4 * k + p) _ (4 * k2 + p2) = _
    rw [vup_n _ _ (by omega)]; exact (e k2 hk2).2 p2 hp2
  · show va_up (I2 181) (4 * k + p) _ (4 * k + p2) = _
    by_cases q : p2 = p
    · subst q; rw [vup_s]
    · rw [vup_n _ _ (by omega)]; exact g p2 (by omega)
theorem GQ.pass {S : Nat → Int32} {RL : List (List Cl)} {mo : Nat} {fk : Nat → Int32} {I : Im} {L : Lm} {k m fm rp : Nat} {G G1 : Gm} {I2 I3 : Im} {L2 L3 : Lm} (h : GQ S RL mo fk I L k m fm rp I2 L2) (hp : PP (TJ S RL k m) (frO RL k) G I2 L2 G1 I3 L3) : GQ S RL mo fk I L k (m + 1) fm rp I3 L3 := by
  obtain ⟨a, b, c, d, e, f, g⟩ := h
  have h180 := hp.2.2.1 180 (by decide) (by decide) (by decide) (by decide) (by decide)
  have h181 := hp.2.2.1 181 (by decide) (by decide) (by decide) (by decide) (by decide)
  refine ⟨hp.2.1, (hp.2.2.1 176 (by decide) (by decide) (by decide) (by decide) (by decide)).trans b, (hp.2.2.2.1 21 (by decide)).trans c, d.trans ((mc_pp hp).mono (by decide) (by decide)), fun k2 hk2 => ?_, by rw [h180]; exact f, by rw [h181]; exact g⟩
  rw [h180, h181]; exact e k2 hk2
theorem GQ.mono {S : Nat → Int32} {RL : List (List Cl)} {mo : Nat} {fk : Nat → Int32} {I : Im} {L : Lm} {k m fm rp rp2 : Nat} {I2 : Im} {L2 : Lm} (h : GQ S RL mo fk I L k m fm rp I2 L2) (hr : rp2 ≤ rp) : GQ S RL mo fk I L k m fm rp2 I2 L2 := by
  obtain ⟨a, b, c, d, e, f, g⟩ := h
  exact ⟨a, b, c, d, e, f, fun p hp => g p (by omega)⟩
theorem rq_next {S : Nat → Int32} {mo m p : Nat} (h : np S ≤ p ∨ m ≠ mo) : rq S mo (m + 1) 0 ≤ rq S mo m p := by
  unfold rq
  split <;> split <;> (try split) <;> omega
/-- what gathering leaves -/
def GR (S : Nat → Int32) (RL : List (List Cl)) (mo : Nat) (G : Gm) (I : Im) (L : Lm) : Gm → Im → Lm → Prop := fun G1 I1 L1 => G = G1 ∧ MC [] [] I L I1 L1 ∧ GD S RL mo (RL.length + 1) I1
theorem mc_fin {I I1 : Im} {L L1 : Lm} (h : MC [] [21] I L I1 L1) : MC [] [] I L (upd2 I1 161 21 (I 161 21)) L1 := by
  refine ⟨fun n h1 h2 => ?_, fun j h1 _ => ?_, h.2.2⟩
  · rw [upd2_n _ _ _ (fun e => h1 (by rw [e]; decide))]; exact h.1 n h1 h2
  · show va_up (I1 161) 21 _ j = _
    by_cases e : j = 21
    · subst e; rw [vup_s]
    · rw [vup_n _ _ e]; exact h.2.1 j h1 (by simpa using e)
theorem mc_back {I I1 : Im} {L L1 : Lm} {S : Nat → Int32} (h : MC [171] [21] I L I1 L1) (hE : I 171 = S) : MC [] [21] I L (va_up I1 171 S) L1 := by
  refine ⟨fun n h1 _ => ?_, fun j h1 h2 => h.2.1 j h1 h2, h.2.2⟩
  by_cases e : n = 171
  · subst e; rw [vup_s, hE]
  · rw [vup_n _ _ e]; exact h.1 n h1 (by simpa using e)
theorem met_m_gathersRules {w : Wd} {G : Gm} {I : Im} {L : Lm} (hG : GM G) {S : Nat → Int32} (hE : I 171 = S) (hS : InvS S) (hT : InvT S) (hN : InvN S) {RL : List (List Cl)} (hRL : RulesAt I RL) {mo : Nat} (hmo : mo ≤ 60) : AMet w yX4_gathersRules cX4_gathersRules 6 none 11 270 0 0 [.ref (w.1 + 161), .int (nI mo)] G I L (Ans none (GR S RL mo G I L)) := by
  refine AMet.of (ls0 := [some (.ref (w.1 + 161)), some (.int (nI mo)), none, none, none, none]) rfl (Nat.le_of_ble_eq_true rfl) rfl (fun q hq => hq) (fun X h hl hr hi => ?_)
  refine aw_aload0 h dX4_gathersRules_0 ?_
  refine aw_geti h fl_X4_42 (gmt hG) dX4_gathersRules_1 rfl ?_
  refine aw_istore2 h rfl dX4_gathersRules_4 ?_
  refine aw_aload0 h dX4_gathersRules_5 ?_
  refine aw_callVN0 h hl cl_X4_400 (met_m_keeps hG hE) (gmt hG) rfl dX4_gathersRules_6 (Nat.le_of_ble_eq_true rfl) rfl (Nat.zero_le _) (Nat.zero_le _) (fun G1 I1 L1 hp => ?_)
  obtain ⟨rfl, rfl, fk, rfl, hfk⟩ := hp
  have b2 := iv2b hS
  have hlen := hRL.2.1
  have keyk : ∀ (fu k : Nat) (I1 : Im) (L1 : Lm) (o4 : Option Value) (o5 : Option Value), k ≤ RL.length + 1 → RL.length + 1 < k + fu → I1 171 = S → I1 176 = fk → MC [] [21] I L I1 L1 → GD S RL mo k I1 → AW X 0 0 11 [some (.ref (w.1 + 161)), some (.int (nI mo)), some (.int (I 161 21)), some (.int (nI k)), o4, o5] [] G I1 L1 := by
    intro fu
    induction fu with
    | zero => intro k I1 L1 o4 o5 hle hlt; exact absurd hlt (by omega)
    | succ fu ihk =>
      intro k I1 L1 o4 o5 hle hlt hE1 hk1 hM1 hD1
      refine aw_iload3 h dX4_gathersRules_11 ?_
      refine aw_aload0 h dX4_gathersRules_12 ?_
      refine aw_getiV h fl_X4_270 (gmt hG) dX4_gathersRules_13 rfl (((hM1.2.1 2 (by decide) (by decide)).trans hRL.1)) ?_
      refine aw_icmp_gtN h (tgt := 139) (by omega) (by have := hRL.2.1; omega) dX4_gathersRules_16 (by decide) (fun c16 => ?_) (fun c16 => ?_)
      · refine aw_aload0 h dX4_gathersRules_139 ?_
        refine aw_iload2 h dX4_gathersRules_140 ?_
        refine aw_puti h fl_X4_42 ft_X4_42 (fun z => by cases z) (gmt hG) dX4_gathersRules_141 rfl ?_
        exact aw_vret h hr dX4_gathersRules_144 (⟨rfl, rfl, mc_fin hM1, by rw [show RL.length + 1 = k by omega]; exact hD1⟩) (Nat.zero_le _) (Nat.zero_le _)
      · have hR1 : RulesAt I1 RL := RulesAt.mc hM1 (by decide) (by decide) (by decide) (by decide) hRL
        have keym : ∀ (fm m : Nat) (I2 : Im) (L2 : Lm) (o5 : Option Value), m ≤ 61 → 61 < m + fm → GQ S RL mo fk I L k m (m) (rq S mo m 0) I2 L2 → AW X 0 0 40 [some (.ref (w.1 + 161)), some (.int (nI mo)), some (.int (I 161 21)), some (.int (nI k)), some (.int (nI m)), o5] [] G I2 L2 := by
          intro fm
          induction fm with
          | zero => intro m I2 L2 o5 hle2 hlt2; exact absurd hlt2 (by omega)
          | succ fm ihm =>
            intro m I2 L2 o5 hle2 hlt2 hQ
            have key74 : ∀ (I2 : Im), m ≤ 60 → GQ S RL mo fk I L k m (m + 1) (rq S mo m 0) I2 L2 → AW X 0 0 74 [some (.ref (w.1 + 161)), some (.int (nI mo)), some (.int (I 161 21)), some (.int (nI k)), some (.int (nI m)), o5] [] G I2 L2 := by
              intro I2 hm hQ
              have keyp : ∀ (fp p : Nat) (I2 : Im) (L2 : Lm), p ≤ np S → np S < p + fp → GQ S RL mo fk I L k m (m + 1) (rq S mo m p) I2 L2 → AW X 0 0 77 [some (.ref (w.1 + 161)), some (.int (nI mo)), some (.int (I 161 21)), some (.int (nI k)), some (.int (nI m)), some (.int (nI p))] [] G I2 L2 := by
                intro fp
                induction fp with
                | zero => intro p I2 L2 hle3 hlt3; exact absurd hlt3 (by omega)
                | succ fp ihp =>
                  intro p I2 L2 hle3 hlt3 hQ
                  have hE2 := hQ.1
                  have hnp : np (TJ S RL k m) = np S := (hN.of (TJ_hi (RL := RL) hS k m)).2.2.1
                  refine aw_iload5 h dX4_gathersRules_77 ?_
                  refine aw_aload0 h dX4_gathersRules_79 ?_
                  refine aw_getr h fl_X4_39 (gmt hG) dX4_gathersRules_80 rfl (gmp20 hG) ?_
                  refine aw_iconst h _ ci_2 dX4_gathersRules_83 ?_
                  refine aw_ialdV h (gms171 hG) (by decide) (by omega) dX4_gathersRules_84 (iv2e hE2 (TJ_inv hS hT k m)) ?_
                  refine aw_icmp_geN h (tgt := 118) (by omega) (by omega) dX4_gathersRules_85 (by decide) (fun c85 => ?_) (fun c85 => ?_)
                  · refine aw_aload0 h dX4_gathersRules_118 ?_
                    refine aw_callVA0 h hl cl_X4_395 (met_m_passes hG hE2 (TJ_inv hS hT k m) (FR.o (RulesAt.mc hQ.2.2.2.1 (by decide) (by decide) (by decide) (by decide) hRL) (by omega) hQ.2.2.1)) (gmt hG) rfl dX4_gathersRules_119 (Nat.le_of_ble_eq_true rfl) rfl (Nat.zero_le _) (Nat.zero_le _) (fun G1 I3 L3 hp3 => ?_)
                    have hQ3 := hQ.pass hp3
                    obtain rfl := hp3.1
                    refine aw_pop h rfl dX4_gathersRules_122 ?_
                    refine aw_iincN4 h rfl dX4_gathersRules_123 ?_
                    refine aw_goto h (tgt := 40) dX4_gathersRules_126 (by decide) ?_
                    exact ihm (m + 1) I3 L3 _ (by omega) (by omega) (hQ3.mono (rq_next (Or.inl (by omega))))
                  · refine aw_iload4 h dX4_gathersRules_88 ?_
                    refine aw_iload1 h dX4_gathersRules_90 ?_
                    refine aw_icmp_neN h (tgt := 118) (by omega) (by omega) dX4_gathersRules_91 (by decide) (fun c91 => ?_) (fun c91 => ?_)
                    · refine aw_aload0 h dX4_gathersRules_118 ?_
                      refine aw_callVA0 h hl cl_X4_395 (met_m_passes hG hE2 (TJ_inv hS hT k m) (FR.o (RulesAt.mc hQ.2.2.2.1 (by decide) (by decide) (by decide) (by decide) hRL) (by omega) hQ.2.2.1)) (gmt hG) rfl dX4_gathersRules_119 (Nat.le_of_ble_eq_true rfl) rfl (Nat.zero_le _) (Nat.zero_le _) (fun G1 I3 L3 hp3 => ?_)
                      have hQ3 := hQ.pass hp3
                      obtain rfl := hp3.1
                      refine aw_pop h rfl dX4_gathersRules_122 ?_
                      refine aw_iincN4 h rfl dX4_gathersRules_123 ?_
                      refine aw_goto h (tgt := 40) dX4_gathersRules_126 (by decide) ?_
                      exact ihm (m + 1) I3 L3 _ (by omega) (by omega) (hQ3.mono (rq_next (Or.inr c91)))
                    · obtain rfl : m = mo := c91
                      refine aw_aload0 h dX4_gathersRules_94 ?_
                      refine aw_getr h fl_X4_75 (gmt hG) dX4_gathersRules_95 rfl (gmp38 hG) ?_
                      refine aw_iconst h _ ci_4 dX4_gathersRules_98 ?_
                      refine aw_iload3 h dX4_gathersRules_99 ?_
                      refine aw_imulN h dX4_gathersRules_100 ?_
                      refine aw_iload5 h dX4_gathersRules_101 ?_
                      refine aw_iaddN h dX4_gathersRules_103 ?_
                      refine aw_aload0 h dX4_gathersRules_104 ?_
                      refine aw_iload5 h dX4_gathersRules_105 ?_
                      refine aw_iconst h _ ci_0 dX4_gathersRules_107 ?_
                      refine aw_callVE2 h hl cl_X4_279 (met_m_personOf hG hE2 (by omega)) (gmt hG) rfl dX4_gathersRules_108 (Nat.le_of_ble_eq_true rfl) rfl (Nat.zero_le _) (Nat.zero_le _) ?_
                      refine aw_iastN h (gms181 hG) (by decide) (by have := hRL.2.1; omega) dX4_gathersRules_111 ?_
                      refine aw_iincN5 h rfl dX4_gathersRules_112 ?_
                      refine aw_goto h (tgt := 77) dX4_gathersRules_115 (by decide) ?_
                      have hQ4 := GQ.room (p := p) (by rw [show rq S m m p = p from by unfold rq; rw [if_neg (by omega), if_pos rfl]] at hQ; exact hQ) (by omega) b2
                      exact ihp (p + 1) _ L2 (by omega) (by omega) (by rw [show rq S m m (p + 1) = p + 1 from by unfold rq; rw [if_neg (by omega), if_pos rfl]]; exact hQ4)
              refine aw_iconst h _ ci_0 dX4_gathersRules_74 ?_
              refine aw_istore5 h rfl dX4_gathersRules_75 ?_
              exact keyp (np S + 1) 0 I2 L2 (Nat.zero_le _) (by omega) hQ
            have hE2 := hQ.1
            have hN2 := (hN.of (TJ_hi (RL := RL) hS k m)).1
            refine aw_iload4 h dX4_gathersRules_40 ?_
            refine aw_bipush h _ cb_60 dX4_gathersRules_42 ?_
            refine aw_icmp_gtN h (tgt := 129) (by omega) (by omega) dX4_gathersRules_44 (by decide) (fun c44 => ?_) (fun c44 => ?_)
            · refine aw_aload0 h dX4_gathersRules_129 ?_
              refine aw_callVN0 h hl cl_X4_403 (met_m_laysBack (u := S) hG hE2 (fun i hi => (congrFun hQ.2.1 i).trans (hfk i hi))) (gmt hG) rfl dX4_gathersRules_130 (Nat.le_of_ble_eq_true rfl) rfl (Nat.zero_le _) (Nat.zero_le _) (fun G1 I1 L1 hp => ?_)
              obtain ⟨rfl, rfl, rfl⟩ := hp
              rw [TJ_over hS]
              refine aw_iincN3 h rfl dX4_gathersRules_133 ?_
              refine aw_goto h (tgt := 11) dX4_gathersRules_136 (by decide) ?_
              obtain rfl : m = 61 := by omega
              exact ihk (k + 1) (va_up I2 171 S) L2 _ _ (by omega) (by omega) (vup_s _ _ _) ((vup_n _ _ (by decide)).trans hQ.2.1) (mc_back hQ.2.2.2.1 hE) (fun k2 hk2 => by
                by_cases e : k2 = k
                · subst e
                  refine ⟨hQ.2.2.2.2.2.1, fun p hp => hQ.2.2.2.2.2.2 p ?_⟩
                  unfold rq
                  rw [if_pos (by omega)]; exact hp
                · exact hQ.2.2.2.2.1 k2 (by omega))
            · refine aw_aload0 h dX4_gathersRules_47 ?_
              refine aw_getr h fl_X4_72 (gmt hG) dX4_gathersRules_48 rfl (gmp37 hG) ?_
              refine aw_iload3 h dX4_gathersRules_51 ?_
              refine aw_aload0 h dX4_gathersRules_52 ?_
              refine aw_getr h fl_X4_72 (gmt hG) dX4_gathersRules_53 rfl (gmp37 hG) ?_
              refine aw_iload3 h dX4_gathersRules_56 ?_
              refine aw_zaldN h (gms180 hG) (by decide) (by have := hRL.2.1; omega) dX4_gathersRules_57 ?_
              rw [hQ.2.2.2.2.2.1]
              refine aw_if_eqB h (tgt := 72) dX4_gathersRules_58 (by decide) (fun c58 => ?_) (fun c58 => ?_)
              · refine aw_iconst h _ ci_0 dX4_gathersRules_72 ?_
                refine aw_zastN h (gms180 hG) (by decide) (by have := hRL.2.1; omega) (by first | exact z01_0 | exact z01_1 | exact z01_b _) dX4_gathersRules_73 ?_
                exact key74 _ (by omega) (hQ.fit (by rw [fit_s, c58]; rfl))
              · refine aw_aload0 h dX4_gathersRules_61 ?_
                refine aw_callVE0 h hl cl_X4_469 (met_m_areNotesSo hG hE2 (TJ_inv hS hT k m) hN2) (gmt hG) rfl dX4_gathersRules_62 (Nat.le_of_ble_eq_true rfl) rfl (Nat.zero_le _) (Nat.zero_le _) ?_
                refine aw_if_eqB h (tgt := 72) dX4_gathersRules_65 (by decide) (fun c65 => ?_) (fun c65 => ?_)
                · refine aw_iconst h _ ci_0 dX4_gathersRules_72 ?_
                  refine aw_zastN h (gms180 hG) (by decide) (by have := hRL.2.1; omega) (by first | exact z01_0 | exact z01_1 | exact z01_b _) dX4_gathersRules_73 ?_
                  exact key74 _ (by omega) (hQ.fit (by rw [fit_s, c58, c65]; rfl))
                · refine aw_iconst h _ ci_1 dX4_gathersRules_68 ?_
                  refine aw_goto h (tgt := 73) dX4_gathersRules_69 (by decide) ?_
                  refine aw_zastN h (gms180 hG) (by decide) (by have := hRL.2.1; omega) (by first | exact z01_0 | exact z01_1 | exact z01_b _) dX4_gathersRules_73 ?_
                  exact key74 _ (by omega) (hQ.fit (by rw [fit_s, c58, c65]; rfl))
        have hE1b : upd2 I1 161 21 (nI k - nI 1) 171 = S := hE1
        refine aw_aload0 h dX4_gathersRules_19 ?_
        refine aw_iload3 h dX4_gathersRules_20 ?_
        refine aw_iconst h _ ci_1 dX4_gathersRules_21 ?_
        refine aw_isub h dX4_gathersRules_22 ?_
        refine aw_puti h fl_X4_42 ft_X4_42 (fun z => by cases z) (gmt hG) dX4_gathersRules_23 rfl ?_
        refine aw_aload0 h dX4_gathersRules_26 ?_
        refine aw_callVD0 h hl cl_X4_466 (met_m_begins hG hE1b hS) (gmt hG) rfl dX4_gathersRules_27 (Nat.le_of_ble_eq_true rfl) rfl (Nat.zero_le _) (Nat.zero_le _) ?_
        refine aw_aload0 h dX4_gathersRules_30 ?_
        refine aw_getr h fl_X4_72 (gmt hG) dX4_gathersRules_31 rfl (gmp37 hG) ?_
        refine aw_iload3 h dX4_gathersRules_34 ?_
        refine aw_iconst h _ ci_1 dX4_gathersRules_35 ?_
        refine aw_zastN h (gms180 hG) (by decide) (by have := hRL.2.1; omega) (by first | exact z01_0 | exact z01_1 | exact z01_b _) dX4_gathersRules_36 ?_
        refine aw_iconst h _ ci_0 dX4_gathersRules_37 ?_
        refine aw_istore4 h rfl dX4_gathersRules_38 ?_
        refine keym 62 0 _ L1 _ (Nat.zero_le _) (by omega) ⟨rfl, hk1, rfl, ((hM1.mono (by decide) (by decide)).trans ((MC.upF _ (Or.inr (by decide))).trans ((MC.up _ (by decide) (Or.inr (by decide))).trans (MC.up _ (by decide) (Or.inl (by decide)))))), fun k2 hk2 => ⟨?_, (hD1 k2 hk2).2⟩, ?_, fun p hp => ?_⟩
        · show va_up (I1 180) k (nI 1) k2 = _
          rw [vup_n _ _ (by omega)]; exact (hD1 k2 hk2).1
        · show va_up (I1 180) k (nI 1) k = _
          rw [vup_s]; rfl
        · unfold rq at hp
          rw [if_neg (by omega)] at hp
          split at hp
          · omega
          · omega
  refine aw_iconst h _ ci_0 dX4_gathersRules_9 ?_
  refine aw_istore3 h rfl dX4_gathersRules_10 ?_
  exact keyk (RL.length + 2) 0 _ _ _ _ (Nat.zero_le _) (by omega) hE (vup_s _ _ _) (MC.up fk (by decide) (Or.inl (by decide))) (fun k2 hk2 => absurd hk2 (by omega))
