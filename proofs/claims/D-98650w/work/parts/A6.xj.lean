/-! The component: the most alike; look -/
set_option maxRecDepth 100000
theorem le_mxN {f : Nat → Nat} {k n : Nat} (h : k < n) : f k ≤ mxN f n := by
  induction n with
  | zero => omega
  | succ n ih =>
    rw [mxN]
    by_cases e : k = n
    · subst e; split <;> omega
    · have := ih (by omega); split <;> omega
theorem mxN_le3 {f : Nat → Nat} {b n : Nat} (h : ∀ k, k < n → f k ≤ b) : mxN f n ≤ b := by
  induction n with
  | zero => exact Nat.zero_le _
  | succ n ih =>
    rw [mxN]
    split
    · exact ih (fun k hk => h k (by omega))
    · exact h n (by omega)
theorem cntB_ex {f : Nat → Bool} {n : Nat} (h : 0 < cntB f n) : ∃ k, k < n ∧ f k = true := by
  induction n with
  | zero => exact absurd h (Nat.lt_irrefl 0)
  | succ n ih =>
    by_cases e : f n = true
    · exact ⟨n, by omega, e⟩
    · rw [cntB_s, if_neg e] at h
      obtain ⟨k, a, b⟩ := ih (by omega)
      exact ⟨k, by omega, b⟩
section AL
variable (S : Nat → Int32) (RL : List (List Cl)) (mo p : Nat)
def vaL (l : List Nat) (b : Nat) : Int32 := pv (TJ S RL (l.getD b 0) mo) p 0
theorem cnt_list (v : Int32) (K : Nat) : cntB (fun b => decide (vaL S RL mo p (FLp S RL K) b = v)) (FLp S RL K).length = cntB (fun k => fitB S RL k 61 && decide (pv (TJ S RL k mo) p 0 = v)) K := by
  induction K with
  | zero => rfl
  | succ K ih =>
    rw [cntB_s]
    cases hf : fitB S RL K 61 with
    | false =>
      rw [FLp_no hf, ih]
      simp
    | true =>
      rw [FLp_yes hf, len_app1, cntB_s, ← ih]
      have e1 : cntB (fun b => decide (vaL S RL mo p (FLp S RL K ++ [K]) b = v)) (FLp S RL K).length = cntB (fun b => decide (vaL S RL mo p (FLp S RL K) b = v)) (FLp S RL K).length := cntB_same (fun q hq => by unfold vaL; rw [getA_lt hq])
      rw [e1]
      unfold vaL
      rw [getA_eq, Bool.true_and]
variable {S RL mo p}
theorem mx_al (hS : InvS S) (hT : InvT S) (hp : p < np S) : mxN (fun a => cntB (fun b => decide (vaL S RL mo p (FLs S RL 0) b = vaL S RL mo p (FLs S RL 0) a)) (FLs S RL 0).length) (FLs S RL 0).length = alN S RL mo p := by
  rw [← FLp_end]
  have b0 := iv0b hS
  have hv : ∀ a, ∃ r, r < nr S ∧ vaL S RL mo p (FLp S RL (RL.length + 1)) a = nI r := fun a => by
    have hI := TJ_inv (RL := RL) hS hT ((FLp S RL (RL.length + 1)).getD a 0) mo
    have e2 : np (TJ S RL ((FLp S RL (RL.length + 1)).getD a 0) mo) = np S := by unfold np nv; rw [TJ_hi hS _ _ 2 (by omega)]
    have e0 : nr (TJ S RL ((FLp S RL (RL.length + 1)).getD a 0) mo) = nr S := by unfold nr nv; rw [TJ_hi hS _ _ 0 (by omega)]
    have h1 := ivp hI (p := p) (by omega)
    exact ⟨_, by rw [← e0]; exact h1.2.1, h1.1⟩
  unfold alN
  refine Nat.le_antisymm (mxN_le3 (fun a ha => ?_)) (mxN_le3 (fun r hr => ?_))
  · obtain ⟨r, hr, e⟩ := hv a
    show cntB (fun b => decide (vaL S RL mo p (FLp S RL (RL.length + 1)) b = vaL S RL mo p (FLp S RL (RL.length + 1)) a)) _ ≤ _
    rw [e, cnt_list]
    exact le_mxN (f := fun r => cntB (alB S RL mo p r) (RL.length + 1)) hr
  · show cntB (alB S RL mo p r) (RL.length + 1) ≤ _
    have e1 : cntB (alB S RL mo p r) (RL.length + 1) = cntB (fun b => decide (vaL S RL mo p (FLp S RL (RL.length + 1)) b = nI r)) (FLp S RL (RL.length + 1)).length := (cnt_list S RL mo p (nI r) (RL.length + 1)).symm
    rcases Nat.eq_zero_or_pos (cntB (alB S RL mo p r) (RL.length + 1)) with e | e
    · omega
    · rw [e1] at e ⊢
      obtain ⟨b, hb, hb2⟩ := cntB_ex e
      have hb3 : vaL S RL mo p (FLp S RL (RL.length + 1)) b = nI r := of_decide_eq_true hb2
      have h9 := le_mxN (f := fun a => cntB (fun b => decide (vaL S RL mo p (FLp S RL (RL.length + 1)) b = vaL S RL mo p (FLp S RL (RL.length + 1)) a)) (FLp S RL (RL.length + 1)).length) hb
      simp only [hb3] at h9
      exact h9
theorem al_pos (hS : InvS S) (hT : InvT S) (hp : p < np S) (hl : 0 < (FLs S RL 0).length) : 0 < alN S RL mo p := by
  rw [← mx_al hS hT hp]
  have h9 := le_mxN (f := fun a => cntB (fun b => decide (vaL S RL mo p (FLs S RL 0) b = vaL S RL mo p (FLs S RL 0) a)) (FLs S RL 0).length) hl
  have h8 := cntB_lt (fun b => decide (vaL S RL mo p (FLs S RL 0) b = vaL S RL mo p (FLs S RL 0) 0)) hl (decide_eq_true rfl)
  omega
theorem al_zero (hl : (FLs S RL 0).length = 0) : alN S RL mo p = 0 := by
  unfold alN
  refine Nat.le_zero.mp (mxN_le3 (fun r _ => ?_))
  show cntB (alB S RL mo p r) (RL.length + 1) ≤ 0
  have e1 : cntB (alB S RL mo p r) (RL.length + 1) = cntB (fun b => decide (vaL S RL mo p (FLp S RL (RL.length + 1)) b = nI r)) (FLp S RL (RL.length + 1)).length := (cnt_list S RL mo p (nI r) (RL.length + 1)).symm
  rw [e1, FLp_end, hl]
  exact Nat.le_refl _
end AL
theorem mx_max {f : Nat → Nat} {a : Nat} (h : f a < 2 ^ 31) (h2 : mxN f a < 2 ^ 31) : (if nI (mxN f a) < nI (f a) then nI (f a) else nI (mxN f a)) = nI (mxN f (a + 1)) := by
  rw [mxN]
  by_cases e : f a ≤ mxN f a
  · rw [if_pos e, if_neg (fun q => absurd ((nI_ltI h2 h).mp q) (by omega))]
  · rw [if_neg e, if_pos ((nI_ltI h2 h).mpr (by omega))]
theorem FLs_le (S : Nat → Int32) (RL : List (List Cl)) : (FLs S RL 0).length ≤ RL.length + 1 := by rw [← FLp_end]; exact FLp_le S RL _
theorem met_x_mostAlike {w : Wd} {G : Gm} {I : Im} {L : Lm} (hX : XG G) {S : Nat → Int32} (hS : InvS S) (hTI : InvT S) {RL : List (List Cl)} (h6 : RL.length ≤ 6) {mo : Nat} (hR : RowsL S RL mo I (FLs S RL 0)) {p : Nat} (hp : p < np S) : AMet w yX0_mostAlike cX0_mostAlike 7 (some .int) 2 60 0 0 [.ref (w.1 + 0), .int (nI p), .int (nI (FLs S RL 0).length)] G I L (Exact (some (.int (nI (alN S RL mo p)))) G I L) := by
  refine AMet.of (ls0 := [some (.ref (w.1 + 0)), some (.int (nI p)), some (.int (nI (FLs S RL 0).length)), none, none, none, none]) rfl (Nat.le_of_ble_eq_true rfl) rfl (fun q hq => hq) (fun X h hl hr hi => ?_)
  have b2 := iv2b hS
  have hfl := FLs_le S RL
  have key : ∀ (fu a : Nat), a ≤ (FLs S RL 0).length → (FLs S RL 0).length < a + fu → ∀ o5 o6 : Option Value, AW X 0 0 5 [some (.ref (w.1 + 0)), some (.int (nI p)), some (.int (nI (FLs S RL 0).length)), some (.int (nI (mxN (fun a => cntB (fun b => decide (vaL S RL mo p (FLs S RL 0) b = vaL S RL mo p (FLs S RL 0) a)) ((FLs S RL 0).length)) a))), some (.int (nI a)), o5, o6] [] G I L := by
    intro fu
    induction fu with
    | zero => intro a hle hlt; exact absurd hlt (by omega)
    | succ fu iha =>
      intro a hle hlt
      intro o5 o6
      refine aw_iload4 h dX0_mostAlike_5 ?_
      refine aw_iload2 h dX0_mostAlike_7 ?_
      refine aw_icmp_geN h (tgt := 80) (by omega) (by omega) dX0_mostAlike_8 (by decide) (fun c8 => ?_) (fun c8 => ?_)
      · refine aw_iload3 h dX0_mostAlike_80 ?_
        exact aw_iret h hr dX0_mostAlike_81 (⟨by rw [show a = (FLs S RL 0).length by omega, mx_al hS hTI hp], rfl, rfl, rfl⟩) (Nat.zero_le _) (Nat.zero_le _)
      · have keyb : ∀ (fb b : Nat), b ≤ (FLs S RL 0).length → (FLs S RL 0).length < b + fb → AW X 0 0 17 [some (.ref (w.1 + 0)), some (.int (nI p)), some (.int (nI (FLs S RL 0).length)), some (.int (nI (mxN (fun a => cntB (fun b => decide (vaL S RL mo p (FLs S RL 0) b = vaL S RL mo p (FLs S RL 0) a)) ((FLs S RL 0).length)) a))), some (.int (nI a)), some (.int (nI (cntB (fun b => decide (vaL S RL mo p (FLs S RL 0) b = vaL S RL mo p (FLs S RL 0) a)) (b)))), some (.int (nI b))] [] G I L := by
          intro fb
          induction fb with
          | zero => intro b hle hlt; exact absurd hlt (by omega)
          | succ fb ihb =>
            intro b hle hlt
            refine aw_iload6 h dX0_mostAlike_17 ?_
            refine aw_iload2 h dX0_mostAlike_19 ?_
            refine aw_icmp_geN h (tgt := 67) (by omega) (by omega) dX0_mostAlike_20 (by decide) (fun c20 => ?_) (fun c20 => ?_)
            · obtain rfl : b = (FLs S RL 0).length := by omega
              have hc1 : cntB (fun b => decide (vaL S RL mo p (FLs S RL 0) b = vaL S RL mo p (FLs S RL 0) a)) ((FLs S RL 0).length) ≤ (FLs S RL 0).length := cntB_le2 _ _
              have hc2 : mxN (fun a => cntB (fun b => decide (vaL S RL mo p (FLs S RL 0) b = vaL S RL mo p (FLs S RL 0) a)) ((FLs S RL 0).length)) a ≤ (FLs S RL 0).length := mxN_le3 (fun k _ => cntB_le2 _ _)
              refine aw_iload3 h dX0_mostAlike_67 ?_
              refine aw_iload5 h dX0_mostAlike_68 ?_
              refine aw_mmax h (by decide) (by decide) q1264 q689 q169 q690 (Nat.le_of_ble_eq_true rfl) (Nat.zero_le _) (Nat.zero_le _) dX0_mostAlike_70 ?_
              rw [mx_max (f := fun a => cntB (fun b => decide (vaL S RL mo p (FLs S RL 0) b = vaL S RL mo p (FLs S RL 0) a)) ((FLs S RL 0).length)) (a := a) (Nat.lt_of_le_of_lt hc1 (by omega)) (Nat.lt_of_le_of_lt hc2 (by omega))]
              refine aw_istore3 h rfl dX0_mostAlike_73 ?_
              refine aw_iincN4 h rfl dX0_mostAlike_74 ?_
              refine aw_goto h (tgt := 5) dX0_mostAlike_77 (by decide) ?_
              exact iha (a + 1) (by omega) (by omega) _ _
            · refine aw_iload5 h dX0_mostAlike_23 ?_
              refine aw_aload0 h dX0_mostAlike_25 ?_
              refine aw_getr h fl_X0_114 (gx0 hX) dX0_mostAlike_26 rfl (gxp30 hX) ?_
              refine aw_iconst h _ ci_4 dX0_mostAlike_29 ?_
              refine aw_iload6 h dX0_mostAlike_30 ?_
              refine aw_imulN h dX0_mostAlike_32 ?_
              refine aw_iload1 h dX0_mostAlike_33 ?_
              refine aw_iaddN h dX0_mostAlike_34 ?_
              refine aw_ialdV h (gxs159 hX) (by decide) (by omega) dX0_mostAlike_35 ((show I 159 (4 * b + p) = vaL S RL mo p (FLs S RL 0) b from hR b (by omega) p hp)) ?_
              refine aw_aload0 h dX0_mostAlike_36 ?_
              refine aw_getr h fl_X0_114 (gx0 hX) dX0_mostAlike_37 rfl (gxp30 hX) ?_
              refine aw_iconst h _ ci_4 dX0_mostAlike_40 ?_
              refine aw_iload4 h dX0_mostAlike_41 ?_
              refine aw_imulN h dX0_mostAlike_43 ?_
              refine aw_iload1 h dX0_mostAlike_44 ?_
              refine aw_iaddN h dX0_mostAlike_45 ?_
              refine aw_ialdV h (gxs159 hX) (by decide) (by omega) dX0_mostAlike_46 ((show I 159 (4 * a + p) = vaL S RL mo p (FLs S RL 0) a from hR a (by omega) p hp)) ?_
              refine aw_icmp_ne h (tgt := 54) dX0_mostAlike_47 (by decide) (fun c47 => ?_) (fun c47 => ?_)
              · refine aw_iconst h _ ci_0 dX0_mostAlike_54 ?_
                refine aw_callSE1 h hl cl_X0_266 (met_x_bit (b := false)) dX0_mostAlike_55 (Nat.le_of_ble_eq_true rfl) rfl (Nat.zero_le _) (Nat.zero_le _) ?_
                refine aw_iadd h dX0_mostAlike_58 ?_
                refine aw_istore5 h rfl dX0_mostAlike_59 ?_
                refine aw_iincN6 h rfl dX0_mostAlike_61 ?_
                refine aw_goto h (tgt := 17) dX0_mostAlike_64 (by decide) ?_
                have h9 := ihb (b + 1) (by omega) (by omega)
                rw [cntB_s, if_neg (by rw [decide_eq_false c47]; exact Bool.false_ne_true)] at h9
                rw [show nI (cntB (fun b => decide (vaL S RL mo p (FLs S RL 0) b = vaL S RL mo p (FLs S RL 0) a)) (b)) + bI false = nI (cntB (fun b => decide (vaL S RL mo p (FLs S RL 0) b = vaL S RL mo p (FLs S RL 0) a)) (b) + 0) from nI_add _ _]
                exact h9
              · refine aw_iconst h _ ci_1 dX0_mostAlike_50 ?_
                refine aw_goto h (tgt := 55) dX0_mostAlike_51 (by decide) ?_
                refine aw_callSE1 h hl cl_X0_266 (met_x_bit (b := true)) dX0_mostAlike_55 (Nat.le_of_ble_eq_true rfl) rfl (Nat.zero_le _) (Nat.zero_le _) ?_
                refine aw_iadd h dX0_mostAlike_58 ?_
                refine aw_istore5 h rfl dX0_mostAlike_59 ?_
                refine aw_iincN6 h rfl dX0_mostAlike_61 ?_
                refine aw_goto h (tgt := 17) dX0_mostAlike_64 (by decide) ?_
                have h9 := ihb (b + 1) (by omega) (by omega)
                rw [cntB_s, if_pos (decide_eq_true c47)] at h9
                rw [show nI (cntB (fun b => decide (vaL S RL mo p (FLs S RL 0) b = vaL S RL mo p (FLs S RL 0) a)) (b)) + bI true = nI (cntB (fun b => decide (vaL S RL mo p (FLs S RL 0) b = vaL S RL mo p (FLs S RL 0) a)) (b) + 1) from nI_add _ _]
                exact h9
        refine aw_iconst h _ ci_0 dX0_mostAlike_11 ?_
        refine aw_istore5 h rfl dX0_mostAlike_12 ?_
        refine aw_iconst h _ ci_0 dX0_mostAlike_14 ?_
        refine aw_istore6 h rfl dX0_mostAlike_15 ?_
        exact keyb ((FLs S RL 0).length + 1) 0 (Nat.zero_le _) (by omega)
  refine aw_iconst h _ ci_0 dX0_mostAlike_0 ?_
  refine aw_istore3 h rfl dX0_mostAlike_1 ?_
  refine aw_iconst h _ ci_0 dX0_mostAlike_2 ?_
  refine aw_istore4 h rfl dX0_mostAlike_3 ?_
  exact key ((FLs S RL 0).length + 1) 0 (Nat.zero_le _) (by omega) _ _
theorem lkD_0 {S : Nat → Int32} {RL : List (List Cl)} {mo : Nat} (h : (FLs S RL 0).length = 0) (n : Nat) : pgF (lkD S RL mo) n = (-2, -2) := by
  induction n with
  | zero => rfl
  | succ n ih =>
    rw [pgF, if_pos (Or.inl (by unfold lkD; rw [if_pos (al_zero h)]; decide))]
    exact ih
theorem lkD_p {S : Nat → Int32} {RL : List (List Cl)} {mo p : Nat} (hS : InvS S) (hT : InvT S) (hp : p < np S) (h : 0 < (FLs S RL 0).length) : lkD S RL mo p = nI (alN S RL mo p) := by
  have := al_pos (mo := mo) hS hT hp h
  unfold lkD
  rw [if_neg (by omega)]
def LKt (G : Gm) (I : Im) (L : Lm) : Gm → Im → Lm → Prop := fun G1 I1 L1 => G = G1 ∧ XM lrE noF I L I1 L1
theorem met_x_look {w : Wd} {G : Gm} {I : Im} {L : Lm} (hX : XG G) {sl : Nat → Prop} {K : CS} {c : Nat} {S : Nat → Int32} {t : Nat} (hV : XV sl G I K c S t) (hT : TolS S K) (hN : InvN S) (hNx : NoteX I S) {RL : List (List Cl)} (hRu : XRu sl G I RL) {n wh : Int32} : AMet w yX0_look cX0_look 6 (some .int) 417 12461 0 0 [.ref (w.1 + 0), .int n, .int wh] G I L (Ans (some (.int (lookA S RL n wh))) (LKt G I L)) := by
  refine AMet.of (ls0 := [some (.ref (w.1 + 0)), some (.int n), some (.int wh), none, none, none]) rfl (Nat.le_of_ble_eq_true rfl) rfl (fun q hq => hq) (fun X h hl hr hi => ?_)
  obtain ⟨hC0, hS, hcs, ht, ht2, hdj⟩ := id hV
  have hC := hC0
  obtain ⟨hc0, ⟨pl, pa, dl, da, fa, ps, ds, hK, hsp⟩, hok, hsl⟩ := id hC
  obtain ⟨cp, hLp⟩ := hK.2.2.2.2.2.1
  obtain ⟨cd, hLd⟩ := hK.2.2.2.2.2.2.1
  have hpl := hK.2.2.2.2.2.2.2.1
  have hdl := hK.2.2.2.2.2.2.2.2.1
  have hdk := hK.2.2.2.2.2.2.2.2.2.2.1
  have hpk := hK.2.2.2.2.2.2.2.2.2.1
  have hrm := hK.2.2.2.2.2.2.2.2.2.2.2.1
  have hfr := hK.2.2.2.2.2.2.2.2.2.2.2.2.2
  have hR8 := hok.2.1
  have hD14 := hok.2.2.1
  have hP4 := hok.2.2.2.1
  have hdo := hok.2.2.2.2.1
  have hpo := hok.2.2.2.2.2.1
  have hf9 := hok.2.2.2.2.2.2.2
  have hn := cas_n hcs hok
  have hr6 := hRu.choose_spec.choose_spec.choose_spec.2.2.1
  have b2 := iv2b hS
  have hTI : InvT S := hT.inv hcs hok
  refine aw_aload0 h dX0_look_0 ?_
  refine aw_callVE0 h hl cl_X0_139 (met_x_isCastle hX hC) (gx0 hX) rfl dX0_look_1 (Nat.le_of_ble_eq_true rfl) rfl (Nat.zero_le _) (Nat.zero_le _) ?_
  rw [← hn.1]
  refine aw_if_eqB h (tgt := 29) dX0_look_4 (by decide) (fun c4 => ?_) (fun c4 => ?_)
  · refine aw_iconst h _ ci_m1 dX0_look_29 ?_
    exact aw_iret h hr dX0_look_30 (⟨by unfold lookA; rw [show (decide (0 < nr S) && (inI n 0 60 && inI wh 0 1)) = false from (by rw [c4]; rfl)]; rfl, rfl, XM.rf⟩) (Nat.zero_le _) (Nat.zero_le _)
  · refine aw_iload1 h dX0_look_7 ?_
    refine aw_i2l h dX0_look_8 ?_
    refine aw_lconst h _ cl_0 dX0_look_9 ?_
    refine aw_ldc2 h (v := lN 60) q1239 dX0_look_10 ?_
    refine aw_callSE3 h hl cl_X0_129 (met_x_in) dX0_look_13 (Nat.le_of_ble_eq_true rfl) rfl (Nat.zero_le _) (Nat.zero_le _) ?_
    rw [inL_I (by decide) (by decide)]
    refine aw_if_eqB h (tgt := 29) dX0_look_16 (by decide) (fun c16 => ?_) (fun c16 => ?_)
    · refine aw_iconst h _ ci_m1 dX0_look_29 ?_
      exact aw_iret h hr dX0_look_30 (⟨by unfold lookA; rw [show (decide (0 < nr S) && (inI n 0 60 && inI wh 0 1)) = false from (by rw [c16, Bool.false_and, Bool.and_false])]; rfl, rfl, XM.rf⟩) (Nat.zero_le _) (Nat.zero_le _)
    · refine aw_iload2 h dX0_look_19 ?_
      refine aw_i2l h dX0_look_20 ?_
      refine aw_lconst h _ cl_0 dX0_look_21 ?_
      refine aw_lconst h _ cl_1 dX0_look_22 ?_
      refine aw_callSE3 h hl cl_X0_129 (met_x_in) dX0_look_23 (Nat.le_of_ble_eq_true rfl) rfl (Nat.zero_le _) (Nat.zero_le _) ?_
      rw [inL_I (by decide) (by decide)]
      refine aw_if_neB h (tgt := 31) dX0_look_26 (by decide) (fun c26 => ?_) (fun c26 => ?_)
      · obtain ⟨mo, -, hmo, rfl⟩ := inI_of c16 (by decide) (by decide)
        have hans : lookA S RL (nI mo) wh = if wh = 0 then (pgF (lkD S RL mo) (np S)).1 else (pgF (lkD S RL mo) (np S)).2 := by unfold lookA; rw [c4, c16, c26, nI_clamp (by omega)]; rfl
        have hfl := FLs_le S RL
        refine aw_aload0 h dX0_look_31 ?_
        refine aw_iload1 h dX0_look_32 ?_
        refine aw_callVA1 h hl cl_X0_384 (met_x_laysRooms hX hV hT hN hNx hRu (mo := mo) hmo) (gx0 hX) rfl dX0_look_33 (Nat.le_of_ble_eq_true rfl) rfl (Nat.zero_le _) (Nat.zero_le _) (fun G1 I1 L1 hp9 => ?_)
        obtain ⟨rfl, hm1, hR1⟩ := hp9
        obtain ⟨-, ⟨pl, pa, dl, da, fa, ps, ds, hK1, hsp⟩, -, -⟩ := id (hV.ix (hm1.nm lr_mut)).1
        refine aw_istore3 h rfl dX0_look_36 ?_
        refine aw_iload3 h dX0_look_37 ?_
        refine aw_if_eqN h (tgt := 51) (by omega) dX0_look_38 (by decide) (fun c38 => ?_) (fun c38 => ?_)
        · refine aw_bipush h _ cb_m2 dX0_look_51 ?_
          exact aw_iret h hr dX0_look_53 (⟨by rw [hans, lkD_0 c38]; simp, rfl, hm1⟩) (Nat.zero_le _) (Nat.zero_le _)
        · refine aw_aload0 h dX0_look_41 ?_
          refine aw_getr h fl_X0_12 (gx0 hX) dX0_look_42 rfl hc0 ?_
          refine aw_callVE0 h hl cl_X0_125 (met_x_many hK1 hok) hK.1 rfl dX0_look_45 (Nat.le_of_ble_eq_true rfl) rfl (Nat.zero_le _) (Nat.zero_le _) ?_
          refine aw_if_neN h (tgt := 54) (by omega) dX0_look_48 (by decide) (fun c48 => ?_) (fun c48 => ?_)
          · have hl0 : 0 < (FLs S RL 0).length := by omega
            have hnp0 : 0 < np S := by omega
            have key : ∀ (fu p : Nat) (b : Nat), p ≤ np S → np S < p + fu → b < p → pgF (lkD S RL mo) p = (nI b, lkD S RL mo b) → 1 ≤ p → AW X 0 0 60 [some (.ref (w.1 + 0)), some (.int (nI mo)), some (.int (wh)), some (.int (nI (FLs S RL 0).length)), some (.int (nI b)), some (.int (nI p))] [] G I1 L1 := by
              intro fu
              induction fu with
              | zero => intro p b hle hlt; exact absurd hlt (by omega)
              | succ fu ih =>
                intro p b hle hlt hbp hpg h1p
                refine aw_iload5 h dX0_look_60 ?_
                refine aw_aload0 h dX0_look_62 ?_
                refine aw_getr h fl_X0_12 (gx0 hX) dX0_look_63 rfl hc0 ?_
                refine aw_callVE0 h hl cl_X0_125 (met_x_many hK1 hok) hK.1 rfl dX0_look_66 (Nat.le_of_ble_eq_true rfl) rfl (Nat.zero_le _) (Nat.zero_le _) ?_
                refine aw_icmp_geN h (tgt := 99) (by omega) (by omega) dX0_look_69 (by decide) (fun c69 => ?_) (fun c69 => ?_)
                · obtain rfl : p = np S := by omega
                  have hdb := lkD_p (mo := mo) hS hTI (show b < np S by omega) hl0
                  refine aw_iload2 h dX0_look_99 ?_
                  refine aw_if_ne h (tgt := 108) dX0_look_100 (by decide) (fun c100 => ?_) (fun c100 => ?_)
                  · refine aw_aload0 h dX0_look_108 ?_
                    refine aw_iload4 h dX0_look_109 ?_
                    refine aw_iload3 h dX0_look_111 ?_
                    refine aw_callVE2 h hl cl_X0_387 (met_x_mostAlike hX hS hTI hr6 hR1 (p := b) (by omega)) (gx0 hX) rfl dX0_look_112 (Nat.le_of_ble_eq_true rfl) rfl (Nat.zero_le _) (Nat.zero_le _) ?_
                    exact aw_iret h hr dX0_look_115 (⟨by rw [hans, if_neg c100, hpg, hdb], rfl, hm1⟩) (Nat.zero_le _) (Nat.zero_le _)
                  · refine aw_iload4 h dX0_look_103 ?_
                    refine aw_goto h (tgt := 115) dX0_look_105 (by decide) ?_
                    exact aw_iret h hr dX0_look_115 (⟨by rw [hans, if_pos c100, hpg], rfl, hm1⟩) (Nat.zero_le _) (Nat.zero_le _)
                · have hdp := lkD_p (mo := mo) hS hTI (show p < np S by omega) hl0
                  have hdb := lkD_p (mo := mo) hS hTI (show b < np S by omega) hl0
                  have hap := alN_le S RL mo p
                  have hab := alN_le S RL mo b
                  refine aw_aload0 h dX0_look_72 ?_
                  refine aw_iload5 h dX0_look_73 ?_
                  refine aw_iload3 h dX0_look_75 ?_
                  refine aw_callVE2 h hl cl_X0_387 (met_x_mostAlike hX hS hTI hr6 hR1 (p := p) (by omega)) (gx0 hX) rfl dX0_look_76 (Nat.le_of_ble_eq_true rfl) rfl (Nat.zero_le _) (Nat.zero_le _) ?_
                  refine aw_aload0 h dX0_look_79 ?_
                  refine aw_iload4 h dX0_look_80 ?_
                  refine aw_iload3 h dX0_look_82 ?_
                  refine aw_callVE2 h hl cl_X0_387 (met_x_mostAlike hX hS hTI hr6 hR1 (p := b) (by omega)) (gx0 hX) rfl dX0_look_83 (Nat.le_of_ble_eq_true rfl) rfl (Nat.zero_le _) (Nat.zero_le _) ?_
                  refine aw_icmp_geN h (tgt := 93) (by omega) (by omega) dX0_look_86 (by decide) (fun c86 => ?_) (fun c86 => ?_)
                  · refine aw_iincN5 h rfl dX0_look_93 ?_
                    refine aw_goto h (tgt := 60) dX0_look_96 (by decide) ?_
                    refine ih (p + 1) b (by omega) (by omega) (by omega) ((pg_no (D := lkD S RL mo) (r := p) (Or.inr ⟨?_, ?_⟩)).symm.trans hpg) (by omega)
                    · rw [hpg]; exact nI_pos' (by omega)
                    · rw [hpg, hdp, hdb]; exact (nI_leI (by omega) (by omega)).mpr c86
                  · refine aw_iload5 h dX0_look_89 ?_
                    refine aw_istore4 h rfl dX0_look_91 ?_
                    refine aw_iincN5 h rfl dX0_look_93 ?_
                    refine aw_goto h (tgt := 60) dX0_look_96 (by decide) ?_
                    refine ih (p + 1) p (by omega) (by omega) (by omega) (pg_yes (D := lkD S RL mo) (r := p) (fun q => ?_)).symm (by omega)
                    rcases q with q | q
                    · rw [hdp] at q
                      exact absurd q (Int32.not_lt.mpr (nI_pos' (by omega)))
                    · have q2 := q.2
                      rw [hpg, hdp, hdb] at q2
                      exact c86 ((nI_leI (by omega) (by omega)).mp q2)
            refine aw_iconst h _ ci_0 dX0_look_54 ?_
            refine aw_istore4 h rfl dX0_look_55 ?_
            refine aw_iconst h _ ci_1 dX0_look_57 ?_
            refine aw_istore5 h rfl dX0_look_58 ?_
            refine key (np S + 1) 1 0 (by omega) (by omega) (by decide) ?_ (by decide)
            refine (pg_yes (D := lkD S RL mo) (r := 0) (fun q => ?_)).symm
            rcases q with q | q
            · rw [lkD_p hS hTI hnp0 hl0] at q
              exact absurd q (Int32.not_lt.mpr (nI_pos' (by have := alN_le S RL mo 0; omega)))
            · exact absurd (show (0 : Int32) ≤ -2 from q.1) (by decide)
          · refine aw_bipush h _ cb_m2 dX0_look_51 ?_
            exact aw_iret h hr dX0_look_53 (⟨by rw [hans, show np S = 0 by omega]; simp [pgF], rfl, hm1⟩) (Nat.zero_le _) (Nat.zero_le _)
      · refine aw_iconst h _ ci_m1 dX0_look_29 ?_
        exact aw_iret h hr dX0_look_30 (⟨by unfold lookA; rw [show (decide (0 < nr S) && (inI n 0 60 && inI wh 0 1)) = false from (by rw [c26, Bool.and_false, Bool.and_false])]; rfl, rfl, XM.rf⟩) (Nat.zero_le _) (Nat.zero_le _)
