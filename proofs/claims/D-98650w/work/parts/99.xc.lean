/-! The component: a moment -/
set_option maxRecDepth 100000
theorem cntB_or {a b c : Nat → Bool} {n : Nat} (h : ∀ q, q < n → c q = (a q || b q) ∧ (a q && b q) = false) : cntB a n + cntB b n = cntB c n := by
  induction n with
  | zero => rfl
  | succ n ih =>
    have h1 := ih (fun q hq => h q (by omega))
    obtain ⟨h2, h3⟩ := h n (by omega)
    rw [cntB_s, cntB_s, cntB_s, h2]
    cases ha : a n <;> cases hb : b n
    · simp; omega
    · simp; omega
    · simp; omega
    · rw [ha, hb] at h3; cases h3
section PN
variable (S : Nat → Int32) (fr : Option (List Cl))
def pcB (d q : Nat) : Bool := decide (0 ≤ willI S fr q) && decide (wdn S fr q < d)
def pcN (d : Nat) : Nat := cntB (fun q => outB S fr q && pcB S fr d q) (np S) + cntB (fun q => comesB S fr q && pcB S fr d q) (np S)
end PN
section PN2
variable {S : Nat → Int32} {fr : Option (List Cl)}
theorem pb_step {d : Nat} (hS : InvS S) (hd : d < 100) (f : Nat → Bool) (q : Nat) : (f q && pcB S fr (d + 1) q) = ((f q && pcB S fr d q) || (f q && wdB S fr d q)) ∧ ((f q && pcB S fr d q) && (f q && wdB S fr d q)) = false := by
  unfold pcB
  by_cases hw : wdB S fr d q = true
  · obtain ⟨-, h0, h1⟩ := wd_d hd hw
    rw [hw, decide_eq_true h0, decide_eq_true (show wdn S fr q < d + 1 by omega), decide_eq_false (show ¬ wdn S fr q < d by omega)]
    cases f q <;> exact ⟨rfl, rfl⟩
  · have hw2 : wdB S fr d q = false := by simpa using hw
    rw [hw2]
    by_cases h0 : 0 ≤ willI S fr q
    · have h1 : ¬ wdn S fr q = d := fun z => hw (wd_n hS h0 z)
      rw [decide_eq_true h0, decide_eq_decide.mpr (show wdn S fr q < d + 1 ↔ wdn S fr q < d by omega)]
      cases f q <;> cases decide (wdn S fr q < d) <;> exact ⟨rfl, rfl⟩
    · rw [decide_eq_false h0]
      cases f q <;> exact ⟨rfl, rfl⟩
theorem pcN_s {d : Nat} (hS : InvS S) (hd : d < 100) : pcN S fr d + (cntB (outsB S fr d) (np S) + cntB (comD S fr d) (np S)) = pcN S fr (d + 1) := by
  have h1 := cntB_or (n := np S) (a := fun q => outB S fr q && pcB S fr d q) (b := fun q => outB S fr q && wdB S fr d q) (c := fun q => outB S fr q && pcB S fr (d + 1) q) (fun q _ => pb_step hS hd (outB S fr) q)
  have h2 := cntB_or (n := np S) (a := fun q => comesB S fr q && pcB S fr d q) (b := fun q => comesB S fr q && wdB S fr d q) (c := fun q => comesB S fr q && pcB S fr (d + 1) q) (fun q _ => pb_step hS hd (comesB S fr) q)
  have e1 : cntB (fun q => outB S fr q && wdB S fr d q) (np S) = cntB (outsB S fr d) (np S) := cntB_same (fun q _ => Bool.and_comm _ _)
  have e2 : cntB (fun q => comesB S fr q && wdB S fr d q) (np S) = cntB (comD S fr d) (np S) := cntB_same (fun q _ => (com_is hS hd).symm)
  unfold pcN
  omega
theorem pcN_0 : pcN S fr 0 = 0 := by
  unfold pcN
  have h : ∀ f : Nat → Bool, cntB (fun q => f q && pcB S fr 0 q) (np S) = 0 := fun f => by
    have e : cntB (fun q => f q && pcB S fr 0 q) (np S) = cntB (fun _ => false) (np S) := cntB_same (fun q _ => by unfold pcB; simp)
    rw [e]
    generalize np S = n
    induction n with
    | zero => rfl
    | succ n ih => rw [cntB_s, ih]; rfl
  rw [h, h]
theorem com_ge {q : Nat} (h : comesB S fr q = true) : 0 ≤ willI S fr q := by
  unfold comesB at h
  exact of_decide_eq_true ((Bool.and_eq_true _ _).mp ((Bool.and_eq_true _ _).mp h).2).1
theorem pcN_end (hS : InvS S) : pcN S fr (nd S) = passN S fr := by
  unfold pcN passN
  have h : ∀ f : Nat → Bool, (∀ q, f q = true → 0 ≤ willI S fr q) → cntB (fun q => f q && pcB S fr (nd S) q) (np S) = cntB f (np S) := fun f hf => cntB_same (fun q _ => by
    cases hb : f q with
    | false => rfl
    | true =>
      have h0 := hf q hb
      unfold pcB
      rw [decide_eq_true h0, decide_eq_true (wdn_of h0 hS).2]
      rfl)
  rw [h _ (fun q hq => outB_ge hq), h _ (fun q hq => com_ge hq)]
theorem xn_0 : XN S fr 0 0 0 = pv S := by
  funext q
  refine xn_pv ?_
  unfold xnB
  simp
theorem xn_end (hS : InvS S) (q : Nat) : XN S fr (nd S) 0 0 q = newRow S fr q := by
  by_cases h : xnB S fr (nd S) 0 0 q = true
  · exact xn_new h
  · have h2 : xnB S fr (nd S) 0 0 q = false := by simpa using h
    rw [xn_pv h2]
    have h0 : ¬ 0 ≤ willI S fr q := fun z => h (by
      unfold xnB
      rw [decide_eq_true z, decide_eq_true (wdn_of z hS).2]
      rfl)
    unfold newRow
    rw [if_neg (fun z => h0 (outB_ge z)), if_neg (fun z => h0 (com_ge z))]
end PN2
theorem np_pass {S : Nat → Int32} {fr : Option (List Cl)} : np (passS S fr) = np S := by unfold np nv; rw [pass_hi (by omega)]
theorem pass_pv {S : Nat → Int32} {fr : Option (List Cl)} {q k : Nat} (hS : InvS S) (hq : q < np S) (hk : k < 6) : pv (passS S fr) q k = newRow S fr q k := by
  have h4 := iv2b hS
  have e : pv (passS S fr) q k = pv (vecP S (fun q => if q < np S then newRow S fr q else pv S q)) q k := by
    unfold passS
    show va_up _ 3 _ (10 + 6 * q + k) = _
    rw [vup_n _ _ (by omega)]
    rfl
  rw [e, vecP_pv (by omega) hk, if_pos hq]
theorem pass_2 {S : Nat → Int32} {fr : Option (List Cl)} {q : Nat} : newRow S fr q 2 = pv S q 2 := by
  unfold newRow rowOut rowIn
  split
  · rw [vup_n _ _ (by decide), vup_n _ _ (by decide)]
  · split
    · rw [vup_n _ _ (by decide), vup_n _ _ (by decide), vup_n _ _ (by decide)]
    · rfl
theorem CasS.pass {S : Nat → Int32} {K : CS} (h : CasS S K) (hok : CSok K) (hS : InvS S) (fr : Option (List Cl)) : CasS (passS S fr) K := by
  obtain ⟨h0, h1, h2, h3, h4, h5⟩ := id h
  have hn := cas_n h hok
  refine ⟨by rw [pass_hi (by omega)]; exact h0, by rw [pass_hi (by omega)]; exact h1, by rw [pass_hi (by omega)]; exact h2, ?_, ?_, fun k hk => ?_⟩
  · rw [pass_hi (i := 4) (by omega), pass_hi (i := 5) (by omega)]; exact h3
  · refine ⟨fun r hr => by rw [pass_hi (by omega)]; exact h4.1 r hr, fun d hd => ?_⟩
    have h9 := h4.2 d hd
    rw [pass_hi (by omega), pass_hi (by omega), pass_hi (by omega)]
    exact h9
  · have e := pass_pv (fr := fr) hS (q := k) (k := 2) (by omega) (by decide)
    rw [pass_2] at e
    exact e.trans (h5 k hk)
theorem XV.pass {sl : Nat → Prop} {G : Gm} {I I1 : Im} {K : CS} {c : Nat} {S : Nat → Int32} {t : Nat} (h : XV sl G I K c S t) (he : ∀ m, MutB m = false → I1 m = I m) (ht : t + 1 < 2 ^ 30) (fr : Option (List Cl)) : XV sl G I1 K c (passS S fr) (t + 1) := by
  obtain ⟨h1, h2, h3, h4, -, h6⟩ := h
  refine ⟨h1.ix he, h2.pass fr, h3.pass h1.2.2.1 h2 fr, ?_, ht, h6⟩
  unfold passS
  rw [vup_s, h4]
  exact nI_add t 1
theorem StAt.rows {I : Im} {s : Nat} {S : Nat → Int32} (h : StAt I s S) : StR I s (np S) (pv S) := ⟨h.2.1, h.2.2⟩
theorem StR.pass {I : Im} {s : Nat} {S : Nat → Int32} {fr : Option (List Cl)} (hS : InvS S) (h : StR I s (np S) (newRow S fr)) (h5 : I s 5 = S 3 + nI 1) : StAt I s (passS S fr) := by
  refine ⟨?_, fun p hp => ?_, fun p hp h4 => ?_⟩
  · rw [h5]; unfold passS; rw [vup_s]
  · rw [np_pass] at hp
    rw [pass_pv hS hp (by decide), pass_pv hS hp (by decide), pass_pv hS hp (by decide), pass_pv hS hp (by decide), pass_pv hS hp (by decide)]
    exact h.1 p hp
  · rw [np_pass] at hp
    exact h.2 p hp h4
/-- a State has passed a moment -/
def GOt (S : Nat → Int32) (fr : Option (List Cl)) (s : Nat) (G : Gm) (I : Im) (L : Lm) : Gm → Im → Lm → Prop := fun G1 I1 L1 => G = G1 ∧ IX ([26, 27, 28, 29, 30, 31] ++ SCs s) I L I1 L1 ∧ StAt I1 s (passS S fr)
theorem met_x_goesOn {w : Wd} {G : Gm} {I : Im} {L : Lm} (hX : XG G) {sl : Nat → Prop} {K : CS} {c : Nat} {S : Nat → Int32} {t : Nat} (hV : XV sl G I K c S t) {s : Nat} (hs : StSh G s) (hA : StAt I s S) (hs7 : s = 7 ∨ s = 13) {RL : List (List Cl)} {fr : Option (List Cl)} (hRu : XRu sl G I RL) (hFr : XFr I RL fr) : AMet w yX0_goesOn cX0_goesOn 5 (some .int) 413 12367 0 0 [.ref (w.1 + 0), .ref (w.1 + s)] G I L (Ans (some (.int (nI (passN S fr)))) (GOt S fr s G I L)) := by
  refine AMet.of (ls0 := [some (.ref (w.1 + 0)), some (.ref (w.1 + s)), none, none, none]) rfl (Nat.le_of_ble_eq_true rfl) rfl (fun q hq => hq) (fun X h hl hr hi => ?_)
  obtain ⟨hC0, hS, hcs, ht, ht2, hdj⟩ := id hV
  have hC := hC0
  obtain ⟨hc0, ⟨pl, pa, dl, da, fa, ps, ds, hK, hsp⟩, hok, hsl⟩ := id hC
  obtain ⟨cp, hLp⟩ := hK.2.2.2.2.2.1
  obtain ⟨cd, hLd⟩ := hK.2.2.2.2.2.2.1
  have hpl := hK.2.2.2.2.2.2.2.1
  have hdl := hK.2.2.2.2.2.2.2.2.1
  have hdk := hK.2.2.2.2.2.2.2.2.2.2.1
  have hpk := hK.2.2.2.2.2.2.2.2.2.1
  have hrm := hK.2.2.2.2.2.2.2.2.2.2.2.1
  have hfr := hK.2.2.2.2.2.2.2.2.2.2.2.2.2
  have hR8 := hok.2.1
  have hD14 := hok.2.2.1
  have hP4 := hok.2.2.2.1
  have hdo := hok.2.2.2.2.1
  have hpo := hok.2.2.2.2.2.1
  have hf9 := hok.2.2.2.2.2.2.2
  have hn := cas_n hcs hok
  have hrng : s + 5 < 26 := by omega
  have k9 : ∀ (I1 : Im) (L1 : Lm), IX [26, 27, 28, 29, 30] I L I1 L1 → (∀ q, q < np S → I1 29 q = willI S fr q) → ∀ o4 : Option Value, AW X 0 0 9 [some (.ref (w.1 + 0)), some (.ref (w.1 + s)), some (.int (nI 0)), some (.int (nI 0)), o4] [] G I1 L1 := by
    intro I1 L1 hix5 hw1 o4
    have hixa : IX ([26, 27, 28, 29, 30, 31] ++ SCs s) I L I1 L1 := hix5.mono (fun m hm => by simp [SCs] at hm ⊢; omega)
    have hA1 : StAt I1 s S := hA.ix (fun m hm => (hix5 m (by simp [SCs] at hm; simp; omega)).1)
    have h50 : I1 s 5 = S 3 := hA1.1
    have key2 : ∀ (fu k : Nat) (I1 : Im) (L1 : Lm), k ≤ nd S → nd S < k + fu → IX ([26, 27, 28, 29, 30, 31] ++ SCs s) I L I1 L1 → I1 s 5 = S 3 → StR I1 s (np S) (XN S fr k 0 0) → (∀ q, q < np S → I1 29 q = willI S fr q) → AW X 0 0 50 [some (.ref (w.1 + 0)), some (.ref (w.1 + s)), some (.int (nI (mskN (np S) (outB S fr)))), some (.int (nI (pcN S fr k))), some (.int (nI k))] [] G I1 L1 := by
      intro fu
      induction fu with
      | zero => intro k I1 L1 hle hlt; exact absurd hlt (by omega)
      | succ fu ih =>
        intro k I1 L1 hle hlt hixa h5 hRo hw1
        have hix : IX ([26, 27, 28, 29, 30, 31] ++ SCs s) I L I1 L1 := hixa
        have hV1 : XV sl G I1 K c S t := hV.ix (hix.nm (fun m hm => by rcases hs7 with rfl | rfl <;> (revert m; decide)))
        obtain ⟨hc0, ⟨pl, pa, dl, da, fa, ps, ds, hK, hsp⟩, -, -⟩ := id hV1.1
        obtain ⟨cp, hLp⟩ := hK.2.2.2.2.2.1
        obtain ⟨cd, hLd⟩ := hK.2.2.2.2.2.2.1
        refine aw_iload4 h dX0_goesOn_50 ?_
        refine aw_aload0 h dX0_goesOn_52 ?_
        refine aw_getr h fl_X0_12 (gx0 hX) dX0_goesOn_53 rfl hc0 ?_
        refine aw_getr h fl_X0_133 hK.1 dX0_goesOn_56 rfl hK.2.2.1 ?_
        refine aw_callVE0 h hl cl_X0_136 (met_j_size hLd) hLd.1 rfl dX0_goesOn_59 (Nat.le_of_ble_eq_true rfl) rfl (Nat.zero_le _) (Nat.zero_le _) ?_
        rw [hK.2.2.2.2.2.2.2.2.1]
        refine aw_icmp_geN h (tgt := 82) (by omega) (by omega) dX0_goesOn_62 (by decide) (fun c62 => ?_) (fun c62 => ?_)
        · refine aw_aload1 h dX0_goesOn_82 ?_
          refine aw_dup h rfl dX0_goesOn_83 ?_
          refine aw_getiV h fl_X0_195 hs.1 dX0_goesOn_84 rfl (h5) ?_
          refine aw_iconst h _ ci_1 dX0_goesOn_87 ?_
          refine aw_iadd h dX0_goesOn_88 ?_
          refine aw_puti h fl_X0_195 ft_X0_195 (fun z => by cases z) hs.1 dX0_goesOn_89 rfl ?_
          refine aw_iload3 h dX0_goesOn_92 ?_
          exact aw_iret h hr dX0_goesOn_93 (⟨by rw [show k = nd S by omega, pcN_end hS], rfl, hix.trans (IX.i (by simp [SCs])), StR.pass hS (((show k = nd S by omega) ▸ hRo : StR I1 s (np S) (XN S fr (nd S) 0 0)).ix (fun j hj => upd2_n _ _ _ (by omega)) |>.ext (fun q _ => xn_end hS q)) (by rw [upd2_s, vup_s])⟩) (Nat.zero_le _) (Nat.zero_le _)
        · have hdd : k < (kD K).length := by omega
          refine aw_iload3 h dX0_goesOn_65 ?_
          refine aw_aload0 h dX0_goesOn_66 ?_
          refine aw_aload1 h dX0_goesOn_67 ?_
          refine aw_iload4 h dX0_goesOn_68 ?_
          refine aw_iload2 h dX0_goesOn_70 ?_
          refine aw_callVA3 h hl cl_X0_303 (met_x_passes hX hV1 hs hs7 hw1 hdd hRo) (gx0 hX) rfl dX0_goesOn_71 (Nat.le_of_ble_eq_true rfl) rfl (Nat.zero_le _) (Nat.zero_le _) (fun G1 I2 L2 hp9 => ?_)
          obtain ⟨rfl, hix2, hRo2⟩ := hp9
          refine aw_iaddN h dX0_goesOn_74 ?_
          refine aw_istore3 h rfl dX0_goesOn_75 ?_
          refine aw_iincN4 h rfl dX0_goesOn_76 ?_
          refine aw_goto h (tgt := 50) dX0_goesOn_79 (by decide) ?_
          rw [pcN_s hS (by omega)]
          exact ih (k + 1) I2 L2 (by omega) (by omega) (hix.trans (hix2.mono (fun m hm => by simp [SCs] at hm ⊢; omega))) ((congrFun (hix2 s (by simp; omega)).1 5).trans h5) hRo2 (fun q hq => (congrFun (hix2 29 (by simp; omega)).1 q).trans (hw1 q hq))
    have key50 : AW X 0 0 50 [some (.ref (w.1 + 0)), some (.ref (w.1 + s)), some (.int (nI (mskN (np S) (outB S fr)))), some (.int (nI 0)), some (.int (nI 0))] [] G I1 L1 := by
      have h9 := key2 (nd S + 1) 0 I1 L1 (Nat.zero_le _) (by omega) hixa h50 (by rw [xn_0]; exact hA1.rows) hw1
      rw [pcN_0] at h9
      exact h9
    have key1 : ∀ (fu k : Nat), k ≤ np S → np S < k + fu → AW X 0 0 9 [some (.ref (w.1 + 0)), some (.ref (w.1 + s)), some (.int (nI (mskN k (outB S fr)))), some (.int (nI k)), o4] [] G I1 L1 := by
      intro fu
      induction fu with
      | zero => intro k hle hlt; exact absurd hlt (by omega)
      | succ fu ih =>
        intro k hle hlt
        have hix : IX ([26, 27, 28, 29, 30, 31] ++ SCs s) I L I1 L1 := hixa
        have hV1 : XV sl G I1 K c S t := hV.ix (hix.nm (fun m hm => by rcases hs7 with rfl | rfl <;> (revert m; decide)))
        obtain ⟨hc0, ⟨pl, pa, dl, da, fa, ps, ds, hK, hsp⟩, -, -⟩ := id hV1.1
        obtain ⟨cp, hLp⟩ := hK.2.2.2.2.2.1
        obtain ⟨cd, hLd⟩ := hK.2.2.2.2.2.2.1
        refine aw_iload3 h dX0_goesOn_9 ?_
        refine aw_aload0 h dX0_goesOn_10 ?_
        refine aw_getr h fl_X0_12 (gx0 hX) dX0_goesOn_11 rfl hc0 ?_
        refine aw_callVE0 h hl cl_X0_125 (met_x_many hK hok) hK.1 rfl dX0_goesOn_14 (Nat.le_of_ble_eq_true rfl) rfl (Nat.zero_le _) (Nat.zero_le _) ?_
        refine aw_icmp_geN h (tgt := 45) (by omega) (by omega) dX0_goesOn_17 (by decide) (fun c17 => ?_) (fun c17 => ?_)
        · refine aw_iconst h _ ci_0 dX0_goesOn_45 ?_
          refine aw_istore3 h rfl dX0_goesOn_46 ?_
          refine aw_iconst h _ ci_0 dX0_goesOn_47 ?_
          refine aw_istore4 h rfl dX0_goesOn_48 ?_
          have ekn : k = np S := by omega
          subst ekn
          exact key50
        · have hkn : k < np S := by omega
          refine aw_iload2 h dX0_goesOn_20 ?_
          refine aw_aload0 h dX0_goesOn_21 ?_
          refine aw_aload1 h dX0_goesOn_22 ?_
          refine aw_iload3 h dX0_goesOn_23 ?_
          refine aw_callVE2 h hl cl_X0_300 (met_x_goesOutB hX hV1 hs hA1 hs7 hw1 hkn) (gx0 hX) rfl dX0_goesOn_24 (Nat.le_of_ble_eq_true rfl) rfl (Nat.zero_le _) (Nat.zero_le _) ?_
          refine aw_if_eqB h (tgt := 36) dX0_goesOn_27 (by decide) (fun c27 => ?_) (fun c27 => ?_)
          · refine aw_iconst h _ ci_0 dX0_goesOn_36 ?_
            refine aw_ior h dX0_goesOn_37 ?_
            refine aw_istore2 h rfl dX0_goesOn_38 ?_
            refine aw_iincN3 h rfl dX0_goesOn_39 ?_
            refine aw_goto h (tgt := 9) dX0_goesOn_42 (by decide) ?_
            rw [bs_or, Nat.or_zero]
            have e : mskN (k + 1) (outB S fr) = mskN k (outB S fr) := by simp [mskN, c27]
            rw [← e]
            exact ih (k + 1) (by omega) (by omega)
          · refine aw_iconst h _ ci_1 dX0_goesOn_30 ?_
            refine aw_iload3 h dX0_goesOn_31 ?_
            refine aw_ishl h dX0_goesOn_32 ?_
            refine aw_goto h (tgt := 37) dX0_goesOn_33 (by decide) ?_
            refine aw_ior h dX0_goesOn_37 ?_
            refine aw_istore2 h rfl dX0_goesOn_38 ?_
            refine aw_iincN3 h rfl dX0_goesOn_39 ?_
            refine aw_goto h (tgt := 9) dX0_goesOn_42 (by decide) ?_
            rw [bs_shl1 (by omega), bs_or, msk_or (msk_lt _ _)]
            have e : mskN (k + 1) (outB S fr) = mskN k (outB S fr) + 2 ^ k := by simp [mskN, c27]
            rw [← e]
            exact ih (k + 1) (by omega) (by omega)
    exact key1 (np S + 1) 0 (Nat.zero_le _) (by omega)
  refine aw_aload0 h dX0_goesOn_0 ?_
  refine aw_aload1 h dX0_goesOn_1 ?_
  refine aw_callVN1 h hl cl_X0_296 (met_x_wills hX hV hs hA hs7 hRu hFr) (gx0 hX) rfl dX0_goesOn_2 (Nat.le_of_ble_eq_true rfl) rfl (Nat.zero_le _) (Nat.zero_le _) (fun G1 I1 L1 hp9 => ?_)
  obtain ⟨rfl, hix5, hw1⟩ := hp9
  refine aw_iconst h _ ci_0 dX0_goesOn_5 ?_
  refine aw_istore2 h rfl dX0_goesOn_6 ?_
  refine aw_iconst h _ ci_0 dX0_goesOn_7 ?_
  refine aw_istore3 h rfl dX0_goesOn_8 ?_
  exact k9 I1 L1 hix5 hw1 _
