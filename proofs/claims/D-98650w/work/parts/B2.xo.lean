/-! The component: what is found; fewest, turned -/
set_option maxRecDepth 100000
theorem at8_iff {S : Nat → Int32} {n m c : Nat} (h0 : 0 < nr S) (hn : np S ≤ n) (hc : VC S n c) : at8 S m c = true ↔ goalC S n m (cv S n c) := by
  have e : at8 S m c = atB S m (cv S n c) := by
    unfold at8 atB
    congr 1
    refine Bool.eq_iff_iff.mpr ?_
    rw [anyN_iff, anyN_iff]
    constructor
    · rintro ⟨p, hp, h⟩
      refine ⟨p, hp, ?_⟩
      rw [cv_dg h0 hc (by omega)]
      simpa using h
    · rintro ⟨p, hp, h⟩
      refine ⟨p, hp, ?_⟩
      rw [cv_dg h0 hc (by omega)] at h
      simpa using h
  rw [e]
  exact ⟨fun h => ⟨cv_lt hc, h⟩, fun h => h.2⟩
def Pno (S : Nat → Int32) (m : Nat) : Nat → Prop := fun c => at8 S m c = false
theorem found_dist {S : Nat → Int32} {n m c0 k cnt : Nat} {inw : Int32} {qv lv par lab : Nat → Nat} {I : Im} (hS : InvS S) (h0 : 0 < nr S) (hn : np S ≤ n) (h : SX S n inw c0 k 0 (Pno S m) cnt qv lv par lab I) (hk : k < cnt) (hg : at8 S m (qv k) = true) : distE (EB S n inw) (goalC S n m) (cv S n c0) = nI (lv (qv k)) := by
  have hV0 : VC S n c0 := by have := h.2.2.2.1 0 h.2.2.2.2.2.2.2.2; rw [h.2.2.2.2.2.2.2.1] at this; exact this
  obtain ⟨s, rfl, hw⟩ := h.2.1.2.2.1 k hk
  exact fw_dist (g8 := fun c => at8 S m c = true) hS h0 hV0 (fun c hc => at8_iff h0 hn hc) (fun s hs => hs.1) hg hw (fun j c hj hc => first_least (g8 := fun c => at8 S m c = true) h.2.1 hk (fun i hi hx => by have := h.2.2.2.2.1 i hi; unfold Pno at this; rw [this] at hx; cases hx) j _ c rfl hj hc)
theorem none_dist {S : Nat → Int32} {n m c0 cnt : Nat} {inw : Int32} {qv lv par lab : Nat → Nat} {I : Im} (hS : InvS S) (h0 : 0 < nr S) (hn : np S ≤ n) (h : SX S n inw c0 cnt 0 (Pno S m) cnt qv lv par lab I) : distE (EB S n inw) (goalC S n m) (cv S n c0) = -1 := by
  have hV0 : VC S n c0 := by have := h.2.2.2.1 0 h.2.2.2.2.2.2.2.2; rw [h.2.2.2.2.2.2.2.1] at this; exact this
  refine fw_none (g8 := fun c => at8 S m c = true) hS h0 hV0 (fun c hc => at8_iff h0 hn hc) (fun s hs => hs.1) (fun j c hj hc => ?_)
  obtain ⟨⟨i, hi, rfl⟩, -⟩ := h.2.1.done j c0 c rfl hj
  have := h.2.2.2.2.1 i hi
  unfold Pno at this; rw [this] at hc; cases hc
def FNd (S : Nat → Int32) (n : Nat) (inw : Int32) (c0 m : Nat) (G : Gm) (I : Im) (L : Lm) : Option Value → Gm → Im → Lm → Prop := fun v G1 I1 L1 => G = G1 ∧ XM srE srF I L I1 L1 ∧ ((v = some (.int (-1)) ∧ ∃ cnt qv lv par lab, SX S n inw c0 cnt 0 (Pno S m) cnt qv lv par lab I1) ∨ ∃ cnt k qv lv par lab, v = some (.int (nI (qv k))) ∧ SX S n inw c0 k 0 (Pno S m) cnt qv lv par lab I1 ∧ k < cnt ∧ at8 S m (qv k) = true)
theorem SX.start {S : Nat → Int32} {n c0 : Nat} {inw : Int32} {P : Nat → Prop} {I : Im} (hV : VC S n c0) (h26 : I 0 26 = nI 1) (h156 : I 156 0 = nI c0) (h0 : I 153 c0 = 0) (h1 : ∀ c, c < pw 8 n → c ≠ c0 → I 153 c = -1) : SX S n inw c0 0 0 P 1 (fun _ => c0) (fun _ => 0) (fun _ => 0) (fun _ => 0) I := by
  refine ⟨⟨h26, fun j hj => by rw [show j = 0 by omega]; exact h156, fun c hc => ⟨fun hs => ?_, fun hs => h1 c hc (fun e => hs ⟨0, Nat.one_pos, e.symm⟩)⟩, fun j a b => by omega⟩, BFI.start (fun i j a b _ => by omega) (fun j _ => hV.1) (fun j _ => ⟨rfl, rfl⟩) (fun s hs => ⟨0, Nat.one_pos, hs.symm⟩), LXI.start rfl, fun j _ => hV, fun i hi => by omega, pw_pos (by decide) n, fun j _ => Nat.zero_le _, rfl, Nat.one_pos⟩
  obtain ⟨j, -, e⟩ := hs
  have e : c0 = c := e
  subst e; exact h0
theorem met_x_finds {w : Wd} {G : Gm} {I : Im} {L : Lm} (hX : XG G) {sl : Nat → Prop} {K : CS} {cK : Nat} {S : Nat → Int32} {t : Nat} (hV : XV sl G I K cK S t) (h0 : 0 < nr S) (hA : StAt I 7 S) {n : Nat} (hn5 : n ≤ 5) {inw : Int32} (hTw : I 0 27 = inw) (hinw : inw = -1 ∨ ∃ d, d < nd S ∧ inw = nI d ∧ openB S d = true) {c0 m : Nat} (hV0 : VC S n c0) (hm31 : m < 2 ^ 31) : AMet w yX0_finds cX0_finds 5 (some .int) 7 174 0 0 [.ref (w.1 + 0), .int (nI c0), .int (nI n), .int (nI m)] G I L (FNd S n inw c0 m G I L) := by
  refine AMet.of (ls0 := [some (.ref (w.1 + 0)), some (.int (nI c0)), some (.int (nI n)), some (.int (nI m)), none]) rfl (Nat.le_of_ble_eq_true rfl) rfl (fun q hq => hq) (fun X h hl hr hi => ?_)
  obtain ⟨hC0, hS, hcs, ht, ht2, hdj⟩ := id hV
  have hC := hC0
  obtain ⟨hc0, ⟨pl, pa, dl, da, fa, ps, ds, hK, hsp⟩, hok, hsl⟩ := id hC
  obtain ⟨cp, hLp⟩ := hK.2.2.2.2.2.1
  obtain ⟨cd, hLd⟩ := hK.2.2.2.2.2.2.1
  have hpl := hK.2.2.2.2.2.2.2.1
  have hdl := hK.2.2.2.2.2.2.2.2.1
  have hdk := hK.2.2.2.2.2.2.2.2.2.2.1
  have hpk := hK.2.2.2.2.2.2.2.2.2.1
  have hrm := hK.2.2.2.2.2.2.2.2.2.2.2.1
  have hfr := hK.2.2.2.2.2.2.2.2.2.2.2.2.2
  have hR8 := hok.2.1
  have hD14 := hok.2.2.1
  have hP4 := hok.2.2.2.1
  have hdo := hok.2.2.2.2.1
  have hpo := hok.2.2.2.2.2.1
  have hf9 := hok.2.2.2.2.2.2.2
  have hn := cas_n hcs hok
  have h8 := iv0b hS
  have hM := pw8_le hn5
  have hc15 : c0 < 2 ^ 15 := Nat.lt_of_lt_of_le hV0.1 hM
  have keyK : ∀ (fu k : Nat) (I1 : Im) (L1 : Lm), k ≤ pw 8 n → pw 8 n < k + fu → XM srE srF I L I1 L1 → SQ S n inw c0 k (Pno S m) I1 → AW X 0 0 49 [some (.ref (w.1 + 0)), some (.int (nI c0)), some (.int (nI n)), some (.int (nI m)), some (.int (nI k))] [] G I1 L1 := by
    intro fu
    induction fu with
    | zero => intro k I1 L1 hle hlt; exact absurd hlt (by omega)
    | succ fu ih =>
      intro k I1 L1 hle hlt hm hSQ
      obtain ⟨cnt, qv, lv, par, lab, hSX, hkc⟩ := hSQ
      have hV1 : XV sl G I1 K cK S t := hV.ix (hm.nm sr_mut)
      have hA1 : StAt I1 7 S := hA.ix7 (fun m q1 q2 => (hm.1 m (by omega) (by unfold srE; simp; omega)).1)
      have hcm := hSX.2.2.2.2.2.1
      have hqk : k < cnt → VC S n (qv k) := hSX.2.2.2.1 k
      have h156 := hSX.1.2.1
      refine aw_iload4 h dX0_finds_49 ?_
      refine aw_aload0 h dX0_finds_51 ?_
      refine aw_getiV h fl_X0_328 (gx0 hX) dX0_finds_52 rfl (hSX.1.1) ?_
      refine aw_icmp_geN h (tgt := 99) (by omega) (by omega) dX0_finds_55 (by decide) (fun c55 => ?_) (fun c55 => ?_)
      · refine aw_iconst h _ ci_m1 dX0_finds_99 ?_
        exact aw_iret h hr dX0_finds_100 (⟨rfl, hm, Or.inl ⟨rfl, cnt, qv, lv, par, lab, (show k = cnt by omega) ▸ hSX⟩⟩) (Nat.zero_le _) (Nat.zero_le _)
      · have hq1 := hqk (by omega)
        have hq2 : qv k < 2 ^ 15 := Nat.lt_of_lt_of_le hq1.1 hM
        refine aw_aload0 h dX0_finds_58 ?_
        refine aw_aload0 h dX0_finds_59 ?_
        refine aw_getr h fl_X0_101 (gx0 hX) dX0_finds_60 rfl (gxp25 hX) ?_
        refine aw_iload4 h dX0_finds_63 ?_
        refine aw_ialdV h (gxs156 hX) (by decide) (by omega) dX0_finds_65 ((h156 k (by omega))) ?_
        refine aw_iload3 h dX0_finds_66 ?_
        refine aw_callVE2 h hl cl_X0_343 (met_x_areThere hX hV1 hA1 hq2 hm31) (gx0 hX) rfl dX0_finds_67 (Nat.le_of_ble_eq_true rfl) rfl (Nat.zero_le _) (Nat.zero_le _) ?_
        refine aw_if_eqB h (tgt := 81) dX0_finds_70 (by decide) (fun c70 => ?_) (fun c70 => ?_)
        · refine aw_aload0 h dX0_finds_81 ?_
          refine aw_aload0 h dX0_finds_82 ?_
          refine aw_getr h fl_X0_101 (gx0 hX) dX0_finds_83 rfl (gxp25 hX) ?_
          refine aw_iload4 h dX0_finds_86 ?_
          refine aw_ialdV h (gxs156 hX) (by decide) (by omega) dX0_finds_88 ((h156 k (by omega))) ?_
          refine aw_iload2 h dX0_finds_89 ?_
          refine aw_callVN2 h hl cl_X0_346 (met_x_spreads hX hV1 h0 hA1 hn5 ((hm.2.1 27 rfl).trans hTw) hinw (c0 := c0) (k := k) (P := Pno S m) ⟨cnt, qv, lv, par, lab, hSX, by omega, rfl⟩ c70) (gx0 hX) rfl dX0_finds_90 (Nat.le_of_ble_eq_true rfl) rfl (Nat.zero_le _) (Nat.zero_le _) (fun G1 I2 L2 hp9 => ?_)
          obtain ⟨rfl, hm2, hSQ2, -⟩ := hp9
          refine aw_iincN4 h rfl dX0_finds_93 ?_
          refine aw_goto h (tgt := 49) dX0_finds_96 (by decide) ?_
          exact ih (k + 1) I2 L2 (by omega) (by omega) (hm.trans hm2) hSQ2
        · refine aw_aload0 h dX0_finds_73 ?_
          refine aw_getr h fl_X0_101 (gx0 hX) dX0_finds_74 rfl (gxp25 hX) ?_
          refine aw_iload4 h dX0_finds_77 ?_
          refine aw_ialdV h (gxs156 hX) (by decide) (by omega) dX0_finds_79 ((h156 k (by omega))) ?_
          exact aw_iret h hr dX0_finds_80 (⟨rfl, hm, Or.inr ⟨cnt, k, qv, lv, par, lab, rfl, hSX, by omega, c70⟩⟩) (Nat.zero_le _) (Nat.zero_le _)
  have keyI : ∀ (fu k : Nat) (I1 : Im), k ≤ pw 8 n → pw 8 n < k + fu → XM srE srF I L I1 L → (∀ c, c < k → I1 153 c = -1) → AW X 0 0 3 [some (.ref (w.1 + 0)), some (.int (nI c0)), some (.int (nI n)), some (.int (nI m)), some (.int (nI k))] [] G I1 L := by
    intro fu
    induction fu with
    | zero => intro k I1 hle hlt; exact absurd hlt (by omega)
    | succ fu ih =>
      intro k I1 hle hlt hm hr0
      refine aw_iload4 h dX0_finds_3 ?_
      refine aw_iconst h _ ci_1 dX0_finds_5 ?_
      refine aw_iconst h _ ci_3 dX0_finds_6 ?_
      refine aw_iload2 h dX0_finds_7 ?_
      refine aw_imulN h dX0_finds_8 ?_
      refine aw_ishl h dX0_finds_9 ?_
      rw [bs_shl1 (by omega), ← pw8]
      refine aw_icmp_geN h (tgt := 27) (by omega) (by omega) dX0_finds_10 (by decide) (fun c10 => ?_) (fun c10 => ?_)
      · refine aw_aload0 h dX0_finds_27 ?_
        refine aw_iconst h _ ci_1 dX0_finds_28 ?_
        refine aw_puti h fl_X0_328 ft_X0_328 (fun z => by cases z) (gx0 hX) dX0_finds_29 rfl ?_
        refine aw_aload0 h dX0_finds_32 ?_
        refine aw_getr h fl_X0_101 (gx0 hX) dX0_finds_33 rfl (gxp25 hX) ?_
        refine aw_iconst h _ ci_0 dX0_finds_36 ?_
        refine aw_iload1 h dX0_finds_37 ?_
        refine aw_iastN h (gxs156 hX) (by decide) (by omega) dX0_finds_38 ?_
        refine aw_aload0 h dX0_finds_39 ?_
        refine aw_getr h fl_X0_92 (gx0 hX) dX0_finds_40 rfl (gxp22 hX) ?_
        refine aw_iload1 h dX0_finds_43 ?_
        refine aw_iconst h _ ci_0 dX0_finds_44 ?_
        refine aw_iastN h (gxs153 hX) (by decide) (by omega) dX0_finds_45 ?_
        refine aw_iconst h _ ci_0 dX0_finds_46 ?_
        refine aw_istore4 h rfl dX0_finds_47 ?_
        refine keyK (pw 8 n + 1) 0 _ _ (Nat.zero_le _) (by omega) (((hm.trans (XM.f rfl)).trans (XM.i (by decide) rfl)).trans (XM.i (by decide) rfl)) ⟨1, _, _, _, _, SX.start hV0 rfl rfl ?_ (fun c hc hne => ?_), Nat.zero_le _⟩
        · show va_up (I1 153) c0 (nI 0) c0 = 0
          rw [vup_s]; rfl
        · show va_up (I1 153) c0 (nI 0) c = -1
          rw [vup_n _ _ hne]; exact hr0 c (by omega)
      · refine aw_aload0 h dX0_finds_13 ?_
        refine aw_getr h fl_X0_92 (gx0 hX) dX0_finds_14 rfl (gxp22 hX) ?_
        refine aw_iload4 h dX0_finds_17 ?_
        refine aw_iconst h _ ci_m1 dX0_finds_19 ?_
        refine aw_iastN h (gxs153 hX) (by decide) (by omega) dX0_finds_20 ?_
        refine aw_iincN4 h rfl dX0_finds_21 ?_
        refine aw_goto h (tgt := 3) dX0_finds_24 (by decide) ?_
        refine ih (k + 1) (upd2 I1 153 k (-1)) (by omega) (by omega) (hm.trans (XM.i (by decide) rfl)) (fun c hc => ?_)
        rw [upd2_s]
        by_cases e : c = k
        · subst e; rw [vup_s]
        · rw [vup_n _ _ e]; exact hr0 c (by omega)
  refine aw_iconst h _ ci_0 dX0_finds_0 ?_
  refine aw_istore4 h rfl dX0_finds_1 ?_
  exact keyI (pw 8 n + 1) 0 I (Nat.zero_le _) (by omega) XM.rf (fun c hc => absurd hc (Nat.not_lt_zero _))
theorem cv_now {S : Nat → Int32} (hS : InvS S) : VC S (np S) (enc 8 (np S) (rm S)) ∧ cv S (np S) (enc 8 (np S) (rm S)) = codeV S := by
  have b0 := iv0b hS
  have h : ∀ p, p < np S → rm S p < 8 := fun p hp => by have := (ivp hS hp).2.1; omega
  have hd : ∀ p, p < np S → dg 8 (enc 8 (np S) (rm S)) p = rm S p := fun p hp => dg_enc (by decide) h hp
  exact ⟨⟨enc_lt h, fun p hp => by rw [hd p hp]; exact (ivp hS hp).2.1⟩, enc_congr hd⟩
def SRq (G : Gm) (I : Im) (L : Lm) : Gm → Im → Lm → Prop := fun G1 I1 L1 => G = G1 ∧ XM srE srF I L I1 L1
theorem met_x_fewestOf {w : Wd} {G : Gm} {I : Im} {L : Lm} (hX : XG G) {sl : Nat → Prop} {K : CS} {c : Nat} {S : Nat → Int32} {t : Nat} (hV : XV sl G I K c S t) (h0 : 0 < nr S) (hA : StAt I 7 S) {inw : Int32} (hTw : I 0 27 = inw) (hinw : inw = -1 ∨ ∃ d, d < nd S ∧ inw = nI d ∧ openB S d = true) {m : Nat} (hm31 : m < 2 ^ 31) : AMet w yX0_fewestOf cX0_fewestOf 3 (some .int) 8 198 0 0 [.ref (w.1 + 0), .int (nI m)] G I L (Ans (some (.int (n2 (fewD S m inw)))) (SRq G I L)) := by
  refine AMet.of (ls0 := [some (.ref (w.1 + 0)), some (.int (nI m)), none]) rfl (Nat.le_of_ble_eq_true rfl) rfl (fun q hq => hq) (fun X h hl hr hi => ?_)
  obtain ⟨hC0, hS, hcs, ht, ht2, hdj⟩ := id hV
  have hC := hC0
  obtain ⟨hc0, ⟨pl, pa, dl, da, fa, ps, ds, hK, hsp⟩, hok, hsl⟩ := id hC
  obtain ⟨cp, hLp⟩ := hK.2.2.2.2.2.1
  obtain ⟨cd, hLd⟩ := hK.2.2.2.2.2.2.1
  have hpl := hK.2.2.2.2.2.2.2.1
  have hdl := hK.2.2.2.2.2.2.2.2.1
  have hdk := hK.2.2.2.2.2.2.2.2.2.2.1
  have hpk := hK.2.2.2.2.2.2.2.2.2.1
  have hrm := hK.2.2.2.2.2.2.2.2.2.2.2.1
  have hfr := hK.2.2.2.2.2.2.2.2.2.2.2.2.2
  have hR8 := hok.2.1
  have hD14 := hok.2.2.1
  have hP4 := hok.2.2.2.1
  have hdo := hok.2.2.2.2.1
  have hpo := hok.2.2.2.2.2.1
  have hf9 := hok.2.2.2.2.2.2.2
  have hn := cas_n hcs hok
  have b2 := iv2b hS
  have hcn0 := cv_now hS
  refine aw_aload0 h dX0_fewestOf_0 ?_
  refine aw_aload0 h dX0_fewestOf_1 ?_
  refine aw_callVE0 h hl cl_X0_349 (met_x_placesNow hX hV hA) (gx0 hX) rfl dX0_fewestOf_2 (Nat.le_of_ble_eq_true rfl) rfl (Nat.zero_le _) (Nat.zero_le _) ?_
  refine aw_aload0 h dX0_fewestOf_5 ?_
  refine aw_getr h fl_X0_12 (gx0 hX) dX0_fewestOf_6 rfl hc0 ?_
  refine aw_callVE0 h hl cl_X0_125 (met_x_many hK hok) hK.1 rfl dX0_fewestOf_9 (Nat.le_of_ble_eq_true rfl) rfl (Nat.zero_le _) (Nat.zero_le _) ?_
  rw [← hn.2.2]
  refine aw_iload1 h dX0_fewestOf_12 ?_
  refine aw_callVR3 h hl cl_X0_352 (met_x_finds hX hV h0 hA (n := np S) (by omega) hTw hinw hcn0.1 hm31) (gx0 hX) rfl dX0_fewestOf_13 (Nat.le_of_ble_eq_true rfl) rfl (Nat.zero_le _) (Nat.zero_le _) (fun v G1 I1 L1 hp9 => ?_)
  obtain ⟨rfl, hm1, hr9⟩ := hp9
  rcases hr9 with ⟨rfl, cnt, qv, lv, par, lab, hSX⟩ | ⟨cnt, k, qv, lv, par, lab, rfl, hSX, hk, hg⟩
  · have hd := none_dist hS h0 (Nat.le_refl _) hSX
    rw [hcn0.2] at hd
    refine aw_istore2 h rfl dX0_fewestOf_16 ?_
    refine aw_iload2 h dX0_fewestOf_17 ?_
    refine aw_iconst h _ ci_m1 dX0_fewestOf_18 ?_
    refine aw_icmp_ne h (tgt := 27) dX0_fewestOf_19 (by decide) (fun c19 => ?_) (fun c19 => ?_)
    · exact absurd rfl c19
    · refine aw_bipush h _ cb_m2 dX0_fewestOf_22 ?_
      refine aw_goto h (tgt := 33) dX0_fewestOf_24 (by decide) ?_
      exact aw_iret h hr dX0_fewestOf_33 (⟨by unfold fewD; rw [hd]; rfl, rfl, hm1⟩) (Nat.zero_le _) (Nat.zero_le _)
  · have hd := found_dist hS h0 (Nat.le_refl _) hSX hk hg
    rw [hcn0.2] at hd
    have hql := hSX.2.2.2.1 k hk
    have hlk := hSX.2.2.2.2.2.2.1 k hk
    have hM := pw8_le (show np S ≤ 5 by omega)
    have hcm := hSX.2.2.2.2.2.1
    have hq2 : qv k < 32768 := Nat.lt_of_lt_of_le hql.1 hM
    have hlq : I1 153 (qv k) = nI (lv (qv k)) := (hSX.1.2.2.1 _ hql.1).1 ⟨k, hk, rfl⟩
    refine aw_istore2 h rfl dX0_fewestOf_16 ?_
    refine aw_iload2 h dX0_fewestOf_17 ?_
    refine aw_iconst h _ ci_m1 dX0_fewestOf_18 ?_
    refine aw_icmp_ne h (tgt := 27) dX0_fewestOf_19 (by decide) (fun c19 => ?_) (fun c19 => ?_)
    · refine aw_aload0 h dX0_fewestOf_27 ?_
      refine aw_getr h fl_X0_92 (gx0 hX) dX0_fewestOf_28 rfl (gxp22 hX) ?_
      refine aw_iload2 h dX0_fewestOf_31 ?_
      refine aw_ialdV h (gxs153 hX) (by decide) (by omega) dX0_fewestOf_32 (hlq) ?_
      exact aw_iret h hr dX0_fewestOf_33 (⟨by unfold fewD n2; rw [hd, if_neg (Int32.not_lt.mpr (nI_pos' (by omega)))], rfl, hm1⟩) (Nat.zero_le _) (Nat.zero_le _)
    · exact absurd c19 (ne_m1 (by omega))
