/-! The component: count; begin; are the notes so -/
set_option maxRecDepth 100000
theorem sum_all {f g : Nat → Int32} {n : Nat} (hn : n ≤ 4) (h1 : ∀ p, p < n → f p = g p) (h2 : ∀ p, n ≤ p → p < 4 → f p = 0) : sum4 f 4 = sumI g n := by
  have key : ∀ m, m ≤ n → sum4 f m = sumI g m := by
    intro m
    induction m with
    | zero => intro _; rfl
    | succ m ih => intro hm; show sum4 f m + f m = sumI g m + g m; rw [ih (by omega), h1 m (by omega)]
  have key2 : ∀ m, n ≤ m → m ≤ 4 → sum4 f m = sumI g n := by
    intro m
    induction m with
    | zero => intro h _; rw [show n = 0 by omega]; rfl
    | succ m ih =>
      intro h h4
      by_cases e : n = m + 1
      · rw [← e]; exact key n (Nat.le_refl _)
      · show sum4 f m + f m = _
        rw [ih (by omega) (by omega), h2 m (by omega) (by omega), Int32.add_zero]
  exact key2 4 hn (Nat.le_refl _)
theorem StAt.came {I : Im} {s : Nat} {S : Nat → Int32} (h : StAt I s S) (hS : InvS S) : sum4 (I (s + 1 + 2)) 4 = cntA S 3 := sum_all (iv2b hS) (fun p hp => (h.2.1 p hp).2.2.1) (fun p hp h4 => (h.2.2 p hp h4).1)
theorem StAt.went {I : Im} {s : Nat} {S : Nat → Int32} (h : StAt I s S) (hS : InvS S) : sum4 (I (s + 1 + 3)) 4 = cntA S 4 := sum_all (iv2b hS) (fun p hp => (h.2.1 p hp).2.2.2.1) (fun p hp h4 => (h.2.2 p hp h4).2)
def cntX (S : Nat → Int32) (J : Im) (j : Nat) : Int32 := match j with
  | 0 => S 0 | 1 => S 1 | 2 => S 2 | 3 => J 161 2 | 4 => J 161 21 | 5 => S 3 | 6 => bI (nightB S) | 7 => cntA S 3 | 8 => cntA S 4 | 9 => S 114 | 10 => J 161 27 | 11 => J 161 22 | _ => J 161 1
theorem countA_j {S : Nat → Int32} {J : Im} {j : Nat} (h : inI (nI j) 0 12 = true) (hj : j < 13) : countA S J (nI j) = cntX S J j := by
  unfold countA
  rw [if_pos h, nI_clamp (by omega)]
  rfl
theorem inI_j {j b : Nat} (hj : j ≤ b) (hb : b < 2 ^ 31) : inI (nI j) 0 b = true := by
  unfold inI
  rw [decide_eq_true ((nI_leI (a := 0) (b := j) (by decide) (by omega)).mpr (Nat.zero_le _)), decide_eq_true ((nI_leI (by omega) hb).mpr hj)]; rfl
theorem met_x_count {w : Wd} {G : Gm} {I : Im} {L : Lm} (hX : XG G) {sl : Nat → Prop} {K : CS} {c : Nat} {S : Nat → Int32} {t : Nat} (hV : XV sl G I K c S t) (hA : StAt I 7 S) {RL : List (List Cl)} (hRu : XRu sl G I RL) (hNx : NoteX I S) (hnt : nightB S = ntK K t) {J : Im} (h2 : J 161 2 = nI RL.length) (h21 : J 161 21 = I 0 4) (h27 : J 161 27 = I 0 20) (h22 : J 161 22 = I 0 12) (h1 : J 161 1 = I 0 7) {what : Int32} : AMet w yX0_count cX0_count 2 (some .int) 3 86 0 0 [.ref (w.1 + 0), .int what] G I L (Exact (some (.int (countA S J what))) G I L) := by
  refine AMet.of (ls0 := [some (.ref (w.1 + 0)), some (.int what)]) rfl (Nat.le_of_ble_eq_true rfl) rfl (fun q hq => hq) (fun X h hl hr hi => ?_)
  obtain ⟨hC0, hS, hcs, ht, ht2, hdj⟩ := id hV
  have hC := hC0
  obtain ⟨hc0, ⟨pl, pa, dl, da, fa, ps, ds, hK, hsp⟩, hok, hsl⟩ := id hC
  obtain ⟨cp, hLp⟩ := hK.2.2.2.2.2.1
  obtain ⟨cd, hLd⟩ := hK.2.2.2.2.2.2.1
  have hpl := hK.2.2.2.2.2.2.2.1
  have hdl := hK.2.2.2.2.2.2.2.2.1
  have hdk := hK.2.2.2.2.2.2.2.2.2.2.1
  have hpk := hK.2.2.2.2.2.2.2.2.2.1
  have hrm := hK.2.2.2.2.2.2.2.2.2.2.2.1
  have hfr := hK.2.2.2.2.2.2.2.2.2.2.2.2.2
  have hR8 := hok.2.1
  have hD14 := hok.2.2.1
  have hP4 := hok.2.2.2.1
  have hdo := hok.2.2.2.2.1
  have hpo := hok.2.2.2.2.2.1
  have hf9 := hok.2.2.2.2.2.2.2
  have hn := cas_n hcs hok
  obtain ⟨ra, capr, els, hAl, hel, hr6, -, -, hslm, hRu2⟩ := id hRu
  have hRl := hAl
  have hcA : ∀ j, j < 13 → countA S J (nI j) = cntX S J j := fun j hj => countA_j (inI_j (by omega) (by decide)) hj
  refine aw_iload1 h dX0_count_0 ?_
  cases hin : inI what 0 12 with
  | false =>
    refine aw_tableOut h (tgt := 170) dX0_count_1 (inI_no (by decide) hin) (by decide) ?_
    refine aw_iconst h _ ci_m1 dX0_count_170 ?_
    exact aw_iret h hr dX0_count_171 (⟨by unfold countA; rw [if_neg (by rw [hin]; exact Bool.false_ne_true)], rfl, rfl, rfl⟩) (Nat.zero_le _) (Nat.zero_le _)
  | true =>
    obtain ⟨j, -, hj, rfl⟩ := inI_of hin (by decide) (by decide)
    have hj2 : j = 0 ∨ j = 1 ∨ j = 2 ∨ j = 3 ∨ j = 4 ∨ j = 5 ∨ j = 6 ∨ j = 7 ∨ j = 8 ∨ j = 9 ∨ j = 10 ∨ j = 11 ∨ j = 12 := by omega
    rcases hj2 with rfl | rfl | rfl | rfl | rfl | rfl | rfl | rfl | rfl | rfl | rfl | rfl | rfl
    · refine aw_tableIn h (off := 67) (tgt := 68) dX0_count_1 (by decide) (by decide) rfl (by decide) ?_
      refine aw_aload0 h dX0_count_68 ?_
      refine aw_getr h fl_X0_12 (gx0 hX) dX0_count_69 rfl hc0 ?_
      refine aw_getiV h fl_X0_123 hK.1 dX0_count_72 rfl (hrm) ?_
      exact aw_iret h hr dX0_count_75 (⟨by rw [hcA 0 (by decide)]; exact congrArg (fun z => some (Value.int z)) hcs.1.symm, rfl, rfl, rfl⟩) (Nat.zero_le _) (Nat.zero_le _)
    · refine aw_tableIn h (off := 75) (tgt := 76) dX0_count_1 (by decide) (by decide) rfl (by decide) ?_
      refine aw_aload0 h dX0_count_76 ?_
      refine aw_getr h fl_X0_12 (gx0 hX) dX0_count_77 rfl hc0 ?_
      refine aw_getr h fl_X0_133 hK.1 dX0_count_80 rfl hK.2.2.1 ?_
      refine aw_callVE0 h hl cl_X0_136 (met_j_size hLd) hLd.1 rfl dX0_count_83 (Nat.le_of_ble_eq_true rfl) rfl (Nat.zero_le _) (Nat.zero_le _) ?_
      rw [hdl]
      exact aw_iret h hr dX0_count_86 (⟨by rw [hcA 1 (by decide)]; exact congrArg (fun z => some (Value.int z)) hcs.2.1.symm, rfl, rfl, rfl⟩) (Nat.zero_le _) (Nat.zero_le _)
    · refine aw_tableIn h (off := 86) (tgt := 87) dX0_count_1 (by decide) (by decide) rfl (by decide) ?_
      refine aw_aload0 h dX0_count_87 ?_
      refine aw_getr h fl_X0_12 (gx0 hX) dX0_count_88 rfl hc0 ?_
      refine aw_callVE0 h hl cl_X0_125 (met_x_many hK hok) hK.1 rfl dX0_count_91 (Nat.le_of_ble_eq_true rfl) rfl (Nat.zero_le _) (Nat.zero_le _) ?_
      exact aw_iret h hr dX0_count_94 (⟨by rw [hcA 2 (by decide)]; exact congrArg (fun z => some (Value.int z)) hcs.2.2.1.symm, rfl, rfl, rfl⟩) (Nat.zero_le _) (Nat.zero_le _)
    · refine aw_tableIn h (off := 94) (tgt := 95) dX0_count_1 (by decide) (by decide) rfl (by decide) ?_
      refine aw_aload0 h dX0_count_95 ?_
      refine aw_getr h fl_X0_31 (gx0 hX) dX0_count_96 rfl (gxp3 hX) ?_
      refine aw_callVE0 h hl cl_X0_136 (met_j_size hAl) hRl.1 rfl dX0_count_99 (Nat.le_of_ble_eq_true rfl) rfl (Nat.zero_le _) (Nat.zero_le _) ?_
      exact aw_iret h hr dX0_count_102 (⟨by rw [hcA 3 (by decide)]; exact congrArg (fun z => some (Value.int z)) (by rw [hel]; exact h2.symm), rfl, rfl, rfl⟩) (Nat.zero_le _) (Nat.zero_le _)
    · refine aw_tableIn h (off := 102) (tgt := 103) dX0_count_1 (by decide) (by decide) rfl (by decide) ?_
      refine aw_aload0 h dX0_count_103 ?_
      refine aw_geti h fl_X0_35 (gx0 hX) dX0_count_104 rfl ?_
      exact aw_iret h hr dX0_count_107 (⟨by rw [hcA 4 (by decide)]; exact congrArg (fun z => some (Value.int z)) h21.symm, rfl, rfl, rfl⟩) (Nat.zero_le _) (Nat.zero_le _)
    · refine aw_tableIn h (off := 107) (tgt := 108) dX0_count_1 (by decide) (by decide) rfl (by decide) ?_
      refine aw_aload0 h dX0_count_108 ?_
      refine aw_getr h fl_X0_19 (gx0 hX) dX0_count_109 rfl (gxp1 hX) ?_
      refine aw_geti h fl_X0_195 (gxt7 hX).1 dX0_count_112 rfl ?_
      exact aw_iret h hr dX0_count_115 (⟨by rw [hcA 5 (by decide)]; exact congrArg (fun z => some (Value.int z)) hA.1, rfl, rfl, rfl⟩) (Nat.zero_le _) (Nat.zero_le _)
    · refine aw_tableIn h (off := 115) (tgt := 116) dX0_count_1 (by decide) (by decide) rfl (by decide) ?_
      refine aw_aload0 h dX0_count_116 ?_
      refine aw_getr h fl_X0_12 (gx0 hX) dX0_count_117 rfl hc0 ?_
      refine aw_aload0 h dX0_count_120 ?_
      refine aw_getr h fl_X0_19 (gx0 hX) dX0_count_121 rfl (gxp1 hX) ?_
      refine aw_getiV h fl_X0_195 (gxt7 hX).1 dX0_count_124 rfl (hA.1.trans ht) ?_
      refine aw_callVE1 h hl cl_X0_270 (met_x_isNight hK hok ht2) hK.1 rfl dX0_count_127 (Nat.le_of_ble_eq_true rfl) rfl (Nat.zero_le _) (Nat.zero_le _) ?_
      refine aw_callSE1 h hl cl_X0_266 (met_x_bit) dX0_count_130 (Nat.le_of_ble_eq_true rfl) rfl (Nat.zero_le _) (Nat.zero_le _) ?_
      exact aw_iret h hr dX0_count_133 (⟨by rw [hcA 6 (by decide)]; exact congrArg (fun z => some (Value.int z)) (congrArg bI hnt.symm), rfl, rfl, rfl⟩) (Nat.zero_le _) (Nat.zero_le _)
    · refine aw_tableIn h (off := 133) (tgt := 134) dX0_count_1 (by decide) (by decide) rfl (by decide) ?_
      refine aw_aload0 h dX0_count_134 ?_
      refine aw_getr h fl_X0_19 (gx0 hX) dX0_count_135 rfl (gxp1 hX) ?_
      refine aw_callVE0 h hl cl_X0_408 (met_x_cameAll (gxt7 hX)) (gxt7 hX).1 rfl dX0_count_138 (Nat.le_of_ble_eq_true rfl) rfl (Nat.zero_le _) (Nat.zero_le _) ?_
      exact aw_iret h hr dX0_count_141 (⟨by rw [hcA 7 (by decide)]; exact congrArg (fun z => some (Value.int z)) (hA.came hS), rfl, rfl, rfl⟩) (Nat.zero_le _) (Nat.zero_le _)
    · refine aw_tableIn h (off := 141) (tgt := 142) dX0_count_1 (by decide) (by decide) rfl (by decide) ?_
      refine aw_aload0 h dX0_count_142 ?_
      refine aw_getr h fl_X0_19 (gx0 hX) dX0_count_143 rfl (gxp1 hX) ?_
      refine aw_callVE0 h hl cl_X0_411 (met_x_wentAll (gxt7 hX)) (gxt7 hX).1 rfl dX0_count_146 (Nat.le_of_ble_eq_true rfl) rfl (Nat.zero_le _) (Nat.zero_le _) ?_
      exact aw_iret h hr dX0_count_149 (⟨by rw [hcA 8 (by decide)]; exact congrArg (fun z => some (Value.int z)) (hA.went hS), rfl, rfl, rfl⟩) (Nat.zero_le _) (Nat.zero_le _)
    · refine aw_tableIn h (off := 149) (tgt := 150) dX0_count_1 (by decide) (by decide) rfl (by decide) ?_
      refine aw_aload0 h dX0_count_150 ?_
      refine aw_geti h fl_X0_164 (gx0 hX) dX0_count_151 rfl ?_
      exact aw_iret h hr dX0_count_154 (⟨by rw [hcA 9 (by decide)]; exact congrArg (fun z => some (Value.int z)) hNx.1, rfl, rfl, rfl⟩) (Nat.zero_le _) (Nat.zero_le _)
    · refine aw_tableIn h (off := 154) (tgt := 155) dX0_count_1 (by decide) (by decide) rfl (by decide) ?_
      refine aw_aload0 h dX0_count_155 ?_
      refine aw_geti h fl_X0_167 (gx0 hX) dX0_count_156 rfl ?_
      exact aw_iret h hr dX0_count_159 (⟨by rw [hcA 10 (by decide)]; exact congrArg (fun z => some (Value.int z)) h27.symm, rfl, rfl, rfl⟩) (Nat.zero_le _) (Nat.zero_le _)
    · refine aw_tableIn h (off := 159) (tgt := 160) dX0_count_1 (by decide) (by decide) rfl (by decide) ?_
      refine aw_aload0 h dX0_count_160 ?_
      refine aw_geti h fl_X0_390 (gx0 hX) dX0_count_161 rfl ?_
      exact aw_iret h hr dX0_count_164 (⟨by rw [hcA 11 (by decide)]; exact congrArg (fun z => some (Value.int z)) h22.symm, rfl, rfl, rfl⟩) (Nat.zero_le _) (Nat.zero_le _)
    · refine aw_tableIn h (off := 164) (tgt := 165) dX0_count_1 (by decide) (by decide) rfl (by decide) ?_
      refine aw_aload0 h dX0_count_165 ?_
      refine aw_geti h fl_X0_146 (gx0 hX) dX0_count_166 rfl ?_
      exact aw_iret h hr dX0_count_169 (⟨by rw [hcA 12 (by decide)]; exact congrArg (fun z => some (Value.int z)) h1.symm, rfl, rfl, rfl⟩) (Nat.zero_le _) (Nat.zero_le _)
/-- what was told, in the castle's people -/
def TolS (S : Nat → Int32) (K : CS) : Prop := ∀ p, p < (kP K).length → S (115 + 2 * p) = nI (gK (kP K) p).1 ∧ S (115 + 2 * p + 1) = nI (gK (kP K) p).2.1
theorem TolS.inv {S : Nat → Int32} {K : CS} (h : TolS S K) (hcs : CasS S K) (hok : CSok K) : InvT S := by
  have hn := cas_n hcs hok
  intro p hp
  have h1 := h p (by omega)
  have h2 := hok.2.2.2.2.2.1 p (by omega)
  exact ⟨⟨_, by omega, h1.1⟩, _, by omega, h1.2⟩
theorem CasS.of {S V : Nat → Int32} {K : CS} (h : CasS S K) (hok : CSok K) (hv : ∀ i, (34 ≤ i ∧ i < 84) ∨ (i < 10 ∧ i ≠ 3) → V i = S i) (hr : ∀ p, p < (kP K).length → V (10 + 6 * p + 2) = S (10 + 6 * p + 2)) : CasS V K := by
  obtain ⟨h0, h1, h2, h3, h4, h5⟩ := id h
  have hD := hok.2.2.1
  refine ⟨by rw [hv 0 (by omega)]; exact h0, by rw [hv 1 (by omega)]; exact h1, by rw [hv 2 (by omega)]; exact h2, ?_, ?_, fun k hk => by rw [hr k hk]; exact h5 k hk⟩
  · rw [hv 4 (by omega), hv 5 (by omega)]; exact h3
  · refine ⟨fun r hr => by rw [hv _ (by omega)]; exact h4.1 r hr, fun d hd => ?_⟩
    have h9 := h4.2 d hd
    rw [hv _ (by omega), hv _ (by omega), hv _ (by omega)]
    exact h9
theorem beg_pv {S : Nat → Int32} {p k : Nat} (hp : p < np S) (hk : k < 6) : pv (begS S) p k = begR S p k := by
  unfold pv begS begP
  rw [if_neg (by omega), if_pos (by omega), show (10 + 6 * p + k - 10) / 6 = p by omega, show (10 + 6 * p + k - 10) % 6 = k by omega]
theorem np_beg {S : Nat → Int32} (hS : InvS S) : np (begS S) = np S := by
  unfold np nv
  rw [show begS S 2 = S 2 from begP_hi (iv2b hS) (by omega)]
theorem XV.beg {sl : Nat → Prop} {G : Gm} {I I1 : Im} {K : CS} {c : Nat} {S : Nat → Int32} {t : Nat} (h : XV sl G I K c S t) (he : ∀ m, MutB m = false → I1 m = I m) (hT : TolS S K) : XV sl G I1 K c (begS S) 0 := by
  obtain ⟨h1, h2, h3, h4, -, h6⟩ := h
  have hok := h1.2.2.1
  have hn := cas_n h3 hok
  exact ⟨h1.ix he, h2.beg (hT.inv h3 hok), h3.of hok (fun i hi => begP_hi (iv2b h2) (by omega)) (fun p hp => by
    show pv (begS S) p 2 = pv S p 2
    rw [beg_pv (by omega) (by decide)]; rfl), by show begP S _ 3 = _; unfold begP; rw [if_pos rfl], by decide, h6⟩
theorem beg_st {I : Im} {s : Nat} {S : Nat → Int32} (hS : InvS S) (h5 : I s 5 = nI 0) (h : ∀ p, p < 4 → (p < np S → I (s + 1 + 0) p = S (115 + 2 * p) ∧ I (s + 1 + 1) p = S (115 + 2 * p + 1)) ∧ I (s + 1 + 2) p = 0 ∧ I (s + 1 + 3) p = 0 ∧ I (s + 1 + 4) p = -1) : StAt I s (begS S) := by
  have h4 := iv2b hS
  refine ⟨by rw [h5]; show _ = begP S _ 3; unfold begP; rw [if_pos rfl], fun p hp => ?_, fun p hp hp4 => (h p hp4).2.elim (fun a b => ⟨a, b.1⟩)⟩
  rw [np_beg hS] at hp
  have h1 := h p (by omega)
  rw [beg_pv hp (by decide), beg_pv hp (by decide), beg_pv hp (by decide), beg_pv hp (by decide), beg_pv hp (by decide)]
  exact ⟨(h1.1 hp).1, (h1.1 hp).2, h1.2.1, h1.2.2.1, h1.2.2.2⟩
def BGt (S : Nat → Int32) (s : Nat) (G : Gm) (I : Im) (L : Lm) : Gm → Im → Lm → Prop := fun G1 I1 L1 => G = G1 ∧ IX (SCs s) I L I1 L1 ∧ StAt I1 s (begS S)
theorem met_x_begin {w : Wd} {G : Gm} {I : Im} {L : Lm} (hX : XG G) {sl : Nat → Prop} {K : CS} {c : Nat} {S : Nat → Int32} {t : Nat} (hV : XV sl G I K c S t) {s : Nat} (hs : StSh G s) (hs7 : s = 7 ∨ s = 13) (hT : TolS S K) : AMet w yX2_begin cX2_begin 4 none 4 104 0 0 [.ref (w.1 + s), .ref (w.1 + c)] G I L (Ans none (BGt S s G I L)) := by
  refine AMet.of (ls0 := [some (.ref (w.1 + s)), some (.ref (w.1 + c)), none, none]) rfl (Nat.le_of_ble_eq_true rfl) rfl (fun q hq => hq) (fun X h hl hr hi => ?_)
  obtain ⟨hC0, hS, hcs, ht, ht2, hdj⟩ := id hV
  have hC := hC0
  obtain ⟨hc0, ⟨pl, pa, dl, da, fa, ps, ds, hK, hsp⟩, hok, hsl⟩ := id hC
  obtain ⟨cp, hLp⟩ := hK.2.2.2.2.2.1
  obtain ⟨cd, hLd⟩ := hK.2.2.2.2.2.2.1
  have hpl := hK.2.2.2.2.2.2.2.1
  have hdl := hK.2.2.2.2.2.2.2.2.1
  have hdk := hK.2.2.2.2.2.2.2.2.2.2.1
  have hpk := hK.2.2.2.2.2.2.2.2.2.1
  have hrm := hK.2.2.2.2.2.2.2.2.2.2.2.1
  have hfr := hK.2.2.2.2.2.2.2.2.2.2.2.2.2
  have hR8 := hok.2.1
  have hD14 := hok.2.2.1
  have hP4 := hok.2.2.2.1
  have hdo := hok.2.2.2.2.1
  have hpo := hok.2.2.2.2.2.1
  have hf9 := hok.2.2.2.2.2.2.2
  have hn := cas_n hcs hok
  have h4 := iv2b hS
  have key : ∀ (fu k : Nat) (I1 : Im), k ≤ 4 → 4 < k + fu → IX (SCs s) I L I1 L → (∀ p, p < k → (p < np S → I1 (s + 1 + 0) p = S (115 + 2 * p) ∧ I1 (s + 1 + 1) p = S (115 + 2 * p + 1)) ∧ I1 (s + 1 + 2) p = 0 ∧ I1 (s + 1 + 3) p = 0 ∧ I1 (s + 1 + 4) p = -1) → ∀ o3 : Option Value, AW X 0 0 2 [some (.ref (w.1 + s)), some (.ref (w.1 + c)), some (.int (nI k)), o3] [] G I1 L := by
    intro fu
    induction fu with
    | zero => intro k I1 hle hlt; exact absurd hlt (by omega)
    | succ fu ih =>
      intro k I1 hle hlt hix hr0
      have hC := hC0.ix (hix.nm (fun m hm => by rcases hs7 with rfl | rfl <;> (revert m; decide)))
      obtain ⟨-, ⟨pl, pa, dl, da, fa, ps, ds, hK, hsp⟩, -, -⟩ := id hC
      obtain ⟨cp, hLp⟩ := hK.2.2.2.2.2.1
      have hpl := hK.2.2.2.2.2.2.2.1
      have hpk := hK.2.2.2.2.2.2.2.2.2.1
      refine fun o3 => ?_
      refine aw_iload2 h dX2_begin_2 ?_
      refine aw_iconst h _ ci_4 dX2_begin_3 ?_
      refine aw_icmp_geN h (tgt := 104) (by omega) (by decide) dX2_begin_4 (by decide) (fun c4 => ?_) (fun c4 => ?_)
      · refine aw_aload0 h dX2_begin_104 ?_
        refine aw_iconst h _ ci_0 dX2_begin_105 ?_
        refine aw_puti h fl_X2_27 ft_X2_27 (fun z => by cases z) hs.1 dX2_begin_106 rfl ?_
        exact aw_vret h hr dX2_begin_109 (⟨rfl, rfl, hix.trans (IX.i (by simp [SCs])), beg_st hS (by rw [upd2_s, vup_s]) (fun p hp => by rw [upd2_r (by omega), upd2_r (by omega), upd2_r (by omega), upd2_r (by omega), upd2_r (by omega)]; exact hr0 p (by omega))⟩) (Nat.zero_le _) (Nat.zero_le _)
      · refine aw_iload2 h dX2_begin_7 ?_
        refine aw_aload1 h dX2_begin_8 ?_
        refine aw_callVE0 h hl cl_X2_31 (met_x_many hK hok) hK.1 rfl dX2_begin_9 (Nat.le_of_ble_eq_true rfl) rfl (Nat.zero_le _) (Nat.zero_le _) ?_
        refine aw_icmp_geN h (tgt := 19) (by omega) (by omega) dX2_begin_12 (by decide) (fun c12 => ?_) (fun c12 => ?_)
        · refine aw_iconst h _ ci_0 dX2_begin_19 ?_
          refine aw_istore3 h rfl dX2_begin_20 ?_
          refine aw_aload0 h dX2_begin_21 ?_
          refine aw_getr h fl_X2_9 hs.1 dX2_begin_22 rfl (hs.2 0 (by decide)).1 ?_
          refine aw_iload2 h dX2_begin_25 ?_
          refine aw_iload3 h dX2_begin_26 ?_
          refine aw_if_eqN h (tgt := 47) (by omega) dX2_begin_27 (by decide) (fun c27 => ?_) (fun c27 => ?_)
          · refine aw_iconst h _ ci_m1 dX2_begin_47 ?_
            refine aw_iastN h (hs.2 0 (by decide)).2 (by decide) (by omega) dX2_begin_48 ?_
            refine aw_aload0 h dX2_begin_49 ?_
            refine aw_getr h fl_X2_15 hs.1 dX2_begin_50 rfl (hs.2 1 (by decide)).1 ?_
            refine aw_iload2 h dX2_begin_53 ?_
            refine aw_iload3 h dX2_begin_54 ?_
            refine aw_if_eqN h (tgt := 75) (by omega) dX2_begin_55 (by decide) (fun c55 => ?_) (fun c55 => ?_)
            · refine aw_iconst h _ ci_m1 dX2_begin_75 ?_
              refine aw_iastN h (hs.2 1 (by decide)).2 (by decide) (by omega) dX2_begin_76 ?_
              refine aw_aload0 h dX2_begin_77 ?_
              refine aw_getr h fl_X2_18 hs.1 dX2_begin_78 rfl (hs.2 2 (by decide)).1 ?_
              refine aw_iload2 h dX2_begin_81 ?_
              refine aw_iconst h _ ci_0 dX2_begin_82 ?_
              refine aw_iastN h (hs.2 2 (by decide)).2 (by decide) (by omega) dX2_begin_83 ?_
              refine aw_aload0 h dX2_begin_84 ?_
              refine aw_getr h fl_X2_21 hs.1 dX2_begin_85 rfl (hs.2 3 (by decide)).1 ?_
              refine aw_iload2 h dX2_begin_88 ?_
              refine aw_iconst h _ ci_0 dX2_begin_89 ?_
              refine aw_iastN h (hs.2 3 (by decide)).2 (by decide) (by omega) dX2_begin_90 ?_
              refine aw_aload0 h dX2_begin_91 ?_
              refine aw_getr h fl_X2_24 hs.1 dX2_begin_92 rfl (hs.2 4 (by decide)).1 ?_
              refine aw_iload2 h dX2_begin_95 ?_
              refine aw_iconst h _ ci_m1 dX2_begin_96 ?_
              refine aw_iastN h (hs.2 4 (by decide)).2 (by decide) (by omega) dX2_begin_97 ?_
              refine aw_iincN2 h rfl dX2_begin_98 ?_
              refine aw_goto h (tgt := 2) dX2_begin_101 (by decide) ?_
              refine ih (k + 1) (upd2 (upd2 (upd2 (upd2 (upd2 I1 (s + 1 + 0) k (-1)) (s + 1 + 1) k (-1)) (s + 1 + 2) k (nI 0)) (s + 1 + 3) k (nI 0)) (s + 1 + 4) k (-1)) (by omega) (by omega) (((((hix.trans (IX.i (by simp [SCs]))).trans (IX.i (by simp [SCs]))).trans (IX.i (by simp [SCs]))).trans (IX.i (by simp [SCs]))).trans (IX.i (by simp [SCs]))) (fun p hp => ?_) _
              by_cases e : p = k
              · subst e
                refine ⟨fun hpn => ?_, ?_, ?_, ?_⟩
                · exact absurd hpn (by omega)
                · show upd2 _ (s + 1 + 4) p _ (s + 1 + 2) p = 0
                  rw [upd2_r (by omega), upd2_r (by omega), upd2_s, vup_s]; rfl
                · show upd2 _ (s + 1 + 4) p _ (s + 1 + 3) p = 0
                  rw [upd2_r (by omega), upd2_s, vup_s]; rfl
                · show upd2 _ (s + 1 + 4) p _ (s + 1 + 4) p = -1
                  rw [upd2_s, vup_s]
              · have h9 := hr0 p (by omega)
                have hpk2 : ∀ (J : Im) (n : Nat) (x : Int32) (m : Nat), upd2 J n k x m p = J m p := fun J n x m => by
                  by_cases q : m = n
                  · subst q; rw [upd2_s, vup_n _ _ e]
                  · exact upd2_r q
                rw [hpk2, hpk2, hpk2, hpk2, hpk2, hpk2, hpk2, hpk2, hpk2, hpk2, hpk2, hpk2, hpk2, hpk2, hpk2, hpk2, hpk2, hpk2, hpk2, hpk2, hpk2, hpk2, hpk2, hpk2, hpk2]
                exact h9
            · exact absurd rfl c55
          · exact absurd rfl c27
        · refine aw_iconst h _ ci_1 dX2_begin_15 ?_
          refine aw_goto h (tgt := 20) dX2_begin_16 (by decide) ?_
          have hkl : k < ps.length := by omega
          refine aw_istore3 h rfl dX2_begin_20 ?_
          refine aw_aload0 h dX2_begin_21 ?_
          refine aw_getr h fl_X2_9 hs.1 dX2_begin_22 rfl (hs.2 0 (by decide)).1 ?_
          refine aw_iload2 h dX2_begin_25 ?_
          refine aw_iload3 h dX2_begin_26 ?_
          refine aw_if_eqN h (tgt := 47) (by omega) dX2_begin_27 (by decide) (fun c27 => ?_) (fun c27 => ?_)
          · exact absurd c27 (by decide)
          · refine aw_aload1 h dX2_begin_30 ?_
            refine aw_getr h fl_X2_37 hK.1 dX2_begin_31 rfl hK.2.1 ?_
            refine aw_iload2 h dX2_begin_34 ?_
            refine aw_callVE1 h hl cl_X2_41 (met_j_get hLp (i := k) hkl) hLp.1 rfl dX2_begin_35 (Nat.le_of_ble_eq_true rfl) rfl (Nat.zero_le _) (Nat.zero_le _) ?_
            refine aw_cast h (hpk k hkl).1 (by decide) rfl q776 (Or.inl rfl) dX2_begin_38 ?_
            refine aw_getiV h fl_X2_49 (hpk k hkl).1 dX2_begin_41 rfl ((hpk k hkl).2.1) ?_
            refine aw_goto h (tgt := 48) dX2_begin_44 (by decide) ?_
            refine aw_iastN h (hs.2 0 (by decide)).2 (by decide) (by omega) dX2_begin_48 ?_
            have hix2 : IX (SCs s) I L (upd2 I1 (s + 1 + 0) k (nI (gK (kP K) k).1)) L := hix.trans (IX.i (by simp [SCs]))
            have hK3 := hK
            have hC := hC0.ix (hix2.nm (fun m hm => by rcases hs7 with rfl | rfl <;> (revert m; decide)))
            obtain ⟨-, ⟨pl2, pa2, dl2, da2, fa2, ps2, ds2, hK2, hsp⟩, -, -⟩ := id hC
            obtain ⟨cp, hLp2⟩ := hK2.2.2.2.2.2.1
            have hpl2 := hK2.2.2.2.2.2.2.2.1
            have hpk2 := hK2.2.2.2.2.2.2.2.2.2.1
            have hkl2 : k < ps2.length := by omega
            refine aw_aload0 h dX2_begin_49 ?_
            refine aw_getr h fl_X2_15 hs.1 dX2_begin_50 rfl (hs.2 1 (by decide)).1 ?_
            refine aw_iload2 h dX2_begin_53 ?_
            refine aw_iload3 h dX2_begin_54 ?_
            refine aw_if_eqN h (tgt := 75) (by omega) dX2_begin_55 (by decide) (fun c55 => ?_) (fun c55 => ?_)
            · exact absurd c55 (by decide)
            · refine aw_aload1 h dX2_begin_58 ?_
              refine aw_getr h fl_X2_37 hK.1 dX2_begin_59 rfl hK2.2.1 ?_
              refine aw_iload2 h dX2_begin_62 ?_
              refine aw_callVE1 h hl cl_X2_41 (met_j_get hLp2 (i := k) hkl2) hLp2.1 rfl dX2_begin_63 (Nat.le_of_ble_eq_true rfl) rfl (Nat.zero_le _) (Nat.zero_le _) ?_
              refine aw_cast h (hpk2 k hkl2).1 (by decide) rfl q776 (Or.inl rfl) dX2_begin_66 ?_
              refine aw_getiV h fl_X2_51 (hpk2 k hkl2).1 dX2_begin_69 rfl (((hpk2 k hkl2).2.2.1)) ?_
              refine aw_goto h (tgt := 76) dX2_begin_72 (by decide) ?_
              refine aw_iastN h (hs.2 1 (by decide)).2 (by decide) (by omega) dX2_begin_76 ?_
              refine aw_aload0 h dX2_begin_77 ?_
              refine aw_getr h fl_X2_18 hs.1 dX2_begin_78 rfl (hs.2 2 (by decide)).1 ?_
              refine aw_iload2 h dX2_begin_81 ?_
              refine aw_iconst h _ ci_0 dX2_begin_82 ?_
              refine aw_iastN h (hs.2 2 (by decide)).2 (by decide) (by omega) dX2_begin_83 ?_
              refine aw_aload0 h dX2_begin_84 ?_
              refine aw_getr h fl_X2_21 hs.1 dX2_begin_85 rfl (hs.2 3 (by decide)).1 ?_
              refine aw_iload2 h dX2_begin_88 ?_
              refine aw_iconst h _ ci_0 dX2_begin_89 ?_
              refine aw_iastN h (hs.2 3 (by decide)).2 (by decide) (by omega) dX2_begin_90 ?_
              refine aw_aload0 h dX2_begin_91 ?_
              refine aw_getr h fl_X2_24 hs.1 dX2_begin_92 rfl (hs.2 4 (by decide)).1 ?_
              refine aw_iload2 h dX2_begin_95 ?_
              refine aw_iconst h _ ci_m1 dX2_begin_96 ?_
              refine aw_iastN h (hs.2 4 (by decide)).2 (by decide) (by omega) dX2_begin_97 ?_
              refine aw_iincN2 h rfl dX2_begin_98 ?_
              refine aw_goto h (tgt := 2) dX2_begin_101 (by decide) ?_
              refine ih (k + 1) (upd2 (upd2 (upd2 (upd2 (upd2 I1 (s + 1 + 0) k (nI (gK (kP K) k).1)) (s + 1 + 1) k (nI (gK (kP K) k).2.1)) (s + 1 + 2) k (nI 0)) (s + 1 + 3) k (nI 0)) (s + 1 + 4) k (-1)) (by omega) (by omega) (((((hix.trans (IX.i (by simp [SCs]))).trans (IX.i (by simp [SCs]))).trans (IX.i (by simp [SCs]))).trans (IX.i (by simp [SCs]))).trans (IX.i (by simp [SCs]))) (fun p hp => ?_) _
              by_cases e : p = k
              · subst e
                refine ⟨fun hpn => ?_, ?_, ?_, ?_⟩
                · have h8 := hT p (by omega)
                  constructor
                  · show upd2 _ (s + 1 + 4) p _ (s + 1 + 0) p = _
                    rw [upd2_r (by omega), upd2_r (by omega), upd2_r (by omega), upd2_r (by omega), upd2_s, vup_s, h8.1]
                  · show upd2 _ (s + 1 + 4) p _ (s + 1 + 1) p = _
                    rw [upd2_r (by omega), upd2_r (by omega), upd2_r (by omega), upd2_s, vup_s, h8.2]
                · show upd2 _ (s + 1 + 4) p _ (s + 1 + 2) p = 0
                  rw [upd2_r (by omega), upd2_r (by omega), upd2_s, vup_s]; rfl
                · show upd2 _ (s + 1 + 4) p _ (s + 1 + 3) p = 0
                  rw [upd2_r (by omega), upd2_s, vup_s]; rfl
                · show upd2 _ (s + 1 + 4) p _ (s + 1 + 4) p = -1
                  rw [upd2_s, vup_s]
              · have h9 := hr0 p (by omega)
                have hpk2 : ∀ (J : Im) (n : Nat) (x : Int32) (m : Nat), upd2 J n k x m p = J m p := fun J n x m => by
                  by_cases q : m = n
                  · subst q; rw [upd2_s, vup_n _ _ e]
                  · exact upd2_r q
                rw [hpk2, hpk2, hpk2, hpk2, hpk2, hpk2, hpk2, hpk2, hpk2, hpk2, hpk2, hpk2, hpk2, hpk2, hpk2, hpk2, hpk2, hpk2, hpk2, hpk2, hpk2, hpk2, hpk2, hpk2, hpk2]
                exact h9
  refine aw_iconst h _ ci_0 dX2_begin_0 ?_
  refine aw_istore2 h rfl dX2_begin_1 ?_
  exact key 5 0 I (Nat.zero_le _) (by decide) IX.rf (fun p hp => absurd hp (Nat.not_lt_zero _)) _
