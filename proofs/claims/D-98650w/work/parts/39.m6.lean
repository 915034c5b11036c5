/-! The reference: through which door one will go -/
set_option maxRecDepth 100000
theorem upd2_n {α : Type} (I : Nat → Nat → α) {n m : Nat} (i : Nat) (x : α) (h : m ≠ n) : upd2 I n i x m = I m := vup_n _ _ h
theorem upd2_s {α : Type} (I : Nat → Nat → α) (n i : Nat) (x : α) : upd2 I n i x n = va_up (I n) i x := vup_s _ _ _
def nW (S : Nat → Int32) (fr : Option (List Cl)) (p : Nat) : Int64 := match fr with
  | none => lN 1
  | some cl => goesV (wordsV S p) cl
def stepW (S : Nat → Int32) (fr : Option (List Cl)) (p : Nat) : Int32 := if lN 0 < nW S fr p then stepI S (gl S p) (rm S p) else -1
def willI (S : Nat → Int32) (fr : Option (List Cl)) (p : Nat) : Int32 := if nW S fr p < lN 0 then foI S (rm S p) else if stepW S fr p < 0 then -1 else betI S (rm S p) (stepW S fr p).toNatClampNeg
def outB (S : Nat → Int32) (fr : Option (List Cl)) (p : Nat) : Bool := decide (0 ≤ willI S fr p) && decide (near S (willI S fr p).toNatClampNeg = rm S p)
/-- the rule in force: none, or its clauses -/
def FR (I : Im) (fr : Option (List Cl)) : Prop := match fr with
  | none => I 161 21 < 0
  | some cl => ∃ rl, rl < 6 ∧ I 161 21 = nI rl ∧ RuleAt I rl cl
theorem ClAt.of {I I1 : Im} {rl c : Nat} {q : Cl} (h3 : I1 163 = I 163) (h5 : I1 165 = I 165) (h : ClAt I rl c q) : ClAt I1 rl c q := by
  unfold ClAt CodeAt at *
  rw [h3, h5]
  exact h
theorem RuleAt.of {I I1 : Im} {rl : Nat} {cl : List Cl} (h3 : I1 163 = I 163) (h5 : I1 165 = I 165) (h6 : I1 166 = I 166) (h : RuleAt I rl cl) : RuleAt I1 rl cl :=
  ⟨h.1, by rw [h6]; exact h.2.1, fun c hc => (h.2.2 c hc).of h3 h5⟩
theorem FR.of {I I1 : Im} {fr : Option (List Cl)} (h1 : I1 161 21 = I 161 21) (h3 : I1 163 = I 163) (h5 : I1 165 = I 165) (h6 : I1 166 = I 166) (h : FR I fr) : FR I1 fr := by
  cases fr with
  | none => show I1 161 21 < 0; rw [h1]; exact h
  | some cl =>
    obtain ⟨rl, a, b, c⟩ := h
    exact ⟨rl, a, by rw [h1]; exact b, c.of h3 h5 h6⟩
theorem fI_cases (p : Nat → Bool) (n : Nat) : fI p n = -1 ∨ ∃ k, k < n ∧ fI p n = nI k ∧ p k = true := by
  unfold fI
  by_cases h : firstT p n < n
  · rw [if_pos h]; exact Or.inr ⟨_, h, rfl, (firstT_spec p n).1 h⟩
  · rw [if_neg h]; exact Or.inl rfl
theorem step_cases (S : Nat → Int32) (g a : Nat) : stepI S g a = -1 ∨ ∃ k, k < nr S ∧ stepI S g a = nI k ∧ adjB S a k = true := by
  unfold stepI
  split
  · exact Or.inl rfl
  · split
    · rename_i h
      have h2 := (firstT_spec (fun r => adjB S a r && (distV S g r == distV S g a - 1)) (nr S)).1 h
      rw [Bool.and_eq_true] at h2
      exact Or.inr ⟨_, h, rfl, h2.1⟩
    · exact Or.inl rfl
theorem stepW_cases (S : Nat → Int32) (fr : Option (List Cl)) (p : Nat) : stepW S fr p = -1 ∨ ∃ k, k < nr S ∧ stepW S fr p = nI k := by
  unfold stepW
  split
  · rcases step_cases S (gl S p) (rm S p) with h | ⟨k, h1, h2, -⟩
    · exact Or.inl h
    · exact Or.inr ⟨k, h1, h2⟩
  · exact Or.inl rfl
theorem will_cases (S : Nat → Int32) (fr : Option (List Cl)) (p : Nat) : willI S fr p = -1 ∨ ∃ d, d < nd S ∧ willI S fr p = nI d := by
  unfold willI
  split
  · rcases fI_cases (fun d => openB S d && near S d == rm S p) (nd S) with h | ⟨k, h1, h2, -⟩
    · exact Or.inl h
    · exact Or.inr ⟨k, h1, h2⟩
  · split
    · exact Or.inl rfl
    · rcases fI_cases (joinB S (rm S p) (stepW S fr p).toNatClampNeg) (nd S) with h | ⟨k, h1, h2, -⟩
      · exact Or.inl h
      · exact Or.inr ⟨k, h1, h2⟩
/-- what the reckoning of one may change -/
def WR (I : Im) (L : Lm) (I1 : Im) (L1 : Lm) : Prop := (∀ n, n ≠ 161 → n ≠ 172 → I1 n = I n) ∧ (∀ k, k ≠ 18 → I1 161 k = I 161 k) ∧ ∀ n, n ≠ 169 → n ≠ 170 → L1 n = L n
def WP (S : Nat → Int32) (fr : Option (List Cl)) (p : Nat) (G : Gm) (I : Im) (L : Lm) : Gm → Im → Lm → Prop := fun G1 I1 L1 => G = G1 ∧ (∀ n, n ≠ 161 → n ≠ 172 → n ≠ 173 → n ≠ 174 → I1 n = I n) ∧ (∀ k, k ≠ 18 → I1 161 k = I 161 k) ∧ I1 173 = va_up (I 173) p (willI S fr p) ∧ I1 174 = va_up (I 174) p (bI (outB S fr p)) ∧ ∀ n, n ≠ 169 → n ≠ 170 → L1 n = L n
theorem WR.t172 {I : Im} {L : Lm} {I1 : Im} {L1 : Lm} (h : WR I L I1 L1) (f : Nat → Int32) : WR I L (va_up I1 172 f) L1 := ⟨fun n h1 h2 => by rw [vup_n _ _ h2]; exact h.1 n h1 h2, fun k hk => h.2.1 k hk, h.2.2⟩
theorem WR.fin {S : Nat → Int32} {fr : Option (List Cl)} {p : Nat} {G : Gm} {I : Im} {L : Lm} {I1 : Im} {L1 : Lm} (h : WR I L I1 L1) {v b : Int32} (hv : v = willI S fr p) (hb : b = bI (outB S fr p)) : WP S fr p G I L G (upd2 (upd2 I1 173 p v) 174 p b) L1 := by
  refine ⟨rfl, fun n h1 h2 h3 h4 => ?_, fun k hk => ?_, ?_, ?_, h.2.2⟩
  · rw [upd2_n _ _ _ h4, upd2_n _ _ _ h3]; exact h.1 n h1 h2
  · exact h.2.1 k hk
  · show va_up (I1 173) p v = _
    rw [h.1 173 (by decide) (by decide), hv]
  · show va_up (I1 174) p b = _
    rw [h.1 174 (by decide) (by decide), hb]
theorem met_m_wills {w : Wd} {G : Gm} {I : Im} {L : Lm} (hG : GM G) {S : Nat → Int32} (hE : I 171 = S) (hS : InvS S) {fr : Option (List Cl)} (hF : FR I fr) {p : Nat} (hp : p < np S) : AMet w yX4_wills cX4_wills 6 none 9 222 0 0 [.ref (w.1 + 161), .int (nI p)] G I L (Ans none (WP S fr p G I L)) := by
  refine AMet.of (ls0 := [some (.ref (w.1 + 161)), some (.int (nI p)), none, none, none, none]) rfl (Nat.le_of_ble_eq_true rfl) rfl (fun q hq => hq) (fun X h hl hr hi => ?_)
  have keyB : ∀ (v : Int32) (I1 : Im) (L1 : Lm) (o5 : Option Value), WR I L I1 L1 → willI S fr p = v → AW X 0 0 85 [some (.ref (w.1 + 161)), some (.int (nI p)), some (.long (nW S fr p)), none, some (.int (nI (rm S p))), o5] [.int v, .int (nI p), .ref (w.1 + 173)] G I1 L1 := by
    intro v I1 L1 o5 hW hv
    have hE1 : I1 171 = S := (hW.1 171 (by decide) (by decide)).trans hE
    have hE1u : upd2 I1 173 p v 171 = S := hE1
    rcases will_cases S fr p with hv1 | ⟨d, hd, hv1⟩
    · rw [hv] at hv1
      subst hv1
      refine aw_iastN h (gms173 hG) (by decide) (by have := iv2b hS; omega) dX4_wills_85 ?_
      refine aw_aload0 h dX4_wills_86 ?_
      refine aw_getr h fl_X4_52 (gmt hG) dX4_wills_87 rfl (gmp25 hG) ?_
      refine aw_iload1 h dX4_wills_90 ?_
      refine aw_aload0 h dX4_wills_91 ?_
      refine aw_getr h fl_X4_49 (gmt hG) dX4_wills_92 rfl (gmp24 hG) ?_
      refine aw_iload1 h dX4_wills_95 ?_
      refine aw_ialdV h (gms173 hG) (by decide) (by have := iv2b hS; omega) dX4_wills_96 ((by rw [upd2_s, vup_s])) ?_
      refine aw_if_lt h (tgt := 119) dX4_wills_97 (by decide) (fun c97 => ?_) (fun c97 => ?_)
      · refine aw_iconst h _ ci_0 dX4_wills_119 ?_
        refine aw_zastN h (gms174 hG) (by decide) (by have := iv2b hS; omega) (by first | exact z01_0 | exact z01_1 | exact z01_b _) dX4_wills_120 ?_
        exact aw_vret h hr dX4_wills_121 (⟨rfl, hW.fin hv.symm (by unfold outB; rw [hv]; rfl)⟩) (Nat.zero_le _) (Nat.zero_le _)
      · exact absurd (show (-1 : Int32) < 0 by decide) c97
    · rw [hv] at hv1
      subst hv1
      refine aw_iastN h (gms173 hG) (by decide) (by have := iv2b hS; omega) dX4_wills_85 ?_
      refine aw_aload0 h dX4_wills_86 ?_
      refine aw_getr h fl_X4_52 (gmt hG) dX4_wills_87 rfl (gmp25 hG) ?_
      refine aw_iload1 h dX4_wills_90 ?_
      refine aw_aload0 h dX4_wills_91 ?_
      refine aw_getr h fl_X4_49 (gmt hG) dX4_wills_92 rfl (gmp24 hG) ?_
      refine aw_iload1 h dX4_wills_95 ?_
      refine aw_ialdV h (gms173 hG) (by decide) (by have := iv2b hS; omega) dX4_wills_96 ((by rw [upd2_s, vup_s])) ?_
      refine aw_if_ltN h (tgt := 119) (by have := iv1b hS; omega) dX4_wills_97 (by decide) (fun c97 => ?_) (fun c97 => ?_)
      · exact absurd c97 (by omega)
      · refine aw_aload0 h dX4_wills_100 ?_
        refine aw_aload0 h dX4_wills_101 ?_
        refine aw_getr h fl_X4_49 (gmt hG) dX4_wills_102 rfl (gmp24 hG) ?_
        refine aw_iload1 h dX4_wills_105 ?_
        refine aw_ialdV h (gms173 hG) (by decide) (by have := iv2b hS; omega) dX4_wills_106 ((by rw [upd2_s, vup_s])) ?_
        refine aw_callVE1 h hl cl_X4_301 (met_m_nearOf hG hE1u hS hd) (gmt hG) rfl dX4_wills_107 (Nat.le_of_ble_eq_true rfl) rfl (Nat.zero_le _) (Nat.zero_le _) ?_
        refine aw_iload4 h dX4_wills_110 ?_
        refine aw_icmp_neN h (tgt := 119) (by have := (ivd hS hd).2.1; have := iv0b hS; omega) (by have := (ivp hS hp).2.1; have := iv0b hS; omega) dX4_wills_112 (by decide) (fun c112 => ?_) (fun c112 => ?_)
        · refine aw_iconst h _ ci_0 dX4_wills_119 ?_
          refine aw_zastN h (gms174 hG) (by decide) (by have := iv2b hS; omega) (by first | exact z01_0 | exact z01_1 | exact z01_b _) dX4_wills_120 ?_
          exact aw_vret h hr dX4_wills_121 (⟨rfl, hW.fin hv.symm (by unfold outB; rw [hv, nI_clamp (by have := iv1b hS; omega), decide_eq_false c112, Bool.and_false]; rfl)⟩) (Nat.zero_le _) (Nat.zero_le _)
        · refine aw_iconst h _ ci_1 dX4_wills_115 ?_
          refine aw_goto h (tgt := 120) dX4_wills_116 (by decide) ?_
          refine aw_zastN h (gms174 hG) (by decide) (by have := iv2b hS; omega) (by first | exact z01_0 | exact z01_1 | exact z01_b _) dX4_wills_120 ?_
          exact aw_vret h hr dX4_wills_121 (⟨rfl, hW.fin hv.symm (by unfold outB; rw [hv, nI_clamp (by have := iv1b hS; omega), decide_eq_true c112, decide_eq_true (nI_pos' (by have := iv1b hS; omega))]; rfl)⟩) (Nat.zero_le _) (Nat.zero_le _)
  have keyC : ∀ (sv : Int32) (I1 : Im) (L1 : Lm), WR I L I1 L1 → stepW S fr p = sv → AW X 0 0 46 [some (.ref (w.1 + 161)), some (.int (nI p)), some (.long (nW S fr p)), none, some (.int (nI (rm S p))), none] [.int sv] G I1 L1 := by
    intro sv I1 L1 hW hsv
    have hE1 : I1 171 = S := (hW.1 171 (by decide) (by decide)).trans hE
    rcases stepW_cases S fr p with hs1 | ⟨sk, hsk, hs1⟩
    · rw [hsv] at hs1
      subst hs1
      refine aw_istore5 h rfl dX4_wills_46 ?_
      refine aw_aload0 h dX4_wills_48 ?_
      refine aw_getr h fl_X4_49 (gmt hG) dX4_wills_49 rfl (gmp24 hG) ?_
      refine aw_iload1 h dX4_wills_52 ?_
      refine aw_lload2 h dX4_wills_53 ?_
      refine aw_lconst h _ cl_0 dX4_wills_54 ?_
      refine aw_lcmp_ge h (tgt := 68) dX4_wills_55 dX4_wills_56 (by decide) (fun c55 => ?_) (fun c55 => ?_)
      · refine aw_iload5 h dX4_wills_68 ?_
        refine aw_if_ge h (tgt := 77) dX4_wills_70 (by decide) (fun c70 => ?_) (fun c70 => ?_)
        · exact absurd c70 (by decide)
        · refine aw_iconst h _ ci_m1 dX4_wills_73 ?_
          refine aw_goto h (tgt := 85) dX4_wills_74 (by decide) ?_
          exact keyB _ _ _ _ hW (by unfold willI; rw [if_neg (Int64.not_lt.mpr c55), hsv, if_pos (by decide)])
      · refine aw_aload0 h dX4_wills_59 ?_
        refine aw_iload4 h dX4_wills_60 ?_
        refine aw_callVE1 h hl cl_X4_369 (met_m_firstOut hG hE1 hS (ivp hS hp).2.1) (gmt hG) rfl dX4_wills_62 (Nat.le_of_ble_eq_true rfl) rfl (Nat.zero_le _) (Nat.zero_le _) ?_
        refine aw_goto h (tgt := 85) dX4_wills_65 (by decide) ?_
        exact keyB _ _ _ _ hW (by unfold willI; rw [if_pos (Int64.not_le.mp c55)])
    · rw [hsv] at hs1
      subst hs1
      refine aw_istore5 h rfl dX4_wills_46 ?_
      refine aw_aload0 h dX4_wills_48 ?_
      refine aw_getr h fl_X4_49 (gmt hG) dX4_wills_49 rfl (gmp24 hG) ?_
      refine aw_iload1 h dX4_wills_52 ?_
      refine aw_lload2 h dX4_wills_53 ?_
      refine aw_lconst h _ cl_0 dX4_wills_54 ?_
      refine aw_lcmp_ge h (tgt := 68) dX4_wills_55 dX4_wills_56 (by decide) (fun c55 => ?_) (fun c55 => ?_)
      · refine aw_iload5 h dX4_wills_68 ?_
        refine aw_if_geN h (tgt := 77) (by have := iv0b hS; omega) dX4_wills_70 (by decide) (fun c70 => ?_) (fun c70 => ?_)
        · refine aw_aload0 h dX4_wills_77 ?_
          refine aw_iload4 h dX4_wills_78 ?_
          refine aw_iload5 h dX4_wills_80 ?_
          refine aw_callVE2 h hl cl_X4_372 (met_m_doorBetween hG hE1 hS (ivp hS hp).2.1 hsk) (gmt hG) rfl dX4_wills_82 (Nat.le_of_ble_eq_true rfl) rfl (Nat.zero_le _) (Nat.zero_le _) ?_
          exact keyB _ _ _ _ hW (by unfold willI; rw [if_neg (Int64.not_lt.mpr c55), hsv, if_neg (nI_pos (by have := iv0b hS; omega)), nI_clamp (by have := iv0b hS; omega)])
        · exact absurd (Nat.zero_le _) c70
      · refine aw_aload0 h dX4_wills_59 ?_
        refine aw_iload4 h dX4_wills_60 ?_
        refine aw_callVE1 h hl cl_X4_369 (met_m_firstOut hG hE1 hS (ivp hS hp).2.1) (gmt hG) rfl dX4_wills_62 (Nat.le_of_ble_eq_true rfl) rfl (Nat.zero_le _) (Nat.zero_le _) ?_
        refine aw_goto h (tgt := 85) dX4_wills_65 (by decide) ?_
        exact keyB _ _ _ _ hW (by unfold willI; rw [if_pos (Int64.not_le.mp c55)])
  have keyA : ∀ (I1 : Im) (L1 : Lm), WR I L I1 L1 → AW X 0 0 23 [some (.ref (w.1 + 161)), some (.int (nI p)), some (.long (nW S fr p)), none, none, none] [] G I1 L1 := by
    intro I1 L1 hW1
    have hE1 : I1 171 = S := (hW1.1 171 (by decide) (by decide)).trans hE
    refine aw_aload0 h dX4_wills_23 ?_
    refine aw_iload1 h dX4_wills_24 ?_
    refine aw_iconst h _ ci_0 dX4_wills_25 ?_
    refine aw_callVE2 h hl cl_X4_279 (met_m_personOf hG hE1 (by have := iv2b hS; omega)) (gmt hG) rfl dX4_wills_26 (Nat.le_of_ble_eq_true rfl) rfl (Nat.zero_le _) (Nat.zero_le _) ?_
    rw [(ivp hS hp).1]
    refine aw_istore4 h rfl dX4_wills_29 ?_
    refine aw_lload2 h dX4_wills_31 ?_
    refine aw_lconst h _ cl_0 dX4_wills_32 ?_
    refine aw_lcmp_le h (tgt := 45) dX4_wills_33 dX4_wills_34 (by decide) (fun c33 => ?_) (fun c33 => ?_)
    · refine aw_iconst h _ ci_m1 dX4_wills_45 ?_
      exact keyC _ _ _ hW1 (by unfold stepW; rw [if_neg (Int64.not_lt.mpr c33)])
    · refine aw_aload0 h dX4_wills_37 ?_
      refine aw_iload1 h dX4_wills_38 ?_
      refine aw_callVA1 h hl cl_X4_333 (met_m_stepOf hG hE1 hS hp) (gmt hG) rfl dX4_wills_39 (Nat.le_of_ble_eq_true rfl) rfl (Nat.zero_le _) (Nat.zero_le _) (fun G1 I2 L2 hp1 => ?_)
      obtain ⟨rfl, rfl, f, rfl, -⟩ := hp1
      refine aw_goto h (tgt := 46) dX4_wills_42 (by decide) ?_
      exact keyC _ _ _ (hW1.t172 f) (by unfold stepW; rw [if_pos (Int64.not_le.mp c33)])
  cases fr with
  | none =>
    have hF0 : I 161 21 < 0 := hF
    refine aw_lconst h _ cl_1 dX4_wills_0 ?_
    refine aw_lstore2 h rfl dX4_wills_1 ?_
    refine aw_aload0 h dX4_wills_2 ?_
    refine aw_getiV h fl_X4_42 (gmt hG) dX4_wills_3 rfl (rfl) ?_
    refine aw_if_lt h (tgt := 23) dX4_wills_6 (by decide) (fun c6 => ?_) (fun c6 => ?_)
    · exact keyA I L ⟨fun _ _ _ => rfl, fun _ _ => rfl, fun _ _ _ => rfl⟩
    · exact absurd hF0 c6
  | some cl =>
    obtain ⟨rl, hrl, hfo, hRl⟩ := hF
    refine aw_lconst h _ cl_1 dX4_wills_0 ?_
    refine aw_lstore2 h rfl dX4_wills_1 ?_
    refine aw_aload0 h dX4_wills_2 ?_
    refine aw_getiV h fl_X4_42 (gmt hG) dX4_wills_3 rfl (hfo) ?_
    refine aw_if_ltN h (tgt := 23) (by omega) dX4_wills_6 (by decide) (fun c6 => ?_) (fun c6 => ?_)
    · exact absurd c6 (by omega)
    · refine aw_aload0 h dX4_wills_9 ?_
      refine aw_iload1 h dX4_wills_10 ?_
      refine aw_callVN1 h hl cl_X4_362 (met_m_words hG hE hS hp) (gmt hG) rfl dX4_wills_11 (Nat.le_of_ble_eq_true rfl) rfl (Nat.zero_le _) (Nat.zero_le _) (fun G1 I1 L1 hp1 => ?_)
      obtain ⟨rfl, ⟨f, rfl⟩, g, rfl, hg⟩ := hp1
      refine aw_aload0 h dX4_wills_14 ?_
      refine aw_aload0 h dX4_wills_15 ?_
      refine aw_getiV h fl_X4_42 (gmt hG) dX4_wills_16 rfl (hfo) ?_
      refine aw_callVA1 h hl cl_X4_365 (met_m_summedBy hG hrl (RuleAt.of rfl rfl rfl hRl : RuleAt (va_up I 172 f) rl cl)) (gmt hG) rfl dX4_wills_19 (Nat.le_of_ble_eq_true rfl) rfl (Nat.zero_le _) (Nat.zero_le _) (fun G1 I1 L1 hp1 => ?_)
      obtain ⟨rfl, ⟨t, rfl⟩, g2, rfl⟩ := hp1
      rw [show goesV (va_up L 170 g 170) cl = nW S (some cl) p from goes_congr hg hRl]
      refine aw_lstore2 h rfl dX4_wills_22 ?_
      exact keyA _ _ ⟨fun n h1 h2 => (by rw [upd2_n _ _ _ h1, vup_n _ _ h2]), fun k hk => (by rw [upd2_s, vup_n _ _ hk]; rfl), fun n h1 h2 => (by rw [vup_n _ _ h1, vup_n _ _ h2])⟩
