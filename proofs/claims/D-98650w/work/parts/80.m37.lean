/-! The reference: a castle is told -/
set_option maxRecDepth 100000
/-- whether a door stands as it was told: the less far room first -/
def tnB (F : Nat → Nat) (x : Kt) : Bool := decide (F x.1 < F x.2.1) || (decide (F x.1 = F x.2.1) && decide (x.1 < x.2.1))
def tnA (F : Nat → Nat) (x : Kt) : Nat := if tnB F x = true then x.1 else x.2.1
def tnC (F : Nat → Nat) (x : Kt) : Nat := if tnB F x = true then x.2.1 else x.1
/-- doors in a row of cells: all told, the first k turned -/
def TN (S : Nat → Int32) (F : Nat → Nat) (D : List Kt) (k : Nat) : Prop := (∀ r, r < 8 → S (34 + r) = nI (F r)) ∧ ∀ d, d < D.length → S (42 + 3 * d) = nI (if d < k then tnA F (gK D d) else (gK D d).1) ∧ S (42 + 3 * d + 1) = nI (if d < k then tnC F (gK D d) else (gK D d).2.1) ∧ S (42 + 3 * d + 2) = nI (gK D d).2.2
def SofK (S : Nat → Int32) (K : CS) : Prop := S 0 = nI (kR K) ∧ S 1 = nI (kD K).length ∧ S 2 = nI (kP K).length ∧ S 3 = 0 ∧ (match kN K with
    | none => S 4 = -1 ∧ S 5 = -1
    | some q => S 4 = nI q.1 ∧ S 5 = nI q.2) ∧ TN S (kF K) (kD K) 14 ∧ (∀ k, k < (kP K).length → S (10 + 6 * k) = nI (gK (kP K) k).1 ∧ S (10 + 6 * k + 1) = nI (gK (kP K) k).2.1 ∧ S (10 + 6 * k + 2) = nI (gK (kP K) k).2.2 ∧ S (10 + 6 * k + 3) = 0 ∧ S (10 + 6 * k + 4) = 0 ∧ S (10 + 6 * k + 5) = -1) ∧ S 114 = 0 ∧ ∀ k, k < (kP K).length → S (115 + 2 * k) = nI (gK (kP K) k).1 ∧ S (115 + 2 * k + 1) = nI (gK (kP K) k).2.1
def TQt (S : Nat → Int32) (F : Nat → Nat) (D : List Kt) (G : Gm) (I : Im) (L : Lm) : Gm → Im → Lm → Prop := fun G1 I1 L1 => G = G1 ∧ L = L1 ∧ ∃ S1, va_up I 171 S1 = I1 ∧ TN S1 F D D.length ∧ ∀ j, j < 42 ∨ 42 + 3 * D.length ≤ j → S1 j = S j
theorem met_m_turnsDoors {w : Wd} {G : Gm} {I : Im} {L : Lm} (hG : GM G) {S : Nat → Int32} (hE : I 171 = S) {F : Nat → Nat} {D : List Kt} (hS1 : S 1 = nI D.length) (hD14 : D.length ≤ 14) (hD : ∀ k, k < D.length → (gK D k).1 < 8 ∧ (gK D k).2.1 < 8) (hF : ∀ r, r < 8 → F r ≤ 9) (hT0 : TN S F D 0) : AMet w yX4_turnsDoors cX4_turnsDoors 5 none 1 40 0 0 [.ref (w.1 + 161)] G I L (Ans none (TQt S F D G I L)) := by
  refine AMet.of (ls0 := [some (.ref (w.1 + 161)), none, none, none, none]) rfl (Nat.le_of_ble_eq_true rfl) rfl (fun q hq => hq) (fun X h hl hr hi => ?_)
  have key : ∀ (fu k : Nat) (S1 : Nat → Int32) (o2 o3 o4 : Option Value), k ≤ D.length → D.length < k + fu → TN S1 F D k → (∀ j, j < 42 ∨ 42 + 3 * D.length ≤ j → S1 j = S j) → AW X 0 0 2 [some (.ref (w.1 + 161)), some (.int (nI k)), o2, o3, o4] [] G (va_up I 171 S1) L := by
    intro fu
    induction fu with
    | zero => intro k S1 o2 o3 o4 h1 h2; omega
    | succ fu ih =>
      intro k S1 o2 o3 o4 hle hlt hT hS
      have h1 : (va_up I 171 S1) 171 1 = nI D.length := by show va_up I 171 S1 171 1 = _; rw [vup_s, hS 1 (by omega)]; exact hS1
      have hEr : (va_up I 171 S1) 171 = S1 := vup_s _ _ _
      refine aw_iload1 h dX4_turnsDoors_2 ?_
      refine aw_aload0 h dX4_turnsDoors_3 ?_
      refine aw_getr h fl_X4_39 (gmt hG) dX4_turnsDoors_4 rfl (gmp20 hG) ?_
      refine aw_iconst h _ ci_1 dX4_turnsDoors_7 ?_
      refine aw_ialdV h (gms171 hG) (by decide) (by omega) dX4_turnsDoors_8 (h1) ?_
      refine aw_icmp_geN h (tgt := 112) (by omega) (by omega) dX4_turnsDoors_9 (by decide) (fun c9 => ?_) (fun c9 => ?_)
      · exact aw_vret h hr dX4_turnsDoors_112 (⟨rfl, rfl, rfl, S1, rfl, by rw [show k = D.length by omega] at hT; exact hT, hS⟩) (Nat.zero_le _) (Nat.zero_le _)
      · have hk : k < D.length := by omega
        obtain ⟨t1, t2, t3⟩ := hT.2 k hk
        rw [if_neg (Nat.lt_irrefl k)] at t1 t2
        obtain ⟨b1, b2⟩ := hD k hk
        have f1 := hT.1 _ b1
        have f2 := hT.1 _ b2
        have g1 := hF _ b1
        have g2 := hF _ b2
        have hnx : ∀ S2 : Nat → Int32, (∀ j, j < 42 + 3 * k ∨ 42 + 3 * k + 2 ≤ j → S2 j = S1 j) → S2 (42 + 3 * k) = nI (tnA F (gK D k)) → S2 (42 + 3 * k + 1) = nI (tnC F (gK D k)) → TN S2 F D (k + 1) ∧ ∀ j, j < 42 ∨ 42 + 3 * D.length ≤ j → S2 j = S j := by
          intro S2 h0 ha hc
          refine ⟨⟨fun r hr => (h0 _ (by omega)).trans (hT.1 r hr), fun d hd => ?_⟩, fun j hj => (h0 j (by omega)).trans (hS j hj)⟩
          by_cases e : d = k
          · subst e
            rw [if_pos (Nat.lt_succ_self d), if_pos (Nat.lt_succ_self d)]
            exact ⟨ha, hc, (h0 _ (by omega)).trans t3⟩
          · obtain ⟨u1, u2, u3⟩ := hT.2 d hd
            rw [h0 _ (by omega), h0 (42 + 3 * d + 1) (by omega), h0 (42 + 3 * d + 2) (by omega)]
            by_cases e2 : d < k
            · rw [if_pos e2] at u1 u2
              rw [if_pos (by omega), if_pos (by omega)]; exact ⟨u1, u2, u3⟩
            · rw [if_neg e2] at u1 u2
              rw [if_neg (by omega), if_neg (by omega)]; exact ⟨u1, u2, u3⟩
        refine aw_bipush h _ cb_42 dX4_turnsDoors_12 ?_
        refine aw_iconst h _ ci_3 dX4_turnsDoors_14 ?_
        refine aw_iload1 h dX4_turnsDoors_15 ?_
        refine aw_imulN h dX4_turnsDoors_16 ?_
        refine aw_iaddN h dX4_turnsDoors_17 ?_
        refine aw_istore2 h rfl dX4_turnsDoors_18 ?_
        refine aw_aload0 h dX4_turnsDoors_19 ?_
        refine aw_getr h fl_X4_39 (gmt hG) dX4_turnsDoors_20 rfl (gmp20 hG) ?_
        refine aw_iload2 h dX4_turnsDoors_23 ?_
        refine aw_ialdV h (gms171 hG) (by decide) (by omega) dX4_turnsDoors_24 ((congrFun hEr _).trans t1) ?_
        refine aw_istore3 h rfl dX4_turnsDoors_25 ?_
        refine aw_aload0 h dX4_turnsDoors_26 ?_
        refine aw_getr h fl_X4_39 (gmt hG) dX4_turnsDoors_27 rfl (gmp20 hG) ?_
        refine aw_iload2 h dX4_turnsDoors_30 ?_
        refine aw_iconst h _ ci_1 dX4_turnsDoors_31 ?_
        refine aw_iaddN h dX4_turnsDoors_32 ?_
        refine aw_ialdV h (gms171 hG) (by decide) (by omega) dX4_turnsDoors_33 ((congrFun hEr _).trans t2) ?_
        refine aw_istore4 h rfl dX4_turnsDoors_34 ?_
        refine aw_aload0 h dX4_turnsDoors_36 ?_
        refine aw_getr h fl_X4_39 (gmt hG) dX4_turnsDoors_37 rfl (gmp20 hG) ?_
        refine aw_bipush h _ cb_34 dX4_turnsDoors_40 ?_
        refine aw_iload3 h dX4_turnsDoors_42 ?_
        refine aw_iaddN h dX4_turnsDoors_43 ?_
        refine aw_ialdV h (gms171 hG) (by decide) (by omega) dX4_turnsDoors_44 ((congrFun hEr _).trans f1) ?_
        refine aw_aload0 h dX4_turnsDoors_45 ?_
        refine aw_getr h fl_X4_39 (gmt hG) dX4_turnsDoors_46 rfl (gmp20 hG) ?_
        refine aw_bipush h _ cb_34 dX4_turnsDoors_49 ?_
        refine aw_iload4 h dX4_turnsDoors_51 ?_
        refine aw_iaddN h dX4_turnsDoors_53 ?_
        refine aw_ialdV h (gms171 hG) (by decide) (by omega) dX4_turnsDoors_54 ((congrFun hEr _).trans f2) ?_
        refine aw_icmp_ltN h (tgt := 106) (by omega) (by omega) dX4_turnsDoors_55 (by decide) (fun c55 => ?_) (fun c55 => ?_)
        · refine aw_iincN1 h rfl dX4_turnsDoors_106 ?_
          refine aw_goto h (tgt := 2) dX4_turnsDoors_109 (by decide) ?_
          have htn : tnB F (gK D k) = true := by unfold tnB; rw [decide_eq_true c55]; rfl
          obtain ⟨x1, x2⟩ := hnx S1 (fun j _ => rfl) (by rw [t1]; unfold tnA; rw [if_pos htn]) (by rw [t2]; unfold tnC; rw [if_pos htn])
          exact ih (k + 1) S1 _ _ _ hk (by omega) x1 x2
        · refine aw_aload0 h dX4_turnsDoors_58 ?_
          refine aw_getr h fl_X4_39 (gmt hG) dX4_turnsDoors_59 rfl (gmp20 hG) ?_
          refine aw_bipush h _ cb_34 dX4_turnsDoors_62 ?_
          refine aw_iload3 h dX4_turnsDoors_64 ?_
          refine aw_iaddN h dX4_turnsDoors_65 ?_
          refine aw_ialdV h (gms171 hG) (by decide) (by omega) dX4_turnsDoors_66 ((congrFun hEr _).trans f1) ?_
          refine aw_aload0 h dX4_turnsDoors_67 ?_
          refine aw_getr h fl_X4_39 (gmt hG) dX4_turnsDoors_68 rfl (gmp20 hG) ?_
          refine aw_bipush h _ cb_34 dX4_turnsDoors_71 ?_
          refine aw_iload4 h dX4_turnsDoors_73 ?_
          refine aw_iaddN h dX4_turnsDoors_75 ?_
          refine aw_ialdV h (gms171 hG) (by decide) (by omega) dX4_turnsDoors_76 ((congrFun hEr _).trans f2) ?_
          refine aw_icmp_neN h (tgt := 89) (by omega) (by omega) dX4_turnsDoors_77 (by decide) (fun c77 => ?_) (fun c77 => ?_)
          · refine aw_aload0 h dX4_turnsDoors_89 ?_
            refine aw_getr h fl_X4_39 (gmt hG) dX4_turnsDoors_90 rfl (gmp20 hG) ?_
            refine aw_iload2 h dX4_turnsDoors_93 ?_
            refine aw_iload4 h dX4_turnsDoors_94 ?_
            refine aw_iastN h (gms171 hG) (by decide) (by omega) dX4_turnsDoors_96 ?_
            rw [upd2_vup]
            refine aw_aload0 h dX4_turnsDoors_97 ?_
            refine aw_getr h fl_X4_39 (gmt hG) dX4_turnsDoors_98 rfl (gmp20 hG) ?_
            refine aw_iload2 h dX4_turnsDoors_101 ?_
            refine aw_iconst h _ ci_1 dX4_turnsDoors_102 ?_
            refine aw_iaddN h dX4_turnsDoors_103 ?_
            refine aw_iload3 h dX4_turnsDoors_104 ?_
            refine aw_iastN h (gms171 hG) (by decide) (by omega) dX4_turnsDoors_105 ?_
            rw [upd2_vup]
            refine aw_iincN1 h rfl dX4_turnsDoors_106 ?_
            refine aw_goto h (tgt := 2) dX4_turnsDoors_109 (by decide) ?_
            have htn : tnB F (gK D k) = false := by unfold tnB; rw [decide_eq_false c55, decide_eq_false c77]; rfl
            obtain ⟨x1, x2⟩ := hnx (va_up (va_up S1 (42 + 3 * k) (nI (gK D k).2.1)) (42 + 3 * k + 1) (nI (gK D k).1)) (fun j hj => by rw [vup_n _ _ (by omega), vup_n _ _ (by omega)]) (by rw [vup_n _ _ (by omega), vup_s]; unfold tnA; rw [if_neg (by rw [htn]; exact Bool.false_ne_true)]) (by rw [vup_s]; unfold tnC; rw [if_neg (by rw [htn]; exact Bool.false_ne_true)])
            exact ih (k + 1) _ _ _ _ hk (by omega) x1 x2
          · refine aw_iload3 h dX4_turnsDoors_80 ?_
            refine aw_iload4 h dX4_turnsDoors_81 ?_
            refine aw_icmp_geN h (tgt := 89) (by omega) (by omega) dX4_turnsDoors_83 (by decide) (fun c83 => ?_) (fun c83 => ?_)
            · refine aw_aload0 h dX4_turnsDoors_89 ?_
              refine aw_getr h fl_X4_39 (gmt hG) dX4_turnsDoors_90 rfl (gmp20 hG) ?_
              refine aw_iload2 h dX4_turnsDoors_93 ?_
              refine aw_iload4 h dX4_turnsDoors_94 ?_
              refine aw_iastN h (gms171 hG) (by decide) (by omega) dX4_turnsDoors_96 ?_
              rw [upd2_vup]
              refine aw_aload0 h dX4_turnsDoors_97 ?_
              refine aw_getr h fl_X4_39 (gmt hG) dX4_turnsDoors_98 rfl (gmp20 hG) ?_
              refine aw_iload2 h dX4_turnsDoors_101 ?_
              refine aw_iconst h _ ci_1 dX4_turnsDoors_102 ?_
              refine aw_iaddN h dX4_turnsDoors_103 ?_
              refine aw_iload3 h dX4_turnsDoors_104 ?_
              refine aw_iastN h (gms171 hG) (by decide) (by omega) dX4_turnsDoors_105 ?_
              rw [upd2_vup]
              refine aw_iincN1 h rfl dX4_turnsDoors_106 ?_
              refine aw_goto h (tgt := 2) dX4_turnsDoors_109 (by decide) ?_
              have htn : tnB F (gK D k) = false := by unfold tnB; rw [decide_eq_false c55, decide_eq_false (p := (gK D k).1 < (gK D k).2.1) (by omega), Bool.and_false]; rfl
              obtain ⟨x1, x2⟩ := hnx (va_up (va_up S1 (42 + 3 * k) (nI (gK D k).2.1)) (42 + 3 * k + 1) (nI (gK D k).1)) (fun j hj => by rw [vup_n _ _ (by omega), vup_n _ _ (by omega)]) (by rw [vup_n _ _ (by omega), vup_s]; unfold tnA; rw [if_neg (by rw [htn]; exact Bool.false_ne_true)]) (by rw [vup_s]; unfold tnC; rw [if_neg (by rw [htn]; exact Bool.false_ne_true)])
              exact ih (k + 1) _ _ _ _ hk (by omega) x1 x2
            · refine aw_goto h (tgt := 106) dX4_turnsDoors_86 (by decide) ?_
              refine aw_iincN1 h rfl dX4_turnsDoors_106 ?_
              refine aw_goto h (tgt := 2) dX4_turnsDoors_109 (by decide) ?_
              have htn : tnB F (gK D k) = true := by unfold tnB; rw [decide_eq_true c77, decide_eq_true (p := (gK D k).1 < (gK D k).2.1) (by omega)]; simp
              obtain ⟨x1, x2⟩ := hnx S1 (fun j _ => rfl) (by rw [t1]; unfold tnA; rw [if_pos htn]) (by rw [t2]; unfold tnC; rw [if_pos htn])
              exact ih (k + 1) S1 _ _ _ hk (by omega) x1 x2
  have hI : va_up I 171 S = I := by rw [← hE]; exact vup_id I 171
  refine aw_iconst h _ ci_0 dX4_turnsDoors_0 ?_
  refine aw_istore1 h rfl dX4_turnsDoors_1 ?_
  have h9 := key (D.length + 1) 0 S none none none (Nat.zero_le _) (by omega) hT0 (fun _ _ => rfl)
  rw [hI] at h9
  exact h9
def castV (r : Sum Nat CS) : Int32 := match r with
  | .inl e => -2 - nI e
  | .inr K => nI (kP K).length
def KQt (r : Sum Nat CS) (G : Gm) (I : Im) (L : Lm) : Gm → Im → Lm → Prop := fun G1 I1 L1 => G = G1 ∧ L = L1 ∧ (∀ m, m ∉ [161, 164, 167, 171] → I1 m = I m) ∧ (∀ j, j ∉ [1, 8, 9, 10, 11, 12, 14, 27] → I1 161 j = I 161 j) ∧ I1 161 1 = nI 0 ∧ match r with
  | .inl e => I1 171 = I 171 ∧ I1 161 27 = I 161 27
  | .inr K => SofK (I1 171) K ∧ CSok K ∧ I1 161 27 = nI 0
def r0 (j : Nat) : Int32 := if j = 4 ∨ j = 5 then -1 else nI 0
theorem lay_K0 {g : Nat → Int32} (h : ∀ j, j < 10 → g j = r0 j) (h2 : ∀ r, r < 8 → g (34 + r) = nI r) : LayC g K0 := ⟨h 0 (by decide), h 1 (by decide), h 2 (by decide), h 3 (by decide), ⟨h 4 (by decide), h 5 (by decide)⟩, h2, fun k hk => absurd hk (Nat.not_lt_zero _), fun k hk => absurd hk (Nat.not_lt_zero _)⟩
theorem ok_K0 : CSok K0 := ⟨Or.inl rfl, by decide, by decide, by decide, fun k hk => absurd hk (Nat.not_lt_zero _), fun k hk => absurd hk (Nat.not_lt_zero _), (fun q hq => by cases hq), fun r hr => by show r ≤ 9; omega⟩
theorem met_m_castle {w : Wd} {G : Gm} {I : Im} {L : Lm} (hG : GM G) {T : Nat → Int32} {n : Nat} (hT : I 162 = T) (hn : I 161 1 = nI n) (hn4 : n ≤ 400) : AMet w yX4_castle cX4_castle 2 (some .int) 13 302 0 0 [.ref (w.1 + 161)] G I L (Ans (some (.int (castV (castleP T n)))) (KQt (castleP T n) G I L)) := by
  refine AMet.of (ls0 := [some (.ref (w.1 + 161)), none]) rfl (Nat.le_of_ble_eq_true rfl) rfl (fun q hq => hq) (fun X h hl hr hi => ?_)
  have k65 : ∀ (g : Nat → Int32), (∀ j, j < 10 → g j = r0 j) → (∀ r, r < 8 → g (34 + r) = nI r) → ∀ o1 : Option Value, AW X 0 0 65 [some (.ref (w.1 + 161)), o1] [] G (va_up (upd2 I 161 11 (nI 6)) 167 g) L := by
    intro g hg hg2 o1
    cases hv : castleP T n with
    | inl e =>
      refine aw_aload0 h dX4_castle_65 ?_
      refine aw_callVA0 h hl cl_X4_273 (met_m_readsC hG (I := (va_up (upd2 I 161 11 (nI 6)) 167 g)) (T := T) (n := n) (K := K0) rfl hT hn hn4 rfl (by rw [vup_s]; exact lay_K0 hg hg2) ok_K0) (gmt hG) rfl dX4_castle_66 (Nat.le_of_ble_eq_true rfl) rfl (Nat.zero_le _) (Nat.zero_le _) (fun G1 I1 L1 hp => ?_)
      obtain ⟨rfl, hL, hF1, hF2, ht1, hpt⟩ := hp
      have hF := And.intro hF1 hF2
      rw [hv] at hpt
      rw [hv]
      have hfm : ∀ m, m ∉ [161, 164, 167] → I1 m = I m := fun m hm => by
        have hm2 := hm
        simp only [List.mem_cons, List.not_mem_nil, or_false, not_or] at hm
        rw [hF.1 m hm2, vup_n _ _ hm.2.2, upd2_n _ _ _ hm.1]
      have hfj : ∀ j, j ∉ [1, 8, 9, 10, 11, 12, 14] → I1 161 j = I 161 j := fun j hj => by
        simp only [List.mem_cons, List.not_mem_nil, or_false, not_or] at hj
        rw [hF.2 j (by simp only [List.mem_cons, List.not_mem_nil, or_false, not_or]; omega)]
        show va_up (I 161) 11 _ j = _
        exact vup_n _ _ hj.2.2.2.2.1
      refine aw_if_neB h (tgt := 80) dX4_castle_69 (by decide) (fun c69 => ?_) (fun c69 => ?_)
      · exact absurd c69 Bool.false_ne_true
      · refine aw_bipush h _ cb_m2 dX4_castle_72 ?_
        refine aw_aload0 h dX4_castle_74 ?_
        refine aw_getiV h fl_X4_97 (gmt hG) dX4_castle_75 rfl (hpt) ?_
        refine aw_isub h dX4_castle_78 ?_
        exact aw_iret h hr dX4_castle_79 (⟨by rw [hv]; rfl, by rw [hv]; exact ⟨rfl, hL, fun m hm => hfm m (by simp only [List.mem_cons, List.not_mem_nil, or_false, not_or] at hm ⊢; exact ⟨hm.1, hm.2.1, hm.2.2.1⟩), fun j hj => hfj j (by simp only [List.mem_cons, List.not_mem_nil, or_false, not_or] at hj ⊢; omega), ht1, hfm 171 (by decide), hfj 27 (by decide)⟩⟩) (Nat.zero_le _) (Nat.zero_le _)
    | inr K =>
      refine aw_aload0 h dX4_castle_65 ?_
      refine aw_callVA0 h hl cl_X4_273 (met_m_readsC hG (I := (va_up (upd2 I 161 11 (nI 6)) 167 g)) (T := T) (n := n) (K := K0) rfl hT hn hn4 rfl (by rw [vup_s]; exact lay_K0 hg hg2) ok_K0) (gmt hG) rfl dX4_castle_66 (Nat.le_of_ble_eq_true rfl) rfl (Nat.zero_le _) (Nat.zero_le _) (fun G1 I1 L1 hp => ?_)
      obtain ⟨rfl, hL, hF1, hF2, ht1, hpt⟩ := hp
      have hF := And.intro hF1 hF2
      rw [hv] at hpt
      rw [hv]
      refine aw_if_neB h (tgt := 80) dX4_castle_69 (by decide) (fun c69 => ?_) (fun c69 => ?_)
      · have hfm : ∀ m, m ∉ [161, 164, 167] → I1 m = I m := fun m hm => by
          have hm2 := hm
          simp only [List.mem_cons, List.not_mem_nil, or_false, not_or] at hm
          rw [hF.1 m hm2, vup_n _ _ hm.2.2, upd2_n _ _ _ hm.1]
        have hfj : ∀ j, j ∉ [1, 8, 9, 10, 11, 12, 14] → I1 161 j = I 161 j := fun j hj => by
          simp only [List.mem_cons, List.not_mem_nil, or_false, not_or] at hj
          rw [hF.2 j (by simp only [List.mem_cons, List.not_mem_nil, or_false, not_or]; omega)]
          show va_up (I 161) 11 _ j = _
          exact vup_n _ _ hj.2.2.2.2.1
        obtain ⟨hlay, hok⟩ := hpt
        have k116 : ∀ (S1 : Nat → Int32), (∀ j, j < 123 → S1 j = if j < 84 then I1 167 j else nI 0) → ∀ o1 : Option Value, AW X 0 0 116 [some (.ref (w.1 + 161)), o1] [] G (va_up I1 171 S1) L1 := by
          intro S1 hs o1
          have hR2 := hok.2.1
          have hD14 := hok.2.2.1
          have hP4 := hok.2.2.2.1
          have hS84 : ∀ j, j < 84 → S1 j = I1 167 j := fun j hj => by rw [hs j (by omega), if_pos hj]
          have hE1 : (va_up I1 171 S1) 171 = S1 := vup_s _ _ _
          obtain ⟨a0, a1, a2, a3, a4, a5, a6, a7⟩ := hlay
          have hTN0 : TN S1 (kF K) (kD K) 0 := ⟨fun r hr => (hS84 _ (by omega)).trans (a5 r hr), fun d hd => by
            rw [if_neg (Nat.not_lt_zero _), if_neg (Nat.not_lt_zero _), hS84 _ (by omega), hS84 (42 + 3 * d + 1) (by omega), hS84 (42 + 3 * d + 2) (by omega)]
            exact a6 d hd⟩
          have hdd : ∀ k, k < (kD K).length → (gK (kD K) k).1 < 8 ∧ (gK (kD K) k).2.1 < 8 := fun k hk => by have := hok.2.2.2.2.1 k hk; omega
          refine aw_aload0 h dX4_castle_116 ?_
          refine aw_callVN0 h hl cl_X4_276 (met_m_turnsDoors hG hE1 (F := kF K) (D := kD K) ((hS84 1 (by decide)).trans a1) hD14 hdd hok.2.2.2.2.2.2.2 hTN0) (gmt hG) rfl dX4_castle_117 (Nat.le_of_ble_eq_true rfl) rfl (Nat.zero_le _) (Nat.zero_le _) (fun G1 I2 L2 hp => ?_)
          obtain ⟨rfl, hL2, S2, rfl, hTN, hS2⟩ := hp
          have hI2 : va_up (va_up I1 171 S1) 171 S2 = va_up I1 171 S2 := vup_vup _ _ _ _
          rw [hI2]
          have hC : ∀ j, j < 42 → S2 j = I1 167 j := fun j hj => (hS2 j (Or.inl hj)).trans (hS84 j (by omega))
          have hz : ∀ j, 84 ≤ j → j < 123 → S2 j = nI 0 := fun j h1 h2 => by rw [hS2 j (by omega), hs j h2, if_neg (by omega)]
          have hq2 : S2 2 = nI (kP K).length := (hC 2 (by decide)).trans a2
          have key4 : ∀ (fu k : Nat) (S3 : Nat → Int32), k ≤ (kP K).length → (kP K).length < k + fu → (∀ j, j < 115 → S3 j = S2 j) → (∀ q, q < k → S3 (115 + 2 * q) = nI (gK (kP K) q).1 ∧ S3 (115 + 2 * q + 1) = nI (gK (kP K) q).2.1) → AW X 0 0 122 [some (.ref (w.1 + 161)), some (.int (nI k))] [] G (va_up I1 171 S3) L2 := by
            intro fu
            induction fu with
            | zero => intro k S3 hle hlt; exact absurd hlt (by omega)
            | succ fu ih =>
              intro k S3 hle hlt hs3 ht3
              refine aw_iload1 h dX4_castle_122 ?_
              refine aw_aload0 h dX4_castle_123 ?_
              refine aw_getr h fl_X4_39 (gmt hG) dX4_castle_124 rfl (gmp20 hG) ?_
              refine aw_iconst h _ ci_2 dX4_castle_127 ?_
              refine aw_ialdV h (gms171 hG) (by decide) (by decide) dX4_castle_128 ((congrFun (vup_s I1 171 S3) 2).trans ((hs3 2 (by decide)).trans hq2)) ?_
              refine aw_icmp_geN h (tgt := 174) (by omega) (by omega) dX4_castle_129 (by decide) (fun c129 => ?_) (fun c129 => ?_)
              · have hkk : k = (kP K).length := by omega
                subst hkk
                have h184 : (upd2 (va_up I1 171 S3) 161 27 (nI 0)) 171 2 = nI (kP K).length := (congrFun (show (upd2 (va_up I1 171 S3) 161 27 (nI 0)) 171 = S3 from (upd2_n _ _ _ (by decide)).trans (vup_s _ _ _)) 2).trans ((hs3 2 (by decide)).trans hq2)
                have hc3 : ∀ j, j < 42 → S3 j = I1 167 j := fun j hj => (hs3 j (by omega)).trans (hC j hj)
                have hSK : SofK S3 K := by
                  refine ⟨(hc3 0 (by decide)).trans a0, ((hs3 1 (by decide)).trans (hC 1 (by decide))).trans a1, (hc3 2 (by decide)).trans a2, (hc3 3 (by decide)).trans a3, ?_, ⟨fun r hr => (hs3 _ (by omega)).trans (hTN.1 r hr), fun d hd => ?_⟩, fun q hq => ?_, (hs3 114 (by decide)).trans (hz 114 (by decide) (by decide)), ht3⟩
                  · cases hn2 : kN K with
                    | none => rw [hn2] at a4; exact ⟨(hc3 4 (by decide)).trans a4.1, (hc3 5 (by decide)).trans a4.2⟩
                    | some q => rw [hn2] at a4; exact ⟨(hc3 4 (by decide)).trans a4.1, (hc3 5 (by decide)).trans a4.2⟩
                  · have h8 := hTN.2 d hd
                    rw [if_pos hd, if_pos hd] at h8
                    rw [if_pos (by omega), if_pos (by omega), hs3 _ (by omega), hs3 (42 + 3 * d + 1) (by omega), hs3 (42 + 3 * d + 2) (by omega)]
                    exact h8
                  · have h8 := a7 q hq
                    rw [hc3 _ (by omega), hc3 (10 + 6 * q + 1) (by omega), hc3 (10 + 6 * q + 2) (by omega), hc3 (10 + 6 * q + 3) (by omega), hc3 (10 + 6 * q + 4) (by omega), hc3 (10 + 6 * q + 5) (by omega)]
                    exact h8
                refine aw_aload0 h dX4_castle_174 ?_
                refine aw_iconst h _ ci_0 dX4_castle_175 ?_
                refine aw_puti h fl_X4_283 ft_X4_283 (fun z => by cases z) (gmt hG) dX4_castle_176 rfl ?_
                refine aw_aload0 h dX4_castle_179 ?_
                refine aw_getr h fl_X4_39 (gmt hG) dX4_castle_180 rfl (gmp20 hG) ?_
                refine aw_iconst h _ ci_2 dX4_castle_183 ?_
                refine aw_ialdV h (gms171 hG) (by decide) (by omega) dX4_castle_184 (h184) ?_
                exact aw_iret h hr dX4_castle_185 (⟨by rw [hv]; rfl, by rw [hv]; exact ⟨rfl, hL.trans hL2, fun m hm => by
  simp only [List.mem_cons, List.not_mem_nil, or_false, not_or] at hm
  rw [upd2_n _ _ _ hm.1, vup_n _ _ hm.2.2.2]
  exact hfm m (by simp only [List.mem_cons, List.not_mem_nil, or_false, not_or]; exact ⟨hm.1, hm.2.1, hm.2.2.1⟩), fun j hj => by
  simp only [List.mem_cons, List.not_mem_nil, or_false, not_or] at hj
  show va_up (I1 161) 27 _ j = _
  rw [vup_n _ _ hj.2.2.2.2.2.2.2]
  exact hfj j (by simp only [List.mem_cons, List.not_mem_nil, or_false, not_or]; omega), ht1, by rw [show (upd2 (va_up I1 171 S3) 161 27 (nI 0)) 171 = S3 from (upd2_n _ _ _ (by decide)).trans (vup_s _ _ _)]; exact hSK, hok, rfl⟩⟩) (Nat.zero_le _) (Nat.zero_le _)
              · refine aw_aload0 h dX4_castle_132 ?_
                refine aw_getr h fl_X4_39 (gmt hG) dX4_castle_133 rfl (gmp20 hG) ?_
                refine aw_bipush h _ cb_115 dX4_castle_136 ?_
                refine aw_iconst h _ ci_2 dX4_castle_138 ?_
                refine aw_iload1 h dX4_castle_139 ?_
                refine aw_imulN h dX4_castle_140 ?_
                refine aw_iaddN h dX4_castle_141 ?_
                refine aw_aload0 h dX4_castle_142 ?_
                refine aw_iload1 h dX4_castle_143 ?_
                refine aw_iconst h _ ci_0 dX4_castle_144 ?_
                refine aw_callVE2 h hl cl_X4_279 (met_m_personOf (S := S3) hG (vup_s _ _ _) (by omega)) (gmt hG) rfl dX4_castle_145 (Nat.le_of_ble_eq_true rfl) rfl (Nat.zero_le _) (Nat.zero_le _) ?_
                rw [show pv S3 k 0 = nI (gK (kP K) k).1 from ((hs3 _ (by omega)).trans (hC _ (by omega))).trans (a7 k (by omega)).1]
                refine aw_iastN h (gms171 hG) (by decide) (by omega) dX4_castle_148 ?_
                rw [upd2_vup]
                refine aw_aload0 h dX4_castle_149 ?_
                refine aw_getr h fl_X4_39 (gmt hG) dX4_castle_150 rfl (gmp20 hG) ?_
                refine aw_bipush h _ cb_115 dX4_castle_153 ?_
                refine aw_iconst h _ ci_2 dX4_castle_155 ?_
                refine aw_iload1 h dX4_castle_156 ?_
                refine aw_imulN h dX4_castle_157 ?_
                refine aw_iaddN h dX4_castle_158 ?_
                refine aw_iconst h _ ci_1 dX4_castle_159 ?_
                refine aw_iaddN h dX4_castle_160 ?_
                refine aw_aload0 h dX4_castle_161 ?_
                refine aw_iload1 h dX4_castle_162 ?_
                refine aw_iconst h _ ci_1 dX4_castle_163 ?_
                refine aw_callVE2 h hl cl_X4_279 (met_m_personOf (S := va_up S3 (115 + 2 * k) (nI (gK (kP K) k).1)) hG (vup_s _ _ _) (by omega)) (gmt hG) rfl dX4_castle_164 (Nat.le_of_ble_eq_true rfl) rfl (Nat.zero_le _) (Nat.zero_le _) ?_
                rw [show pv (va_up S3 (115 + 2 * k) (nI (gK (kP K) k).1)) k 1 = nI (gK (kP K) k).2.1 from (vup_n _ _ (by omega)).trans (((hs3 _ (by omega)).trans (hC _ (by omega))).trans (a7 k (by omega)).2.1)]
                refine aw_iastN h (gms171 hG) (by decide) (by omega) dX4_castle_167 ?_
                rw [upd2_vup]
                refine aw_iincN1 h rfl dX4_castle_168 ?_
                refine aw_goto h (tgt := 122) dX4_castle_171 (by decide) ?_
                refine ih (k + 1) _ (by omega) (by omega) (fun j hj => ?_) (fun q hq => ?_)
                · rw [vup_n _ _ (by omega), vup_n _ _ (by omega)]; exact hs3 j hj
                · by_cases e : q = k
                  · subst e
                    exact ⟨by rw [vup_n _ _ (by omega), vup_s], vup_s _ _ _⟩
                  · rw [vup_n _ _ (by omega), vup_n _ _ (by omega), vup_n _ _ (by omega), vup_n _ _ (by omega)]; exact ht3 q (by omega)
          refine aw_iconst h _ ci_0 dX4_castle_120 ?_
          refine aw_istore1 h rfl dX4_castle_121 ?_
          exact key4 ((kP K).length + 1) 0 S2 (Nat.zero_le _) (by omega) (fun _ _ => rfl) (fun q hq => absurd hq (Nat.not_lt_zero _))
        have key3 : ∀ (fu k : Nat) (S1 : Nat → Int32), k ≤ 123 → 123 < k + fu → (∀ j, j < k → S1 j = if j < 84 then I1 167 j else nI 0) → AW X 0 0 82 [some (.ref (w.1 + 161)), some (.int (nI k))] [] G (va_up I1 171 S1) L1 := by
          intro fu
          induction fu with
          | zero => intro k S1 hle hlt; exact absurd hlt (by omega)
          | succ fu ih =>
            intro k S1 hle hlt hs
            refine aw_iload1 h dX4_castle_82 ?_
            refine aw_bipush h _ cb_123 dX4_castle_83 ?_
            refine aw_icmp_geN h (tgt := 116) (by omega) (by decide) dX4_castle_85 (by decide) (fun c85 => ?_) (fun c85 => ?_)
            · exact k116 S1 (fun j hj => hs j (by omega)) _
            · refine aw_aload0 h dX4_castle_88 ?_
              refine aw_getr h fl_X4_39 (gmt hG) dX4_castle_89 rfl (gmp20 hG) ?_
              refine aw_iload1 h dX4_castle_92 ?_
              refine aw_iload1 h dX4_castle_93 ?_
              refine aw_bipush h _ cb_84 dX4_castle_94 ?_
              refine aw_icmp_geN h (tgt := 108) (by omega) (by decide) dX4_castle_96 (by decide) (fun c96 => ?_) (fun c96 => ?_)
              · refine aw_iconst h _ ci_0 dX4_castle_108 ?_
                refine aw_iastN h (gms171 hG) (by decide) (by omega) dX4_castle_109 ?_
                rw [upd2_vup]
                refine aw_iincN1 h rfl dX4_castle_110 ?_
                refine aw_goto h (tgt := 82) dX4_castle_113 (by decide) ?_
                refine ih (k + 1) (va_up S1 k _) (by omega) (by omega) (fun j hj => ?_)
                by_cases e : j = k
                · subst e; rw [vup_s]; rw [if_neg (by omega)]
                · rw [vup_n _ _ e]; exact hs j (by omega)
              · refine aw_aload0 h dX4_castle_99 ?_
                refine aw_getr h fl_X4_26 (gmt hG) dX4_castle_100 rfl (gmp7 hG) ?_
                refine aw_iload1 h dX4_castle_103 ?_
                refine aw_ialdN h (gms167 hG) (by decide) (by omega) dX4_castle_104 ?_
                refine aw_goto h (tgt := 109) dX4_castle_105 (by decide) ?_
                refine aw_iastN h (gms171 hG) (by decide) (by omega) dX4_castle_109 ?_
                rw [upd2_vup]
                refine aw_iincN1 h rfl dX4_castle_110 ?_
                refine aw_goto h (tgt := 82) dX4_castle_113 (by decide) ?_
                refine ih (k + 1) (va_up S1 k _) (by omega) (by omega) (fun j hj => ?_)
                by_cases e : j = k
                · subst e; rw [vup_s]; rw [if_pos (by omega)]; rfl
                · rw [vup_n _ _ e]; exact hs j (by omega)
        have hI1 : va_up I1 171 (I1 171) = I1 := vup_id I1 171
        refine aw_iconst h _ ci_0 dX4_castle_80 ?_
        refine aw_istore1 h rfl dX4_castle_81 ?_
        have h9 := key3 124 0 (I1 171) (Nat.zero_le _) (by decide) (fun j hj => absurd hj (Nat.not_lt_zero _))
        rw [hI1] at h9
        exact h9
      · exact absurd c69.symm Bool.false_ne_true
  have key2 : ∀ (fu k : Nat) (g : Nat → Int32), k ≤ 8 → 8 < k + fu → (∀ j, j < 10 → g j = r0 j) → (∀ r, r < k → g (34 + r) = nI r) → AW X 0 0 43 [some (.ref (w.1 + 161)), some (.int (nI k))] [] G (va_up (upd2 I 161 11 (nI 6)) 167 g) L := by
    intro fu
    induction fu with
    | zero => intro k g hle hlt; exact absurd hlt (by omega)
    | succ fu ih =>
      intro k g hle hlt hg hg2
      refine aw_iload1 h dX4_castle_43 ?_
      refine aw_bipush h _ cb_8 dX4_castle_44 ?_
      refine aw_icmp_geN h (tgt := 65) (by omega) (by decide) dX4_castle_46 (by decide) (fun c46 => ?_) (fun c46 => ?_)
      · exact k65 g hg (fun r hr => hg2 r (by omega)) _
      · refine aw_aload0 h dX4_castle_49 ?_
        refine aw_getr h fl_X4_26 (gmt hG) dX4_castle_50 rfl (gmp7 hG) ?_
        refine aw_bipush h _ cb_34 dX4_castle_53 ?_
        refine aw_iload1 h dX4_castle_55 ?_
        refine aw_iaddN h dX4_castle_56 ?_
        refine aw_iload1 h dX4_castle_57 ?_
        refine aw_iastN h (gms167 hG) (by decide) (by omega) dX4_castle_58 ?_
        rw [upd2_vup]
        refine aw_iincN1 h rfl dX4_castle_59 ?_
        refine aw_goto h (tgt := 43) dX4_castle_62 (by decide) ?_
        refine ih (k + 1) (va_up g (34 + k) _) (by omega) (by omega) (fun j hj => ?_) (fun r hr => ?_)
        · rw [vup_n _ _ (by omega)]; exact hg j hj
        · by_cases e : r = k
          · subst e; rw [vup_s]
          · rw [vup_n _ _ (by omega)]; exact hg2 r (by omega)
  have k41 : ∀ (g : Nat → Int32), (∀ j, j < 10 → g j = r0 j) → ∀ o1 : Option Value, AW X 0 0 41 [some (.ref (w.1 + 161)), o1] [] G (va_up (upd2 I 161 11 (nI 6)) 167 g) L := by
    intro g hg o1
    refine aw_iconst h _ ci_0 dX4_castle_41 ?_
    refine aw_istore1 h rfl dX4_castle_42 ?_
    exact key2 9 0 g (Nat.zero_le _) (by decide) hg (fun r hr => absurd hr (Nat.not_lt_zero _))
  have key1 : ∀ (fu k : Nat) (g : Nat → Int32), k ≤ 10 → 10 < k + fu → (∀ j, j < k → g j = r0 j) → AW X 0 0 8 [some (.ref (w.1 + 161)), some (.int (nI k))] [] G (va_up (upd2 I 161 11 (nI 6)) 167 g) L := by
    intro fu
    induction fu with
    | zero => intro k g hle hlt; exact absurd hlt (by omega)
    | succ fu ih =>
      intro k g hle hlt hg
      refine aw_iload1 h dX4_castle_8 ?_
      refine aw_bipush h _ cb_10 dX4_castle_9 ?_
      refine aw_icmp_geN h (tgt := 41) (by omega) (by decide) dX4_castle_11 (by decide) (fun c11 => ?_) (fun c11 => ?_)
      · exact k41 g (fun j hj => hg j (by omega)) _
      · refine aw_aload0 h dX4_castle_14 ?_
        refine aw_getr h fl_X4_26 (gmt hG) dX4_castle_15 rfl (gmp7 hG) ?_
        refine aw_iload1 h dX4_castle_18 ?_
        refine aw_iload1 h dX4_castle_19 ?_
        refine aw_iconst h _ ci_4 dX4_castle_20 ?_
        refine aw_icmp_eqN h (tgt := 29) (by omega) (by decide) dX4_castle_21 (by decide) (fun c21 => ?_) (fun c21 => ?_)
        · refine aw_iconst h _ ci_m1 dX4_castle_29 ?_
          refine aw_goto h (tgt := 34) dX4_castle_30 (by decide) ?_
          refine aw_iastN h (gms167 hG) (by decide) (by omega) dX4_castle_34 ?_
          rw [upd2_vup]
          refine aw_iincN1 h rfl dX4_castle_35 ?_
          refine aw_goto h (tgt := 8) dX4_castle_38 (by decide) ?_
          refine ih (k + 1) (va_up g k _) (by omega) (by omega) (fun j hj => ?_)
          by_cases e : j = k
          · subst e; rw [vup_s]; unfold r0; rw [if_pos (Or.inl c21)]
          · rw [vup_n _ _ e]; exact hg j (by omega)
        · refine aw_iload1 h dX4_castle_24 ?_
          refine aw_iconst h _ ci_5 dX4_castle_25 ?_
          refine aw_icmp_neN h (tgt := 33) (by omega) (by decide) dX4_castle_26 (by decide) (fun c26 => ?_) (fun c26 => ?_)
          · refine aw_iconst h _ ci_0 dX4_castle_33 ?_
            refine aw_iastN h (gms167 hG) (by decide) (by omega) dX4_castle_34 ?_
            rw [upd2_vup]
            refine aw_iincN1 h rfl dX4_castle_35 ?_
            refine aw_goto h (tgt := 8) dX4_castle_38 (by decide) ?_
            refine ih (k + 1) (va_up g k _) (by omega) (by omega) (fun j hj => ?_)
            by_cases e : j = k
            · subst e; rw [vup_s]; unfold r0; rw [if_neg (by omega)]
            · rw [vup_n _ _ e]; exact hg j (by omega)
          · refine aw_iconst h _ ci_m1 dX4_castle_29 ?_
            refine aw_goto h (tgt := 34) dX4_castle_30 (by decide) ?_
            refine aw_iastN h (gms167 hG) (by decide) (by omega) dX4_castle_34 ?_
            rw [upd2_vup]
            refine aw_iincN1 h rfl dX4_castle_35 ?_
            refine aw_goto h (tgt := 8) dX4_castle_38 (by decide) ?_
            refine ih (k + 1) (va_up g k _) (by omega) (by omega) (fun j hj => ?_)
            by_cases e : j = k
            · subst e; rw [vup_s]; unfold r0; rw [if_pos (Or.inr c26)]
            · rw [vup_n _ _ e]; exact hg j (by omega)
  have hA : va_up (upd2 I 161 11 (nI 6)) 167 ((upd2 I 161 11 (nI 6)) 167) = (upd2 I 161 11 (nI 6)) := vup_id _ 167
  refine aw_aload0 h dX4_castle_0 ?_
  refine aw_bipush h _ cb_6 dX4_castle_1 ?_
  refine aw_puti h fl_X4_156 ft_X4_156 (fun z => by cases z) (gmt hG) dX4_castle_3 rfl ?_
  refine aw_iconst h _ ci_0 dX4_castle_6 ?_
  refine aw_istore1 h rfl dX4_castle_7 ?_
  have h9 := key1 11 0 ((upd2 I 161 11 (nI 6)) 167) (Nat.zero_le _) (by decide) (fun j hj => absurd hj (Nat.not_lt_zero _))
  rw [hA] at h9
  exact h9
