/-! The reference: acts, kept; undo; ahead, comes -/
set_option maxRecDepth 100000
theorem getD_app_lt {α : Type} {l r : List α} {j : Nat} {d : α} (h : j < l.length) : (l ++ r).getD j d = l.getD j d := by
  simp [List.getD, List.getElem?_append_left h]
theorem getD_app_eq {α : Type} {l : List α} {x d : α} : (l ++ [x]).getD l.length d = x := by
  simp [List.getD]
theorem keepH_len {hist : List (Nat → Int32)} {S : Nat → Int32} (h : hist.length ≤ 20) : (keepH hist S).length ≤ 20 := by
  unfold keepH
  split
  · simp; omega
  · simp; omega
theorem met_m_keepsAct {w : Wd} {G : Gm} {I : Im} {L : Lm} (hG : GM G) {S : Nat → Int32} (hE : I 171 = S) {hist : List (Nat → Int32)} (hH : HistAt I hist) : AMet w yX4_keepsAct cX4_keepsAct 2 none 1 40 0 0 [.ref (w.1 + 161)] G I L (Ans none (fun G1 I1 L1 => G = G1 ∧ L = L1 ∧ HistAt I1 (keepH hist S) ∧ MC [175] [27] I L I1 L1)) := by
  refine AMet.of (ls0 := [some (.ref (w.1 + 161)), none]) rfl (Nat.le_of_ble_eq_true rfl) rfl (fun q hq => hq) (fun X h hl hr hi => ?_)
  have hl20 := hH.2.1
  have key52 : ∀ (base : List (Nat → Int32)) (I2 : Im) (u : Nat), base.length = u → u ≤ 19 → I2 161 27 = nI u → (∀ j, j < u → ∀ i, i < 34 → I2 175 (34 * j + i) = base.getD j (fun _ => 0) i) → I2 171 = S → MC [175] [27] I L I2 L → base ++ [S] = keepH hist S → AW X 0 0 52 [some (.ref (w.1 + 161)), some (.int (nI 0))] [] G I2 L := by
    intro base I2 u hb hu19 hu hbase hE2 hM hk
    have fin : ∀ f : Nat → Int32, (∀ i, i < 34 → f (34 * u + i) = S i) → (∀ i, i < 34 * u → f i = I2 175 i) → HistAt (upd2 (va_up I2 175 f) 161 27 (nI (u + 1))) (keepH hist S) := by
      intro f h1 h2
      rw [← hk]
      refine ⟨by simp [hb]; rfl, by simp; omega, fun j hj i hi => ?_⟩
      show f (34 * j + i) = _
      by_cases e : j < u
      · rw [h2 _ (by omega), hbase j e i hi, getD_app_lt (by omega)]
      · have : j = u := by simp at hj; omega
        subst this
        rw [h1 i hi, ← hb, getD_app_eq]
    have key : ∀ (n k : Nat) (f : Nat → Int32), k ≤ 34 → 34 < k + n → (∀ i, i < k → f (34 * u + i) = S i) → (∀ i, i < 34 * u → f i = I2 175 i) → AW X 0 0 52 [some (.ref (w.1 + 161)), some (.int (nI k))] [] G (va_up I2 175 f) L := by
      intro n
      induction n with
      | zero => intro k f h1 h2; exact absurd h2 (by omega)
      | succ n ih =>
        intro k f h1 h2 hf1 hf2
        refine aw_iload1 h dX4_keepsAct_52 ?_
        refine aw_bipush h _ cb_34 dX4_keepsAct_53 ?_
        refine aw_icmp_geN h (tgt := 84) (by omega) (by omega) dX4_keepsAct_55 (by decide) (fun c55 => ?_) (fun c55 => ?_)
        · refine aw_aload0 h dX4_keepsAct_84 ?_
          refine aw_dup h rfl dX4_keepsAct_85 ?_
          refine aw_getiV h fl_X4_283 (gmt hG) dX4_keepsAct_86 rfl (hu) ?_
          refine aw_iconst h _ ci_1 dX4_keepsAct_89 ?_
          refine aw_iaddN h dX4_keepsAct_90 ?_
          refine aw_puti h fl_X4_283 ft_X4_283 (fun z => by cases z) (gmt hG) dX4_keepsAct_91 rfl ?_
          exact aw_vret h hr dX4_keepsAct_94 (⟨rfl, rfl, rfl, fin f (fun i hi => hf1 i (by omega)) hf2, hM.trans ((MC.up f (by decide) (Or.inr (by decide))).trans (MC.upF _ (Or.inr (by decide))))⟩) (Nat.zero_le _) (Nat.zero_le _)
        · refine aw_aload0 h dX4_keepsAct_58 ?_
          refine aw_getr h fl_X4_56 (gmt hG) dX4_keepsAct_59 rfl (gmp26 hG) ?_
          refine aw_bipush h _ cb_34 dX4_keepsAct_62 ?_
          refine aw_aload0 h dX4_keepsAct_64 ?_
          refine aw_getiV h fl_X4_283 (gmt hG) dX4_keepsAct_65 rfl (hu) ?_
          refine aw_imulN h dX4_keepsAct_68 ?_
          refine aw_iload1 h dX4_keepsAct_69 ?_
          refine aw_iaddN h dX4_keepsAct_70 ?_
          refine aw_aload0 h dX4_keepsAct_71 ?_
          refine aw_getr h fl_X4_39 (gmt hG) dX4_keepsAct_72 rfl (gmp20 hG) ?_
          refine aw_iload1 h dX4_keepsAct_75 ?_
          refine aw_ialdV h (gms171 hG) (by decide) (by omega) dX4_keepsAct_76 (congrFun hE2 _) ?_
          refine aw_iastN h (gms175 hG) (by decide) (by omega) dX4_keepsAct_77 ?_
          rw [upd2_vup]
          refine aw_iincN1 h rfl dX4_keepsAct_78 ?_
          refine aw_goto h (tgt := 52) dX4_keepsAct_81 (by decide) ?_
          refine ih (k + 1) _ (by omega) (by omega) (fun i hi => ?_) (fun i hi => ?_)
          · by_cases e : i = k
            · subst e; rw [vup_s]
            · rw [vup_n _ _ (by omega)]; exact hf1 i (by omega)
          · rw [vup_n _ _ (by omega)]; exact hf2 i hi
    have h9 := key 35 0 (I2 175) (by omega) (by omega) (fun i hi => absurd hi (by omega)) (fun i _ => rfl)
    rw [vup_id] at h9
    exact h9
  by_cases hlen : hist.length = 20
  · have h20 : I 161 27 = nI 20 := by rw [← hlen]; exact hH.1
    have keyS : ∀ (n k : Nat) (f : Nat → Int32), k ≤ 680 → 680 < k + n → 34 ≤ k → (∀ i, i + 34 < k → f i = I 175 (i + 34)) → (∀ i, k ≤ i + 34 → f i = I 175 i) → AW X 0 0 12 [some (.ref (w.1 + 161)), some (.int (nI k))] [] G (va_up I 175 f) L := by
      intro n
      induction n with
      | zero => intro k f h1 h2; exact absurd h2 (by omega)
      | succ n ih =>
        intro k f h1 h2 h34 hf1 hf2
        refine aw_iload1 h dX4_keepsAct_12 ?_
        refine aw_sipush h _ cs_680 dX4_keepsAct_13 ?_
        refine aw_icmp_geN h (tgt := 40) (by omega) (by omega) dX4_keepsAct_16 (by decide) (fun c16 => ?_) (fun c16 => ?_)
        · refine aw_aload0 h dX4_keepsAct_40 ?_
          refine aw_dup h rfl dX4_keepsAct_41 ?_
          refine aw_getiV h fl_X4_283 (gmt hG) dX4_keepsAct_42 rfl ((show va_up I 175 f 161 27 = nI 20 from h20)) ?_
          refine aw_iconst h _ ci_1 dX4_keepsAct_45 ?_
          refine aw_isubN h (by omega) dX4_keepsAct_46 ?_
          refine aw_puti h fl_X4_283 ft_X4_283 (fun z => by cases z) (gmt hG) dX4_keepsAct_47 rfl ?_
          refine aw_iconst h _ ci_0 dX4_keepsAct_50 ?_
          refine aw_istore1 h rfl dX4_keepsAct_51 ?_
          refine key52 hist.tail (upd2 (va_up I 175 f) 161 27 (nI 19)) 19 (by simp; omega) (by omega) rfl (fun j hj i hi => ?_) hE ((MC.up f (by decide) (Or.inr (by decide))).trans (MC.upF _ (Or.inr (by decide)))) (by unfold keepH; rw [if_pos hlen])
          show f (34 * j + i) = _
          rw [hf1 _ (by omega), show 34 * j + i + 34 = 34 * (j + 1) + i by omega, hH.2.2 (j + 1) (by omega) i hi]
          cases hist with
          | nil => simp at hlen
          | cons a r => simp
        · refine aw_aload0 h dX4_keepsAct_19 ?_
          refine aw_getr h fl_X4_56 (gmt hG) dX4_keepsAct_20 rfl (gmp26 hG) ?_
          refine aw_iload1 h dX4_keepsAct_23 ?_
          refine aw_bipush h _ cb_34 dX4_keepsAct_24 ?_
          refine aw_isubN h (by omega) dX4_keepsAct_26 ?_
          refine aw_aload0 h dX4_keepsAct_27 ?_
          refine aw_getr h fl_X4_56 (gmt hG) dX4_keepsAct_28 rfl (gmp26 hG) ?_
          refine aw_iload1 h dX4_keepsAct_31 ?_
          refine aw_ialdV h (gms175 hG) (by decide) (by omega) dX4_keepsAct_32 (hf2 k (by omega)) ?_
          refine aw_iastN h (gms175 hG) (by decide) (by omega) dX4_keepsAct_33 ?_
          rw [upd2_vup]
          refine aw_iincN1 h rfl dX4_keepsAct_34 ?_
          refine aw_goto h (tgt := 12) dX4_keepsAct_37 (by decide) ?_
          refine ih (k + 1) _ (by omega) (by omega) (by omega) (fun i hi => ?_) (fun i hi => ?_)
          · by_cases e : i = k - 34
            · subst e; rw [vup_s, show k - 34 + 34 = k by omega]
            · rw [vup_n _ _ e]; exact hf1 i (by omega)
          · rw [vup_n _ _ (by omega)]; exact hf2 i (by omega)
    refine aw_aload0 h dX4_keepsAct_0 ?_
    refine aw_getiV h fl_X4_283 (gmt hG) dX4_keepsAct_1 rfl (h20) ?_
    refine aw_bipush h _ cb_20 dX4_keepsAct_4 ?_
    refine aw_icmp_neN h (tgt := 50) (by omega) (by omega) dX4_keepsAct_6 (by decide) (fun c6 => ?_) (fun c6 => ?_)
    · exact absurd rfl c6
    · refine aw_bipush h _ cb_34 dX4_keepsAct_9 ?_
      refine aw_istore1 h rfl dX4_keepsAct_11 ?_
      have h9 := keyS 647 34 (I 175) (by omega) (by omega) (by omega) (fun i hi => absurd hi (by omega)) (fun i _ => rfl)
      rw [vup_id] at h9
      exact h9
  · have hu : I 161 27 = nI hist.length := hH.1
    refine aw_aload0 h dX4_keepsAct_0 ?_
    refine aw_getiV h fl_X4_283 (gmt hG) dX4_keepsAct_1 rfl (hu) ?_
    refine aw_bipush h _ cb_20 dX4_keepsAct_4 ?_
    refine aw_icmp_neN h (tgt := 50) (by omega) (by omega) dX4_keepsAct_6 (by decide) (fun c6 => ?_) (fun c6 => ?_)
    · refine aw_iconst h _ ci_0 dX4_keepsAct_50 ?_
      refine aw_istore1 h rfl dX4_keepsAct_51 ?_
      exact key52 hist I hist.length rfl (by omega) hu hH.2.2 hE MC.rf (by unfold keepH; rw [if_neg hlen])
    · exact absurd c6 hlen
theorem met_m_keeps {w : Wd} {G : Gm} {I : Im} {L : Lm} (hG : GM G) {S : Nat → Int32} (hE : I 171 = S) : AMet w yX4_keeps cX4_keeps 2 none 1 40 0 0 [.ref (w.1 + 161)] G I L (Ans none (fun G1 I1 L1 => G = G1 ∧ L = L1 ∧ ∃ f : Nat → Int32, va_up I 176 f = I1 ∧ ∀ i, i < 34 → f i = S i)) := by
  refine AMet.of (ls0 := [some (.ref (w.1 + 161)), none]) rfl (Nat.le_of_ble_eq_true rfl) rfl (fun q hq => hq) (fun X h hl hr hi => ?_)
  have key : ∀ (n k : Nat) (f : Nat → Int32), k ≤ 34 → 34 < k + n → (∀ i, i < k → f i = S i) → AW X 0 0 2 [some (.ref (w.1 + 161)), some (.int (nI k))] [] G (va_up I 176 f) L := by
    intro n
    induction n with
    | zero => intro k f h1 h2; exact absurd h2 (by omega)
    | succ n ih =>
      intro k f h1 h2 hf
      refine aw_iload1 h dX4_keeps_2 ?_
      refine aw_bipush h _ cb_34 dX4_keeps_3 ?_
      refine aw_icmp_geN h (tgt := 26) (by omega) (by omega) dX4_keeps_5 (by decide) (fun c5 => ?_) (fun c5 => ?_)
      · exact aw_vret h hr dX4_keeps_26 (⟨rfl, rfl, rfl, f, rfl, fun i hi => hf i (by omega)⟩) (Nat.zero_le _) (Nat.zero_le _)
      · refine aw_aload0 h dX4_keeps_8 ?_
        refine aw_getr h fl_X4_59 (gmt hG) dX4_keeps_9 rfl (gmp28 hG) ?_
        refine aw_iload1 h dX4_keeps_12 ?_
        refine aw_aload0 h dX4_keeps_13 ?_
        refine aw_getr h fl_X4_39 (gmt hG) dX4_keeps_14 rfl (gmp20 hG) ?_
        refine aw_iload1 h dX4_keeps_17 ?_
        refine aw_ialdV h (gms171 hG) (by decide) (by omega) dX4_keeps_18 (congrFun hE _) ?_
        refine aw_iastN h (gms176 hG) (by decide) (by omega) dX4_keeps_19 ?_
        rw [upd2_vup]
        refine aw_iincN1 h rfl dX4_keeps_20 ?_
        refine aw_goto h (tgt := 2) dX4_keeps_23 (by decide) ?_
        refine ih (k + 1) _ (by omega) (by omega) (fun i hi => ?_)
        by_cases e : i = k
        · subst e; rw [vup_s]
        · rw [vup_n _ _ e]; exact hf i (by omega)
  have hI : I = va_up I 176 (I 176) := (vup_id I 176).symm
  rw [hI]
  refine aw_iconst h _ ci_0 dX4_keeps_0 ?_
  refine aw_istore1 h rfl dX4_keeps_1 ?_
  exact key 35 0 _ (by omega) (by omega) (fun i hi => absurd hi (by omega))
theorem met_m_laysBack {w : Wd} {G : Gm} {I : Im} {L : Lm} (hG : GM G) {S : Nat → Int32} (hE : I 171 = S) {u : Nat → Int32} (hk : ∀ i, i < 34 → I 176 i = u i) : AMet w yX4_laysBack cX4_laysBack 2 none 1 40 0 0 [.ref (w.1 + 161)] G I L (Ans none (fun G1 I1 L1 => G = G1 ∧ L = L1 ∧ va_up I 171 (overV S u) = I1)) := by
  refine AMet.of (ls0 := [some (.ref (w.1 + 161)), none]) rfl (Nat.le_of_ble_eq_true rfl) rfl (fun q hq => hq) (fun X h hl hr hi => ?_)
  have key : ∀ (n k : Nat) (f : Nat → Int32), k ≤ 34 → 34 < k + n → (∀ i, i < k → f i = u i) → (∀ i, k ≤ i → f i = S i) → AW X 0 0 2 [some (.ref (w.1 + 161)), some (.int (nI k))] [] G (va_up I 171 f) L := by
    intro n
    induction n with
    | zero => intro k f h1 h2; exact absurd h2 (by omega)
    | succ n ih =>
      intro k f h1 h2 hf1 hf2
      refine aw_iload1 h dX4_laysBack_2 ?_
      refine aw_bipush h _ cb_34 dX4_laysBack_3 ?_
      refine aw_icmp_geN h (tgt := 26) (by omega) (by omega) dX4_laysBack_5 (by decide) (fun c5 => ?_) (fun c5 => ?_)
      · exact aw_vret h hr dX4_laysBack_26 (⟨rfl, rfl, rfl, by rw [show f = overV S u from funext (fun i => by unfold overV; split; exact hf1 i (by omega); exact hf2 i (by omega))]⟩) (Nat.zero_le _) (Nat.zero_le _)
      · refine aw_aload0 h dX4_laysBack_8 ?_
        refine aw_getr h fl_X4_39 (gmt hG) dX4_laysBack_9 rfl (gmp20 hG) ?_
        refine aw_iload1 h dX4_laysBack_12 ?_
        refine aw_aload0 h dX4_laysBack_13 ?_
        refine aw_getr h fl_X4_59 (gmt hG) dX4_laysBack_14 rfl (gmp28 hG) ?_
        refine aw_iload1 h dX4_laysBack_17 ?_
        refine aw_ialdV h (gms176 hG) (by decide) (by omega) dX4_laysBack_18 (hk _ (by omega)) ?_
        refine aw_iastN h (gms171 hG) (by decide) (by omega) dX4_laysBack_19 ?_
        rw [upd2_vup]
        refine aw_iincN1 h rfl dX4_laysBack_20 ?_
        refine aw_goto h (tgt := 2) dX4_laysBack_23 (by decide) ?_
        refine ih (k + 1) _ (by omega) (by omega) (fun i hi => ?_) (fun i hi => ?_)
        · by_cases e : i = k
          · subst e; rw [vup_s]
          · rw [vup_n _ _ e]; exact hf1 i (by omega)
        · rw [vup_n _ _ (by omega)]; exact hf2 i (by omega)
  have hI : I = va_up I 171 (I 171) := (vup_id I 171).symm
  rw [hI]
  refine aw_iconst h _ ci_0 dX4_laysBack_0 ?_
  refine aw_istore1 h rfl dX4_laysBack_1 ?_
  exact key 35 0 _ (by omega) (by omega) (fun i hi => absurd hi (by omega)) (fun i _ => congrFun hE i)
