/-! The JDK: a list grows -/
set_option maxRecDepth 100000
theorem nI_max {a b : Nat} (ha : a < 2 ^ 31) (hb : b < 2 ^ 31) : (if nI a < nI b then nI b else nI a) = nI (max a b) := by
  by_cases h : a < b
  · rw [if_pos ((nI_ltI ha hb).mpr h), Nat.max_eq_right (by omega)]
  · rw [if_neg (fun q => h ((nI_ltI ha hb).mp q)), Nat.max_eq_left (by omega)]
theorem nI_min {a b : Nat} (ha : a < 2 ^ 31) (hb : b < 2 ^ 31) : (if nI b < nI a then nI b else nI a) = nI (min a b) := by
  by_cases h : b < a
  · rw [if_pos ((nI_ltI hb ha).mpr h), Nat.min_eq_right (by omega)]
  · rw [if_neg (fun q => h ((nI_ltI hb ha).mp q)), Nat.min_eq_left (by omega)]
/-- an element's class: it may lie in an Object[] -/
def EL (ci : Nat) : Prop := ∃ (C : String) (T : u_T) (N : Nat), vwCl[ci]? = some (C, T, N) ∧ ci < 100 ∧ Cond.castable C "java/lang/Object" ∈ lw_tbl
def CopPt (n len k : Nat) (G : Gm) (I : Im) (L : Lm) : Gm → Im → Lm → Prop := fun G1 I1 L1 => G1.1 = G.1 + 1 ∧ (∀ m, m < G.1 → G1.2.1 m = G.2.1 m ∧ G1.2.2 m = G.2.2 m) ∧ G1.2.1 G.1 = (106, k) ∧ (∀ i, i < len → G1.2.2 G.1 i = G.2.2 n i) ∧ I1 = Inew G I ∧ L1 = Lnew G L
/-- the array is another, longer one -/
def GroPt (l a cap k : Nat) (G : Gm) (I : Im) (L : Lm) : Gm → Im → Lm → Prop := fun G1 I1 L1 => G1.1 = G.1 + 1 ∧ (∀ m, m < G.1 → G1.2.1 m = G.2.1 m ∧ (m ≠ l → G1.2.2 m = G.2.2 m)) ∧ G1.2.1 G.1 = (106, k) ∧ (∀ i, i < cap → G1.2.2 G.1 i = G.2.2 a i) ∧ G1.2.2 l 1 = some G.1 ∧ I1 = Inew G I ∧ L1 = Lnew G L
def AddPt (l a : Nat) (els : List Nat) (e : Nat) (G : Gm) (I : Im) (L : Lm) : Gm → Im → Lm → Prop := fun G1 I1 L1 => ∃ a' cap', LA G1 I1 l a' cap' (els ++ [e]) ∧ (a' = a ∧ G1.1 = G.1 ∨ a' = G.1 ∧ G1.1 = G.1 + 1) ∧ ∀ m, m < G.1 → G1.2.1 m = G.2.1 m ∧ (m ≠ l → m ≠ a → G1.2.2 m = G.2.2 m) ∧ (m ≠ l → I1 m = I m) ∧ L1 m = L m
theorem LA.ne {G : Gm} {I : Im} {l a cap : Nat} {els : List Nat} (h : LA G I l a cap els) : a ≠ l := by
  intro e
  have h1 := h.1.2
  have h2 := h.2.2.1.2
  rw [e, h1] at h2
  cases h2
theorem met_j_newLen {w : Wd} {G : Gm} {I : Im} {L : Lm} {a b c : Nat} (hb : a + max b c ≤ 1000) (h0 : 0 < a) : AMet w yJ11_newLength cJ11_newLength 4 (some .int) 1 40 0 0 [.int (nI a), .int (nI b), .int (nI c)] G I L (Exact (some (.int (nI (a + max b c)))) G I L) := by
  refine AMet.of (ls0 := [some (.int (nI a)), some (.int (nI b)), some (.int (nI c)), none]) rfl (Nat.le_of_ble_eq_true rfl) rfl (fun q hq => hq) (fun X h hl hr hi => ?_)
  refine aw_iload0 h dJ11_newLength_0 ?_
  refine aw_iload1 h dJ11_newLength_1 ?_
  refine aw_iload2 h dJ11_newLength_2 ?_
  refine aw_mmax h (by decide) (by decide) q688 q689 q169 q690 (Nat.le_of_ble_eq_true rfl) (Nat.zero_le _) (Nat.zero_le _) dJ11_newLength_3 ?_
  rw [nI_max (a := b) (b := c) (by have := Nat.le_max_left b c; omega) (by have := Nat.le_max_right b c; omega)]
  refine aw_iaddN h dJ11_newLength_6 ?_
  refine aw_istore3 h rfl dJ11_newLength_7 ?_
  refine aw_iconst h _ ci_0 dJ11_newLength_8 ?_
  refine aw_iload3 h dJ11_newLength_9 ?_
  refine aw_icmp_geN h (tgt := 21) (by omega) (by omega) dJ11_newLength_10 (by decide) (fun c10 => ?_) (fun c10 => ?_)
  · exact absurd c10 (by omega)
  · refine aw_iload3 h dJ11_newLength_13 ?_
    refine aw_ldc h (v := nI 2147483639) q691 dJ11_newLength_14 ?_
    refine aw_icmp_gtN h (tgt := 21) (by omega) (by omega) dJ11_newLength_16 (by decide) (fun c16 => ?_) (fun c16 => ?_)
    · exact absurd c16 (by omega)
    · refine aw_iload3 h dJ11_newLength_19 ?_
      exact aw_iret h hr dJ11_newLength_20 (⟨rfl, rfl, rfl, rfl⟩) (Nat.zero_le _) (Nat.zero_le _)
theorem met_j_copyOf2 {w : Wd} {G : Gm} {I : Im} {L : Lm} {n len k ci : Nat} (hs : SHP G n 106 len) (hlk : len ≤ k) (hk : k ≤ 29) (hE : EL ci) (hel : ∀ i, i < len → ∀ y, G.2.2 n i = some y → ∃ lv, SHP G y ci lv) : AMet w yJ13_copyOf_2 cJ13_copyOf_2 4 (some (.array (.object "java/lang/Object"))) 1 80 1 29 [.ref (w.1 + n), .int (nI k), .ref w.2.2.2.2.2.2] G I L (Ans (some (.ref (w.1 + G.1))) (CopPt n len k G I L)) := by
  refine AMet.of (ls0 := [some (.ref (w.1 + n)), some (.int (nI k)), some (.ref w.2.2.2.2.2.2), none]) rfl (Nat.le_of_ble_eq_true rfl) rfl (fun q hq => hq) (fun X h hl hr hi => ?_)
  obtain ⟨C, T, N, hc, hci, hcast⟩ := hE
  refine aw_aload2 h dJ13_copyOf_2_0 ?_
  refine aw_ldcM h q723 dJ13_copyOf_2_1 ?_
  refine aw_acmp_ne h (tgt := 13) dJ13_copyOf_2_3 (by decide) (fun c3 => ?_) (fun c3 => ?_)
  · exact absurd rfl c3
  · refine aw_iload1 h dJ13_copyOf_2_6 ?_
    refine aw_newq h (k := 106) (by simp) q724 q212 (by omega) (by first | exact Nat.zero_le _ | exact Nat.le_refl _ | omega | exact Nat.le_of_ble_eq_true rfl) (by first | exact Nat.zero_le _ | exact Nat.le_refl _ | omega | exact Nat.le_of_ble_eq_true rfl) dJ13_copyOf_2_7 ?_
    refine aw_goto h (tgt := 24) dJ13_copyOf_2_10 (by decide) ?_
    refine aw_astore3 h rfl dJ13_copyOf_2_24 ?_
    refine aw_aload0 h dJ13_copyOf_2_25 ?_
    refine aw_iconst h _ ci_0 dJ13_copyOf_2_26 ?_
    refine aw_aload3 h dJ13_copyOf_2_27 ?_
    refine aw_iconst h _ ci_0 dJ13_copyOf_2_28 ?_
    refine aw_aload0 h dJ13_copyOf_2_29 ?_
    refine aw_alen h hs.old (by decide) dJ13_copyOf_2_30 ?_
    refine aw_iload1 h dJ13_copyOf_2_31 ?_
    refine aw_mmin h (by decide) (by decide) q725 q726 q169 q727 (Nat.le_of_ble_eq_true rfl) (by first | exact Nat.zero_le _ | exact Nat.le_refl _ | omega | exact Nat.le_of_ble_eq_true rfl) (by first | exact Nat.zero_le _ | exact Nat.le_refl _ | omega | exact Nat.le_of_ble_eq_true rfl) dJ13_copyOf_2_32 ?_
    rw [nI_min (a := len) (b := k) (by omega) (by omega), Nat.min_eq_left hlk]
    refine aw_copyq h (hs.old) (SHP.new _ _ _) hci hc hcast (Nat.le_refl _) hlk (by omega) (fun i hi y hy => by rw [Gnew_P hs.1] at hy; obtain ⟨lv, h9⟩ := hel i hi y hy; exact ⟨lv, h9.old⟩) q728 dJ13_copyOf_2_35 (Nat.le_of_ble_eq_true rfl) rfl ?_
    refine aw_aload3 h dJ13_copyOf_2_38 ?_
    exact aw_aret h rfl (by simp) hr dJ13_copyOf_2_39 (⟨rfl, rfl, fun m hm => ⟨vup_n _ _ (by omega), (vup_n _ _ (by omega)).trans (vup_n _ _ (by omega))⟩, vup_s _ _ _, fun i hi => by
  show va_up _ G.1 (va_cpy ((Gnew G 106 k).2.2 n) ((Gnew G 106 k).2.2 G.1) 0 0 len) G.1 i = _
  rw [vup_s]
  unfold va_cpy
  rw [if_pos (by omega), Nat.zero_add, Nat.sub_zero, Gnew_P hs.1], rfl, rfl⟩) (by first | exact Nat.zero_le _ | exact Nat.le_refl _ | omega | exact Nat.le_of_ble_eq_true rfl) (by first | exact Nat.zero_le _ | exact Nat.le_refl _ | omega | exact Nat.le_of_ble_eq_true rfl)
theorem met_j_copyOf {w : Wd} {G : Gm} {I : Im} {L : Lm} {n len k ci : Nat} (hs : SHP G n 106 len) (hlk : len ≤ k) (hk : k ≤ 29) (hE : EL ci) (hel : ∀ i, i < len → ∀ y, G.2.2 n i = some y → ∃ lv, SHP G y ci lv) : AMet w yJ13_copyOf cJ13_copyOf 2 (some (.array (.object "java/lang/Object"))) 2 103 1 29 [.ref (w.1 + n), .int (nI k)] G I L (Ans (some (.ref (w.1 + G.1))) (CopPt n len k G I L)) := by
  refine AMet.of (ls0 := [some (.ref (w.1 + n)), some (.int (nI k))]) rfl (Nat.le_of_ble_eq_true rfl) rfl (fun q hq => hq) (fun X h hl hr hi => ?_)
  refine aw_aload0 h dJ13_copyOf_0 ?_
  refine aw_iload1 h dJ13_copyOf_1 ?_
  refine aw_aload0 h dJ13_copyOf_2 ?_
  refine aw_getC h hs q698 dJ13_copyOf_3 (Nat.le_of_ble_eq_true rfl) rfl ?_
  refine aw_callSMA3 h hl cl_J13_300 (met_j_copyOf2 hs hlk hk hE hel) dJ13_copyOf_6 (Nat.le_of_ble_eq_true rfl) rfl (by first | exact Nat.zero_le _ | exact Nat.le_refl _ | omega | exact Nat.le_of_ble_eq_true rfl) (by first | exact Nat.zero_le _ | exact Nat.le_refl _ | omega | exact Nat.le_of_ble_eq_true rfl) (fun G1 I1 L1 hp => ?_)
  exact aw_aret h rfl (by simp) hr dJ13_copyOf_9 (⟨rfl, hp⟩) (by first | exact Nat.zero_le _ | exact Nat.le_refl _ | omega | exact Nat.le_of_ble_eq_true rfl) (by first | exact Nat.zero_le _ | exact Nat.le_refl _ | omega | exact Nat.le_of_ble_eq_true rfl)
theorem met_j_grow2 {w : Wd} {G : Gm} {I : Im} {L : Lm} {l a cap ci : Nat} {els : List Nat} (hA : LA G I l a cap els) (hf : els.length = cap) (hf2 : cap ≤ 13) (hE : EL ci) (hel : ∀ i, i < cap → ∀ y, G.2.2 a i = some y → ∃ lv, SHP G y ci lv) : AMet w yJ2_grow_2 cJ2_grow_2 4 (some (.array (.object "java/lang/Object"))) 3 124 1 29 [.ref (w.1 + l), .int (nI (cap + 1))] G I L (Ans (some (.ref (w.1 + G.1))) (GroPt l a cap (cap + max 1 (cap / 2)) G I L)) := by
  refine AMet.of (ls0 := [some (.ref (w.1 + l)), some (.int (nI (cap + 1))), none, none]) rfl (Nat.le_of_ble_eq_true rfl) rfl (fun q hq => hq) (fun X h hl hr hi => ?_)
  have hc2 := hA.2.2.2.2.2.1
  have hm1 := Nat.le_max_left 1 (cap / 2)
  have hm2 := Nat.le_max_right 1 (cap / 2)
  have hm3 : max 1 (cap / 2) ≤ 6 := Nat.max_le.mpr ⟨by decide, by omega⟩
  refine aw_aload0 h dJ2_grow_2_0 ?_
  refine aw_getr h fl_J2_9 hA.1 dJ2_grow_2_1 rfl hA.2.1 ?_
  refine aw_alen h hA.2.2.1 (by decide) dJ2_grow_2_4 ?_
  refine aw_istore2 h rfl dJ2_grow_2_5 ?_
  refine aw_iload2 h dJ2_grow_2_6 ?_
  refine aw_if_gtN h (tgt := 20) (by omega) dJ2_grow_2_7 (by decide) (fun c7 => ?_) (fun c7 => ?_)
  · refine aw_iload2 h dJ2_grow_2_20 ?_
    refine aw_iload1 h dJ2_grow_2_21 ?_
    refine aw_iload2 h dJ2_grow_2_22 ?_
    refine aw_isubN h (by omega) dJ2_grow_2_23 ?_
    rw [show cap + 1 - cap = 1 by omega]
    refine aw_iload2 h dJ2_grow_2_24 ?_
    refine aw_iconst h _ ci_1 dJ2_grow_2_25 ?_
    refine aw_ishr h dJ2_grow_2_26 ?_
    rw [show nI cap >>> (nI 1 &&& 31) = nI (cap / 2) from (pk_shrN (n := cap) (by omega) (nI 1 &&& 31) 1 (by decide)).trans (by rw [Nat.pow_one])]
    refine aw_callSE3 h hl cl_J2_73 (met_j_newLen (b := 1) (c := cap / 2) (by omega) (by omega)) dJ2_grow_2_27 (Nat.le_of_ble_eq_true rfl) rfl (by first | exact Nat.zero_le _ | exact Nat.le_refl _ | omega | exact Nat.le_of_ble_eq_true rfl) (by first | exact Nat.zero_le _ | exact Nat.le_refl _ | omega | exact Nat.le_of_ble_eq_true rfl) ?_
    refine aw_istore3 h rfl dJ2_grow_2_30 ?_
    refine aw_aload0 h dJ2_grow_2_31 ?_
    refine aw_aload0 h dJ2_grow_2_32 ?_
    refine aw_getr h fl_J2_9 hA.1 dJ2_grow_2_33 rfl hA.2.1 ?_
    refine aw_iload3 h dJ2_grow_2_36 ?_
    refine aw_callSMA2 h hl cl_J2_66 (met_j_copyOf (k := (cap + max 1 (cap / 2))) hA.2.2.1 (by omega) (by omega) hE hel) dJ2_grow_2_37 (Nat.le_of_ble_eq_true rfl) rfl (by first | exact Nat.zero_le _ | exact Nat.le_refl _ | omega | exact Nat.le_of_ble_eq_true rfl) (by first | exact Nat.zero_le _ | exact Nat.le_refl _ | omega | exact Nat.le_of_ble_eq_true rfl) (fun G1 I1 L1 hp => ?_)
    obtain ⟨p1, p2, p3, p4, p5, p6⟩ := hp
    subst p5
    subst p6
    have hlG := hA.1.1
    refine aw_dup_x1 h rfl rfl dJ2_grow_2_40 ?_
    refine aw_putr h fl_J2_9 ft_J2_9 (fun z => by cases z) (⟨by omega, (p2 l hlG).1.trans hA.1.2⟩ : SHP _ l 19 3) dJ2_grow_2_41 rfl rfl ?_
    exact aw_aret h rfl (by simp) hr dJ2_grow_2_44 (⟨rfl, p1, fun m hm => ⟨(p2 m hm).1, fun hml => (upd2_n _ _ _ hml).trans (p2 m hm).2⟩, p3, fun i hi => by
  show upd2 G1.2.2 l 1 (some G.1) G.1 i = _
  rw [upd2_n _ _ _ (by omega)]
  exact p4 i hi, by
  show upd2 G1.2.2 l 1 (some G.1) l 1 = _
  rw [upd2_s, vup_s], rfl, rfl⟩) (by first | exact Nat.zero_le _ | exact Nat.le_refl _ | omega | exact Nat.le_of_ble_eq_true rfl) (by first | exact Nat.zero_le _ | exact Nat.le_refl _ | omega | exact Nat.le_of_ble_eq_true rfl)
  · exact absurd c7 (by omega)
theorem met_j_grow {w : Wd} {G : Gm} {I : Im} {L : Lm} {l a cap ci : Nat} {els : List Nat} (hA : LA G I l a cap els) (hf : els.length = cap) (hf2 : cap ≤ 13) (hE : EL ci) (hel : ∀ i, i < cap → ∀ y, G.2.2 a i = some y → ∃ lv, SHP G y ci lv) : AMet w yJ2_grow cJ2_grow 1 (some (.array (.object "java/lang/Object"))) 4 147 1 29 [.ref (w.1 + l)] G I L (Ans (some (.ref (w.1 + G.1))) (GroPt l a cap (cap + max 1 (cap / 2)) G I L)) := by
  refine AMet.of (ls0 := [some (.ref (w.1 + l))]) rfl (Nat.le_of_ble_eq_true rfl) rfl (fun q hq => hq) (fun X h hl hr hi => ?_)
  refine aw_aload0 h dJ2_grow_0 ?_
  refine aw_aload0 h dJ2_grow_1 ?_
  refine aw_getiV h fl_J2_48 hA.1 dJ2_grow_2 rfl ((hA.2.2.2.1.trans (by rw [hf]))) ?_
  refine aw_iconst h _ ci_1 dJ2_grow_5 ?_
  refine aw_iaddN h dJ2_grow_6 ?_
  refine aw_callVMA1 h hl cl_J2_69 (met_j_grow2 hA hf hf2 hE hel) hA.1 rfl dJ2_grow_7 (Nat.le_of_ble_eq_true rfl) rfl (by first | exact Nat.zero_le _ | exact Nat.le_refl _ | omega | exact Nat.le_of_ble_eq_true rfl) (by first | exact Nat.zero_le _ | exact Nat.le_refl _ | omega | exact Nat.le_of_ble_eq_true rfl) (fun G1 I1 L1 hp => ?_)
  exact aw_aret h rfl (by simp) hr dJ2_grow_10 (⟨rfl, hp⟩) (by first | exact Nat.zero_le _ | exact Nat.le_refl _ | omega | exact Nat.le_of_ble_eq_true rfl) (by first | exact Nat.zero_le _ | exact Nat.le_refl _ | omega | exact Nat.le_of_ble_eq_true rfl)
theorem met_j_add2 {w : Wd} {G : Gm} {I : Im} {L : Lm} {l a cap ci e lv : Nat} {els : List Nat} (hA : LA G I l a cap els) (hf2 : els.length ≤ 13) (hE : EL ci) (hel : ∀ i, i < cap → ∀ y, G.2.2 a i = some y → ∃ lv, SHP G y ci lv) (he : SHP G e ci lv) : AMet w yJ2_add_2 cJ2_add_2 4 none 5 167 1 29 [.ref (w.1 + l), .ref (w.1 + e), .ref (w.1 + a), .int (nI els.length)] G I L (Ans none (AddPt l a els e G I L)) := by
  refine AMet.of (ls0 := [some (.ref (w.1 + l)), some (.ref (w.1 + e)), some (.ref (w.1 + a)), some (.int (nI els.length))]) rfl (Nat.le_of_ble_eq_true rfl) rfl (fun q hq => hq) (fun X h hl hr hi => ?_)
  obtain ⟨C, T, N, hc, hci, hcast⟩ := hE
  have hne := hA.ne
  have hlG := hA.1.1
  have haG := hA.2.2.1.1
  have hc2 := hA.2.2.2.2.2.1
  have hc9 := hA.2.2.2.2.2.2.1
  have hle := hA.2.2.2.2.1
  have hlen : (els ++ [e]).length = els.length + 1 := List.length_append
  have hgd : ∀ i, i < els.length + 1 → (els ++ [e]).getD i 0 = if i = els.length then e else els.getD i 0 := fun i hi => by
    rw [List.getD_eq_getElem?_getD]
    by_cases q : i = els.length
    · subst q; rw [if_pos rfl, List.getElem?_append_right (Nat.le_refl _), Nat.sub_self]; rfl
    · rw [if_neg q, List.getElem?_append_left (by omega), ← List.getD_eq_getElem?_getD]
  rcases Nat.lt_or_ge els.length cap with hlt | hge
  · refine aw_iload3 h dJ2_add_2_0 ?_
    refine aw_aload2 h dJ2_add_2_1 ?_
    refine aw_alen h hA.2.2.1 (by decide) dJ2_add_2_2 ?_
    refine aw_icmp_neN h (tgt := 11) (by omega) (by omega) dJ2_add_2_3 (by decide) (fun c3 => ?_) (fun c3 => ?_)
    · refine aw_aload2 h dJ2_add_2_11 ?_
      refine aw_iload3 h dJ2_add_2_12 ?_
      refine aw_aload1 h dJ2_add_2_13 ?_
      refine aw_aast h hA.2.2.1 (by simp) (by omega) (by omega) he hci hc (Or.inr hcast) dJ2_add_2_14 ?_
      refine aw_aload0 h dJ2_add_2_15 ?_
      refine aw_iload3 h dJ2_add_2_16 ?_
      refine aw_iconst h _ ci_1 dJ2_add_2_17 ?_
      refine aw_iaddN h dJ2_add_2_18 ?_
      refine aw_puti h fl_J2_48 ft_J2_48 (fun z => by cases z) hA.1 dJ2_add_2_19 rfl ?_
      exact aw_vret h hr dJ2_add_2_22 (⟨rfl, a, cap, ⟨hA.1, (congrFun (upd2_n G.2.2 els.length (some e) (Ne.symm hne)) 1).trans hA.2.1, hA.2.2.1, by rw [upd2_s, vup_s, hlen], by omega, hc2, hc9, (fun i hi => by rw [hlen] at hi; rw [hgd i hi]; show upd2 G.2.2 a els.length (some e) a i = _; rw [upd2_s]; by_cases q : i = els.length; (· subst q; rw [vup_s, if_pos rfl]); (· rw [vup_n _ _ q, if_neg q]; exact hA.2.2.2.2.2.2.2 i (by omega)))⟩, Or.inl ⟨rfl, rfl⟩, fun m hm => ⟨rfl, fun _ h2 => upd2_n _ _ _ h2, fun h1 => upd2_n _ _ _ h1, rfl⟩⟩) (by first | exact Nat.zero_le _ | exact Nat.le_refl _ | omega | exact Nat.le_of_ble_eq_true rfl) (by first | exact Nat.zero_le _ | exact Nat.le_refl _ | omega | exact Nat.le_of_ble_eq_true rfl)
    · exact absurd c3 (by omega)
  · have hfull : els.length = cap := by omega
    have hm1 := Nat.le_max_left 1 (cap / 2)
    have hm2 := Nat.le_max_right 1 (cap / 2)
    have hm3 : max 1 (cap / 2) ≤ 6 := Nat.max_le.mpr ⟨by decide, by omega⟩
    refine aw_iload3 h dJ2_add_2_0 ?_
    refine aw_aload2 h dJ2_add_2_1 ?_
    refine aw_alen h hA.2.2.1 (by decide) dJ2_add_2_2 ?_
    refine aw_icmp_neN h (tgt := 11) (by omega) (by omega) dJ2_add_2_3 (by decide) (fun c3 => ?_) (fun c3 => ?_)
    · exact absurd c3 (by omega)
    · refine aw_aload0 h dJ2_add_2_6 ?_
      refine aw_callVMA0 h hl cl_J2_129 (met_j_grow (ci := ci) hA hfull (by omega) ⟨C, T, N, hc, hci, hcast⟩ hel) hA.1 rfl dJ2_add_2_7 (Nat.le_of_ble_eq_true rfl) rfl (by first | exact Nat.zero_le _ | exact Nat.le_refl _ | omega | exact Nat.le_of_ble_eq_true rfl) (by first | exact Nat.zero_le _ | exact Nat.le_refl _ | omega | exact Nat.le_of_ble_eq_true rfl) (fun G1 I1 L1 hp => ?_)
      obtain ⟨p1, p2, p3, p4, p5, p6, p7⟩ := hp
      subst p6
      subst p7
      refine aw_astore2 h rfl dJ2_add_2_10 ?_
      refine aw_aload2 h dJ2_add_2_11 ?_
      refine aw_iload3 h dJ2_add_2_12 ?_
      refine aw_aload1 h dJ2_add_2_13 ?_
      refine aw_aast h (show SHP _ G.1 106 (cap + max 1 (cap / 2)) from ⟨by omega, p3⟩) (by simp) (by omega) (by omega) (show SHP _ e ci lv from ⟨by have := he.1; omega, (p2 e he.1).1.trans he.2⟩) hci hc (Or.inr hcast) dJ2_add_2_14 ?_
      refine aw_aload0 h dJ2_add_2_15 ?_
      refine aw_iload3 h dJ2_add_2_16 ?_
      refine aw_iconst h _ ci_1 dJ2_add_2_17 ?_
      refine aw_iaddN h dJ2_add_2_18 ?_
      refine aw_puti h fl_J2_48 ft_J2_48 (fun z => by cases z) (show SHP _ l 19 3 from ⟨by show l < G1.1; omega, (p2 l hlG).1.trans hA.1.2⟩) dJ2_add_2_19 rfl ?_
      exact aw_vret h hr dJ2_add_2_22 (⟨rfl, G.1, cap + max 1 (cap / 2), ⟨⟨by show l < G1.1; omega, (p2 l hlG).1.trans hA.1.2⟩, (congrFun (upd2_n G1.2.2 els.length (some e) (show l ≠ G.1 by omega)) 1).trans p5, ⟨by show G.1 < G1.1; omega, p3⟩, by rw [upd2_s, vup_s, hlen], by omega, by omega, by omega, (fun i hi => by rw [hlen] at hi; rw [hgd i hi]; show upd2 G1.2.2 G.1 els.length (some e) G.1 i = _; rw [upd2_s]; by_cases q : i = els.length; (· subst q; rw [vup_s, if_pos rfl]); (· rw [vup_n _ _ q, if_neg q, p4 i (by omega)]; exact hA.2.2.2.2.2.2.2 i (by omega)))⟩, Or.inr ⟨rfl, p1⟩, fun m hm => ⟨(p2 m hm).1, fun h1 _ => (upd2_n _ _ _ (by omega)).trans ((p2 m hm).2 h1), fun h1 => (upd2_n _ _ _ h1).trans (vup_n _ _ (by omega)), vup_n _ _ (by omega)⟩⟩) (by first | exact Nat.zero_le _ | exact Nat.le_refl _ | omega | exact Nat.le_of_ble_eq_true rfl) (by first | exact Nat.zero_le _ | exact Nat.le_refl _ | omega | exact Nat.le_of_ble_eq_true rfl)
theorem met_j_add {w : Wd} {G : Gm} {I : Im} {L : Lm} {l a cap ci e lv : Nat} {els : List Nat} (hA : LA G I l a cap els) (hf2 : els.length ≤ 13) (hE : EL ci) (hel : ∀ i, i < cap → ∀ y, G.2.2 a i = some y → ∃ lv, SHP G y ci lv) (he : SHP G e ci lv) : AMet w yJ2_add cJ2_add 2 (some .boolean) 6 190 1 29 [.ref (w.1 + l), .ref (w.1 + e)] G I L (Ans (some (.int (nI 1))) (AddPt l a els e G I L)) := by
  refine AMet.of (ls0 := [some (.ref (w.1 + l)), some (.ref (w.1 + e))]) rfl (Nat.le_of_ble_eq_true rfl) rfl (fun q hq => hq) (fun X h hl hr hi => ?_)
  have hne := hA.ne
  have hA2 : LA G (upd2 I l 0 (I l 0 + nI 1)) l a cap els := ⟨hA.1, hA.2.1, hA.2.2.1, (congrFun (upd2_s I l 0 (I l 0 + nI 1)) 2).trans ((vup_n _ _ (by decide)).trans hA.2.2.2.1), hA.2.2.2.2⟩
  refine aw_aload0 h dJ2_add_0 ?_
  refine aw_dup h rfl dJ2_add_1 ?_
  refine aw_geti h fl_J2_63 hA.1 dJ2_add_2 rfl ?_
  refine aw_iconst h _ ci_1 dJ2_add_5 ?_
  refine aw_iadd h dJ2_add_6 ?_
  refine aw_puti h fl_J2_63 ft_J2_63 (fun z => by cases z) hA.1 dJ2_add_7 rfl ?_
  refine aw_aload0 h dJ2_add_10 ?_
  refine aw_aload1 h dJ2_add_11 ?_
  refine aw_aload0 h dJ2_add_12 ?_
  refine aw_getr h fl_J2_9 hA.1 dJ2_add_13 rfl hA.2.1 ?_
  refine aw_aload0 h dJ2_add_16 ?_
  refine aw_getiV h fl_J2_48 hA.1 dJ2_add_17 rfl (hA2.2.2.2.1) ?_
  refine aw_callVMN3 h hl cl_J2_131 (met_j_add2 hA2 hf2 hE hel he) hA.1 rfl dJ2_add_20 (Nat.le_of_ble_eq_true rfl) rfl (by first | exact Nat.zero_le _ | exact Nat.le_refl _ | omega | exact Nat.le_of_ble_eq_true rfl) (by first | exact Nat.zero_le _ | exact Nat.le_refl _ | omega | exact Nat.le_of_ble_eq_true rfl) (fun G1 I1 L1 hp => ?_)
  obtain ⟨a2, cap2, q1, q2, q3⟩ := hp
  refine aw_iconst h _ ci_1 dJ2_add_23 ?_
  exact aw_zret h hr dJ2_add_24 (by first | exact z01_0 | exact z01_1 | exact z01_b _) (⟨rfl, a2, cap2, q1, q2, fun m hm => ⟨(q3 m hm).1, (q3 m hm).2.1, fun h1 => ((q3 m hm).2.2.1 h1).trans (upd2_n _ _ _ h1), (q3 m hm).2.2.2⟩⟩) (by first | exact Nat.zero_le _ | exact Nat.le_refl _ | omega | exact Nat.le_of_ble_eq_true rfl) (by first | exact Nat.zero_le _ | exact Nat.le_refl _ | omega | exact Nat.le_of_ble_eq_true rfl)
