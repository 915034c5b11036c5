/-! The component: its small objects made -/
set_option maxRecDepth 100000
theorem met_x_door {w : Wd} {G : Gm} {I : Im} {L : Lm} {n : Nat} (hs : SHP G n 6 3) {a b : Nat} {wn : Bool} : AMet w yX6_init cX6_init 4 none 2 60 0 0 [.ref (w.1 + n), .int (nI a), .int (nI b), .int (bI wn)] G I L (Exact none G (upd2 (upd2 (upd2 I n 0 (nI a)) n 1 (nI b)) n 2 (bI wn)) L) := by
  refine AMet.of (ls0 := [some (.ref (w.1 + n)), some (.int (nI a)), some (.int (nI b)), some (.int (bI wn))]) rfl (Nat.le_of_ble_eq_true rfl) rfl (fun q hq => hq) (fun X h hl hr hi => ?_)
  refine aw_aload0 h dX6_init_0 ?_
  refine aw_callID0 h hl ci_X6_1 (met_j_rec) dX6_init_1 (Nat.le_of_ble_eq_true rfl) rfl (Nat.zero_le _) (Nat.zero_le _) ?_
  refine aw_aload0 h dX6_init_4 ?_
  refine aw_iload1 h dX6_init_5 ?_
  refine aw_puti h fl_X6_7 ft_X6_7 (fun _ => hi rfl) hs dX6_init_6 rfl ?_
  refine aw_aload0 h dX6_init_9 ?_
  refine aw_iload2 h dX6_init_10 ?_
  refine aw_puti h fl_X6_13 ft_X6_13 (fun _ => hi rfl) hs dX6_init_11 rfl ?_
  refine aw_aload0 h dX6_init_14 ?_
  refine aw_iload3 h dX6_init_15 ?_
  refine aw_putz h fl_X6_16 ft_X6_16 (fun _ => hi rfl) hs dX6_init_16 rfl (by first | exact z01_0 | exact z01_1 | exact z01_b _) ?_
  exact aw_vret h hr dX6_init_19 (⟨rfl, rfl, rfl, rfl⟩) (Nat.zero_le _) (Nat.zero_le _)
theorem met_x_person {w : Wd} {G : Gm} {I : Im} {L : Lm} {n : Nat} (hs : SHP G n 7 3) {a b p : Nat} : AMet w yX7_init cX7_init 4 none 2 60 0 0 [.ref (w.1 + n), .int (nI a), .int (nI b), .int (nI p)] G I L (Exact none G (upd2 (upd2 (upd2 I n 0 (nI a)) n 1 (nI b)) n 2 (nI p)) L) := by
  refine AMet.of (ls0 := [some (.ref (w.1 + n)), some (.int (nI a)), some (.int (nI b)), some (.int (nI p))]) rfl (Nat.le_of_ble_eq_true rfl) rfl (fun q hq => hq) (fun X h hl hr hi => ?_)
  refine aw_aload0 h dX7_init_0 ?_
  refine aw_callID0 h hl ci_X7_1 (met_j_rec) dX7_init_1 (Nat.le_of_ble_eq_true rfl) rfl (Nat.zero_le _) (Nat.zero_le _) ?_
  refine aw_aload0 h dX7_init_4 ?_
  refine aw_iload1 h dX7_init_5 ?_
  refine aw_puti h fl_X7_7 ft_X7_7 (fun _ => hi rfl) hs dX7_init_6 rfl ?_
  refine aw_aload0 h dX7_init_9 ?_
  refine aw_iload2 h dX7_init_10 ?_
  refine aw_puti h fl_X7_13 ft_X7_13 (fun _ => hi rfl) hs dX7_init_11 rfl ?_
  refine aw_aload0 h dX7_init_14 ?_
  refine aw_iload3 h dX7_init_15 ?_
  refine aw_puti h fl_X7_16 ft_X7_16 (fun _ => hi rfl) hs dX7_init_16 rfl ?_
  exact aw_vret h hr dX7_init_19 (⟨rfl, rfl, rfl, rfl⟩) (Nat.zero_le _) (Nat.zero_le _)
theorem met_x_plain {w : Wd} {G : Gm} {I : Im} {L : Lm} {n : Nat} (hs : SHP G n 10 1) {v : Nat} : AMet w yX10_init cX10_init 2 none 2 60 0 0 [.ref (w.1 + n), .int (nI v)] G I L (Exact none G (upd2 I n 0 (nI v)) L) := by
  refine AMet.of (ls0 := [some (.ref (w.1 + n)), some (.int (nI v))]) rfl (Nat.le_of_ble_eq_true rfl) rfl (fun q hq => hq) (fun X h hl hr hi => ?_)
  refine aw_aload0 h dX10_init_0 ?_
  refine aw_callID0 h hl ci_X10_1 (met_j_value) dX10_init_1 (Nat.le_of_ble_eq_true rfl) rfl (Nat.zero_le _) (Nat.zero_le _) ?_
  refine aw_aload0 h dX10_init_4 ?_
  refine aw_iload1 h dX10_init_5 ?_
  refine aw_puti h fl_X10_7 ft_X10_7 (fun _ => hi rfl) hs dX10_init_6 rfl ?_
  exact aw_vret h hr dX10_init_9 (⟨rfl, rfl, rfl, rfl⟩) (Nat.zero_le _) (Nat.zero_le _)
theorem met_x_asked {w : Wd} {G : Gm} {I : Im} {L : Lm} {n : Nat} (hs : SHP G n 11 1) {v : Nat} : AMet w yX11_init cX11_init 2 none 2 60 0 0 [.ref (w.1 + n), .int (nI v)] G I L (Exact none G (upd2 I n 0 (nI v)) L) := by
  refine AMet.of (ls0 := [some (.ref (w.1 + n)), some (.int (nI v))]) rfl (Nat.le_of_ble_eq_true rfl) rfl (fun q hq => hq) (fun X h hl hr hi => ?_)
  refine aw_aload0 h dX11_init_0 ?_
  refine aw_callID0 h hl ci_X11_1 (met_j_value) dX11_init_1 (Nat.le_of_ble_eq_true rfl) rfl (Nat.zero_le _) (Nat.zero_le _) ?_
  refine aw_aload0 h dX11_init_4 ?_
  refine aw_iload1 h dX11_init_5 ?_
  refine aw_puti h fl_X11_7 ft_X11_7 (fun _ => hi rfl) hs dX11_init_6 rfl ?_
  exact aw_vret h hr dX11_init_9 (⟨rfl, rfl, rfl, rfl⟩) (Nat.zero_le _) (Nat.zero_le _)
theorem met_x_joined {w : Wd} {G : Gm} {I : Im} {L : Lm} {n : Nat} (hs : SHP G n 12 3) {a b v : Nat} : AMet w yX12_init cX12_init 4 none 2 60 0 0 [.ref (w.1 + n), .ref (w.1 + a), .ref (w.1 + b), .int (nI v)] G I L (Exact none (G.1, G.2.1, (upd2 (upd2 G.2.2 n 0 (some a)) n 1 (some b))) (upd2 I n 2 (nI v)) L) := by
  refine AMet.of (ls0 := [some (.ref (w.1 + n)), some (.ref (w.1 + a)), some (.ref (w.1 + b)), some (.int (nI v))]) rfl (Nat.le_of_ble_eq_true rfl) rfl (fun q hq => hq) (fun X h hl hr hi => ?_)
  refine aw_aload0 h dX12_init_0 ?_
  refine aw_callID0 h hl ci_X12_1 (met_j_value) dX12_init_1 (Nat.le_of_ble_eq_true rfl) rfl (Nat.zero_le _) (Nat.zero_le _) ?_
  refine aw_aload0 h dX12_init_4 ?_
  refine aw_aload1 h dX12_init_5 ?_
  refine aw_putr h fl_X12_7 ft_X12_7 (fun _ => hi rfl) hs dX12_init_6 rfl rfl ?_
  refine aw_aload0 h dX12_init_9 ?_
  refine aw_aload2 h dX12_init_10 ?_
  refine aw_putr h fl_X12_13 ft_X12_13 (fun _ => hi rfl) hs dX12_init_11 rfl rfl ?_
  refine aw_aload0 h dX12_init_14 ?_
  refine aw_iload3 h dX12_init_15 ?_
  refine aw_puti h fl_X12_16 ft_X12_16 (fun _ => hi rfl) hs dX12_init_16 rfl ?_
  exact aw_vret h hr dX12_init_19 (⟨rfl, rfl, rfl, rfl⟩) (Nat.zero_le _) (Nat.zero_le _)
theorem met_x_told {w : Wd} {G : Gm} {I : Im} {L : Lm} {n : Nat} (hs : SHP G n 13 2) {a b : Nat} : AMet w yX13_init cX13_init 3 none 2 60 0 0 [.ref (w.1 + n), .ref (w.1 + a), .ref (w.1 + b)] G I L (Exact none (G.1, G.2.1, (upd2 (upd2 G.2.2 n 0 (some a)) n 1 (some b))) I L) := by
  refine AMet.of (ls0 := [some (.ref (w.1 + n)), some (.ref (w.1 + a)), some (.ref (w.1 + b))]) rfl (Nat.le_of_ble_eq_true rfl) rfl (fun q hq => hq) (fun X h hl hr hi => ?_)
  refine aw_aload0 h dX13_init_0 ?_
  refine aw_callID0 h hl ci_X13_1 (met_j_rec) dX13_init_1 (Nat.le_of_ble_eq_true rfl) rfl (Nat.zero_le _) (Nat.zero_le _) ?_
  refine aw_aload0 h dX13_init_4 ?_
  refine aw_aload1 h dX13_init_5 ?_
  refine aw_putr h fl_X13_7 ft_X13_7 (fun _ => hi rfl) hs dX13_init_6 rfl rfl ?_
  refine aw_aload0 h dX13_init_9 ?_
  refine aw_aload2 h dX13_init_10 ?_
  refine aw_putr h fl_X13_13 ft_X13_13 (fun _ => hi rfl) hs dX13_init_11 rfl rfl ?_
  exact aw_vret h hr dX13_init_14 (⟨rfl, rfl, rfl, rfl⟩) (Nat.zero_le _) (Nat.zero_le _)
theorem met_x_told0 {w : Wd} {G : Gm} {I : Im} {L : Lm} {n : Nat} (hs : SHP G n 13 2) {a : Nat} : AMet w yX13_init cX13_init 3 none 2 60 0 0 [.ref (w.1 + n), .ref (w.1 + a), .null] G I L (Exact none (G.1, G.2.1, (upd2 (upd2 G.2.2 n 0 (some a)) n 1 none)) I L) := by
  refine AMet.of (ls0 := [some (.ref (w.1 + n)), some (.ref (w.1 + a)), some (.null)]) rfl (Nat.le_of_ble_eq_true rfl) rfl (fun q hq => hq) (fun X h hl hr hi => ?_)
  refine aw_aload0 h dX13_init_0 ?_
  refine aw_callID0 h hl ci_X13_1 (met_j_rec) dX13_init_1 (Nat.le_of_ble_eq_true rfl) rfl (Nat.zero_le _) (Nat.zero_le _) ?_
  refine aw_aload0 h dX13_init_4 ?_
  refine aw_aload1 h dX13_init_5 ?_
  refine aw_putr h fl_X13_7 ft_X13_7 (fun _ => hi rfl) hs dX13_init_6 rfl rfl ?_
  refine aw_aload0 h dX13_init_9 ?_
  refine aw_aloadN2 h dX13_init_10 ?_
  refine aw_putrN h fl_X13_13 ft_X13_13 (fun _ => hi rfl) hs dX13_init_11 rfl rfl ?_
  exact aw_vret h hr dX13_init_14 (⟨rfl, rfl, rfl, rfl⟩) (Nat.zero_le _) (Nat.zero_le _)
theorem met_x_not {w : Wd} {G : Gm} {I : Im} {L : Lm} {n : Nat} (hs : SHP G n 15 1) {a : Nat} : AMet w yX15_init cX15_init 2 none 2 60 0 0 [.ref (w.1 + n), .ref (w.1 + a)] G I L (Exact none (G.1, G.2.1, (upd2 G.2.2 n 0 (some a))) I L) := by
  refine AMet.of (ls0 := [some (.ref (w.1 + n)), some (.ref (w.1 + a))]) rfl (Nat.le_of_ble_eq_true rfl) rfl (fun q hq => hq) (fun X h hl hr hi => ?_)
  refine aw_aload0 h dX15_init_0 ?_
  refine aw_callID0 h hl ci_X15_1 (met_j_cond) dX15_init_1 (Nat.le_of_ble_eq_true rfl) rfl (Nat.zero_le _) (Nat.zero_le _) ?_
  refine aw_aload0 h dX15_init_4 ?_
  refine aw_aload1 h dX15_init_5 ?_
  refine aw_putr h fl_X15_7 ft_X15_7 (fun _ => hi rfl) hs dX15_init_6 rfl rfl ?_
  exact aw_vret h hr dX15_init_9 (⟨rfl, rfl, rfl, rfl⟩) (Nat.zero_le _) (Nat.zero_le _)
theorem met_x_compared {w : Wd} {G : Gm} {I : Im} {L : Lm} {n : Nat} (hs : SHP G n 16 4) {a b v : Nat} {wn : Bool} : AMet w yX16_init cX16_init 5 none 2 60 0 0 [.ref (w.1 + n), .ref (w.1 + a), .ref (w.1 + b), .int (nI v), .int (bI wn)] G I L (Exact none (G.1, G.2.1, (upd2 (upd2 G.2.2 n 0 (some a)) n 1 (some b))) (upd2 (upd2 I n 2 (nI v)) n 3 (bI wn)) L) := by
  refine AMet.of (ls0 := [some (.ref (w.1 + n)), some (.ref (w.1 + a)), some (.ref (w.1 + b)), some (.int (nI v)), some (.int (bI wn))]) rfl (Nat.le_of_ble_eq_true rfl) rfl (fun q hq => hq) (fun X h hl hr hi => ?_)
  refine aw_aload0 h dX16_init_0 ?_
  refine aw_callID0 h hl ci_X16_1 (met_j_cond) dX16_init_1 (Nat.le_of_ble_eq_true rfl) rfl (Nat.zero_le _) (Nat.zero_le _) ?_
  refine aw_aload0 h dX16_init_4 ?_
  refine aw_aload1 h dX16_init_5 ?_
  refine aw_putr h fl_X16_7 ft_X16_7 (fun _ => hi rfl) hs dX16_init_6 rfl rfl ?_
  refine aw_aload0 h dX16_init_9 ?_
  refine aw_aload2 h dX16_init_10 ?_
  refine aw_putr h fl_X16_13 ft_X16_13 (fun _ => hi rfl) hs dX16_init_11 rfl rfl ?_
  refine aw_aload0 h dX16_init_14 ?_
  refine aw_iload3 h dX16_init_15 ?_
  refine aw_puti h fl_X16_16 ft_X16_16 (fun _ => hi rfl) hs dX16_init_16 rfl ?_
  refine aw_aload0 h dX16_init_19 ?_
  refine aw_iload4 h dX16_init_20 ?_
  refine aw_putz h fl_X16_20 ft_X16_20 (fun _ => hi rfl) hs dX16_init_22 rfl (by first | exact z01_0 | exact z01_1 | exact z01_b _) ?_
  exact aw_vret h hr dX16_init_25 (⟨rfl, rfl, rfl, rfl⟩) (Nat.zero_le _) (Nat.zero_le _)
theorem met_x_both {w : Wd} {G : Gm} {I : Im} {L : Lm} {n : Nat} (hs : SHP G n 17 3) {a b : Nat} {wn : Bool} : AMet w yX17_init cX17_init 4 none 2 60 0 0 [.ref (w.1 + n), .ref (w.1 + a), .ref (w.1 + b), .int (bI wn)] G I L (Exact none (G.1, G.2.1, (upd2 (upd2 G.2.2 n 0 (some a)) n 1 (some b))) (upd2 I n 2 (bI wn)) L) := by
  refine AMet.of (ls0 := [some (.ref (w.1 + n)), some (.ref (w.1 + a)), some (.ref (w.1 + b)), some (.int (bI wn))]) rfl (Nat.le_of_ble_eq_true rfl) rfl (fun q hq => hq) (fun X h hl hr hi => ?_)
  refine aw_aload0 h dX17_init_0 ?_
  refine aw_callID0 h hl ci_X17_1 (met_j_cond) dX17_init_1 (Nat.le_of_ble_eq_true rfl) rfl (Nat.zero_le _) (Nat.zero_le _) ?_
  refine aw_aload0 h dX17_init_4 ?_
  refine aw_aload1 h dX17_init_5 ?_
  refine aw_putr h fl_X17_7 ft_X17_7 (fun _ => hi rfl) hs dX17_init_6 rfl rfl ?_
  refine aw_aload0 h dX17_init_9 ?_
  refine aw_aload2 h dX17_init_10 ?_
  refine aw_putr h fl_X17_13 ft_X17_13 (fun _ => hi rfl) hs dX17_init_11 rfl rfl ?_
  refine aw_aload0 h dX17_init_14 ?_
  refine aw_iload3 h dX17_init_15 ?_
  refine aw_putz h fl_X17_16 ft_X17_16 (fun _ => hi rfl) hs dX17_init_16 rfl (by first | exact z01_0 | exact z01_1 | exact z01_b _) ?_
  exact aw_vret h hr dX17_init_19 (⟨rfl, rfl, rfl, rfl⟩) (Nat.zero_le _) (Nat.zero_le _)
/-- cells ahead of b are as they were; the heap only grows -/
def GX (b : Nat) (Gb : Gm) (Ib : Im) (Lb : Lm) (G : Gm) (I : Im) (L : Lm) : Prop := b ≤ G.1 ∧ GB b Gb Ib Lb G I L
/-- a State on its way: i of its arrays are made -/
def ST0 (i s : Nat) (z : Nat → Int32) (Gb : Gm) (Ib : Im) (Lb : Lm) (G : Gm) (I : Im) (L : Lm) : Prop := G.1 = s + 1 + i ∧ G.2.1 s = (2, 6) ∧ (∀ k, k < i → G.2.2 s k = some (s + 1 + k) ∧ G.2.1 (s + 1 + k) = (100, 4) ∧ I (s + 1 + k) = fun _ => 0) ∧ GB s Gb Ib Lb G I L ∧ I s = z
theorem ST0.step {i s : Nat} {z : Nat → Int32} {Gb : Gm} {Ib : Im} {Lb : Lm} {G : Gm} {I : Im} {L : Lm} (h : ST0 i s z Gb Ib Lb G I L) : ST0 (i + 1) s z Gb Ib Lb ((Gnew G 100 4).1, (Gnew G 100 4).2.1, upd2 (Gnew G 100 4).2.2 s i (some G.1)) (Inew G I) (Lnew G L) := by
  obtain ⟨a1, a2, a3, a4, a5⟩ := h
  have hne : ∀ n, n < s + 1 + i → n ≠ G.1 := fun n hn => by omega
  refine ⟨by show G.1 + 1 = _; omega, (vup_n _ _ (hne s (by omega))).trans a2, fun k hk => ?_, fun n hn => ?_, (vup_n _ _ (hne s (by omega))).trans a5⟩
  · by_cases e : k = i
    · subst e
      refine ⟨?_, by rw [← a1]; exact vup_s _ _ _, by rw [← a1]; exact vup_s _ _ _⟩
      show upd2 (Gnew G 100 4).2.2 s k (some G.1) s k = _
      rw [upd2_s, vup_s, a1]
    · obtain ⟨b1, b2, b3⟩ := a3 k (by omega)
      refine ⟨?_, (vup_n _ _ (hne _ (by omega))).trans b2, (vup_n _ _ (hne _ (by omega))).trans b3⟩
      show upd2 (Gnew G 100 4).2.2 s i (some G.1) s k = _
      rw [upd2_s, vup_n _ _ e]
      exact (congrFun (vup_n _ _ (hne s (by omega))) k).trans b1
  · obtain ⟨b1, b2, b3, b4⟩ := a4 n hn
    refine ⟨(vup_n _ _ (hne n (by omega))).trans b1, ?_, (vup_n _ _ (hne n (by omega))).trans b3, (vup_n _ _ (hne n (by omega))).trans b4⟩
    show upd2 (Gnew G 100 4).2.2 s i (some G.1) n = _
    rw [upd2_n _ _ _ (by omega)]
    exact (vup_n _ _ (hne n (by omega))).trans b2
section STW
variable {X : Cx} {cs ss pc : Nat} {ls : List (Option Value)} {st : List Value} {G Gb : Gm} {I Ib : Im} {L Lb : Lm}
theorem ST0.go {i s : Nat} {z : Nat → Int32} (h : ST0 i s z Gb Ib Lb G I L) (kk : ∀ G1 I1 L1, ST0 (i + 1) s z Gb Ib Lb G1 I1 L1 → AW X cs ss pc ls st G1 I1 L1) : AW X cs ss pc ls st ((Gnew G 100 4).1, (Gnew G 100 4).2.1, upd2 (Gnew G 100 4).2.2 s i (some G.1)) (Inew G I) (Lnew G L) := kk _ _ _ h.step
end STW
theorem met_x_state {w : Wd} {G : Gm} {I : Im} {L : Lm} {s : Nat} {z : Nat → Int32} {Gb : Gm} {Ib : Im} {Lb : Lm} (hg0 : ST0 0 s z Gb Ib Lb G I L) : AMet w yX2_init cX2_init 1 none 1 40 5 20 [.ref (w.1 + s)] G I L (Ans none (fun G1 I1 L1 => ST0 5 s z Gb Ib Lb G1 I1 L1)) := by
  refine AMet.of (ls0 := [some (.ref (w.1 + s))]) rfl (Nat.le_of_ble_eq_true rfl) rfl (fun q hq => hq) (fun X h hl hr hi => ?_)
  refine aw_aload0 h dX2_init_0 ?_
  refine aw_obj0 h o0_X2_3 dX2_init_1 (Nat.le_of_ble_eq_true rfl) rfl ?_
  refine aw_aload0 h dX2_init_4 ?_
  refine aw_iconst h _ ci_4 dX2_init_5 ?_
  refine aw_newa h (k := 100) (ty := .int) rfl (by simp) q256 (by exact Nat.le_of_ble_eq_true rfl) (by first | exact Nat.zero_le _ | exact Nat.le_refl _ | omega | exact Nat.le_of_ble_eq_true rfl) (by first | exact Nat.zero_le _ | exact Nat.le_refl _ | omega | exact Nat.le_of_ble_eq_true rfl) dX2_init_6 ?_
  refine aw_putr h fl_X2_9 ft_X2_9 (fun _ => hi rfl) (SHP.old (⟨by have := hg0.1; omega, hg0.2.1⟩ : SHP _ s 2 6)) dX2_init_8 rfl rfl ?_
  refine ST0.go hg0 (i := 0) (fun G1 I1 L1 hg1 => ?_)
  refine aw_aload0 h dX2_init_11 ?_
  refine aw_iconst h _ ci_4 dX2_init_12 ?_
  refine aw_newa h (k := 100) (ty := .int) rfl (by simp) q256 (by exact Nat.le_of_ble_eq_true rfl) (by first | exact Nat.zero_le _ | exact Nat.le_refl _ | omega | exact Nat.le_of_ble_eq_true rfl) (by first | exact Nat.zero_le _ | exact Nat.le_refl _ | omega | exact Nat.le_of_ble_eq_true rfl) dX2_init_13 ?_
  refine aw_putr h fl_X2_15 ft_X2_15 (fun _ => hi rfl) (SHP.old (⟨by have := hg1.1; omega, hg1.2.1⟩ : SHP _ s 2 6)) dX2_init_15 rfl rfl ?_
  refine ST0.go hg1 (i := 1) (fun G2 I2 L2 hg2 => ?_)
  refine aw_aload0 h dX2_init_18 ?_
  refine aw_iconst h _ ci_4 dX2_init_19 ?_
  refine aw_newa h (k := 100) (ty := .int) rfl (by simp) q256 (by exact Nat.le_of_ble_eq_true rfl) (by first | exact Nat.zero_le _ | exact Nat.le_refl _ | omega | exact Nat.le_of_ble_eq_true rfl) (by first | exact Nat.zero_le _ | exact Nat.le_refl _ | omega | exact Nat.le_of_ble_eq_true rfl) dX2_init_20 ?_
  refine aw_putr h fl_X2_18 ft_X2_18 (fun _ => hi rfl) (SHP.old (⟨by have := hg2.1; omega, hg2.2.1⟩ : SHP _ s 2 6)) dX2_init_22 rfl rfl ?_
  refine ST0.go hg2 (i := 2) (fun G3 I3 L3 hg3 => ?_)
  refine aw_aload0 h dX2_init_25 ?_
  refine aw_iconst h _ ci_4 dX2_init_26 ?_
  refine aw_newa h (k := 100) (ty := .int) rfl (by simp) q256 (by exact Nat.le_of_ble_eq_true rfl) (by first | exact Nat.zero_le _ | exact Nat.le_refl _ | omega | exact Nat.le_of_ble_eq_true rfl) (by first | exact Nat.zero_le _ | exact Nat.le_refl _ | omega | exact Nat.le_of_ble_eq_true rfl) dX2_init_27 ?_
  refine aw_putr h fl_X2_21 ft_X2_21 (fun _ => hi rfl) (SHP.old (⟨by have := hg3.1; omega, hg3.2.1⟩ : SHP _ s 2 6)) dX2_init_29 rfl rfl ?_
  refine ST0.go hg3 (i := 3) (fun G4 I4 L4 hg4 => ?_)
  refine aw_aload0 h dX2_init_32 ?_
  refine aw_iconst h _ ci_4 dX2_init_33 ?_
  refine aw_newa h (k := 100) (ty := .int) rfl (by simp) q256 (by exact Nat.le_of_ble_eq_true rfl) (by first | exact Nat.zero_le _ | exact Nat.le_refl _ | omega | exact Nat.le_of_ble_eq_true rfl) (by first | exact Nat.zero_le _ | exact Nat.le_refl _ | omega | exact Nat.le_of_ble_eq_true rfl) dX2_init_34 ?_
  refine aw_putr h fl_X2_24 ft_X2_24 (fun _ => hi rfl) (SHP.old (⟨by have := hg4.1; omega, hg4.2.1⟩ : SHP _ s 2 6)) dX2_init_36 rfl rfl ?_
  refine ST0.go hg4 (i := 4) (fun G5 I5 L5 hg5 => ?_)
  exact aw_vret h hr dX2_init_39 (⟨rfl, hg5⟩) (by first | exact Nat.zero_le _ | exact Nat.le_refl _ | omega | exact Nat.le_of_ble_eq_true rfl) (by first | exact Nat.zero_le _ | exact Nat.le_refl _ | omega | exact Nat.le_of_ble_eq_true rfl)
/-- what is left as it was: all but the rows of these cells; shapes are never changed -/
def FX (ex : List Nat) (G : Gm) (I : Im) (L : Lm) (G1 : Gm) (I1 : Im) (L1 : Lm) : Prop := G.1 ≤ G1.1 ∧ ∀ m, m < G.1 → G1.2.1 m = G.2.1 m ∧ (m ∉ ex → G1.2.2 m = G.2.2 m ∧ I1 m = I m ∧ L1 m = L m)
theorem FX.rf {ex : List Nat} {G : Gm} {I : Im} {L : Lm} : FX ex G I L G I L := ⟨Nat.le_refl _, fun _ _ => ⟨rfl, fun _ => ⟨rfl, rfl, rfl⟩⟩⟩
theorem FX.trans {ex : List Nat} {G G1 G2 : Gm} {I I1 I2 : Im} {L L1 L2 : Lm} (h : FX ex G I L G1 I1 L1) (h2 : FX ex G1 I1 L1 G2 I2 L2) : FX ex G I L G2 I2 L2 := ⟨Nat.le_trans h.1 h2.1, fun m hm => ⟨(h2.2 m (Nat.lt_of_lt_of_le hm h.1)).1.trans (h.2 m hm).1, fun e => ⟨((h2.2 m (Nat.lt_of_lt_of_le hm h.1)).2 e).1.trans ((h.2 m hm).2 e).1, ((h2.2 m (Nat.lt_of_lt_of_le hm h.1)).2 e).2.1.trans ((h.2 m hm).2 e).2.1, ((h2.2 m (Nat.lt_of_lt_of_le hm h.1)).2 e).2.2.trans ((h.2 m hm).2 e).2.2⟩⟩⟩
theorem FX.mono {ex ex2 : List Nat} {G G1 : Gm} {I I1 : Im} {L L1 : Lm} (h : FX ex G I L G1 I1 L1) (he : ∀ m, m ∈ ex → m < G.1 → m ∈ ex2) : FX ex2 G I L G1 I1 L1 := ⟨h.1, fun m hm => ⟨(h.2 m hm).1, fun e => (h.2 m hm).2 (fun q => e (he m q hm))⟩⟩
theorem FX.i {ex : List Nat} {G : Gm} {I : Im} {L : Lm} {n j : Nat} {x : Int32} (h : n ∈ ex) : FX ex G I L G (upd2 I n j x) L := ⟨Nat.le_refl _, fun m _ => ⟨rfl, fun e => ⟨rfl, upd2_n _ _ _ (fun q => e (q ▸ h)), rfl⟩⟩⟩
theorem FX.l {ex : List Nat} {G : Gm} {I : Im} {L : Lm} {n j : Nat} {x : Int64} (h : n ∈ ex) : FX ex G I L G I (upd2 L n j x) := ⟨Nat.le_refl _, fun m _ => ⟨rfl, fun e => ⟨rfl, rfl, upd2_n _ _ _ (fun q => e (q ▸ h))⟩⟩⟩
theorem FX.p {ex : List Nat} {G : Gm} {I : Im} {L : Lm} {n j : Nat} {x : Option Nat} (h : n ∈ ex) : FX ex G I L (G.1, G.2.1, upd2 G.2.2 n j x) I L := ⟨Nat.le_refl _, fun m _ => ⟨rfl, fun e => ⟨upd2_n _ _ _ (fun q => e (q ▸ h)), rfl, rfl⟩⟩⟩
theorem FX.new {ex : List Nat} {G : Gm} {I : Im} {L : Lm} {k len : Nat} : FX ex G I L (Gnew G k len) (Inew G I) (Lnew G L) := ⟨Nat.le_succ _, fun m hm => ⟨vup_n _ _ (Nat.ne_of_lt hm), fun _ => ⟨vup_n _ _ (Nat.ne_of_lt hm), vup_n _ _ (Nat.ne_of_lt hm), vup_n _ _ (Nat.ne_of_lt hm)⟩⟩⟩
theorem FX.shp {ex : List Nat} {G G1 : Gm} {I I1 : Im} {L L1 : Lm} (h : FX ex G I L G1 I1 L1) {n k len : Nat} (hs : SHP G n k len) : SHP G1 n k len := ⟨Nat.lt_of_lt_of_le hs.1 h.1, (h.2 n hs.1).1.trans hs.2⟩
theorem FX.P {ex : List Nat} {G G1 : Gm} {I I1 : Im} {L L1 : Lm} (h : FX ex G I L G1 I1 L1) {n : Nat} (hn : n < G.1) (he : n ∉ ex) : G1.2.2 n = G.2.2 n := ((h.2 n hn).2 he).1
theorem FX.I {ex : List Nat} {G G1 : Gm} {I I1 : Im} {L L1 : Lm} (h : FX ex G I L G1 I1 L1) {n : Nat} (hn : n < G.1) (he : n ∉ ex) : I1 n = I n := ((h.2 n hn).2 he).2.1
theorem FX.L {ex : List Nat} {G G1 : Gm} {I I1 : Im} {L L1 : Lm} (h : FX ex G I L G1 I1 L1) {n : Nat} (hn : n < G.1) (he : n ∉ ex) : L1 n = L n := ((h.2 n hn).2 he).2.2
theorem LA.fx {ex : List Nat} {G G1 : Gm} {I I1 : Im} {L L1 : Lm} (h : FX ex G I L G1 I1 L1) {l a cap : Nat} {els : List Nat} (hA : LA G I l a cap els) (h1 : l ∉ ex) (h2 : a ∉ ex) : LA G1 I1 l a cap els := ⟨h.shp hA.1, by rw [h.P hA.1.1 h1]; exact hA.2.1, h.shp hA.2.2.1, by rw [h.I hA.1.1 h1]; exact hA.2.2.2.1, hA.2.2.2.2.1, hA.2.2.2.2.2.1, hA.2.2.2.2.2.2.1, fun i hi => by rw [h.P hA.2.2.1.1 h2]; exact hA.2.2.2.2.2.2.2 i hi⟩
theorem AddPt.fx {l a : Nat} {els : List Nat} {e : Nat} {G : Gm} {I : Im} {L : Lm} {G1 : Gm} {I1 : Im} {L1 : Lm} (h : AddPt l a els e G I L G1 I1 L1) : FX [l, a] G I L G1 I1 L1 := by
  obtain ⟨a2, cap2, q1, q2, q3⟩ := h
  refine ⟨by omega, fun m hm => ⟨(q3 m hm).1, fun e => ?_⟩⟩
  simp only [List.mem_cons, List.not_mem_nil, or_false, not_or] at e
  exact ⟨(q3 m hm).2.1 e.1 e.2, (q3 m hm).2.2.1 e.1, (q3 m hm).2.2.2⟩
theorem met_j_list1 {w : Wd} {G : Gm} {I : Im} {L : Lm} {n : Nat} (hs : SHP G n 19 3) (hI : I n 2 = 0) : AMet w yJ2_init cJ2_init 2 none 3 80 1 2 [.ref (w.1 + n), .int (nI 2)] G I L (Ans none (fun G1 I1 L1 => G1.1 = G.1 + 1 ∧ LA G1 I1 n G.1 2 [] ∧ FX [n] G I L G1 I1 L1)) := by
  refine AMet.of (ls0 := [some (.ref (w.1 + n)), some (.int (nI 2))]) rfl (Nat.le_of_ble_eq_true rfl) rfl (fun q hq => hq) (fun X h hl hr hi => ?_)
  have hnG := hs.1
  refine aw_aload0 h dJ2_init_0 ?_
  refine aw_callID0 h hl ci_J2_1 (met_j_alist hs) dJ2_init_1 (Nat.le_of_ble_eq_true rfl) rfl (by first | exact Nat.zero_le _ | exact Nat.le_refl _ | omega | exact Nat.le_of_ble_eq_true rfl) (by first | exact Nat.zero_le _ | exact Nat.le_refl _ | omega | exact Nat.le_of_ble_eq_true rfl) ?_
  refine aw_iload1 h dJ2_init_4 ?_
  refine aw_if_leN h (tgt := 19) (by decide) dJ2_init_5 (by decide) (fun c5 => ?_) (fun c5 => ?_)
  · exact absurd c5 (by decide)
  · refine aw_aload0 h dJ2_init_8 ?_
    refine aw_iload1 h dJ2_init_9 ?_
    refine aw_newq h (k := 106) (by simp) q211 q212 (by exact Nat.le_of_ble_eq_true rfl) (by first | exact Nat.zero_le _ | exact Nat.le_refl _ | omega | exact Nat.le_of_ble_eq_true rfl) (by first | exact Nat.zero_le _ | exact Nat.le_refl _ | omega | exact Nat.le_of_ble_eq_true rfl) dJ2_init_10 ?_
    refine aw_putr h fl_J2_9 ft_J2_9 (fun z => by cases z) hs.old dJ2_init_13 rfl rfl ?_
    refine aw_goto h (tgt := 60) dJ2_init_16 (by decide) ?_
    exact aw_vret h hr dJ2_init_60 (⟨rfl, rfl, ⟨hs.old, by show upd2 (Gnew G 106 2).2.2 n 1 (some G.1) n 1 = _; rw [upd2_s, vup_s], SHP.new _ _ _, by rw [show Inew G (upd2 I n 0 (nI 0)) n = upd2 I n 0 (nI 0) n from vup_n _ _ (by omega), upd2_s, vup_n _ _ (by decide)]; exact hI, Nat.zero_le _, by decide, by decide, fun i hi => absurd hi (Nat.not_lt_zero _)⟩, ((FX.i (j := 0) (x := nI 0) (List.mem_singleton.mpr rfl)).trans FX.new).trans (FX.p (List.mem_singleton.mpr rfl))⟩) (by first | exact Nat.zero_le _ | exact Nat.le_refl _ | omega | exact Nat.le_of_ble_eq_true rfl) (by first | exact Nat.zero_le _ | exact Nat.le_refl _ | omega | exact Nat.le_of_ble_eq_true rfl)
theorem met_x_rule0 {w : Wd} {G : Gm} {I : Im} {L : Lm} {n : Nat} (hs : SHP G n 8 1) : AMet w yX8_init cX8_init 1 none 4 101 2 5 [.ref (w.1 + n)] G I L (Ans none (fun G1 I1 L1 => G1.1 = G.1 + 2 ∧ LA G1 I1 G.1 (G.1 + 1) 2 [] ∧ G1.2.2 n 0 = some G.1 ∧ FX [n] G I L G1 I1 L1)) := by
  refine AMet.of (ls0 := [some (.ref (w.1 + n))]) rfl (Nat.le_of_ble_eq_true rfl) rfl (fun q hq => hq) (fun X h hl hr hi => ?_)
  have hnG := hs.1
  refine aw_aload0 h dX8_init_0 ?_
  refine aw_obj0 h o0_X8_1 dX8_init_1 (Nat.le_of_ble_eq_true rfl) rfl ?_
  refine aw_aload0 h dX8_init_4 ?_
  refine aw_new h (ci := 19) rfl (by decide) rfl in_J2 tyJ2_ok (by decide) q793 q200 q154 (by first | exact Nat.zero_le _ | exact Nat.le_refl _ | omega | exact Nat.le_of_ble_eq_true rfl) (by first | exact Nat.zero_le _ | exact Nat.le_refl _ | omega | exact Nat.le_of_ble_eq_true rfl) dX8_init_5 ?_
  refine aw_dup h rfl dX8_init_8 ?_
  refine aw_iconst h _ ci_2 dX8_init_9 ?_
  refine aw_callIN1 h hl ci_X8_9 (met_j_list1 (SHP.new _ _ _) (congrFun (vup_s _ _ _) 2)) dX8_init_10 (Nat.le_of_ble_eq_true rfl) rfl (by first | exact Nat.zero_le _ | exact Nat.le_refl _ | omega | exact Nat.le_of_ble_eq_true rfl) (by first | exact Nat.zero_le _ | exact Nat.le_refl _ | omega | exact Nat.le_of_ble_eq_true rfl) (fun G1 I1 L1 hp => ?_)
  obtain ⟨p1, p2, p3⟩ := hp
  have p4 : FX [n, G.1] G I L G1 I1 L1 := FX.new.trans (p3.mono (fun m h1 _ => by simp at h1 ⊢; exact Or.inr h1))
  refine aw_putr h fl_X8_12 ft_X8_12 (fun _ => hi rfl) (p4.shp hs) dX8_init_13 rfl rfl ?_
  refine aw_vret h hr dX8_init_16 (⟨rfl, by show G1.1 = _; rw [p1]; rfl, ?_, by show upd2 G1.2.2 n 0 (some G.1) n 0 = _; rw [upd2_s, vup_s], ?_⟩) (by first | exact Nat.zero_le _ | exact Nat.le_refl _ | omega | exact Nat.le_of_ble_eq_true rfl) (by first | exact Nat.zero_le _ | exact Nat.le_refl _ | omega | exact Nat.le_of_ble_eq_true rfl)
  · have hne : (Gnew G 19 3).1 ≠ n := by show G.1 + 1 ≠ n; omega
    exact p2.fx (ex := [n]) (L := L1) (FX.p (List.mem_singleton.mpr rfl)) (by simp; omega) (by simp; exact hne)
  · exact (p4.trans (FX.p (by simp))).mono (fun m h1 h2 => by simp at h1 ⊢; omega)
/-- a castle: its people's list and array, its doors', how far its rooms are; the people, the doors -/
def KAt (G : Gm) (I : Im) (c : Nat) (K : CS) (pl pa dl da fa : Nat) (ps ds : List Nat) : Prop := SHP G c 1 6 ∧ G.2.2 c 0 = some pl ∧ G.2.2 c 1 = some dl ∧ G.2.2 c 2 = some fa ∧ SHP G fa 100 8 ∧ (∃ cap, LA G I pl pa cap ps) ∧ (∃ cap, LA G I dl da cap ds) ∧ ps.length = (kP K).length ∧ ds.length = (kD K).length ∧ (∀ k, k < ps.length → SHP G (ps.getD k 0) 7 3 ∧ I (ps.getD k 0) 0 = nI (gK (kP K) k).1 ∧ I (ps.getD k 0) 1 = nI (gK (kP K) k).2.1 ∧ I (ps.getD k 0) 2 = nI (gK (kP K) k).2.2) ∧ (∀ k, k < ds.length → SHP G (ds.getD k 0) 6 3 ∧ I (ds.getD k 0) 0 = nI (gK (kD K) k).1 ∧ I (ds.getD k 0) 1 = nI (gK (kD K) k).2.1 ∧ I (ds.getD k 0) 2 = nI (gK (kD K) k).2.2) ∧ I c 3 = nI (kR K) ∧ (match kN K with
    | none => I c 4 = -1 ∧ I c 5 = -1
    | some q => I c 4 = nI q.1 ∧ I c 5 = nI q.2) ∧ ∀ r, r < 8 → I fa r = nI (kF K r)
def KC (c pl pa dl da fa : Nat) (ps ds : List Nat) : List Nat := c :: pl :: pa :: dl :: da :: fa :: (ps ++ ds)
theorem getD_mem {xs : List Nat} {k : Nat} (h : k < xs.length) : xs.getD k 0 ∈ xs := by
  rw [List.getD_eq_getElem?_getD, List.getElem?_eq_getElem h]
  exact List.getElem_mem _
theorem KAt.fx {ex : List Nat} {G G1 : Gm} {I I1 : Im} {L L1 : Lm} (h : FX ex G I L G1 I1 L1) {c pl pa dl da fa : Nat} {ps ds : List Nat} {K : CS} (hK : KAt G I c K pl pa dl da fa ps ds) (he : ∀ m, m ∈ KC c pl pa dl da fa ps ds → m ∉ ex) : KAt G1 I1 c K pl pa dl da fa ps ds := by
  obtain ⟨a1, a2, a3, a4, a5, ⟨c1, a6⟩, ⟨c2, a7⟩, a8, a9, a10, a11, a12, a13, a14⟩ := hK
  have e1 := he c (by simp [KC])
  have e2 := he pl (by simp [KC])
  have e3 := he pa (by simp [KC])
  have e4 := he dl (by simp [KC])
  have e5 := he da (by simp [KC])
  have e6 := he fa (by simp [KC])
  have hP := h.P a1.1 e1
  have hI := h.I a1.1 e1
  refine ⟨h.shp a1, by rw [hP]; exact a2, by rw [hP]; exact a3, by rw [hP]; exact a4, h.shp a5, ⟨c1, a6.fx h e2 e3⟩, ⟨c2, a7.fx h e4 e5⟩, a8, a9, fun k hk => ?_, fun k hk => ?_, by rw [hI]; exact a12, ?_, fun r hr => by rw [h.I a5.1 e6]; exact a14 r hr⟩
  · obtain ⟨b1, b2, b3, b4⟩ := a10 k hk
    have e7 := he (ps.getD k 0) (by simp only [KC, List.mem_cons, List.mem_append]; exact Or.inr (Or.inr (Or.inr (Or.inr (Or.inr (Or.inr (Or.inl (getD_mem hk))))))))
    rw [h.I b1.1 e7]
    exact ⟨h.shp b1, b2, b3, b4⟩
  · obtain ⟨b1, b2, b3, b4⟩ := a11 k hk
    have e7 := he (ds.getD k 0) (by simp only [KC, List.mem_cons, List.mem_append]; exact Or.inr (Or.inr (Or.inr (Or.inr (Or.inr (Or.inr (Or.inr (getD_mem hk))))))))
    rw [h.I b1.1 e7]
    exact ⟨h.shp b1, b2, b3, b4⟩
  · cases hn : kN K with
    | none => rw [hn] at a13; rw [hI]; exact a13
    | some q => rw [hn] at a13; rw [hI]; exact a13
theorem met_x_castle0 {w : Wd} {G : Gm} {I : Im} {L : Lm} {c : Nat} (hs : SHP G c 1 6) (hI : I c 3 = nI 0) : AMet w yX1_init cX1_init 2 none 4 101 5 18 [.ref (w.1 + c)] G I L (Ans none (fun G1 I1 L1 => G1.1 = G.1 + 5 ∧ KAt G1 I1 c K0 G.1 (G.1 + 1) (G.1 + 2) (G.1 + 3) (G.1 + 4) [] [] ∧ FX [c] G I L G1 I1 L1)) := by
  refine AMet.of (ls0 := [some (.ref (w.1 + c)), none]) rfl (Nat.le_of_ble_eq_true rfl) rfl (fun q hq => hq) (fun X h hl hr hi => ?_)
  have hnG := hs.1
  refine aw_aload0 h dX1_init_0 ?_
  refine aw_obj0 h o0_X1_3 dX1_init_1 (Nat.le_of_ble_eq_true rfl) rfl ?_
  refine aw_aload0 h dX1_init_4 ?_
  refine aw_new h (ci := 19) rfl (by decide) rfl in_J2 tyJ2_ok (by decide) q199 q200 q154 (by first | exact Nat.zero_le _ | exact Nat.le_refl _ | omega | exact Nat.le_of_ble_eq_true rfl) (by first | exact Nat.zero_le _ | exact Nat.le_refl _ | omega | exact Nat.le_of_ble_eq_true rfl) dX1_init_5 ?_
  refine aw_dup h rfl dX1_init_8 ?_
  refine aw_iconst h _ ci_2 dX1_init_9 ?_
  refine aw_callIN1 h hl ci_X1_11 (met_j_list1 (SHP.new _ _ _) (congrFun (vup_s _ _ _) 2)) dX1_init_10 (Nat.le_of_ble_eq_true rfl) rfl (by first | exact Nat.zero_le _ | exact Nat.le_refl _ | omega | exact Nat.le_of_ble_eq_true rfl) (by first | exact Nat.zero_le _ | exact Nat.le_refl _ | omega | exact Nat.le_of_ble_eq_true rfl) (fun G1 I1 L1 hp => ?_)
  obtain ⟨p1, p2, p3⟩ := hp
  have e1 : G1.1 = G.1 + 2 := p1
  have p4 : FX [c, G.1] G I L G1 I1 L1 := FX.new.trans (p3.mono (fun m h1 _ => by simp at h1 ⊢; exact Or.inr h1))
  refine aw_putr h fl_X1_14 ft_X1_14 (fun _ => hi rfl) (p4.shp hs) dX1_init_13 rfl rfl ?_
  refine aw_aload0 h dX1_init_16 ?_
  refine aw_new h (ci := 19) rfl (by decide) rfl in_J2 tyJ2_ok (by decide) q199 q200 q154 (by first | exact Nat.zero_le _ | exact Nat.le_refl _ | omega | exact Nat.le_of_ble_eq_true rfl) (by first | exact Nat.zero_le _ | exact Nat.le_refl _ | omega | exact Nat.le_of_ble_eq_true rfl) dX1_init_17 ?_
  refine aw_dup h rfl dX1_init_20 ?_
  refine aw_iconst h _ ci_2 dX1_init_21 ?_
  refine aw_callIN1 h hl ci_X1_11 (met_j_list1 (SHP.new _ _ _) (congrFun (vup_s _ _ _) 2)) dX1_init_22 (Nat.le_of_ble_eq_true rfl) rfl (by first | exact Nat.zero_le _ | exact Nat.le_refl _ | omega | exact Nat.le_of_ble_eq_true rfl) (by first | exact Nat.zero_le _ | exact Nat.le_refl _ | omega | exact Nat.le_of_ble_eq_true rfl) (fun G2 I2 L2 hp => ?_)
  obtain ⟨q1, q2, q3⟩ := hp
  have e2 : G2.1 = G.1 + 4 := by rw [q1]; show G1.1 + 1 + 1 = _; omega
  have q2 : LA G2 I2 G1.1 (G1.1 + 1) 2 [] := q2
  have q4 : FX [c, G1.1] (G1.1, G1.2.1, upd2 G1.2.2 c 0 (some G.1)) I1 L1 G2 I2 L2 := FX.new.trans (q3.mono (fun m h1 _ => by simp at h1 ⊢; exact Or.inr h1))
  have q5 : FX [c, G1.1] G1 I1 L1 G2 I2 L2 := (FX.p (by simp)).trans q4
  have hsc2 : SHP G2 c 1 6 := q5.shp (p4.shp hs)
  refine aw_putr h fl_X1_20 ft_X1_20 (fun _ => hi rfl) hsc2 dX1_init_25 rfl rfl ?_
  refine aw_aload0 h dX1_init_28 ?_
  refine aw_bipush h _ cb_8 dX1_init_29 ?_
  refine aw_newa h (k := 100) (ty := .int) rfl (by simp) q256 (by exact Nat.le_of_ble_eq_true rfl) (by first | exact Nat.zero_le _ | exact Nat.le_refl _ | omega | exact Nat.le_of_ble_eq_true rfl) (by first | exact Nat.zero_le _ | exact Nat.le_refl _ | omega | exact Nat.le_of_ble_eq_true rfl) dX1_init_31 ?_
  refine aw_putr h fl_X1_23 ft_X1_23 (fun _ => hi rfl) (SHP.old hsc2) dX1_init_33 rfl rfl ?_
  refine aw_aload0 h dX1_init_36 ?_
  refine aw_iconst h _ ci_m1 dX1_init_37 ?_
  refine aw_puti h fl_X1_27 ft_X1_27 (fun z => by cases z) (SHP.old hsc2) dX1_init_38 rfl ?_
  refine aw_aload0 h dX1_init_41 ?_
  refine aw_iconst h _ ci_m1 dX1_init_42 ?_
  refine aw_puti h fl_X1_31 ft_X1_31 (fun z => by cases z) (SHP.old hsc2) dX1_init_43 rfl ?_
  have e4 : (Gnew (G2.1, G2.2.1, upd2 G2.2.2 c 1 (some G1.1)) 100 8).1 = G.1 + 5 := by show G2.1 + 1 = _; omega
  have hfin0 : FX [c, G2.1] G2 I2 L2 ((Gnew (G2.1, G2.2.1, upd2 G2.2.2 c 1 (some G1.1)) 100 8).1, (Gnew (G2.1, G2.2.1, upd2 G2.2.2 c 1 (some G1.1)) 100 8).2.1, upd2 (Gnew (G2.1, G2.2.1, upd2 G2.2.2 c 1 (some G1.1)) 100 8).2.2 c 2 (some G2.1)) (upd2 (upd2 (Inew (G2.1, G2.2.1, upd2 G2.2.2 c 1 (some G1.1)) I2) c 4 (-1)) c 5 (-1)) (Lnew (G2.1, G2.2.1, upd2 G2.2.2 c 1 (some G1.1)) L2) := ((((FX.p (by simp)).trans FX.new).trans (FX.p (by simp))).trans (FX.i (by simp))).trans (FX.i (by simp))
  have hsc := hfin0.shp hsc2
  have hP0 : upd2 (Gnew (G2.1, G2.2.1, upd2 G2.2.2 c 1 (some G1.1)) 100 8).2.2 c 2 (some G2.1) c = va_up (va_up (va_up (G1.2.2 c) 0 (some G.1)) 1 (some G1.1)) 2 (some G2.1) := by
    rw [upd2_s]
    congr 1
    rw [show (Gnew (G2.1, G2.2.1, upd2 G2.2.2 c 1 (some G1.1)) 100 8).2.2 c = upd2 G2.2.2 c 1 (some G1.1) c from vup_n _ _ (show c ≠ G2.1 by omega), upd2_s]
    congr 1
    have h9 := q3.P (n := c) (by show c < G1.1 + 1; omega) (by simp; omega)
    rw [h9, show (Gnew (G1.1, G1.2.1, upd2 G1.2.2 c 0 (some G.1)) 19 3).2.2 c = upd2 G1.2.2 c 0 (some G.1) c from vup_n _ _ (show c ≠ G1.1 by omega), upd2_s]
  have hI3 : I2 c = I c := by
    rw [q3.I (n := c) (by show c < G1.1 + 1; omega) (by simp; omega), show Inew (G1.1, G1.2.1, upd2 G1.2.2 c 0 (some G.1)) I1 c = I1 c from vup_n _ _ (show c ≠ G1.1 by omega), p3.I (n := c) (by show c < G.1 + 1; omega) (by simp; omega)]
    exact vup_n _ _ (show c ≠ G.1 by omega)
  have hLp : LA G2 I2 G.1 (G.1 + 1) 2 [] := p2.fx q5 (by simp; omega) (by show G.1 + 1 ∉ [c, G1.1]; simp; omega)
  have hfs : SHP (Gnew (G2.1, G2.2.1, upd2 G2.2.2 c 1 (some G1.1)) 100 8) G2.1 100 8 := SHP.new _ _ _
  generalize hG3 : ((Gnew (G2.1, G2.2.1, upd2 G2.2.2 c 1 (some G1.1)) 100 8).1, (Gnew (G2.1, G2.2.1, upd2 G2.2.2 c 1 (some G1.1)) 100 8).2.1, upd2 (Gnew (G2.1, G2.2.1, upd2 G2.2.2 c 1 (some G1.1)) 100 8).2.2 c 2 (some G2.1)) = G3 at *
  have hfa : SHP G3 G2.1 100 8 := by rw [← hG3]; exact hfs
  have e3 : G3.1 = G.1 + 5 := by rw [← hG3]; exact e4
  have hP3 : G3.2.2 c = va_up (va_up (va_up (G1.2.2 c) 0 (some G.1)) 1 (some G1.1)) 2 (some G2.1) := by rw [← hG3]; exact hP0
  have hPf : G3.2.2 c 2 = some G2.1 := by rw [hP3, vup_s]
  have hIc : ∀ j, upd2 (upd2 (Inew (G2.1, G2.2.1, upd2 G2.2.2 c 1 (some G1.1)) I2) c 4 (-1)) c 5 (-1) c j = va_up (va_up (I c) 4 (-1)) 5 (-1) j := fun j => by
    rw [upd2_s, upd2_s, show Inew (G2.1, G2.2.1, upd2 G2.2.2 c 1 (some G1.1)) I2 c = I2 c from vup_n _ _ (show c ≠ G2.1 by omega), hI3]
  generalize hI4 : upd2 (upd2 (Inew (G2.1, G2.2.1, upd2 G2.2.2 c 1 (some G1.1)) I2) c 4 (-1)) c 5 (-1) = I4 at *
  generalize hL4 : Lnew (G2.1, G2.2.1, upd2 G2.2.2 c 1 (some G1.1)) L2 = L4 at *
  have hfin : ∀ g : Nat → Int32, (∀ r, r < 8 → g r = nI r) → KAt G3 (va_up I4 G2.1 g) c K0 G.1 (G.1 + 1) (G.1 + 2) (G.1 + 3) (G.1 + 4) [] [] ∧ FX [c] G I L G3 (va_up I4 G2.1 g) L4 := by
    intro g hg
    have hx : FX [G2.1] G3 I4 L4 G3 (va_up I4 G2.1 g) L4 := ⟨Nat.le_refl _, fun m _ => ⟨rfl, fun e => ⟨rfl, vup_n _ _ (by simp at e; exact e), rfl⟩⟩⟩
    have hne : c ≠ G2.1 := by omega
    have hIc2 : ∀ j, va_up I4 G2.1 g c j = va_up (va_up (I c) 4 (-1)) 5 (-1) j := fun j => by rw [vup_n _ _ hne]; exact hIc j
    refine ⟨⟨hsc, ?_, ?_, ?_, by rw [← e2]; exact hfa, ⟨2, ?_⟩, ⟨2, ?_⟩, rfl, rfl, fun k hk => absurd hk (Nat.not_lt_zero _), fun k hk => absurd hk (Nat.not_lt_zero _), ?_, ⟨?_, ?_⟩, fun r hr => ?_⟩, ?_⟩
    · rw [hP3, vup_n _ _ (by decide), vup_n _ _ (by decide), vup_s]
    · rw [hP3, vup_n _ _ (by decide), vup_s, e1]
    · rw [hP3, vup_s, e2]
    · exact ((hLp.fx hfin0 (by simp; omega) (by simp; omega)).fx hx (by simp; omega) (by simp; omega))
    · have h9 := ((q2.fx hfin0 (by simp; omega) (by simp; omega)).fx hx (by simp; omega) (by simp; omega))
      rw [e1] at h9
      exact h9
    · rw [hIc2, vup_n _ _ (by decide), vup_n _ _ (by decide)]; exact hI
    · rw [hIc2, vup_n _ _ (by decide), vup_s]
    · rw [hIc2, vup_s]
    · rw [← e2, vup_s]; exact hg r hr
    · have f1 : FX [c, G.1, G1.1, G2.1] G I L G1 I1 L1 := p4.mono (fun m h1 _ => by simp at h1 ⊢; omega)
      have f2 : FX [c, G.1, G1.1, G2.1] G1 I1 L1 G2 I2 L2 := q5.mono (fun m h1 _ => by simp at h1 ⊢; omega)
      have f3 : FX [c, G.1, G1.1, G2.1] G2 I2 L2 G3 I4 L4 := hfin0.mono (fun m h1 _ => by simp at h1 ⊢; omega)
      have f4 : FX [c, G.1, G1.1, G2.1] G3 I4 L4 G3 (va_up I4 G2.1 g) L4 := hx.mono (fun m h1 _ => by simp at h1 ⊢; omega)
      exact (((f1.trans f2).trans f3).trans f4).mono (fun m h1 h2 => by simp at h1 ⊢; omega)
  have key : ∀ (fu k : Nat) (g : Nat → Int32), k ≤ 8 → 8 < k + fu → (∀ r, r < k → g r = nI r) → AW X (0 + 1 + 1 + 1 + 1 + 1) (0 + 3 + 2 + 3 + 2 + 8) 48 [some (.ref (w.1 + c)), some (.int (nI k))] [] G3 (va_up I4 G2.1 g) L4 := by
    intro fu
    induction fu with
    | zero => intro k g hle hlt; exact absurd hlt (by omega)
    | succ fu ih =>
      intro k g hle hlt hg
      refine aw_iload1 h dX1_init_48 ?_
      refine aw_bipush h _ cb_8 dX1_init_49 ?_
      refine aw_icmp_geN h (tgt := 67) (by omega) (by decide) dX1_init_51 (by decide) (fun c51 => ?_) (fun c51 => ?_)
      · exact aw_vret h hr dX1_init_67 (⟨rfl, e3, hfin g (fun r hr => hg r (by omega))⟩) (by first | exact Nat.zero_le _ | exact Nat.le_refl _ | omega | exact Nat.le_of_ble_eq_true rfl) (by first | exact Nat.zero_le _ | exact Nat.le_refl _ | omega | exact Nat.le_of_ble_eq_true rfl)
      · refine aw_aload0 h dX1_init_54 ?_
        refine aw_getr h fl_X1_23 hsc dX1_init_55 rfl hPf ?_
        refine aw_iload1 h dX1_init_58 ?_
        refine aw_iload1 h dX1_init_59 ?_
        refine aw_iastN h hfa (by decide) (by omega) dX1_init_60 ?_
        rw [upd2_vup]
        refine aw_iincN1 h rfl dX1_init_61 ?_
        refine aw_goto h (tgt := 48) dX1_init_64 (by decide) ?_
        refine ih (k + 1) (va_up g k _) (by omega) (by omega) (fun j hj => ?_)
        by_cases e : j = k
        · subst e; rw [vup_s]
        · rw [vup_n _ _ e]; exact hg j (by omega)
  have hI4i : va_up I4 G2.1 (I4 G2.1) = I4 := vup_id I4 G2.1
  refine aw_iconst h _ ci_0 dX1_init_46 ?_
  refine aw_istore1 h rfl dX1_init_47 ?_
  have h9 := key 9 0 (I4 G2.1) (Nat.zero_le _) (by decide) (fun r hr => absurd hr (Nat.not_lt_zero _))
  rw [hI4i] at h9
  exact h9
