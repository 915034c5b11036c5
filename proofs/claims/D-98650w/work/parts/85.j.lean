/-! The JDK: lists, least constructors -/
set_option maxRecDepth 100000
/-- a list: its array, how much that holds, the elements -/
def LA (G : Gm) (I : Im) (l a cap : Nat) (els : List Nat) : Prop := SHP G l 19 3 ∧ G.2.2 l 1 = some a ∧ SHP G a 106 cap ∧ I l 2 = nI els.length ∧ els.length ≤ cap ∧ 2 ≤ cap ∧ cap ≤ 19 ∧ ∀ i, i < els.length → G.2.2 a i = some (els.getD i 0)
theorem met_j_coll {w : Wd} {G : Gm} {I : Im} {L : Lm} {n : Nat} : AMet w yJ0_init cJ0_init 1 none 1 40 0 0 [.ref (w.1 + n)] G I L (Exact none G I L) := by
  refine AMet.of (ls0 := [some (.ref (w.1 + n))]) rfl (Nat.le_of_ble_eq_true rfl) rfl (fun q hq => hq) (fun X h hl hr hi => ?_)
  refine aw_aload0 h dJ0_init_0 ?_
  refine aw_obj0 h o0_J0_1 dJ0_init_1 (Nat.le_of_ble_eq_true rfl) rfl ?_
  exact aw_vret h hr dJ0_init_4 (⟨rfl, rfl, rfl, rfl⟩) (Nat.zero_le _) (Nat.zero_le _)
theorem met_j_rec {w : Wd} {G : Gm} {I : Im} {L : Lm} {n : Nat} : AMet w yJ10_init cJ10_init 1 none 1 40 0 0 [.ref (w.1 + n)] G I L (Exact none G I L) := by
  refine AMet.of (ls0 := [some (.ref (w.1 + n))]) rfl (Nat.le_of_ble_eq_true rfl) rfl (fun q hq => hq) (fun X h hl hr hi => ?_)
  refine aw_aload0 h dJ10_init_0 ?_
  refine aw_obj0 h o0_J10_1 dJ10_init_1 (Nat.le_of_ble_eq_true rfl) rfl ?_
  exact aw_vret h hr dJ10_init_4 (⟨rfl, rfl, rfl, rfl⟩) (Nat.zero_le _) (Nat.zero_le _)
theorem met_j_value {w : Wd} {G : Gm} {I : Im} {L : Lm} {n : Nat} : AMet w yX9_init cX9_init 1 none 1 40 0 0 [.ref (w.1 + n)] G I L (Exact none G I L) := by
  refine AMet.of (ls0 := [some (.ref (w.1 + n))]) rfl (Nat.le_of_ble_eq_true rfl) rfl (fun q hq => hq) (fun X h hl hr hi => ?_)
  refine aw_aload0 h dX9_init_0 ?_
  refine aw_obj0 h o0_X9_1 dX9_init_1 (Nat.le_of_ble_eq_true rfl) rfl ?_
  exact aw_vret h hr dX9_init_4 (⟨rfl, rfl, rfl, rfl⟩) (Nat.zero_le _) (Nat.zero_le _)
theorem met_j_cond {w : Wd} {G : Gm} {I : Im} {L : Lm} {n : Nat} : AMet w yX14_init cX14_init 1 none 1 40 0 0 [.ref (w.1 + n)] G I L (Exact none G I L) := by
  refine AMet.of (ls0 := [some (.ref (w.1 + n))]) rfl (Nat.le_of_ble_eq_true rfl) rfl (fun q hq => hq) (fun X h hl hr hi => ?_)
  refine aw_aload0 h dX14_init_0 ?_
  refine aw_obj0 h o0_X14_1 dX14_init_1 (Nat.le_of_ble_eq_true rfl) rfl ?_
  exact aw_vret h hr dX14_init_4 (⟨rfl, rfl, rfl, rfl⟩) (Nat.zero_le _) (Nat.zero_le _)
theorem met_j_alist {w : Wd} {G : Gm} {I : Im} {L : Lm} {n : Nat} (hs : SHP G n 19 3) : AMet w yJ1_init cJ1_init 1 none 2 60 0 0 [.ref (w.1 + n)] G I L (Exact none G (upd2 I n 0 (nI 0)) L) := by
  refine AMet.of (ls0 := [some (.ref (w.1 + n))]) rfl (Nat.le_of_ble_eq_true rfl) rfl (fun q hq => hq) (fun X h hl hr hi => ?_)
  refine aw_aload0 h dJ1_init_0 ?_
  refine aw_callID0 h hl ci_J1_1 (met_j_coll) dJ1_init_1 (Nat.le_of_ble_eq_true rfl) rfl (Nat.zero_le _) (Nat.zero_le _) ?_
  refine aw_aload0 h dJ1_init_4 ?_
  refine aw_iconst h _ ci_0 dJ1_init_5 ?_
  refine aw_puti h fl_J1_7 ft_J1_7 (fun z => by cases z) hs dJ1_init_6 rfl ?_
  exact aw_vret h hr dJ1_init_9 (⟨rfl, rfl, rfl, rfl⟩) (Nat.zero_le _) (Nat.zero_le _)
theorem met_j_list0 {w : Wd} {G : Gm} {I : Im} {L : Lm} {n : Nat} (hs : SHP G n 19 3) : AMet w yJ2_init cJ2_init 2 none 3 80 1 2 [.ref (w.1 + n), .int (nI 2)] G I L (Exact none ((Gnew G 106 2).1, (Gnew G 106 2).2.1, upd2 (Gnew G 106 2).2.2 n 1 (some G.1)) (Inew G (upd2 I n 0 (nI 0))) (Lnew G L)) := by
  refine AMet.of (ls0 := [some (.ref (w.1 + n)), some (.int (nI 2))]) rfl (Nat.le_of_ble_eq_true rfl) rfl (fun q hq => hq) (fun X h hl hr hi => ?_)
  refine aw_aload0 h dJ2_init_0 ?_
  refine aw_callID0 h hl ci_J2_1 (met_j_alist hs) dJ2_init_1 (Nat.le_of_ble_eq_true rfl) rfl (by first | exact Nat.zero_le _ | exact Nat.le_refl _ | omega | exact Nat.le_of_ble_eq_true rfl) (by first | exact Nat.zero_le _ | exact Nat.le_refl _ | omega | exact Nat.le_of_ble_eq_true rfl) ?_
  refine aw_iload1 h dJ2_init_4 ?_
  refine aw_if_leN h (tgt := 19) (by decide) dJ2_init_5 (by decide) (fun c5 => ?_) (fun c5 => ?_)
  · exact absurd c5 (by decide)
  · refine aw_aload0 h dJ2_init_8 ?_
    refine aw_iload1 h dJ2_init_9 ?_
    refine aw_newq h (k := 106) (by simp) q211 q212 (by exact Nat.le_of_ble_eq_true rfl) (by first | exact Nat.zero_le _ | exact Nat.le_refl _ | omega | exact Nat.le_of_ble_eq_true rfl) (by first | exact Nat.zero_le _ | exact Nat.le_refl _ | omega | exact Nat.le_of_ble_eq_true rfl) dJ2_init_10 ?_
    refine aw_putr h fl_J2_9 ft_J2_9 (fun z => by cases z) hs.old dJ2_init_13 rfl rfl ?_
    refine aw_goto h (tgt := 60) dJ2_init_16 (by decide) ?_
    exact aw_vret h hr dJ2_init_60 (⟨rfl, rfl, rfl, rfl⟩) (by first | exact Nat.zero_le _ | exact Nat.le_refl _ | omega | exact Nat.le_of_ble_eq_true rfl) (by first | exact Nat.zero_le _ | exact Nat.le_refl _ | omega | exact Nat.le_of_ble_eq_true rfl)
theorem met_j_pre {w : Wd} {G : Gm} {I : Im} {L : Lm} {i n : Nat} (hk : i < n) (hn : n < 2 ^ 31) : AMet w yJ7_checkIndex cJ7_checkIndex 3 (some .int) 1 40 0 0 [.int (nI i), .int (nI n), .null] G I L (Exact (some (.int (nI i))) G I L) := by
  refine AMet.of (ls0 := [some (.int (nI i)), some (.int (nI n)), some (.null)]) rfl (Nat.le_of_ble_eq_true rfl) rfl (fun q hq => hq) (fun X h hl hr hi => ?_)
  refine aw_iload0 h dJ7_checkIndex_0 ?_
  refine aw_if_ltN h (tgt := 9) (by omega) dJ7_checkIndex_1 (by decide) (fun c1 => ?_) (fun c1 => ?_)
  · exact absurd c1 (by omega)
  · refine aw_iload0 h dJ7_checkIndex_4 ?_
    refine aw_iload1 h dJ7_checkIndex_5 ?_
    refine aw_icmp_ltN h (tgt := 16) (by omega) (by omega) dJ7_checkIndex_6 (by decide) (fun c6 => ?_) (fun c6 => ?_)
    · refine aw_iload0 h dJ7_checkIndex_16 ?_
      exact aw_iret h hr dJ7_checkIndex_17 (⟨rfl, rfl, rfl, rfl⟩) (Nat.zero_le _) (Nat.zero_le _)
    · exact absurd hk c6
theorem met_j_chk {w : Wd} {G : Gm} {I : Im} {L : Lm} {i n : Nat} (hk : i < n) (hn : n < 2 ^ 31) : AMet w yJ9_checkIndex cJ9_checkIndex 2 (some .int) 2 62 0 0 [.int (nI i), .int (nI n)] G I L (Exact (some (.int (nI i))) G I L) := by
  refine AMet.of (ls0 := [some (.int (nI i)), some (.int (nI n))]) rfl (Nat.le_of_ble_eq_true rfl) rfl (fun q hq => hq) (fun X h hl hr hi => ?_)
  refine aw_iload0 h dJ9_checkIndex_0 ?_
  refine aw_iload1 h dJ9_checkIndex_1 ?_
  refine aw_null h dJ9_checkIndex_2 ?_
  refine aw_callSE3 h hl cl_J9_105 (met_j_pre hk hn) dJ9_checkIndex_3 (Nat.le_of_ble_eq_true rfl) rfl (Nat.zero_le _) (Nat.zero_le _) ?_
  exact aw_iret h hr dJ9_checkIndex_6 (⟨rfl, rfl, rfl, rfl⟩) (Nat.zero_le _) (Nat.zero_le _)
theorem met_j_size {w : Wd} {G : Gm} {I : Im} {L : Lm} {l a cap : Nat} {els : List Nat} (hA : LA G I l a cap els) : AMet w yJ2_size cJ2_size 1 (some .int) 1 40 0 0 [.ref (w.1 + l)] G I L (Exact (some (.int (nI els.length))) G I L) := by
  refine AMet.of (ls0 := [some (.ref (w.1 + l))]) rfl (Nat.le_of_ble_eq_true rfl) rfl (fun q hq => hq) (fun X h hl hr hi => ?_)
  refine aw_aload0 h dJ2_size_0 ?_
  refine aw_getiV h fl_J2_48 hA.1 dJ2_size_1 rfl (hA.2.2.2.1) ?_
  exact aw_iret h hr dJ2_size_4 (⟨rfl, rfl, rfl, rfl⟩) (Nat.zero_le _) (Nat.zero_le _)
theorem met_j_elem {w : Wd} {G : Gm} {I : Im} {L : Lm} {l a cap : Nat} {els : List Nat} (hA : LA G I l a cap els) {i : Nat} (hk : i < els.length) : AMet w yJ2_elementData cJ2_elementData 2 (some (.object "java/lang/Object")) 1 40 0 0 [.ref (w.1 + l), .int (nI i)] G I L (Exact (some (.ref (w.1 + els.getD i 0))) G I L) := by
  refine AMet.of (ls0 := [some (.ref (w.1 + l)), some (.int (nI i))]) rfl (Nat.le_of_ble_eq_true rfl) rfl (fun q hq => hq) (fun X h hl hr hi => ?_)
  refine aw_aload0 h dJ2_elementData_0 ?_
  refine aw_getr h fl_J2_9 hA.1 dJ2_elementData_1 rfl hA.2.1 ?_
  refine aw_iload1 h dJ2_elementData_4 ?_
  refine aw_aaldN h hA.2.2.1 (by simp) (by have := hA.2.2.2.2.2.2.1; omega) (by have := hA.2.2.2.2.1; omega) dJ2_elementData_5 (hA.2.2.2.2.2.2.2 i hk) ?_
  exact aw_aret h rfl (by simp) hr dJ2_elementData_6 (⟨rfl, rfl, rfl, rfl⟩) (Nat.zero_le _) (Nat.zero_le _)
theorem met_j_get {w : Wd} {G : Gm} {I : Im} {L : Lm} {l a cap : Nat} {els : List Nat} (hA : LA G I l a cap els) {i : Nat} (hk : i < els.length) : AMet w yJ2_get cJ2_get 2 (some (.object "java/lang/Object")) 3 83 0 0 [.ref (w.1 + l), .int (nI i)] G I L (Exact (some (.ref (w.1 + els.getD i 0))) G I L) := by
  refine AMet.of (ls0 := [some (.ref (w.1 + l)), some (.int (nI i))]) rfl (Nat.le_of_ble_eq_true rfl) rfl (fun q hq => hq) (fun X h hl hr hi => ?_)
  have hl2 := hA.2.2.2.2.1
  have hl3 := hA.2.2.2.2.2.2.1
  refine aw_iload1 h dJ2_get_0 ?_
  refine aw_aload0 h dJ2_get_1 ?_
  refine aw_getiV h fl_J2_48 hA.1 dJ2_get_2 rfl (hA.2.2.2.1) ?_
  refine aw_callSE2 h hl cl_J2_118 (met_j_chk hk (by omega)) dJ2_get_5 (Nat.le_of_ble_eq_true rfl) rfl (Nat.zero_le _) (Nat.zero_le _) ?_
  refine aw_pop h rfl dJ2_get_8 ?_
  refine aw_aload0 h dJ2_get_9 ?_
  refine aw_iload1 h dJ2_get_10 ?_
  refine aw_callVE1 h hl cl_J2_123 (met_j_elem hA hk) hA.1 rfl dJ2_get_11 (Nat.le_of_ble_eq_true rfl) rfl (Nat.zero_le _) (Nat.zero_le _) ?_
  exact aw_aret h rfl (by simp) hr dJ2_get_14 (⟨rfl, rfl, rfl, rfl⟩) (Nat.zero_le _) (Nat.zero_le _)
