/-! The component: tests as trees, rules -/
set_option maxRecDepth 100000
theorem met_x_isCompared {w : Wd} {G : Gm} {I : Im} {L : Lm} {sl : Nat → Prop} {m d n : Nat} {cs : List Sg} (hm : SHP G m 101 12) {a b s : Nat} {ca cb : List Sg} (hs : SHP G n 16 4) (hV : VM w sl m d G I L) (ha : TV sl G I d a ca) (hb : TV sl G I d b cb) (hcs : cs = ca ++ cb ++ [(6 + s, 0)]) (hs4 : s ≤ 4) (hP0 : G.2.2 n 0 = some a) (hP1 : G.2.2 n 1 = some b) (hI2 : I n 2 = nI (cmC s)) (hI3 : I n 3 = bI (cmE s)) : AMet w yX16_is cX16_is 6 (some .boolean) (1 + (d + 1)) (40 + 30 * (d + 1)) 0 0 [.ref (w.1 + n), .ref (w.1 + m)] G I L (Exact (some (.int (bI (isC (L m) cs)))) G I L) := by
  refine AMet.of (ls0 := [some (.ref (w.1 + n)), some (.ref (w.1 + m)), none, none, none, none]) rfl (Nat.le_of_ble_eq_true rfl) rfl (fun q hq => hq) (fun X h hl hr hi => ?_)
  obtain ⟨b1, h1, h2⟩ := one_cmp s hs4 (valR (L m) ca) (valR (L m) cb)
  have hval : isC (L m) cs = b1 := by
    unfold isC
    rw [hcs, TV.val (L m) ha hb (by omega), h1, b64_1]
  rcases (by omega : s = 0 ∨ s = 1 ∨ s = 2 ∨ s = 3 ∨ s = 4) with rfl | rfl | rfl | rfl | rfl
  · have hI3n : I n 3 = nI 0 := hI3
    refine aw_aload0 h dX16_is_0 ?_
    refine aw_getr h fl_X16_7 hs dX16_is_1 rfl hP0 ?_
    refine aw_aload1 h dX16_is_4 ?_
    refine aw_of h hl ⟨cu_X16_24_X10, cu_X16_24_X11, cu_X16_24_X12⟩ hV ha (⟨by omega, by omega⟩) (Nat.zero_le _) (Nat.zero_le _) dX16_is_5 (Nat.le_of_ble_eq_true rfl) ?_
    refine aw_lstore2 h rfl dX16_is_8 ?_
    refine aw_aload0 h dX16_is_9 ?_
    refine aw_getr h fl_X16_13 hs dX16_is_10 rfl hP1 ?_
    refine aw_aload1 h dX16_is_13 ?_
    refine aw_of h hl ⟨cu_X16_24_X10, cu_X16_24_X11, cu_X16_24_X12⟩ hV hb (⟨by omega, by omega⟩) (Nat.zero_le _) (Nat.zero_le _) dX16_is_14 (Nat.le_of_ble_eq_true rfl) ?_
    refine aw_lstore4 h rfl dX16_is_17 ?_
    refine aw_lload2 h dX16_is_19 ?_
    refine aw_lload4 h dX16_is_20 ?_
    refine aw_lcmp_ne h (tgt := 50) dX16_is_22 dX16_is_23 (by decide) (fun c22 => ?_) (fun c22 => ?_)
    · refine aw_aload0 h dX16_is_50 ?_
      refine aw_getiV h fl_X16_16 hs dX16_is_51 rfl (hI2) ?_
      refine aw_bipush h _ cb_60 dX16_is_54 ?_
      refine aw_icmp_neN h (tgt := 66) (by decide) (by decide) dX16_is_56 (by decide) (fun c56 => ?_) (fun c56 => ?_)
      · exact absurd rfl c56
      · refine aw_lload2 h dX16_is_59 ?_
        refine aw_lload4 h dX16_is_60 ?_
        refine aw_lcmp_lt h (tgt := 82) dX16_is_62 dX16_is_63 (by decide) (fun c62 => ?_) (fun c62 => ?_)
        · refine aw_iconst h _ ci_1 dX16_is_82 ?_
          refine aw_goto h (tgt := 87) dX16_is_83 (by decide) ?_
          exact aw_zret h hr dX16_is_87 (by first | exact z01_0 | exact z01_1 | exact z01_b _) (⟨by rw [hval, h2]; first | (rw [if_pos (by assumption)]; rfl) | (rw [if_neg (by assumption)]; simp [cmE, *]; rfl) | (rw [if_neg (by assumption)]; simp [cmE, *]; done) | (rw [if_neg (by assumption)]; simp [cmE]; first | (rw [decide_eq_false (Int64.not_lt.mpr c78)]; rfl) | (rw [decide_eq_true (Int64.not_le.mp c78)]; rfl)), rfl, rfl, rfl⟩) (Nat.zero_le _) (Nat.zero_le _)
        · refine aw_aload0 h dX16_is_66 ?_
          refine aw_getiV h fl_X16_16 hs dX16_is_67 rfl (hI2) ?_
          refine aw_bipush h _ cb_62 dX16_is_70 ?_
          refine aw_icmp_neN h (tgt := 86) (by decide) (by decide) dX16_is_72 (by decide) (fun c72 => ?_) (fun c72 => ?_)
          · refine aw_iconst h _ ci_0 dX16_is_86 ?_
            exact aw_zret h hr dX16_is_87 (by first | exact z01_0 | exact z01_1 | exact z01_b _) (⟨by rw [hval, h2]; first | (rw [if_pos (by assumption)]; rfl) | (rw [if_neg (by assumption)]; simp [cmE, *]; rfl) | (rw [if_neg (by assumption)]; simp [cmE, *]; done) | (rw [if_neg (by assumption)]; simp [cmE]; first | (rw [decide_eq_false (Int64.not_lt.mpr c78)]; rfl) | (rw [decide_eq_true (Int64.not_le.mp c78)]; rfl)), rfl, rfl, rfl⟩) (Nat.zero_le _) (Nat.zero_le _)
          · exact absurd c72 (by decide)
    · refine aw_aload0 h dX16_is_26 ?_
      refine aw_getiV h fl_X16_16 hs dX16_is_27 rfl (hI2) ?_
      refine aw_bipush h _ cb_61 dX16_is_30 ?_
      refine aw_icmp_eqN h (tgt := 42) (by decide) (by decide) dX16_is_32 (by decide) (fun c32 => ?_) (fun c32 => ?_)
      · exact absurd c32 (by decide)
      · refine aw_aload0 h dX16_is_35 ?_
        refine aw_getiV h fl_X16_20 hs dX16_is_36 rfl (hI3n) ?_
        refine aw_if_eqN h (tgt := 46) (by decide) dX16_is_39 (by decide) (fun c39 => ?_) (fun c39 => ?_)
        · refine aw_iconst h _ ci_0 dX16_is_46 ?_
          refine aw_goto h (tgt := 87) dX16_is_47 (by decide) ?_
          exact aw_zret h hr dX16_is_87 (by first | exact z01_0 | exact z01_1 | exact z01_b _) (⟨by rw [hval, h2]; first | (rw [if_pos (by assumption)]; rfl) | (rw [if_neg (by assumption)]; simp [cmE, *]; rfl) | (rw [if_neg (by assumption)]; simp [cmE, *]; done) | (rw [if_neg (by assumption)]; simp [cmE]; first | (rw [decide_eq_false (Int64.not_lt.mpr c78)]; rfl) | (rw [decide_eq_true (Int64.not_le.mp c78)]; rfl)), rfl, rfl, rfl⟩) (Nat.zero_le _) (Nat.zero_le _)
        · exact absurd c39 (by decide)
  · have hI3n : I n 3 = nI 1 := hI3
    refine aw_aload0 h dX16_is_0 ?_
    refine aw_getr h fl_X16_7 hs dX16_is_1 rfl hP0 ?_
    refine aw_aload1 h dX16_is_4 ?_
    refine aw_of h hl ⟨cu_X16_24_X10, cu_X16_24_X11, cu_X16_24_X12⟩ hV ha (⟨by omega, by omega⟩) (Nat.zero_le _) (Nat.zero_le _) dX16_is_5 (Nat.le_of_ble_eq_true rfl) ?_
    refine aw_lstore2 h rfl dX16_is_8 ?_
    refine aw_aload0 h dX16_is_9 ?_
    refine aw_getr h fl_X16_13 hs dX16_is_10 rfl hP1 ?_
    refine aw_aload1 h dX16_is_13 ?_
    refine aw_of h hl ⟨cu_X16_24_X10, cu_X16_24_X11, cu_X16_24_X12⟩ hV hb (⟨by omega, by omega⟩) (Nat.zero_le _) (Nat.zero_le _) dX16_is_14 (Nat.le_of_ble_eq_true rfl) ?_
    refine aw_lstore4 h rfl dX16_is_17 ?_
    refine aw_lload2 h dX16_is_19 ?_
    refine aw_lload4 h dX16_is_20 ?_
    refine aw_lcmp_ne h (tgt := 50) dX16_is_22 dX16_is_23 (by decide) (fun c22 => ?_) (fun c22 => ?_)
    · refine aw_aload0 h dX16_is_50 ?_
      refine aw_getiV h fl_X16_16 hs dX16_is_51 rfl (hI2) ?_
      refine aw_bipush h _ cb_60 dX16_is_54 ?_
      refine aw_icmp_neN h (tgt := 66) (by decide) (by decide) dX16_is_56 (by decide) (fun c56 => ?_) (fun c56 => ?_)
      · exact absurd rfl c56
      · refine aw_lload2 h dX16_is_59 ?_
        refine aw_lload4 h dX16_is_60 ?_
        refine aw_lcmp_lt h (tgt := 82) dX16_is_62 dX16_is_63 (by decide) (fun c62 => ?_) (fun c62 => ?_)
        · refine aw_iconst h _ ci_1 dX16_is_82 ?_
          refine aw_goto h (tgt := 87) dX16_is_83 (by decide) ?_
          exact aw_zret h hr dX16_is_87 (by first | exact z01_0 | exact z01_1 | exact z01_b _) (⟨by rw [hval, h2]; first | (rw [if_pos (by assumption)]; rfl) | (rw [if_neg (by assumption)]; simp [cmE, *]; rfl) | (rw [if_neg (by assumption)]; simp [cmE, *]; done) | (rw [if_neg (by assumption)]; simp [cmE]; first | (rw [decide_eq_false (Int64.not_lt.mpr c78)]; rfl) | (rw [decide_eq_true (Int64.not_le.mp c78)]; rfl)), rfl, rfl, rfl⟩) (Nat.zero_le _) (Nat.zero_le _)
        · refine aw_aload0 h dX16_is_66 ?_
          refine aw_getiV h fl_X16_16 hs dX16_is_67 rfl (hI2) ?_
          refine aw_bipush h _ cb_62 dX16_is_70 ?_
          refine aw_icmp_neN h (tgt := 86) (by decide) (by decide) dX16_is_72 (by decide) (fun c72 => ?_) (fun c72 => ?_)
          · refine aw_iconst h _ ci_0 dX16_is_86 ?_
            exact aw_zret h hr dX16_is_87 (by first | exact z01_0 | exact z01_1 | exact z01_b _) (⟨by rw [hval, h2]; first | (rw [if_pos (by assumption)]; rfl) | (rw [if_neg (by assumption)]; simp [cmE, *]; rfl) | (rw [if_neg (by assumption)]; simp [cmE, *]; done) | (rw [if_neg (by assumption)]; simp [cmE]; first | (rw [decide_eq_false (Int64.not_lt.mpr c78)]; rfl) | (rw [decide_eq_true (Int64.not_le.mp c78)]; rfl)), rfl, rfl, rfl⟩) (Nat.zero_le _) (Nat.zero_le _)
          · exact absurd c72 (by decide)
    · refine aw_aload0 h dX16_is_26 ?_
      refine aw_getiV h fl_X16_16 hs dX16_is_27 rfl (hI2) ?_
      refine aw_bipush h _ cb_61 dX16_is_30 ?_
      refine aw_icmp_eqN h (tgt := 42) (by decide) (by decide) dX16_is_32 (by decide) (fun c32 => ?_) (fun c32 => ?_)
      · exact absurd c32 (by decide)
      · refine aw_aload0 h dX16_is_35 ?_
        refine aw_getiV h fl_X16_20 hs dX16_is_36 rfl (hI3n) ?_
        refine aw_if_eqN h (tgt := 46) (by decide) dX16_is_39 (by decide) (fun c39 => ?_) (fun c39 => ?_)
        · exact absurd c39 (by decide)
        · refine aw_iconst h _ ci_1 dX16_is_42 ?_
          refine aw_goto h (tgt := 87) dX16_is_43 (by decide) ?_
          exact aw_zret h hr dX16_is_87 (by first | exact z01_0 | exact z01_1 | exact z01_b _) (⟨by rw [hval, h2]; first | (rw [if_pos (by assumption)]; rfl) | (rw [if_neg (by assumption)]; simp [cmE, *]; rfl) | (rw [if_neg (by assumption)]; simp [cmE, *]; done) | (rw [if_neg (by assumption)]; simp [cmE]; first | (rw [decide_eq_false (Int64.not_lt.mpr c78)]; rfl) | (rw [decide_eq_true (Int64.not_le.mp c78)]; rfl)), rfl, rfl, rfl⟩) (Nat.zero_le _) (Nat.zero_le _)
  · have hI3n : I n 3 = nI 0 := hI3
    refine aw_aload0 h dX16_is_0 ?_
    refine aw_getr h fl_X16_7 hs dX16_is_1 rfl hP0 ?_
    refine aw_aload1 h dX16_is_4 ?_
    refine aw_of h hl ⟨cu_X16_24_X10, cu_X16_24_X11, cu_X16_24_X12⟩ hV ha (⟨by omega, by omega⟩) (Nat.zero_le _) (Nat.zero_le _) dX16_is_5 (Nat.le_of_ble_eq_true rfl) ?_
    refine aw_lstore2 h rfl dX16_is_8 ?_
    refine aw_aload0 h dX16_is_9 ?_
    refine aw_getr h fl_X16_13 hs dX16_is_10 rfl hP1 ?_
    refine aw_aload1 h dX16_is_13 ?_
    refine aw_of h hl ⟨cu_X16_24_X10, cu_X16_24_X11, cu_X16_24_X12⟩ hV hb (⟨by omega, by omega⟩) (Nat.zero_le _) (Nat.zero_le _) dX16_is_14 (Nat.le_of_ble_eq_true rfl) ?_
    refine aw_lstore4 h rfl dX16_is_17 ?_
    refine aw_lload2 h dX16_is_19 ?_
    refine aw_lload4 h dX16_is_20 ?_
    refine aw_lcmp_ne h (tgt := 50) dX16_is_22 dX16_is_23 (by decide) (fun c22 => ?_) (fun c22 => ?_)
    · refine aw_aload0 h dX16_is_50 ?_
      refine aw_getiV h fl_X16_16 hs dX16_is_51 rfl (hI2) ?_
      refine aw_bipush h _ cb_60 dX16_is_54 ?_
      refine aw_icmp_neN h (tgt := 66) (by decide) (by decide) dX16_is_56 (by decide) (fun c56 => ?_) (fun c56 => ?_)
      · refine aw_aload0 h dX16_is_66 ?_
        refine aw_getiV h fl_X16_16 hs dX16_is_67 rfl (hI2) ?_
        refine aw_bipush h _ cb_62 dX16_is_70 ?_
        refine aw_icmp_neN h (tgt := 86) (by decide) (by decide) dX16_is_72 (by decide) (fun c72 => ?_) (fun c72 => ?_)
        · refine aw_iconst h _ ci_0 dX16_is_86 ?_
          exact aw_zret h hr dX16_is_87 (by first | exact z01_0 | exact z01_1 | exact z01_b _) (⟨by rw [hval, h2]; first | (rw [if_pos (by assumption)]; rfl) | (rw [if_neg (by assumption)]; simp [cmE, *]; rfl) | (rw [if_neg (by assumption)]; simp [cmE, *]; done) | (rw [if_neg (by assumption)]; simp [cmE]; first | (rw [decide_eq_false (Int64.not_lt.mpr c78)]; rfl) | (rw [decide_eq_true (Int64.not_le.mp c78)]; rfl)), rfl, rfl, rfl⟩) (Nat.zero_le _) (Nat.zero_le _)
        · exact absurd c72 (by decide)
      · exact absurd c56 (by decide)
    · refine aw_aload0 h dX16_is_26 ?_
      refine aw_getiV h fl_X16_16 hs dX16_is_27 rfl (hI2) ?_
      refine aw_bipush h _ cb_61 dX16_is_30 ?_
      refine aw_icmp_eqN h (tgt := 42) (by decide) (by decide) dX16_is_32 (by decide) (fun c32 => ?_) (fun c32 => ?_)
      · refine aw_iconst h _ ci_1 dX16_is_42 ?_
        refine aw_goto h (tgt := 87) dX16_is_43 (by decide) ?_
        exact aw_zret h hr dX16_is_87 (by first | exact z01_0 | exact z01_1 | exact z01_b _) (⟨by rw [hval, h2]; first | (rw [if_pos (by assumption)]; rfl) | (rw [if_neg (by assumption)]; simp [cmE, *]; rfl) | (rw [if_neg (by assumption)]; simp [cmE, *]; done) | (rw [if_neg (by assumption)]; simp [cmE]; first | (rw [decide_eq_false (Int64.not_lt.mpr c78)]; rfl) | (rw [decide_eq_true (Int64.not_le.mp c78)]; rfl)), rfl, rfl, rfl⟩) (Nat.zero_le _) (Nat.zero_le _)
      · exact absurd rfl c32
  · have hI3n : I n 3 = nI 1 := hI3
    refine aw_aload0 h dX16_is_0 ?_
    refine aw_getr h fl_X16_7 hs dX16_is_1 rfl hP0 ?_
    refine aw_aload1 h dX16_is_4 ?_
    refine aw_of h hl ⟨cu_X16_24_X10, cu_X16_24_X11, cu_X16_24_X12⟩ hV ha (⟨by omega, by omega⟩) (Nat.zero_le _) (Nat.zero_le _) dX16_is_5 (Nat.le_of_ble_eq_true rfl) ?_
    refine aw_lstore2 h rfl dX16_is_8 ?_
    refine aw_aload0 h dX16_is_9 ?_
    refine aw_getr h fl_X16_13 hs dX16_is_10 rfl hP1 ?_
    refine aw_aload1 h dX16_is_13 ?_
    refine aw_of h hl ⟨cu_X16_24_X10, cu_X16_24_X11, cu_X16_24_X12⟩ hV hb (⟨by omega, by omega⟩) (Nat.zero_le _) (Nat.zero_le _) dX16_is_14 (Nat.le_of_ble_eq_true rfl) ?_
    refine aw_lstore4 h rfl dX16_is_17 ?_
    refine aw_lload2 h dX16_is_19 ?_
    refine aw_lload4 h dX16_is_20 ?_
    refine aw_lcmp_ne h (tgt := 50) dX16_is_22 dX16_is_23 (by decide) (fun c22 => ?_) (fun c22 => ?_)
    · refine aw_aload0 h dX16_is_50 ?_
      refine aw_getiV h fl_X16_16 hs dX16_is_51 rfl (hI2) ?_
      refine aw_bipush h _ cb_60 dX16_is_54 ?_
      refine aw_icmp_neN h (tgt := 66) (by decide) (by decide) dX16_is_56 (by decide) (fun c56 => ?_) (fun c56 => ?_)
      · refine aw_aload0 h dX16_is_66 ?_
        refine aw_getiV h fl_X16_16 hs dX16_is_67 rfl (hI2) ?_
        refine aw_bipush h _ cb_62 dX16_is_70 ?_
        refine aw_icmp_neN h (tgt := 86) (by decide) (by decide) dX16_is_72 (by decide) (fun c72 => ?_) (fun c72 => ?_)
        · exact absurd rfl c72
        · refine aw_lload2 h dX16_is_75 ?_
          refine aw_lload4 h dX16_is_76 ?_
          refine aw_lcmp_le h (tgt := 86) dX16_is_78 dX16_is_79 (by decide) (fun c78 => ?_) (fun c78 => ?_)
          · refine aw_iconst h _ ci_0 dX16_is_86 ?_
            exact aw_zret h hr dX16_is_87 (by first | exact z01_0 | exact z01_1 | exact z01_b _) (⟨by rw [hval, h2]; first | (rw [if_pos (by assumption)]; rfl) | (rw [if_neg (by assumption)]; simp [cmE, *]; rfl) | (rw [if_neg (by assumption)]; simp [cmE, *]; done) | (rw [if_neg (by assumption)]; simp [cmE]; first | (rw [decide_eq_false (Int64.not_lt.mpr c78)]; rfl) | (rw [decide_eq_true (Int64.not_le.mp c78)]; rfl)), rfl, rfl, rfl⟩) (Nat.zero_le _) (Nat.zero_le _)
          · refine aw_iconst h _ ci_1 dX16_is_82 ?_
            refine aw_goto h (tgt := 87) dX16_is_83 (by decide) ?_
            exact aw_zret h hr dX16_is_87 (by first | exact z01_0 | exact z01_1 | exact z01_b _) (⟨by rw [hval, h2]; first | (rw [if_pos (by assumption)]; rfl) | (rw [if_neg (by assumption)]; simp [cmE, *]; rfl) | (rw [if_neg (by assumption)]; simp [cmE, *]; done) | (rw [if_neg (by assumption)]; simp [cmE]; first | (rw [decide_eq_false (Int64.not_lt.mpr c78)]; rfl) | (rw [decide_eq_true (Int64.not_le.mp c78)]; rfl)), rfl, rfl, rfl⟩) (Nat.zero_le _) (Nat.zero_le _)
      · exact absurd c56 (by decide)
    · refine aw_aload0 h dX16_is_26 ?_
      refine aw_getiV h fl_X16_16 hs dX16_is_27 rfl (hI2) ?_
      refine aw_bipush h _ cb_61 dX16_is_30 ?_
      refine aw_icmp_eqN h (tgt := 42) (by decide) (by decide) dX16_is_32 (by decide) (fun c32 => ?_) (fun c32 => ?_)
      · exact absurd c32 (by decide)
      · refine aw_aload0 h dX16_is_35 ?_
        refine aw_getiV h fl_X16_20 hs dX16_is_36 rfl (hI3n) ?_
        refine aw_if_eqN h (tgt := 46) (by decide) dX16_is_39 (by decide) (fun c39 => ?_) (fun c39 => ?_)
        · exact absurd c39 (by decide)
        · refine aw_iconst h _ ci_1 dX16_is_42 ?_
          refine aw_goto h (tgt := 87) dX16_is_43 (by decide) ?_
          exact aw_zret h hr dX16_is_87 (by first | exact z01_0 | exact z01_1 | exact z01_b _) (⟨by rw [hval, h2]; first | (rw [if_pos (by assumption)]; rfl) | (rw [if_neg (by assumption)]; simp [cmE, *]; rfl) | (rw [if_neg (by assumption)]; simp [cmE, *]; done) | (rw [if_neg (by assumption)]; simp [cmE]; first | (rw [decide_eq_false (Int64.not_lt.mpr c78)]; rfl) | (rw [decide_eq_true (Int64.not_le.mp c78)]; rfl)), rfl, rfl, rfl⟩) (Nat.zero_le _) (Nat.zero_le _)
  · have hI3n : I n 3 = nI 0 := hI3
    refine aw_aload0 h dX16_is_0 ?_
    refine aw_getr h fl_X16_7 hs dX16_is_1 rfl hP0 ?_
    refine aw_aload1 h dX16_is_4 ?_
    refine aw_of h hl ⟨cu_X16_24_X10, cu_X16_24_X11, cu_X16_24_X12⟩ hV ha (⟨by omega, by omega⟩) (Nat.zero_le _) (Nat.zero_le _) dX16_is_5 (Nat.le_of_ble_eq_true rfl) ?_
    refine aw_lstore2 h rfl dX16_is_8 ?_
    refine aw_aload0 h dX16_is_9 ?_
    refine aw_getr h fl_X16_13 hs dX16_is_10 rfl hP1 ?_
    refine aw_aload1 h dX16_is_13 ?_
    refine aw_of h hl ⟨cu_X16_24_X10, cu_X16_24_X11, cu_X16_24_X12⟩ hV hb (⟨by omega, by omega⟩) (Nat.zero_le _) (Nat.zero_le _) dX16_is_14 (Nat.le_of_ble_eq_true rfl) ?_
    refine aw_lstore4 h rfl dX16_is_17 ?_
    refine aw_lload2 h dX16_is_19 ?_
    refine aw_lload4 h dX16_is_20 ?_
    refine aw_lcmp_ne h (tgt := 50) dX16_is_22 dX16_is_23 (by decide) (fun c22 => ?_) (fun c22 => ?_)
    · refine aw_aload0 h dX16_is_50 ?_
      refine aw_getiV h fl_X16_16 hs dX16_is_51 rfl (hI2) ?_
      refine aw_bipush h _ cb_60 dX16_is_54 ?_
      refine aw_icmp_neN h (tgt := 66) (by decide) (by decide) dX16_is_56 (by decide) (fun c56 => ?_) (fun c56 => ?_)
      · refine aw_aload0 h dX16_is_66 ?_
        refine aw_getiV h fl_X16_16 hs dX16_is_67 rfl (hI2) ?_
        refine aw_bipush h _ cb_62 dX16_is_70 ?_
        refine aw_icmp_neN h (tgt := 86) (by decide) (by decide) dX16_is_72 (by decide) (fun c72 => ?_) (fun c72 => ?_)
        · exact absurd rfl c72
        · refine aw_lload2 h dX16_is_75 ?_
          refine aw_lload4 h dX16_is_76 ?_
          refine aw_lcmp_le h (tgt := 86) dX16_is_78 dX16_is_79 (by decide) (fun c78 => ?_) (fun c78 => ?_)
          · refine aw_iconst h _ ci_0 dX16_is_86 ?_
            exact aw_zret h hr dX16_is_87 (by first | exact z01_0 | exact z01_1 | exact z01_b _) (⟨by rw [hval, h2]; first | (rw [if_pos (by assumption)]; rfl) | (rw [if_neg (by assumption)]; simp [cmE, *]; rfl) | (rw [if_neg (by assumption)]; simp [cmE, *]; done) | (rw [if_neg (by assumption)]; simp [cmE]; first | (rw [decide_eq_false (Int64.not_lt.mpr c78)]; rfl) | (rw [decide_eq_true (Int64.not_le.mp c78)]; rfl)), rfl, rfl, rfl⟩) (Nat.zero_le _) (Nat.zero_le _)
          · refine aw_iconst h _ ci_1 dX16_is_82 ?_
            refine aw_goto h (tgt := 87) dX16_is_83 (by decide) ?_
            exact aw_zret h hr dX16_is_87 (by first | exact z01_0 | exact z01_1 | exact z01_b _) (⟨by rw [hval, h2]; first | (rw [if_pos (by assumption)]; rfl) | (rw [if_neg (by assumption)]; simp [cmE, *]; rfl) | (rw [if_neg (by assumption)]; simp [cmE, *]; done) | (rw [if_neg (by assumption)]; simp [cmE]; first | (rw [decide_eq_false (Int64.not_lt.mpr c78)]; rfl) | (rw [decide_eq_true (Int64.not_le.mp c78)]; rfl)), rfl, rfl, rfl⟩) (Nat.zero_le _) (Nat.zero_le _)
      · exact absurd c56 (by decide)
    · refine aw_aload0 h dX16_is_26 ?_
      refine aw_getiV h fl_X16_16 hs dX16_is_27 rfl (hI2) ?_
      refine aw_bipush h _ cb_61 dX16_is_30 ?_
      refine aw_icmp_eqN h (tgt := 42) (by decide) (by decide) dX16_is_32 (by decide) (fun c32 => ?_) (fun c32 => ?_)
      · exact absurd c32 (by decide)
      · refine aw_aload0 h dX16_is_35 ?_
        refine aw_getiV h fl_X16_20 hs dX16_is_36 rfl (hI3n) ?_
        refine aw_if_eqN h (tgt := 46) (by decide) dX16_is_39 (by decide) (fun c39 => ?_) (fun c39 => ?_)
        · refine aw_iconst h _ ci_0 dX16_is_46 ?_
          refine aw_goto h (tgt := 87) dX16_is_47 (by decide) ?_
          exact aw_zret h hr dX16_is_87 (by first | exact z01_0 | exact z01_1 | exact z01_b _) (⟨by rw [hval, h2]; first | (rw [if_pos (by assumption)]; rfl) | (rw [if_neg (by assumption)]; simp [cmE, *]; rfl) | (rw [if_neg (by assumption)]; simp [cmE, *]; done) | (rw [if_neg (by assumption)]; simp [cmE]; first | (rw [decide_eq_false (Int64.not_lt.mpr c78)]; rfl) | (rw [decide_eq_true (Int64.not_le.mp c78)]; rfl)), rfl, rfl, rfl⟩) (Nat.zero_le _) (Nat.zero_le _)
        · exact absurd c39 (by decide)
theorem met_x_isNot {w : Wd} {G : Gm} {I : Im} {L : Lm} {sl : Nat → Prop} {m d n : Nat} {cs : List Sg} (hm : SHP G m 101 12) {a : Nat} {ca : List Sg} (hs : SHP G n 15 1) (hC : CM w sl m d G I L) (ha : TC sl G I d a ca) (hcs : cs = ca ++ [(11, 0)]) (hP0 : G.2.2 n 0 = some a) : AMet w yX15_is cX15_is 2 (some .boolean) (1 + (d + 1)) (40 + 30 * (d + 1)) 0 0 [.ref (w.1 + n), .ref (w.1 + m)] G I L (Exact (some (.int (bI (isC (L m) cs)))) G I L) := by
  refine AMet.of (ls0 := [some (.ref (w.1 + n)), some (.ref (w.1 + m))]) rfl (Nat.le_of_ble_eq_true rfl) rfl (fun q hq => hq) (fun X h hl hr hi => ?_)
  have hval := isC_not (L m) ha
  rw [← hcs] at hval
  refine aw_aload0 h dX15_is_0 ?_
  refine aw_getr h fl_X15_7 hs dX15_is_1 rfl hP0 ?_
  refine aw_aload1 h dX15_is_4 ?_
  refine aw_is h hl ⟨cu_X15_13_X16, cu_X15_13_X15, cu_X15_13_X17⟩ hC ha (⟨by omega, by omega⟩) (Nat.zero_le _) (Nat.zero_le _) dX15_is_5 (Nat.le_of_ble_eq_true rfl) ?_
  refine aw_if_neB h (tgt := 15) dX15_is_8 (by decide) (fun c8 => ?_) (fun c8 => ?_)
  · refine aw_iconst h _ ci_0 dX15_is_15 ?_
    exact aw_zret h hr dX15_is_16 (by first | exact z01_0 | exact z01_1 | exact z01_b _) (⟨by rw [hval, c8]; rfl, rfl, rfl, rfl⟩) (Nat.zero_le _) (Nat.zero_le _)
  · refine aw_iconst h _ ci_1 dX15_is_11 ?_
    refine aw_goto h (tgt := 16) dX15_is_12 (by decide) ?_
    exact aw_zret h hr dX15_is_16 (by first | exact z01_0 | exact z01_1 | exact z01_b _) (⟨by rw [hval, c8]; rfl, rfl, rfl, rfl⟩) (Nat.zero_le _) (Nat.zero_le _)
theorem met_x_isBoth {w : Wd} {G : Gm} {I : Im} {L : Lm} {sl : Nat → Prop} {m d n : Nat} {cs : List Sg} (hm : SHP G m 101 12) {a b k : Nat} {ca cb : List Sg} (hs : SHP G n 17 3) (hC : CM w sl m d G I L) (ha : TC sl G I d a ca) (hb : TC sl G I d b cb) (hcs : cs = ca ++ cb ++ [(k, 0)]) (hk : k = 12 ∨ k = 13) (hP0 : G.2.2 n 0 = some a) (hP1 : G.2.2 n 1 = some b) (hI2 : I n 2 = bI (decide (k = 13))) : AMet w yX17_is cX17_is 2 (some .boolean) (1 + (d + 1)) (40 + 30 * (d + 1)) 0 0 [.ref (w.1 + n), .ref (w.1 + m)] G I L (Exact (some (.int (bI (isC (L m) cs)))) G I L) := by
  refine AMet.of (ls0 := [some (.ref (w.1 + n)), some (.ref (w.1 + m))]) rfl (Nat.le_of_ble_eq_true rfl) rfl (fun q hq => hq) (fun X h hl hr hi => ?_)
  have hval := isC_two (L m) ha hb hk
  rw [← hcs] at hval
  rcases hk with rfl | rfl
  · have hI3 : I n 2 = nI 0 := hI2
    refine aw_aload0 h dX17_is_0 ?_
    refine aw_getiV h fl_X17_16 hs dX17_is_1 rfl (hI3) ?_
    refine aw_if_eqN h (tgt := 37) (by decide) dX17_is_4 (by decide) (fun c4 => ?_) (fun c4 => ?_)
    · refine aw_aload0 h dX17_is_37 ?_
      refine aw_getr h fl_X17_7 hs dX17_is_38 rfl hP0 ?_
      refine aw_aload1 h dX17_is_41 ?_
      refine aw_is h hl ⟨cu_X17_20_X16, cu_X17_20_X15, cu_X17_20_X17⟩ hC ha (⟨by omega, by omega⟩) (Nat.zero_le _) (Nat.zero_le _) dX17_is_42 (Nat.le_of_ble_eq_true rfl) ?_
      refine aw_if_eqB h (tgt := 63) dX17_is_45 (by decide) (fun c45 => ?_) (fun c45 => ?_)
      · refine aw_iconst h _ ci_0 dX17_is_63 ?_
        exact aw_zret h hr dX17_is_64 (by first | exact z01_0 | exact z01_1 | exact z01_b _) (⟨by rw [hval, if_neg (by decide), c45]; rfl, rfl, rfl, rfl⟩) (Nat.zero_le _) (Nat.zero_le _)
      · refine aw_aload0 h dX17_is_48 ?_
        refine aw_getr h fl_X17_13 hs dX17_is_49 rfl hP1 ?_
        refine aw_aload1 h dX17_is_52 ?_
        refine aw_is h hl ⟨cu_X17_20_X16, cu_X17_20_X15, cu_X17_20_X17⟩ hC hb (⟨by omega, by omega⟩) (Nat.zero_le _) (Nat.zero_le _) dX17_is_53 (Nat.le_of_ble_eq_true rfl) ?_
        refine aw_if_eqB h (tgt := 63) dX17_is_56 (by decide) (fun c56 => ?_) (fun c56 => ?_)
        · refine aw_iconst h _ ci_0 dX17_is_63 ?_
          exact aw_zret h hr dX17_is_64 (by first | exact z01_0 | exact z01_1 | exact z01_b _) (⟨by rw [hval, if_neg (by decide), c45, c56]; rfl, rfl, rfl, rfl⟩) (Nat.zero_le _) (Nat.zero_le _)
        · refine aw_iconst h _ ci_1 dX17_is_59 ?_
          refine aw_goto h (tgt := 64) dX17_is_60 (by decide) ?_
          exact aw_zret h hr dX17_is_64 (by first | exact z01_0 | exact z01_1 | exact z01_b _) (⟨by rw [hval, if_neg (by decide), c45, c56]; rfl, rfl, rfl, rfl⟩) (Nat.zero_le _) (Nat.zero_le _)
    · exact absurd c4 (by decide)
  · have hI3 : I n 2 = nI 1 := hI2
    refine aw_aload0 h dX17_is_0 ?_
    refine aw_getiV h fl_X17_16 hs dX17_is_1 rfl (hI3) ?_
    refine aw_if_eqN h (tgt := 37) (by decide) dX17_is_4 (by decide) (fun c4 => ?_) (fun c4 => ?_)
    · exact absurd c4 (by decide)
    · refine aw_aload0 h dX17_is_7 ?_
      refine aw_getr h fl_X17_7 hs dX17_is_8 rfl hP0 ?_
      refine aw_aload1 h dX17_is_11 ?_
      refine aw_is h hl ⟨cu_X17_20_X16, cu_X17_20_X15, cu_X17_20_X17⟩ hC ha (⟨by omega, by omega⟩) (Nat.zero_le _) (Nat.zero_le _) dX17_is_12 (Nat.le_of_ble_eq_true rfl) ?_
      refine aw_if_neB h (tgt := 29) dX17_is_15 (by decide) (fun c15 => ?_) (fun c15 => ?_)
      · refine aw_iconst h _ ci_1 dX17_is_29 ?_
        refine aw_goto h (tgt := 64) dX17_is_30 (by decide) ?_
        exact aw_zret h hr dX17_is_64 (by first | exact z01_0 | exact z01_1 | exact z01_b _) (⟨by rw [hval, if_pos rfl, c15]; rfl, rfl, rfl, rfl⟩) (Nat.zero_le _) (Nat.zero_le _)
      · refine aw_aload0 h dX17_is_18 ?_
        refine aw_getr h fl_X17_13 hs dX17_is_19 rfl hP1 ?_
        refine aw_aload1 h dX17_is_22 ?_
        refine aw_is h hl ⟨cu_X17_20_X16, cu_X17_20_X15, cu_X17_20_X17⟩ hC hb (⟨by omega, by omega⟩) (Nat.zero_le _) (Nat.zero_le _) dX17_is_23 (Nat.le_of_ble_eq_true rfl) ?_
        refine aw_if_eqB h (tgt := 33) dX17_is_26 (by decide) (fun c26 => ?_) (fun c26 => ?_)
        · refine aw_iconst h _ ci_0 dX17_is_33 ?_
          refine aw_goto h (tgt := 64) dX17_is_34 (by decide) ?_
          exact aw_zret h hr dX17_is_64 (by first | exact z01_0 | exact z01_1 | exact z01_b _) (⟨by rw [hval, if_pos rfl, c15, c26]; rfl, rfl, rfl, rfl⟩) (Nat.zero_le _) (Nat.zero_le _)
        · refine aw_iconst h _ ci_1 dX17_is_29 ?_
          refine aw_goto h (tgt := 64) dX17_is_30 (by decide) ?_
          exact aw_zret h hr dX17_is_64 (by first | exact z01_0 | exact z01_1 | exact z01_b _) (⟨by rw [hval, if_pos rfl, c15, c26]; rfl, rfl, rfl, rfl⟩) (Nat.zero_le _) (Nat.zero_le _)
theorem CM.all {w : Wd} {sl : Nat → Prop} {m : Nat} {G : Gm} {I : Im} {L : Lm} (hm : SHP G m 101 12) : ∀ d, CM w sl m d G I L := by
  intro d
  induction d with
  | zero => intro n cs h; cases h
  | succ d ih =>
    intro n cs h
    rcases h.2 with ⟨hs, a, b, ca, cb, s, h1, h2, h3, h4, h5, h6, h7, h8⟩ | ⟨hs, a, ca, h1, h2, h3⟩ | ⟨hs, a, b, ca, cb, k, h1, h2, h3, h4, h5, h6, h7⟩
    · exact ⟨fun _ => met_x_isCompared hm hs (VM.all hm d) h1 h2 h3 h4 h5 h6 h7 h8, fun q => absurd (hs.uni q) (by decide), fun q => absurd (hs.uni q) (by decide)⟩
    · exact ⟨fun q => absurd (hs.uni q) (by decide), fun _ => met_x_isNot hm hs ih h1 h2 h3, fun q => absurd (hs.uni q) (by decide)⟩
    · exact ⟨fun q => absurd (hs.uni q) (by decide), fun q => absurd (hs.uni q) (by decide), fun _ => met_x_isBoth hm hs ih h1 h2 h3 h4 h5 h6 h7⟩
/-- a clause as an object: trees no deeper than 400 -/
def TD (sl : Nat → Prop) (G : Gm) (I : Im) (n : Nat) (q : Cl) : Prop := sl n ∧ SHP G n 13 2 ∧ ∃ a, G.2.2 n 0 = some a ∧ TV sl G I 400 a q.1 ∧ (match q.2 with
  | none => G.2.2 n 1 = none
  | some t => ∃ b, G.2.2 n 1 = some b ∧ TC sl G I 400 b t)
/-- a rule as an object -/
def RU (sl : Nat → Prop) (G : Gm) (I : Im) (n : Nat) (cls : List Cl) : Prop := sl n ∧ SHP G n 8 1 ∧ ∃ l a cap es, sl l ∧ sl a ∧ G.2.2 n 0 = some l ∧ LA G I l a cap es ∧ es.length = cls.length ∧ cls.length ≤ 12 ∧ ∀ k, k < cls.length → TD sl G I (es.getD k 0) (cls.getD k ([], none))
theorem TC.b {sl : Nat → Prop} {G : Gm} {I : Im} (W : Nat → Int64) {d n : Nat} {cs : List Sg} (h : TC sl G I d n cs) : holdsV W ([], some cs) = isC W cs := rfl
def sgn64 (v : Int64) : Int32 := if v < lN 0 then -1 else if lN 0 < v then nI 1 else nI 0
theorem met_x_holds {w : Wd} {G : Gm} {I : Im} {L : Lm} {sl : Nat → Prop} {m n : Nat} (hm : SHP G m 101 12) {q : Cl} (hT : TD sl G I n q) : AMet w yX13_holds cX13_holds 2 (some .boolean) 402 12100 0 0 [.ref (w.1 + n), .ref (w.1 + m)] G I L (Exact (some (.int (bI (holdsV (L m) q)))) G I L) := by
  refine AMet.of (ls0 := [some (.ref (w.1 + n)), some (.ref (w.1 + m))]) rfl (Nat.le_of_ble_eq_true rfl) rfl (fun q hq => hq) (fun X h hl hr hi => ?_)
  obtain ⟨-, hs, a, hP0, hV, hC⟩ := hT
  cases hq : q.2 with
  | none =>
    rw [hq] at hC
    have hh : holdsV (L m) q = true := by unfold holdsV; rw [hq]
    refine aw_aload0 h dX13_holds_0 ?_
    refine aw_getr0 h fl_X13_13 hs dX13_holds_1 rfl hC ?_
    refine aw_ifnullN h (tgt := 18) dX13_holds_4 (by decide) ?_
    refine aw_iconst h _ ci_1 dX13_holds_18 ?_
    refine aw_goto h (tgt := 23) dX13_holds_19 (by decide) ?_
    exact aw_zret h hr dX13_holds_23 (by first | exact z01_0 | exact z01_1 | exact z01_b _) (⟨by rw [hh]; rfl, rfl, rfl, rfl⟩) (Nat.zero_le _) (Nat.zero_le _)
  | some t =>
    rw [hq] at hC
    obtain ⟨b, hP1, hb⟩ := hC
    have hh : holdsV (L m) q = isC (L m) t := by unfold holdsV; rw [hq]; rfl
    refine aw_aload0 h dX13_holds_0 ?_
    refine aw_getr h fl_X13_13 hs dX13_holds_1 rfl hP1 ?_
    refine aw_ifnull h dX13_holds_4 ?_
    refine aw_aload0 h dX13_holds_7 ?_
    refine aw_getr h fl_X13_13 hs dX13_holds_8 rfl hP1 ?_
    refine aw_aload1 h dX13_holds_11 ?_
    refine aw_is h hl ⟨cu_X13_17_X16, cu_X13_17_X15, cu_X13_17_X17⟩ (CM.all hm 400) hb (⟨by decide, by decide⟩) (Nat.zero_le _) (Nat.zero_le _) dX13_holds_12 (Nat.le_of_ble_eq_true rfl) ?_
    refine aw_if_eqB h (tgt := 22) dX13_holds_15 (by decide) (fun c15 => ?_) (fun c15 => ?_)
    · refine aw_iconst h _ ci_0 dX13_holds_22 ?_
      exact aw_zret h hr dX13_holds_23 (by first | exact z01_0 | exact z01_1 | exact z01_b _) (⟨by rw [hh, c15]; rfl, rfl, rfl, rfl⟩) (Nat.zero_le _) (Nat.zero_le _)
    · refine aw_iconst h _ ci_1 dX13_holds_18 ?_
      refine aw_goto h (tgt := 23) dX13_holds_19 (by decide) ?_
      exact aw_zret h hr dX13_holds_23 (by first | exact z01_0 | exact z01_1 | exact z01_b _) (⟨by rw [hh, c15]; rfl, rfl, rfl, rfl⟩) (Nat.zero_le _) (Nat.zero_le _)
theorem sg_sh (v : Int64) : (v >>> ((nI 63).toInt64 &&& 63)) = if v < lN 0 then -1 else lN 0 := by
  have e : ((nI 63).toInt64 &&& 63) = (63 : Int64) := by decide
  rw [e]
  apply Int64.toInt_inj.mp
  have h1 : (v >>> (63 : Int64)).toInt = v.toInt >>> 63 := by
    show (v.toBitVec.sshiftRight' ((63 : Int64).toBitVec.smod 64)).toInt = _
    show (v.toBitVec.sshiftRight ((63 : Int64).toBitVec.smod 64).toNat).toInt = _
    rw [show ((63 : Int64).toBitVec.smod 64 : BitVec 64).toNat = 63 by decide, BitVec.toInt_sshiftRight]
    rfl
  have hz0 : (lN 0).toInt = 0 := by decide
  have hl := Int64.le_toInt v
  have hu := Int64.toInt_lt v
  rw [h1, Int.shiftRight_eq_div_pow]
  by_cases h : v < lN 0
  · rw [if_pos h]
    have h2 : v.toInt < 0 := by rw [← hz0]; exact Int64.lt_iff_toInt_lt.mp h
    show _ = (-1 : Int)
    omega
  · rw [if_neg h]
    have h2 : 0 ≤ v.toInt := by
      rw [← hz0]; exact Int64.le_iff_toInt_le.mp (Int64.not_lt.mp h)
    show _ = (0 : Int)
    omega
theorem sg_us (v : Int64) : (v.toUInt64 >>> ((nI 63).toInt64.toUInt64 &&& Int64.toUInt64 63)).toInt64 = if v < lN 0 then lN 1 else lN 0 := by
  have e : ((nI 63).toInt64.toUInt64 &&& Int64.toUInt64 63) = (63 : UInt64) := by decide
  have hz0 : (lN 0).toInt = 0 := by decide
  rw [e]
  have h1 : (v.toUInt64 >>> (63 : UInt64)).toNat = v.toBitVec.toNat / 2 ^ 63 := by
    rw [UInt64.toNat_shiftRight, show ((63 : UInt64).toNat % 64) = 63 by decide, Nat.shiftRight_eq_div_pow]
    rfl
  have h2 : v.toInt = if 2 * v.toBitVec.toNat < 2 ^ 64 then (v.toBitVec.toNat : Int) else (v.toBitVec.toNat : Int) - (2 ^ 64 : Nat) := BitVec.toInt_eq_toNat_cond v.toBitVec
  have h3 := v.toBitVec.isLt
  by_cases h : v < lN 0
  · rw [if_pos h]
    have h4 : v.toInt < 0 := by rw [← hz0]; exact Int64.lt_iff_toInt_lt.mp h
    have h5 : (v.toUInt64 >>> (63 : UInt64)) = 1 := by
      apply UInt64.toNat_inj.mp
      rw [h1, show (1 : UInt64).toNat = 1 by decide]
      split at h2 <;> omega
    rw [h5]; decide
  · rw [if_neg h]
    have h4 : 0 ≤ v.toInt := by rw [← hz0]; exact Int64.le_iff_toInt_le.mp (Int64.not_lt.mp h)
    have h5 : (v.toUInt64 >>> (63 : UInt64)) = 0 := by
      apply UInt64.toNat_inj.mp
      rw [h1, show (0 : UInt64).toNat = 0 by decide]
      split at h2 <;> omega
    rw [h5]; decide
theorem sg_all (v : Int64) : ((if v < lN 0 then -1 else lN 0) ||| ((-v).toUInt64 >>> ((nI 63).toInt64.toUInt64 &&& Int64.toUInt64 63)).toInt64).toInt32 = sgn64 v := by
  have hz0 : (lN 0).toInt = 0 := by decide
  rw [sg_us]
  unfold sgn64
  have hu := Int64.toInt_lt v
  by_cases h : v < lN 0
  · rw [if_pos h, if_pos h]
    split <;> decide
  · rw [if_neg h, if_neg h]
    have h4 : 0 ≤ v.toInt := by rw [← hz0]; exact Int64.le_iff_toInt_le.mp (Int64.not_lt.mp h)
    have hn : (-v).toInt = -v.toInt := by
      rw [Int64.toInt_neg, Int.bmod_eq_of_le (by omega) (by omega)]
    by_cases h5 : lN 0 < v
    · have h6 : 0 < v.toInt := by rw [← hz0]; exact Int64.lt_iff_toInt_lt.mp h5
      rw [if_pos h5, if_pos (Int64.lt_iff_toInt_lt.mpr (by rw [hz0, hn]; omega))]
      decide
    · have h6 : v.toInt ≤ 0 := by rw [← hz0]; exact Int64.le_iff_toInt_le.mp (Int64.not_lt.mp h5)
      rw [if_neg h5, if_neg (fun q => by have := Int64.lt_iff_toInt_lt.mp q; rw [hz0, hn] at this; omega)]
      decide
theorem met_j_signum {w : Wd} {G : Gm} {I : Im} {L : Lm} {v : Int64} : AMet w yJ14_signum cJ14_signum 2 (some .int) 1 40 0 0 [.long v] G I L (Exact (some (.int (sgn64 v))) G I L) := by
  refine AMet.of (ls0 := [some (.long v), none]) rfl (Nat.le_of_ble_eq_true rfl) rfl (fun q hq => hq) (fun X h hl hr hi => ?_)
  refine aw_lload0 h dJ14_signum_0 ?_
  refine aw_bipush h _ cb_63 dJ14_signum_1 ?_
  refine aw_lshr h dJ14_signum_3 ?_
  refine aw_lload0 h dJ14_signum_4 ?_
  refine aw_lneg h dJ14_signum_5 ?_
  refine aw_bipush h _ cb_63 dJ14_signum_6 ?_
  refine aw_lushr h dJ14_signum_8 ?_
  refine aw_lor h dJ14_signum_9 ?_
  refine aw_l2i h dJ14_signum_10 ?_
  exact aw_iret h hr dJ14_signum_11 (⟨by rw [sg_sh]; exact congrArg (fun z => some (Value.int z)) (sg_all v), rfl, rfl, rfl⟩) (Nat.zero_le _) (Nat.zero_le _)
