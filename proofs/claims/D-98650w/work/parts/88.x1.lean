/-! The component: a castle is read -/
set_option maxRecDepth 100000
theorem le64 (x y : Int32) : (x.toInt64 ≤ y.toInt64) ↔ x ≤ y := by
  rw [Int64.le_iff_toInt_le, Int32.toInt_toInt64, Int32.toInt_toInt64, Int32.le_iff_toInt_le]
/-- what the castle says of the night -/
def ntK (K : CS) (t : Nat) : Bool := match kN K with
  | none => false
  | some q => decide (q.1 ≤ t % 24) && decide (t % 24 ≤ q.2)
def opK (K : CS) (t d : Nat) : Bool := decide (kF K (gK (kD K) d).1 ≠ kF K (gK (kD K) d).2.1) && (decide ((gK (kD K) d).2.2 = 0) || ntK K t)
def inK (K : CS) (d : Nat) : Nat := tnA (kF K) (gK (kD K) d)
def ouK (K : CS) (d : Nat) : Nat := tnC (kF K) (gK (kD K) d)
def beK (K : CS) (t a b : Nat) : Int32 := fI (fun d => joinF (kD K) a b d && opK K t d) (kD K).length
def foK (K : CS) (t a : Nat) : Int32 := fI (fun d => opK K t d && decide (inK K d = a)) (kD K).length
theorem met_x_in {w : Wd} {G : Gm} {I : Im} {L : Lm} {v lo up : Int64} : AMet w yX0_in cX0_in 6 (some .boolean) 1 40 0 0 [.long v, .long lo, .long up] G I L (Exact (some (.int (bI (decide (lo ≤ v) && decide (v ≤ up))))) G I L) := by
  refine AMet.of (ls0 := [some (.long v), none, some (.long lo), none, some (.long up), none]) rfl (Nat.le_of_ble_eq_true rfl) rfl (fun q hq => hq) (fun X h hl hr hi => ?_)
  refine aw_lload0 h dX0_in_0 ?_
  refine aw_lload2 h dX0_in_1 ?_
  refine aw_lcmp_lt h (tgt := 17) dX0_in_2 dX0_in_3 (by decide) (fun c2 => ?_) (fun c2 => ?_)
  · refine aw_iconst h _ ci_0 dX0_in_17 ?_
    exact aw_zret h hr dX0_in_18 (by first | exact z01_0 | exact z01_1 | exact z01_b _) (⟨by rw [decide_eq_false (Int64.not_le.mpr c2)]; rfl, rfl, rfl, rfl⟩) (Nat.zero_le _) (Nat.zero_le _)
  · refine aw_lload0 h dX0_in_6 ?_
    refine aw_lload4 h dX0_in_7 ?_
    refine aw_lcmp_gt h (tgt := 17) dX0_in_9 dX0_in_10 (by decide) (fun c9 => ?_) (fun c9 => ?_)
    · refine aw_iconst h _ ci_0 dX0_in_17 ?_
      exact aw_zret h hr dX0_in_18 (by first | exact z01_0 | exact z01_1 | exact z01_b _) (⟨by rw [decide_eq_false (p := v ≤ up) (Int64.not_le.mpr c9), Bool.and_false]; rfl, rfl, rfl, rfl⟩) (Nat.zero_le _) (Nat.zero_le _)
    · refine aw_iconst h _ ci_1 dX0_in_13 ?_
      refine aw_goto h (tgt := 18) dX0_in_14 (by decide) ?_
      exact aw_zret h hr dX0_in_18 (by first | exact z01_0 | exact z01_1 | exact z01_b _) (⟨by rw [decide_eq_true (Int64.not_lt.mp c2), decide_eq_true (p := v ≤ up) (Int64.not_lt.mp c9)]; rfl, rfl, rfl, rfl⟩) (Nat.zero_le _) (Nat.zero_le _)
theorem met_x_bit {w : Wd} {G : Gm} {I : Im} {L : Lm} {b : Bool} : AMet w yX0_bit cX0_bit 1 (some .int) 1 40 0 0 [.int (bI b)] G I L (Exact (some (.int (bI b))) G I L) := by
  refine AMet.of (ls0 := [some (.int (bI b))]) rfl (Nat.le_of_ble_eq_true rfl) rfl (fun q hq => hq) (fun X h hl hr hi => ?_)
  refine aw_iload0 h dX0_bit_0 ?_
  refine aw_if_eqB h (tgt := 8) dX0_bit_1 (by decide) (fun c1 => ?_) (fun c1 => ?_)
  · refine aw_iconst h _ ci_0 dX0_bit_8 ?_
    exact aw_iret h hr dX0_bit_9 (⟨by rw [c1]; rfl, rfl, rfl, rfl⟩) (Nat.zero_le _) (Nat.zero_le _)
  · refine aw_iconst h _ ci_1 dX0_bit_4 ?_
    refine aw_goto h (tgt := 9) dX0_bit_5 (by decide) ?_
    exact aw_iret h hr dX0_bit_9 (⟨by rw [c1]; rfl, rfl, rfl, rfl⟩) (Nat.zero_le _) (Nat.zero_le _)
theorem met_x_joins {w : Wd} {G : Gm} {I : Im} {L : Lm} {d a b x y : Nat} (hs : SHP G d 6 3) (h0 : I d 0 = nI x) (h1 : I d 1 = nI y) (hx : x < 100) (hy : y < 100) (ha : a < 100) (hb : b < 100) : AMet w yX6_joins cX6_joins 3 (some .boolean) 1 40 0 0 [.ref (w.1 + d), .int (nI a), .int (nI b)] G I L (Exact (some (.int (bI ((decide (x = a) && decide (y = b)) || (decide (x = b) && decide (y = a)))))) G I L) := by
  refine AMet.of (ls0 := [some (.ref (w.1 + d)), some (.int (nI a)), some (.int (nI b))]) rfl (Nat.le_of_ble_eq_true rfl) rfl (fun q hq => hq) (fun X h hl hr hi => ?_)
  refine aw_aload0 h dX6_joins_0 ?_
  refine aw_getiV h fl_X6_7 hs dX6_joins_1 rfl (h0) ?_
  refine aw_iload1 h dX6_joins_4 ?_
  refine aw_icmp_neN h (tgt := 16) (by omega) (by omega) dX6_joins_5 (by decide) (fun c5 => ?_) (fun c5 => ?_)
  · refine aw_aload0 h dX6_joins_16 ?_
    refine aw_getiV h fl_X6_7 hs dX6_joins_17 rfl (h0) ?_
    refine aw_iload2 h dX6_joins_20 ?_
    refine aw_icmp_neN h (tgt := 36) (by omega) (by omega) dX6_joins_21 (by decide) (fun c21 => ?_) (fun c21 => ?_)
    · refine aw_iconst h _ ci_0 dX6_joins_36 ?_
      exact aw_zret h hr dX6_joins_37 (by first | exact z01_0 | exact z01_1 | exact z01_b _) (ExB0 (by rw [decide_eq_false c5, decide_eq_false c21]; rfl)) (Nat.zero_le _) (Nat.zero_le _)
    · refine aw_aload0 h dX6_joins_24 ?_
      refine aw_getiV h fl_X6_13 hs dX6_joins_25 rfl (h1) ?_
      refine aw_iload1 h dX6_joins_28 ?_
      refine aw_icmp_neN h (tgt := 36) (by omega) (by omega) dX6_joins_29 (by decide) (fun c29 => ?_) (fun c29 => ?_)
      · refine aw_iconst h _ ci_0 dX6_joins_36 ?_
        exact aw_zret h hr dX6_joins_37 (by first | exact z01_0 | exact z01_1 | exact z01_b _) (ExB0 (by rw [decide_eq_false c5, decide_eq_false c29, Bool.and_false]; rfl)) (Nat.zero_le _) (Nat.zero_le _)
      · refine aw_iconst h _ ci_1 dX6_joins_32 ?_
        refine aw_goto h (tgt := 37) dX6_joins_33 (by decide) ?_
        exact aw_zret h hr dX6_joins_37 (by first | exact z01_0 | exact z01_1 | exact z01_b _) (ExB1 (by rw [decide_eq_true c21, decide_eq_true c29]; simp)) (Nat.zero_le _) (Nat.zero_le _)
  · refine aw_aload0 h dX6_joins_8 ?_
    refine aw_getiV h fl_X6_13 hs dX6_joins_9 rfl (h1) ?_
    refine aw_iload2 h dX6_joins_12 ?_
    refine aw_icmp_eqN h (tgt := 32) (by omega) (by omega) dX6_joins_13 (by decide) (fun c13 => ?_) (fun c13 => ?_)
    · refine aw_iconst h _ ci_1 dX6_joins_32 ?_
      refine aw_goto h (tgt := 37) dX6_joins_33 (by decide) ?_
      exact aw_zret h hr dX6_joins_37 (by first | exact z01_0 | exact z01_1 | exact z01_b _) (ExB1 (by rw [decide_eq_true c5, decide_eq_true c13]; rfl)) (Nat.zero_le _) (Nat.zero_le _)
    · refine aw_aload0 h dX6_joins_16 ?_
      refine aw_getiV h fl_X6_7 hs dX6_joins_17 rfl (h0) ?_
      refine aw_iload2 h dX6_joins_20 ?_
      refine aw_icmp_neN h (tgt := 36) (by omega) (by omega) dX6_joins_21 (by decide) (fun c21 => ?_) (fun c21 => ?_)
      · refine aw_iconst h _ ci_0 dX6_joins_36 ?_
        exact aw_zret h hr dX6_joins_37 (by first | exact z01_0 | exact z01_1 | exact z01_b _) (ExB0 (by rw [decide_eq_false c13, decide_eq_false c21]; simp)) (Nat.zero_le _) (Nat.zero_le _)
      · refine aw_aload0 h dX6_joins_24 ?_
        refine aw_getiV h fl_X6_13 hs dX6_joins_25 rfl (h1) ?_
        refine aw_iload1 h dX6_joins_28 ?_
        refine aw_icmp_neN h (tgt := 36) (by omega) (by omega) dX6_joins_29 (by decide) (fun c29 => ?_) (fun c29 => ?_)
        · refine aw_iconst h _ ci_0 dX6_joins_36 ?_
          exact aw_zret h hr dX6_joins_37 (by first | exact z01_0 | exact z01_1 | exact z01_b _) (ExB0 (by rw [decide_eq_false c13, decide_eq_false c29]; simp)) (Nat.zero_le _) (Nat.zero_le _)
        · refine aw_iconst h _ ci_1 dX6_joins_32 ?_
          refine aw_goto h (tgt := 37) dX6_joins_33 (by decide) ?_
          exact aw_zret h hr dX6_joins_37 (by first | exact z01_0 | exact z01_1 | exact z01_b _) (ExB1 (by rw [decide_eq_true c21, decide_eq_true c29]; simp)) (Nat.zero_le _) (Nat.zero_le _)
theorem met_x_many {w : Wd} {G : Gm} {I : Im} {L : Lm} {c pl pa dl da fa : Nat} {ps ds : List Nat} {K : CS} (hK : KAt G I c K pl pa dl da fa ps ds) (hok : CSok K) : AMet w yX1_many cX1_many 1 (some .int) 2 60 0 0 [.ref (w.1 + c)] G I L (Exact (some (.int (nI (kP K).length))) G I L) := by
  refine AMet.of (ls0 := [some (.ref (w.1 + c))]) rfl (Nat.le_of_ble_eq_true rfl) rfl (fun q hq => hq) (fun X h hl hr hi => ?_)
  obtain ⟨cp, hLp⟩ := hK.2.2.2.2.2.1
  obtain ⟨cd, hLd⟩ := hK.2.2.2.2.2.2.1
  have hpl := hK.2.2.2.2.2.2.2.1
  have hdl := hK.2.2.2.2.2.2.2.2.1
  have hdk := hK.2.2.2.2.2.2.2.2.2.2.1
  have hfr := hK.2.2.2.2.2.2.2.2.2.2.2.2.2
  have hR8 := hok.2.1
  have hD14 := hok.2.2.1
  have hP4 := hok.2.2.2.1
  have hdo := hok.2.2.2.2.1
  have hf9 := hok.2.2.2.2.2.2.2
  refine aw_aload0 h dX1_many_0 ?_
  refine aw_getr h fl_X1_14 hK.1 dX1_many_1 rfl hK.2.1 ?_
  refine aw_callVE0 h hl cl_X1_34 (met_j_size hLp) hLp.1 rfl dX1_many_4 (Nat.le_of_ble_eq_true rfl) rfl (Nat.zero_le _) (Nat.zero_le _) ?_
  exact aw_iret h hr dX1_many_7 (⟨by rw [hpl], rfl, rfl, rfl⟩) (Nat.zero_le _) (Nat.zero_le _)
theorem ne_m1 {a : Nat} (h : a < 2 ^ 31) : ¬ nI a = -1 := fun e => by
  have h1 : (0 : Int32) ≤ nI a := nI_pos' h
  rw [e] at h1; exact absurd h1 (by decide)
theorem met_x_isNight {w : Wd} {G : Gm} {I : Im} {L : Lm} {c pl pa dl da fa : Nat} {ps ds : List Nat} {K : CS} (hK : KAt G I c K pl pa dl da fa ps ds) (hok : CSok K) {t : Nat} (ht : t < 2 ^ 30) : AMet w yX1_isNight cX1_isNight 2 (some .boolean) 2 65 0 0 [.ref (w.1 + c), .int (nI t)] G I L (Exact (some (.int (bI (ntK K t)))) G I L) := by
  refine AMet.of (ls0 := [some (.ref (w.1 + c)), some (.int (nI t))]) rfl (Nat.le_of_ble_eq_true rfl) rfl (fun q hq => hq) (fun X h hl hr hi => ?_)
  obtain ⟨cp, hLp⟩ := hK.2.2.2.2.2.1
  obtain ⟨cd, hLd⟩ := hK.2.2.2.2.2.2.1
  have hpl := hK.2.2.2.2.2.2.2.1
  have hdl := hK.2.2.2.2.2.2.2.2.1
  have hdk := hK.2.2.2.2.2.2.2.2.2.2.1
  have hfr := hK.2.2.2.2.2.2.2.2.2.2.2.2.2
  have hR8 := hok.2.1
  have hD14 := hok.2.2.1
  have hP4 := hok.2.2.2.1
  have hdo := hok.2.2.2.2.1
  have hf9 := hok.2.2.2.2.2.2.2
  have hni := hK.2.2.2.2.2.2.2.2.2.2.2.2.1
  cases hn : kN K with
  | none =>
    rw [hn] at hni
    refine aw_aload0 h dX1_isNight_0 ?_
    refine aw_getiV h fl_X1_27 hK.1 dX1_isNight_1 rfl (hni.1) ?_
    refine aw_iconst h _ ci_m1 dX1_isNight_4 ?_
    refine aw_icmp_eq h (tgt := 33) dX1_isNight_5 (by decide) (fun c5 => ?_) (fun c5 => ?_)
    · refine aw_iconst h _ ci_0 dX1_isNight_33 ?_
      exact aw_zret h hr dX1_isNight_34 (by first | exact z01_0 | exact z01_1 | exact z01_b _) (⟨by unfold ntK; rw [hn]; rfl, rfl, rfl, rfl⟩) (Nat.zero_le _) (Nat.zero_le _)
    · exact absurd rfl c5
  | some q =>
    rw [hn] at hni
    have hq := hok.2.2.2.2.2.2.1 q hn
    have hnt : ntK K t = (decide (q.1 ≤ t % 24) && decide (t % 24 ≤ q.2)) := by unfold ntK; rw [hn]
    refine aw_aload0 h dX1_isNight_0 ?_
    refine aw_getiV h fl_X1_27 hK.1 dX1_isNight_1 rfl (hni.1) ?_
    refine aw_iconst h _ ci_m1 dX1_isNight_4 ?_
    refine aw_icmp_eq h (tgt := 33) dX1_isNight_5 (by decide) (fun c5 => ?_) (fun c5 => ?_)
    · exact absurd c5 (ne_m1 (by omega))
    · refine aw_iload1 h dX1_isNight_8 ?_
      refine aw_bipush h _ cb_24 dX1_isNight_9 ?_
      refine aw_iremN h (by omega) (by omega) (by omega) dX1_isNight_11 ?_
      refine aw_i2lN h (by omega) dX1_isNight_12 ?_
      refine aw_aload0 h dX1_isNight_13 ?_
      refine aw_getiV h fl_X1_27 hK.1 dX1_isNight_14 rfl (hni.1) ?_
      refine aw_i2lN h (by omega) dX1_isNight_17 ?_
      refine aw_aload0 h dX1_isNight_18 ?_
      refine aw_getiV h fl_X1_31 hK.1 dX1_isNight_19 rfl (hni.2) ?_
      refine aw_i2lN h (by omega) dX1_isNight_22 ?_
      refine aw_callSNE3 h hl sn_X1_38 (met_x_in) dX1_isNight_23 (Nat.le_of_ble_eq_true rfl) rfl (Nat.zero_le _) (Nat.zero_le _) ?_
      rw [show (decide (lN q.1 ≤ lN (t % 24)) && decide (lN (t % 24) ≤ lN q.2)) = ntK K t by rw [hnt, decide_eq_decide.mpr (lN_le (a := q.1) (b := t % 24) (by omega) (by omega)), decide_eq_decide.mpr (lN_le (a := t % 24) (b := q.2) (by omega) (by omega))]]
      refine aw_if_eqB h (tgt := 33) dX1_isNight_26 (by decide) (fun c26 => ?_) (fun c26 => ?_)
      · refine aw_iconst h _ ci_0 dX1_isNight_33 ?_
        exact aw_zret h hr dX1_isNight_34 (by first | exact z01_0 | exact z01_1 | exact z01_b _) (⟨by rw [c26]; rfl, rfl, rfl, rfl⟩) (Nat.zero_le _) (Nat.zero_le _)
      · refine aw_iconst h _ ci_1 dX1_isNight_29 ?_
        refine aw_goto h (tgt := 34) dX1_isNight_30 (by decide) ?_
        exact aw_zret h hr dX1_isNight_34 (by first | exact z01_0 | exact z01_1 | exact z01_b _) (⟨by rw [c26]; rfl, rfl, rfl, rfl⟩) (Nat.zero_le _) (Nat.zero_le _)
theorem met_x_isOpen {w : Wd} {G : Gm} {I : Im} {L : Lm} {c pl pa dl da fa : Nat} {ps ds : List Nat} {K : CS} (hK : KAt G I c K pl pa dl da fa ps ds) (hok : CSok K) {d t : Nat} (hd : d < (kD K).length) (ht : t < 2 ^ 30) : AMet w yX1_isOpen cX1_isOpen 4 (some .boolean) 4 104 0 0 [.ref (w.1 + c), .int (nI d), .int (nI t)] G I L (Exact (some (.int (bI (opK K t d)))) G I L) := by
  refine AMet.of (ls0 := [some (.ref (w.1 + c)), some (.int (nI d)), some (.int (nI t)), none]) rfl (Nat.le_of_ble_eq_true rfl) rfl (fun q hq => hq) (fun X h hl hr hi => ?_)
  obtain ⟨cp, hLp⟩ := hK.2.2.2.2.2.1
  obtain ⟨cd, hLd⟩ := hK.2.2.2.2.2.2.1
  have hpl := hK.2.2.2.2.2.2.2.1
  have hdl := hK.2.2.2.2.2.2.2.2.1
  have hdk := hK.2.2.2.2.2.2.2.2.2.2.1
  have hfr := hK.2.2.2.2.2.2.2.2.2.2.2.2.2
  have hR8 := hok.2.1
  have hD14 := hok.2.2.1
  have hP4 := hok.2.2.2.1
  have hdo := hok.2.2.2.2.1
  have hf9 := hok.2.2.2.2.2.2.2
  have hdl2 : d < ds.length := by omega
  have hdx := hdo d hd
  have hdv := hdk d hdl2
  have hfa := hf9 _ (show (gK (kD K) d).1 < 8 by omega)
  have hfb := hf9 _ (show (gK (kD K) d).2.1 < 8 by omega)
  have hra := hfr _ (show (gK (kD K) d).1 < 8 by omega)
  have hrb := hfr _ (show (gK (kD K) d).2.1 < 8 by omega)
  refine aw_aload0 h dX1_isOpen_0 ?_
  refine aw_getr h fl_X1_20 hK.1 dX1_isOpen_1 rfl hK.2.2.1 ?_
  refine aw_iload1 h dX1_isOpen_4 ?_
  refine aw_callVE1 h hl cl_X1_42 (met_j_get hLd (i := d) hdl2) hLd.1 rfl dX1_isOpen_5 (Nat.le_of_ble_eq_true rfl) rfl (Nat.zero_le _) (Nat.zero_le _) ?_
  refine aw_cast h (hdk d hdl2).1 (by decide) rfl q639 (Or.inl rfl) dX1_isOpen_8 ?_
  refine aw_astore3 h rfl dX1_isOpen_11 ?_
  refine aw_aload0 h dX1_isOpen_12 ?_
  refine aw_getr h fl_X1_23 hK.1 dX1_isOpen_13 rfl hK.2.2.2.1 ?_
  refine aw_aload3 h dX1_isOpen_16 ?_
  refine aw_getiV h fl_X1_52 (hdk d hdl2).1 dX1_isOpen_17 rfl (hdv.2.1) ?_
  refine aw_ialdV h hK.2.2.2.2.1 (by decide) (by omega) dX1_isOpen_20 (hra) ?_
  refine aw_aload0 h dX1_isOpen_21 ?_
  refine aw_getr h fl_X1_23 hK.1 dX1_isOpen_22 rfl hK.2.2.2.1 ?_
  refine aw_aload3 h dX1_isOpen_25 ?_
  refine aw_getiV h fl_X1_55 (hdk d hdl2).1 dX1_isOpen_26 rfl (hdv.2.2.1) ?_
  refine aw_ialdV h hK.2.2.2.2.1 (by decide) (by omega) dX1_isOpen_29 (hrb) ?_
  refine aw_icmp_eqN h (tgt := 52) (by omega) (by omega) dX1_isOpen_30 (by decide) (fun c30 => ?_) (fun c30 => ?_)
  · refine aw_iconst h _ ci_0 dX1_isOpen_52 ?_
    exact aw_zret h hr dX1_isOpen_53 (by first | exact z01_0 | exact z01_1 | exact z01_b _) (ExB0 (by unfold opK; rw [decide_eq_false (by omega)]; rfl)) (Nat.zero_le _) (Nat.zero_le _)
  · refine aw_aload3 h dX1_isOpen_33 ?_
    refine aw_getiV h fl_X1_58 (hdk d hdl2).1 dX1_isOpen_34 rfl (hdv.2.2.2) ?_
    refine aw_if_eqN h (tgt := 48) (by omega) dX1_isOpen_37 (by decide) (fun c37 => ?_) (fun c37 => ?_)
    · refine aw_iconst h _ ci_1 dX1_isOpen_48 ?_
      refine aw_goto h (tgt := 53) dX1_isOpen_49 (by decide) ?_
      exact aw_zret h hr dX1_isOpen_53 (by first | exact z01_0 | exact z01_1 | exact z01_b _) (ExB1 (by unfold opK; rw [decide_eq_true (by omega), decide_eq_true c37]; rfl)) (Nat.zero_le _) (Nat.zero_le _)
    · refine aw_aload0 h dX1_isOpen_40 ?_
      refine aw_iload2 h dX1_isOpen_41 ?_
      refine aw_callVE1 h hl cl_X1_62 (met_x_isNight hK hok ht) hK.1 rfl dX1_isOpen_42 (Nat.le_of_ble_eq_true rfl) rfl (Nat.zero_le _) (Nat.zero_le _) ?_
      refine aw_if_eqB h (tgt := 52) dX1_isOpen_45 (by decide) (fun c45 => ?_) (fun c45 => ?_)
      · refine aw_iconst h _ ci_0 dX1_isOpen_52 ?_
        exact aw_zret h hr dX1_isOpen_53 (by first | exact z01_0 | exact z01_1 | exact z01_b _) (ExB0 (by unfold opK; rw [decide_eq_false c37, c45]; simp)) (Nat.zero_le _) (Nat.zero_le _)
      · refine aw_iconst h _ ci_1 dX1_isOpen_48 ?_
        refine aw_goto h (tgt := 53) dX1_isOpen_49 (by decide) ?_
        exact aw_zret h hr dX1_isOpen_53 (by first | exact z01_0 | exact z01_1 | exact z01_b _) (ExB1 (by unfold opK; rw [decide_eq_true (by omega), c45]; simp)) (Nat.zero_le _) (Nat.zero_le _)
theorem met_x_inner {w : Wd} {G : Gm} {I : Im} {L : Lm} {c pl pa dl da fa : Nat} {ps ds : List Nat} {K : CS} (hK : KAt G I c K pl pa dl da fa ps ds) (hok : CSok K) {d : Nat} (hd : d < (kD K).length) : AMet w yX1_inner cX1_inner 3 (some .int) 4 104 0 0 [.ref (w.1 + c), .int (nI d)] G I L (Exact (some (.int (nI (inK K d)))) G I L) := by
  refine AMet.of (ls0 := [some (.ref (w.1 + c)), some (.int (nI d)), none]) rfl (Nat.le_of_ble_eq_true rfl) rfl (fun q hq => hq) (fun X h hl hr hi => ?_)
  obtain ⟨cp, hLp⟩ := hK.2.2.2.2.2.1
  obtain ⟨cd, hLd⟩ := hK.2.2.2.2.2.2.1
  have hpl := hK.2.2.2.2.2.2.2.1
  have hdl := hK.2.2.2.2.2.2.2.2.1
  have hdk := hK.2.2.2.2.2.2.2.2.2.2.1
  have hfr := hK.2.2.2.2.2.2.2.2.2.2.2.2.2
  have hR8 := hok.2.1
  have hD14 := hok.2.2.1
  have hP4 := hok.2.2.2.1
  have hdo := hok.2.2.2.2.1
  have hf9 := hok.2.2.2.2.2.2.2
  have hdl2 : d < ds.length := by omega
  have hdx := hdo d hd
  have hdv := hdk d hdl2
  have hfa := hf9 _ (show (gK (kD K) d).1 < 8 by omega)
  have hfb := hf9 _ (show (gK (kD K) d).2.1 < 8 by omega)
  have hra := hfr _ (show (gK (kD K) d).1 < 8 by omega)
  have hrb := hfr _ (show (gK (kD K) d).2.1 < 8 by omega)
  refine aw_aload0 h dX1_inner_0 ?_
  refine aw_getr h fl_X1_20 hK.1 dX1_inner_1 rfl hK.2.2.1 ?_
  refine aw_iload1 h dX1_inner_4 ?_
  refine aw_callVE1 h hl cl_X1_42 (met_j_get hLd (i := d) hdl2) hLd.1 rfl dX1_inner_5 (Nat.le_of_ble_eq_true rfl) rfl (Nat.zero_le _) (Nat.zero_le _) ?_
  refine aw_cast h (hdk d hdl2).1 (by decide) rfl q639 (Or.inl rfl) dX1_inner_8 ?_
  refine aw_astore2 h rfl dX1_inner_11 ?_
  refine aw_aload0 h dX1_inner_12 ?_
  refine aw_getr h fl_X1_23 hK.1 dX1_inner_13 rfl hK.2.2.2.1 ?_
  refine aw_aload2 h dX1_inner_16 ?_
  refine aw_getiV h fl_X1_52 (hdk d hdl2).1 dX1_inner_17 rfl (hdv.2.1) ?_
  refine aw_ialdV h hK.2.2.2.2.1 (by decide) (by omega) dX1_inner_20 (hra) ?_
  refine aw_aload0 h dX1_inner_21 ?_
  refine aw_getr h fl_X1_23 hK.1 dX1_inner_22 rfl hK.2.2.2.1 ?_
  refine aw_aload2 h dX1_inner_25 ?_
  refine aw_getiV h fl_X1_55 (hdk d hdl2).1 dX1_inner_26 rfl (hdv.2.2.1) ?_
  refine aw_ialdV h hK.2.2.2.2.1 (by decide) (by omega) dX1_inner_29 (hrb) ?_
  refine aw_icmp_neN h (tgt := 45) (by omega) (by omega) dX1_inner_30 (by decide) (fun c30 => ?_) (fun c30 => ?_)
  · refine aw_aload0 h dX1_inner_45 ?_
    refine aw_getr h fl_X1_23 hK.1 dX1_inner_46 rfl hK.2.2.2.1 ?_
    refine aw_aload2 h dX1_inner_49 ?_
    refine aw_getiV h fl_X1_52 (hdk d hdl2).1 dX1_inner_50 rfl (hdv.2.1) ?_
    refine aw_ialdV h hK.2.2.2.2.1 (by decide) (by omega) dX1_inner_53 (hra) ?_
    refine aw_aload0 h dX1_inner_54 ?_
    refine aw_getr h fl_X1_23 hK.1 dX1_inner_55 rfl hK.2.2.2.1 ?_
    refine aw_aload2 h dX1_inner_58 ?_
    refine aw_getiV h fl_X1_55 (hdk d hdl2).1 dX1_inner_59 rfl (hdv.2.2.1) ?_
    refine aw_ialdV h hK.2.2.2.2.1 (by decide) (by omega) dX1_inner_62 (hrb) ?_
    refine aw_icmp_geN h (tgt := 73) (by omega) (by omega) dX1_inner_63 (by decide) (fun c63 => ?_) (fun c63 => ?_)
    · refine aw_aload2 h dX1_inner_73 ?_
      refine aw_getiV h fl_X1_55 (hdk d hdl2).1 dX1_inner_74 rfl (hdv.2.2.1) ?_
      exact aw_iret h hr dX1_inner_77 (⟨by unfold inK tnA tnB; rw [decide_eq_false (p := kF K (gK (kD K) d).1 < kF K (gK (kD K) d).2.1) (by omega), decide_eq_false c30]; rfl, rfl, rfl, rfl⟩) (Nat.zero_le _) (Nat.zero_le _)
    · refine aw_aload2 h dX1_inner_66 ?_
      refine aw_getiV h fl_X1_52 (hdk d hdl2).1 dX1_inner_67 rfl (hdv.2.1) ?_
      refine aw_goto h (tgt := 77) dX1_inner_70 (by decide) ?_
      exact aw_iret h hr dX1_inner_77 (⟨by unfold inK tnA tnB; rw [decide_eq_true (p := kF K (gK (kD K) d).1 < kF K (gK (kD K) d).2.1) (by omega)]; rfl, rfl, rfl, rfl⟩) (Nat.zero_le _) (Nat.zero_le _)
  · refine aw_aload2 h dX1_inner_33 ?_
    refine aw_getiV h fl_X1_52 (hdk d hdl2).1 dX1_inner_34 rfl (hdv.2.1) ?_
    refine aw_aload2 h dX1_inner_37 ?_
    refine aw_getiV h fl_X1_55 (hdk d hdl2).1 dX1_inner_38 rfl (hdv.2.2.1) ?_
    refine aw_mmin h (by decide) (by decide) q984 q726 q169 q727 (Nat.le_of_ble_eq_true rfl) (Nat.zero_le _) (Nat.zero_le _) dX1_inner_41 ?_
    rw [nI_min (by omega) (by omega)]
    exact aw_iret h hr dX1_inner_44 (⟨by unfold inK tnA tnB; rw [decide_eq_false (p := kF K (gK (kD K) d).1 < kF K (gK (kD K) d).2.1) (by omega), decide_eq_true c30]; by_cases e : (gK (kD K) d).1 < (gK (kD K) d).2.1; (· rw [Nat.min_eq_left (by omega), decide_eq_true e]; rfl); (· rw [Nat.min_eq_right (by omega), decide_eq_false e]; rfl), rfl, rfl, rfl⟩) (Nat.zero_le _) (Nat.zero_le _)
theorem inou (K : CS) (d : Nat) : (gK (kD K) d).1 + (gK (kD K) d).2.1 - inK K d = ouK K d ∧ inK K d ≤ (gK (kD K) d).1 + (gK (kD K) d).2.1 := by
  unfold inK ouK tnA tnC
  split <;> omega
theorem inK_lt {K : CS} (hok : CSok K) {d : Nat} (hd : d < (kD K).length) : inK K d < kR K ∧ ouK K d < kR K ∧ inK K d ≠ ouK K d := by
  have h := hok.2.2.2.2.1 d hd
  unfold inK ouK tnA tnC
  split <;> omega
theorem met_x_outer {w : Wd} {G : Gm} {I : Im} {L : Lm} {c pl pa dl da fa : Nat} {ps ds : List Nat} {K : CS} (hK : KAt G I c K pl pa dl da fa ps ds) (hok : CSok K) {d : Nat} (hd : d < (kD K).length) : AMet w yX1_outer cX1_outer 3 (some .int) 5 126 0 0 [.ref (w.1 + c), .int (nI d)] G I L (Exact (some (.int (nI (ouK K d)))) G I L) := by
  refine AMet.of (ls0 := [some (.ref (w.1 + c)), some (.int (nI d)), none]) rfl (Nat.le_of_ble_eq_true rfl) rfl (fun q hq => hq) (fun X h hl hr hi => ?_)
  obtain ⟨cp, hLp⟩ := hK.2.2.2.2.2.1
  obtain ⟨cd, hLd⟩ := hK.2.2.2.2.2.2.1
  have hpl := hK.2.2.2.2.2.2.2.1
  have hdl := hK.2.2.2.2.2.2.2.2.1
  have hdk := hK.2.2.2.2.2.2.2.2.2.2.1
  have hfr := hK.2.2.2.2.2.2.2.2.2.2.2.2.2
  have hR8 := hok.2.1
  have hD14 := hok.2.2.1
  have hP4 := hok.2.2.2.1
  have hdo := hok.2.2.2.2.1
  have hf9 := hok.2.2.2.2.2.2.2
  have hdl2 : d < ds.length := by omega
  have hdx := hdo d hd
  have hdv := hdk d hdl2
  have hfa := hf9 _ (show (gK (kD K) d).1 < 8 by omega)
  have hfb := hf9 _ (show (gK (kD K) d).2.1 < 8 by omega)
  have hra := hfr _ (show (gK (kD K) d).1 < 8 by omega)
  have hrb := hfr _ (show (gK (kD K) d).2.1 < 8 by omega)
  have hio := inou K d
  refine aw_aload0 h dX1_outer_0 ?_
  refine aw_getr h fl_X1_20 hK.1 dX1_outer_1 rfl hK.2.2.1 ?_
  refine aw_iload1 h dX1_outer_4 ?_
  refine aw_callVE1 h hl cl_X1_42 (met_j_get hLd (i := d) hdl2) hLd.1 rfl dX1_outer_5 (Nat.le_of_ble_eq_true rfl) rfl (Nat.zero_le _) (Nat.zero_le _) ?_
  refine aw_cast h (hdk d hdl2).1 (by decide) rfl q639 (Or.inl rfl) dX1_outer_8 ?_
  refine aw_astore2 h rfl dX1_outer_11 ?_
  refine aw_aload2 h dX1_outer_12 ?_
  refine aw_getiV h fl_X1_52 (hdk d hdl2).1 dX1_outer_13 rfl (hdv.2.1) ?_
  refine aw_aload2 h dX1_outer_16 ?_
  refine aw_getiV h fl_X1_55 (hdk d hdl2).1 dX1_outer_17 rfl (hdv.2.2.1) ?_
  refine aw_iaddN h dX1_outer_20 ?_
  refine aw_aload0 h dX1_outer_21 ?_
  refine aw_iload1 h dX1_outer_22 ?_
  refine aw_callVE1 h hl cl_X1_72 (met_x_inner hK hok hd) hK.1 rfl dX1_outer_23 (Nat.le_of_ble_eq_true rfl) rfl (Nat.zero_le _) (Nat.zero_le _) ?_
  refine aw_isubN h (by omega) dX1_outer_26 ?_
  rw [hio.1]
  exact aw_iret h hr dX1_outer_27 (⟨rfl, rfl, rfl, rfl⟩) (Nat.zero_le _) (Nat.zero_le _)
theorem met_x_between {w : Wd} {G : Gm} {I : Im} {L : Lm} {c pl pa dl da fa : Nat} {ps ds : List Nat} {K : CS} (hK : KAt G I c K pl pa dl da fa ps ds) (hok : CSok K) {a b t : Nat} (ha : a < 100) (hb : b < 100) (ht : t < 2 ^ 30) : AMet w yX1_between cX1_between 5 (some .int) 5 127 0 0 [.ref (w.1 + c), .int (nI a), .int (nI b), .int (nI t)] G I L (Exact (some (.int (beK K t a b))) G I L) := by
  refine AMet.of (ls0 := [some (.ref (w.1 + c)), some (.int (nI a)), some (.int (nI b)), some (.int (nI t)), none]) rfl (Nat.le_of_ble_eq_true rfl) rfl (fun q hq => hq) (fun X h hl hr hi => ?_)
  obtain ⟨cp, hLp⟩ := hK.2.2.2.2.2.1
  obtain ⟨cd, hLd⟩ := hK.2.2.2.2.2.2.1
  have hpl := hK.2.2.2.2.2.2.2.1
  have hdl := hK.2.2.2.2.2.2.2.2.1
  have hdk := hK.2.2.2.2.2.2.2.2.2.2.1
  have hfr := hK.2.2.2.2.2.2.2.2.2.2.2.2.2
  have hR8 := hok.2.1
  have hD14 := hok.2.2.1
  have hP4 := hok.2.2.2.1
  have hdo := hok.2.2.2.2.1
  have hf9 := hok.2.2.2.2.2.2.2
  have key : ∀ (fu k : Nat), k ≤ (kD K).length → (kD K).length < k + fu → (∀ j, j < k → (joinF (kD K) a b j && opK K t j) = false) → AW X 0 0 3 [some (.ref (w.1 + c)), some (.int (nI a)), some (.int (nI b)), some (.int (nI t)), some (.int (nI k))] [] G I L := by
    intro fu
    induction fu with
    | zero => intro k hle hlt; exact absurd hlt (by omega)
    | succ fu ih =>
      intro k hle hlt hno
      refine aw_iload4 h dX1_between_3 ?_
      refine aw_aload0 h dX1_between_5 ?_
      refine aw_getr h fl_X1_20 hK.1 dX1_between_6 rfl hK.2.2.1 ?_
      refine aw_callVE0 h hl cl_X1_34 (met_j_size hLd) hLd.1 rfl dX1_between_9 (Nat.le_of_ble_eq_true rfl) rfl (Nat.zero_le _) (Nat.zero_le _) ?_
      rw [hdl]
      refine aw_icmp_geN h (tgt := 54) (by omega) (by omega) dX1_between_12 (by decide) (fun c12 => ?_) (fun c12 => ?_)
      · refine aw_iconst h _ ci_m1 dX1_between_54 ?_
        exact aw_iret h hr dX1_between_55 (⟨by unfold beK; rw [fI_none (fun j hj => hno j (by omega))], rfl, rfl, rfl⟩) (Nat.zero_le _) (Nat.zero_le _)
      · have hkl : k < ds.length := by omega
        have hdv := hdk k hkl
        have hdx := hdo k (by omega)
        refine aw_aload0 h dX1_between_15 ?_
        refine aw_getr h fl_X1_20 hK.1 dX1_between_16 rfl hK.2.2.1 ?_
        refine aw_iload4 h dX1_between_19 ?_
        refine aw_callVE1 h hl cl_X1_42 (met_j_get hLd (i := k) hkl) hLd.1 rfl dX1_between_21 (Nat.le_of_ble_eq_true rfl) rfl (Nat.zero_le _) (Nat.zero_le _) ?_
        refine aw_cast h (hdk k hkl).1 (by decide) rfl q639 (Or.inl rfl) dX1_between_24 ?_
        refine aw_iload1 h dX1_between_27 ?_
        refine aw_iload2 h dX1_between_28 ?_
        refine aw_callVE2 h hl cl_X1_48 (met_x_joins (d := ds.getD k 0) (x := (gK (kD K) k).1) (y := (gK (kD K) k).2.1) hdv.1 hdv.2.1 hdv.2.2.1 (by omega) (by omega) (by omega) (by omega)) (hdk k hkl).1 rfl dX1_between_29 (Nat.le_of_ble_eq_true rfl) rfl (Nat.zero_le _) (Nat.zero_le _) ?_
        refine aw_if_eqB h (tgt := 48) dX1_between_32 (by decide) (fun c32 => ?_) (fun c32 => ?_)
        · refine aw_iincN4 h rfl dX1_between_48 ?_
          refine aw_goto h (tgt := 3) dX1_between_51 (by decide) ?_
          refine ih (k + 1) (by omega) (by omega) (fun j hj => ?_)
          by_cases e : j = k
          · subst e; show (joinF (kD K) a b j && opK K t j) = false; rw [show joinF (kD K) a b j = false from c32]; rfl
          · exact hno j (by omega)
        · refine aw_aload0 h dX1_between_35 ?_
          refine aw_iload4 h dX1_between_36 ?_
          refine aw_iload3 h dX1_between_38 ?_
          refine aw_callVE2 h hl cl_X1_76 (met_x_isOpen hK hok (d := k) (by omega) ht) hK.1 rfl dX1_between_39 (Nat.le_of_ble_eq_true rfl) rfl (Nat.zero_le _) (Nat.zero_le _) ?_
          refine aw_if_eqB h (tgt := 48) dX1_between_42 (by decide) (fun c42 => ?_) (fun c42 => ?_)
          · refine aw_iincN4 h rfl dX1_between_48 ?_
            refine aw_goto h (tgt := 3) dX1_between_51 (by decide) ?_
            refine ih (k + 1) (by omega) (by omega) (fun j hj => ?_)
            by_cases e : j = k
            · subst e; show (joinF (kD K) a b j && opK K t j) = false; rw [c42, Bool.and_false]
            · exact hno j (by omega)
          · refine aw_iload4 h dX1_between_45 ?_
            exact aw_iret h hr dX1_between_47 (⟨by unfold beK; rw [fI_at hno (by omega) (by rw [show joinF (kD K) a b k = true from c32, c42]; rfl)], rfl, rfl, rfl⟩) (Nat.zero_le _) (Nat.zero_le _)
  refine aw_iconst h _ ci_0 dX1_between_0 ?_
  refine aw_istore4 h rfl dX1_between_1 ?_
  exact key ((kD K).length + 1) 0 (Nat.zero_le _) (by omega) (fun j hj => absurd hj (Nat.not_lt_zero _))
theorem met_x_firstOut {w : Wd} {G : Gm} {I : Im} {L : Lm} {c pl pa dl da fa : Nat} {ps ds : List Nat} {K : CS} (hK : KAt G I c K pl pa dl da fa ps ds) (hok : CSok K) {a t : Nat} (ha : a < 100) (ht : t < 2 ^ 30) : AMet w yX1_firstOut cX1_firstOut 4 (some .int) 5 127 0 0 [.ref (w.1 + c), .int (nI a), .int (nI t)] G I L (Exact (some (.int (foK K t a))) G I L) := by
  refine AMet.of (ls0 := [some (.ref (w.1 + c)), some (.int (nI a)), some (.int (nI t)), none]) rfl (Nat.le_of_ble_eq_true rfl) rfl (fun q hq => hq) (fun X h hl hr hi => ?_)
  obtain ⟨cp, hLp⟩ := hK.2.2.2.2.2.1
  obtain ⟨cd, hLd⟩ := hK.2.2.2.2.2.2.1
  have hpl := hK.2.2.2.2.2.2.2.1
  have hdl := hK.2.2.2.2.2.2.2.2.1
  have hdk := hK.2.2.2.2.2.2.2.2.2.2.1
  have hfr := hK.2.2.2.2.2.2.2.2.2.2.2.2.2
  have hR8 := hok.2.1
  have hD14 := hok.2.2.1
  have hP4 := hok.2.2.2.1
  have hdo := hok.2.2.2.2.1
  have hf9 := hok.2.2.2.2.2.2.2
  have key : ∀ (fu k : Nat), k ≤ (kD K).length → (kD K).length < k + fu → (∀ j, j < k → (opK K t j && decide (inK K j = a)) = false) → AW X 0 0 2 [some (.ref (w.1 + c)), some (.int (nI a)), some (.int (nI t)), some (.int (nI k))] [] G I L := by
    intro fu
    induction fu with
    | zero => intro k hle hlt; exact absurd hlt (by omega)
    | succ fu ih =>
      intro k hle hlt hno
      refine aw_iload3 h dX1_firstOut_2 ?_
      refine aw_aload0 h dX1_firstOut_3 ?_
      refine aw_getr h fl_X1_20 hK.1 dX1_firstOut_4 rfl hK.2.2.1 ?_
      refine aw_callVE0 h hl cl_X1_34 (met_j_size hLd) hLd.1 rfl dX1_firstOut_7 (Nat.le_of_ble_eq_true rfl) rfl (Nat.zero_le _) (Nat.zero_le _) ?_
      rw [hdl]
      refine aw_icmp_geN h (tgt := 39) (by omega) (by omega) dX1_firstOut_10 (by decide) (fun c10 => ?_) (fun c10 => ?_)
      · refine aw_iconst h _ ci_m1 dX1_firstOut_39 ?_
        exact aw_iret h hr dX1_firstOut_40 (⟨by unfold foK; rw [fI_none (fun j hj => hno j (by omega))], rfl, rfl, rfl⟩) (Nat.zero_le _) (Nat.zero_le _)
      · refine aw_aload0 h dX1_firstOut_13 ?_
        refine aw_iload3 h dX1_firstOut_14 ?_
        refine aw_iload2 h dX1_firstOut_15 ?_
        refine aw_callVE2 h hl cl_X1_76 (met_x_isOpen hK hok (d := k) (by omega) ht) hK.1 rfl dX1_firstOut_16 (Nat.le_of_ble_eq_true rfl) rfl (Nat.zero_le _) (Nat.zero_le _) ?_
        refine aw_if_eqB h (tgt := 33) dX1_firstOut_19 (by decide) (fun c19 => ?_) (fun c19 => ?_)
        · refine aw_iincN3 h rfl dX1_firstOut_33 ?_
          refine aw_goto h (tgt := 2) dX1_firstOut_36 (by decide) ?_
          refine ih (k + 1) (by omega) (by omega) (fun j hj => ?_)
          by_cases e : j = k
          · subst e; show (opK K t j && decide (inK K j = a)) = false; rw [c19]; rfl
          · exact hno j (by omega)
        · refine aw_aload0 h dX1_firstOut_22 ?_
          refine aw_iload3 h dX1_firstOut_23 ?_
          refine aw_callVE1 h hl cl_X1_72 (met_x_inner hK hok (d := k) (by omega)) hK.1 rfl dX1_firstOut_24 (Nat.le_of_ble_eq_true rfl) rfl (Nat.zero_le _) (Nat.zero_le _) ?_
          refine aw_iload1 h dX1_firstOut_27 ?_
          refine aw_icmp_neN h (tgt := 33) (by have := inK_lt hok (show k < (kD K).length by omega); omega) (by omega) dX1_firstOut_28 (by decide) (fun c28 => ?_) (fun c28 => ?_)
          · refine aw_iincN3 h rfl dX1_firstOut_33 ?_
            refine aw_goto h (tgt := 2) dX1_firstOut_36 (by decide) ?_
            refine ih (k + 1) (by omega) (by omega) (fun j hj => ?_)
            by_cases e : j = k
            · subst e; show (opK K t j && decide (inK K j = a)) = false; rw [decide_eq_false c28, Bool.and_false]
            · exact hno j (by omega)
          · refine aw_iload3 h dX1_firstOut_31 ?_
            exact aw_iret h hr dX1_firstOut_32 (⟨by unfold foK; rw [fI_at hno (by omega) (by rw [c19, decide_eq_true c28]; rfl)], rfl, rfl, rfl⟩) (Nat.zero_le _) (Nat.zero_le _)
  refine aw_iconst h _ ci_0 dX1_firstOut_0 ?_
  refine aw_istore3 h rfl dX1_firstOut_1 ?_
  exact key ((kD K).length + 1) 0 (Nat.zero_le _) (by omega) (fun j hj => absurd hj (Nat.not_lt_zero _))
theorem met_x_isJoined {w : Wd} {G : Gm} {I : Im} {L : Lm} {c pl pa dl da fa : Nat} {ps ds : List Nat} {K : CS} (hK : KAt G I c K pl pa dl da fa ps ds) (hok : CSok K) {a b : Nat} (ha : a < 100) (hb : b < 100) : AMet w yX1_isJoined cX1_isJoined 4 (some .boolean) 4 104 0 0 [.ref (w.1 + c), .int (nI a), .int (nI b)] G I L (Exact (some (.int (bI (joinD (kD K) a b)))) G I L) := by
  refine AMet.of (ls0 := [some (.ref (w.1 + c)), some (.int (nI a)), some (.int (nI b)), none]) rfl (Nat.le_of_ble_eq_true rfl) rfl (fun q hq => hq) (fun X h hl hr hi => ?_)
  obtain ⟨cp, hLp⟩ := hK.2.2.2.2.2.1
  obtain ⟨cd, hLd⟩ := hK.2.2.2.2.2.2.1
  have hpl := hK.2.2.2.2.2.2.2.1
  have hdl := hK.2.2.2.2.2.2.2.2.1
  have hdk := hK.2.2.2.2.2.2.2.2.2.2.1
  have hfr := hK.2.2.2.2.2.2.2.2.2.2.2.2.2
  have hR8 := hok.2.1
  have hD14 := hok.2.2.1
  have hP4 := hok.2.2.2.1
  have hdo := hok.2.2.2.2.1
  have hf9 := hok.2.2.2.2.2.2.2
  have key : ∀ (fu k : Nat), k ≤ (kD K).length → (kD K).length < k + fu → (∀ j, j < k → joinF (kD K) a b j = false) → AW X 0 0 2 [some (.ref (w.1 + c)), some (.int (nI a)), some (.int (nI b)), some (.int (nI k))] [] G I L := by
    intro fu
    induction fu with
    | zero => intro k hle hlt; exact absurd hlt (by omega)
    | succ fu ih =>
      intro k hle hlt hno
      refine aw_iload3 h dX1_isJoined_2 ?_
      refine aw_aload0 h dX1_isJoined_3 ?_
      refine aw_getr h fl_X1_20 hK.1 dX1_isJoined_4 rfl hK.2.2.1 ?_
      refine aw_callVE0 h hl cl_X1_34 (met_j_size hLd) hLd.1 rfl dX1_isJoined_7 (Nat.le_of_ble_eq_true rfl) rfl (Nat.zero_le _) (Nat.zero_le _) ?_
      rw [hdl]
      refine aw_icmp_geN h (tgt := 40) (by omega) (by omega) dX1_isJoined_10 (by decide) (fun c10 => ?_) (fun c10 => ?_)
      · refine aw_iconst h _ ci_0 dX1_isJoined_40 ?_
        exact aw_zret h hr dX1_isJoined_41 (by first | exact z01_0 | exact z01_1 | exact z01_b _) (ExB0 (by unfold joinD; rw [anyN_false]; intro j hj; exact hno j (by omega))) (Nat.zero_le _) (Nat.zero_le _)
      · have hkl : k < ds.length := by omega
        have hdv := hdk k hkl
        have hdx := hdo k (by omega)
        refine aw_aload0 h dX1_isJoined_13 ?_
        refine aw_getr h fl_X1_20 hK.1 dX1_isJoined_14 rfl hK.2.2.1 ?_
        refine aw_iload3 h dX1_isJoined_17 ?_
        refine aw_callVE1 h hl cl_X1_42 (met_j_get hLd (i := k) hkl) hLd.1 rfl dX1_isJoined_18 (Nat.le_of_ble_eq_true rfl) rfl (Nat.zero_le _) (Nat.zero_le _) ?_
        refine aw_cast h (hdk k hkl).1 (by decide) rfl q639 (Or.inl rfl) dX1_isJoined_21 ?_
        refine aw_iload1 h dX1_isJoined_24 ?_
        refine aw_iload2 h dX1_isJoined_25 ?_
        refine aw_callVE2 h hl cl_X1_48 (met_x_joins (d := ds.getD k 0) (x := (gK (kD K) k).1) (y := (gK (kD K) k).2.1) hdv.1 hdv.2.1 hdv.2.2.1 (by omega) (by omega) (by omega) (by omega)) (hdk k hkl).1 rfl dX1_isJoined_26 (Nat.le_of_ble_eq_true rfl) rfl (Nat.zero_le _) (Nat.zero_le _) ?_
        refine aw_if_eqB h (tgt := 34) dX1_isJoined_29 (by decide) (fun c29 => ?_) (fun c29 => ?_)
        · refine aw_iincN3 h rfl dX1_isJoined_34 ?_
          refine aw_goto h (tgt := 2) dX1_isJoined_37 (by decide) ?_
          refine ih (k + 1) (by omega) (by omega) (fun j hj => ?_)
          by_cases e : j = k
          · subst e; exact c29
          · exact hno j (by omega)
        · refine aw_iconst h _ ci_1 dX1_isJoined_32 ?_
          exact aw_zret h hr dX1_isJoined_33 (by first | exact z01_0 | exact z01_1 | exact z01_b _) (ExB1 (by unfold joinD; rw [anyN_iff]; exact ⟨k, by omega, c29⟩)) (Nat.zero_le _) (Nat.zero_le _)
  refine aw_iconst h _ ci_0 dX1_isJoined_0 ?_
  refine aw_istore3 h rfl dX1_isJoined_1 ?_
  exact key ((kD K).length + 1) 0 (Nat.zero_le _) (by omega) (fun j hj => absurd hj (Nat.not_lt_zero _))
