/-! The component: steps, who is where, what is outside -/
set_option maxRecDepth 100000
theorem cas_join {S : Nat → Int32} {K : CS} (h : CasS S K) (hok : CSok K) {a b d : Nat} (hd : d < (kD K).length) : joinB S a b d = joinF (kD K) a b d := by
  have hx := cas_d h hok hd
  unfold joinB joinF
  rw [hx.1, hx.2.1]
  have hi : (inK K d = (gK (kD K) d).1 ∧ ouK K d = (gK (kD K) d).2.1) ∨ (inK K d = (gK (kD K) d).2.1 ∧ ouK K d = (gK (kD K) d).1) := by
    unfold inK ouK tnA tnC
    split
    · exact Or.inl ⟨rfl, rfl⟩
    · exact Or.inr ⟨rfl, rfl⟩
  rcases hi with ⟨e, e2⟩ | ⟨e, e2⟩
  · rw [e, e2]; rfl
  · rw [e, e2, Bool.or_comm, Bool.and_comm, Bool.and_comm (decide ((gK (kD K) d).1 = b))]
    rw [Bool.or_comm]
    have e3 : ∀ x y : Nat, (x == y) = decide (x = y) := fun _ _ => rfl
    rw [e3, e3, e3, e3, Bool.and_comm (decide ((gK (kD K) d).1 = a))]
    exact Bool.or_comm _ _
theorem fI_ext {p q : Nat → Bool} {n : Nat} (h : ∀ j, j < n → p j = q j) : fI p n = fI q n := by
  by_cases hx : ∃ k, k < n ∧ p k = true
  · have h1 := firstT_spec p n
    have hl : firstT p n < n := by
      obtain ⟨k, hk, hp⟩ := hx
      rcases Nat.lt_or_ge (firstT p n) n with q1 | q1
      · exact q1
      · have := h1.2 k (by omega); rw [hp] at this; cases this
    rw [fI_at (fun j hj => h1.2 j hj) hl (h1.1 hl), fI_at (p := q) (k := firstT p n) (fun j hj => by rw [← h j (by omega)]; exact h1.2 j hj) hl (by rw [← h _ hl]; exact h1.1 hl)]
  · have h0 : ∀ j, j < n → p j = false := fun j hj => by
      cases hp : p j with
      | false => rfl
      | true => exact absurd ⟨j, hj, hp⟩ hx
    rw [fI_none h0, fI_none (fun j hj => by rw [← h j hj]; exact h0 j hj)]
theorem foK_S {S : Nat → Int32} {K : CS} (h : CasS S K) (hok : CSok K) {t : Nat} (ht : S 3 = nI t) (ht2 : t < 2 ^ 30) (a : Nat) : foK K t a = foI S a := by
  unfold foK foI
  rw [(cas_n h hok).2.1]
  exact fI_ext (fun d hd => by rw [cas_op h hok ht ht2 hd, (cas_d h hok hd).1]; rfl)
theorem beK_adj {S : Nat → Int32} {K : CS} (h : CasS S K) (hok : CSok K) {t : Nat} (ht : S 3 = nI t) (ht2 : t < 2 ^ 30) (a b : Nat) : (¬ beK K t a b = -1) ↔ adjB S a b = true := by
  have hD := hok.2.2.1
  have e : ∀ d, d < (kD K).length → (openB S d && ((near S d == a && farr S d == b) || (near S d == b && farr S d == a))) = (joinF (kD K) a b d && opK K t d) := fun d hd => by
    rw [← cas_join h hok hd, ← cas_op h hok ht ht2 hd, Bool.and_comm]; rfl
  unfold adjB
  rw [(cas_n h hok).2.1, anyN_iff]
  have hsp := firstT_spec (fun d => joinF (kD K) a b d && opK K t d) (kD K).length
  constructor
  · intro hb
    unfold beK fI at hb
    split at hb
    · rename_i hl
      exact ⟨_, hl, by rw [e _ hl]; exact hsp.1 hl⟩
    · exact absurd rfl hb
  · rintro ⟨d, hd, hp⟩
    rw [e d hd] at hp
    have hl : firstT (fun d => joinF (kD K) a b d && opK K t d) (kD K).length < (kD K).length := by
      rcases Nat.lt_or_ge (firstT (fun d => joinF (kD K) a b d && opK K t d) (kD K).length) (kD K).length with q | q
      · exact q
      · have := hsp.2 d (by omega); rw [hp] at this; cases this
    unfold beK fI
    rw [if_pos hl]
    exact ne_m1 (by omega)
theorem joinF_eq {D : List Kt} {a b i j : Nat} (hi : joinF D a b i = true) (hj : joinF D a b j = true) : joinF D (gK D i).1 (gK D i).2.1 j = true := by
  simp only [joinF, Bool.or_eq_true, Bool.and_eq_true, decide_eq_true_eq] at hi hj ⊢
  omega
/-- one door at most between two rooms: what is open is what there is -/
theorem beK_S {S : Nat → Int32} {K : CS} (h : CasS S K) (hok : CSok K) (hdj : DJ K) {t : Nat} (ht : S 3 = nI t) (ht2 : t < 2 ^ 30) {a b : Nat} (hb : adjB S a b = true) : beK K t a b = betI S a b := by
  have hD := hok.2.2.1
  have h1 := (beK_adj h hok ht ht2 a b).mpr hb
  unfold beK betI
  rw [(cas_n h hok).2.1, fI_ext (p := joinB S a b) (q := joinF (kD K) a b) (fun d hd => cas_join h hok hd)]
  have hsp := firstT_spec (fun d => joinF (kD K) a b d && opK K t d) (kD K).length
  have hl : firstT (fun d => joinF (kD K) a b d && opK K t d) (kD K).length < (kD K).length := by
    unfold beK fI at h1
    split at h1
    · assumption
    · exact absurd rfl h1
  have hk := (Bool.and_eq_true _ _).mp (hsp.1 hl)
  rw [fI_at (k := firstT (fun d => joinF (kD K) a b d && opK K t d) (kD K).length) (fun j hj => hsp.2 j hj) hl (hsp.1 hl)]
  refine (fI_at (fun j hj => ?_) hl hk.1).symm
  cases hq : joinF (kD K) a b j with
  | false => rfl
  | true => exact absurd (hdj _ _ hl (by omega) (joinF_eq hk.1 hq)) (by omega)
theorem in_rng {p : Int32} {n : Nat} (hn : n < 2 ^ 31) : (decide ((lN 0) ≤ p.toInt64) && decide (p.toInt64 ≤ (nI n - nI 1).toInt64)) = (decide (0 ≤ p) && decide (p < nI n)) := by
  have h1 : (nI n).toInt = (n : Int) := nI_toInt hn
  have h3 : (nI n - nI 1).toInt = (n : Int) - 1 := by
    rw [Int32.toInt_sub, h1, show (nI 1).toInt = 1 by decide, Int.bmod_eq_of_le (by omega) (by omega)]
  have e5 : (p.toInt64 ≤ (nI n - nI 1).toInt64) ↔ p < nI n := by
    rw [le64, Int32.le_iff_toInt_le, Int32.lt_iff_toInt_lt, h3, h1]
    omega
  rw [show lN 0 = (nI 0).toInt64 from rfl, decide_eq_decide.mpr (le64 (nI 0) p), decide_eq_decide.mpr e5]
  rfl
theorem met_x_isCastle {w : Wd} {G : Gm} {I : Im} {L : Lm} (hX : XG G) {sl : Nat → Prop} {K : CS} {c : Nat} (hC : XC sl G I K c) : AMet w yX0_isCastle cX0_isCastle 1 (some .boolean) 1 40 0 0 [.ref (w.1 + 0)] G I L (Exact (some (.int (bI (decide (0 < kR K))))) G I L) := by
  refine AMet.of (ls0 := [some (.ref (w.1 + 0))]) rfl (Nat.le_of_ble_eq_true rfl) rfl (fun q hq => hq) (fun X h hl hr hi => ?_)
  obtain ⟨hc0, ⟨pl, pa, dl, da, fa, ps, ds, hK, hsp⟩, hok, hsl⟩ := id hC
  obtain ⟨cp, hLp⟩ := hK.2.2.2.2.2.1
  obtain ⟨cd, hLd⟩ := hK.2.2.2.2.2.2.1
  have hpl := hK.2.2.2.2.2.2.2.1
  have hdl := hK.2.2.2.2.2.2.2.2.1
  have hdk := hK.2.2.2.2.2.2.2.2.2.2.1
  have hpk := hK.2.2.2.2.2.2.2.2.2.1
  have hrm := hK.2.2.2.2.2.2.2.2.2.2.2.1
  have hfr := hK.2.2.2.2.2.2.2.2.2.2.2.2.2
  have hR8 := hok.2.1
  have hD14 := hok.2.2.1
  have hP4 := hok.2.2.2.1
  have hdo := hok.2.2.2.2.1
  have hpo := hok.2.2.2.2.2.1
  have hf9 := hok.2.2.2.2.2.2.2
  refine aw_aload0 h dX0_isCastle_0 ?_
  refine aw_getr h fl_X0_12 (gx0 hX) dX0_isCastle_1 rfl hc0 ?_
  refine aw_getiV h fl_X0_123 hK.1 dX0_isCastle_4 rfl (hrm) ?_
  refine aw_if_leN h (tgt := 14) (by omega) dX0_isCastle_7 (by decide) (fun c7 => ?_) (fun c7 => ?_)
  · refine aw_iconst h _ ci_0 dX0_isCastle_14 ?_
    exact aw_zret h hr dX0_isCastle_15 (by first | exact z01_0 | exact z01_1 | exact z01_b _) (ExB0 (decide_eq_false (by omega))) (Nat.zero_le _) (Nat.zero_le _)
  · refine aw_iconst h _ ci_1 dX0_isCastle_10 ?_
    refine aw_goto h (tgt := 15) dX0_isCastle_11 (by decide) ?_
    exact aw_zret h hr dX0_isCastle_15 (by first | exact z01_0 | exact z01_1 | exact z01_b _) (ExB1 (decide_eq_true (by omega))) (Nat.zero_le _) (Nat.zero_le _)
theorem met_x_isPerson {w : Wd} {G : Gm} {I : Im} {L : Lm} (hX : XG G) {sl : Nat → Prop} {K : CS} {c : Nat} (hC : XC sl G I K c) {p : Int32} : AMet w yX0_isPerson cX0_isPerson 2 (some .boolean) 3 80 0 0 [.ref (w.1 + 0), .int p] G I L (Exact (some (.int (bI (decide (0 ≤ p) && decide (p < nI (kP K).length))))) G I L) := by
  refine AMet.of (ls0 := [some (.ref (w.1 + 0)), some (.int p)]) rfl (Nat.le_of_ble_eq_true rfl) rfl (fun q hq => hq) (fun X h hl hr hi => ?_)
  obtain ⟨hc0, ⟨pl, pa, dl, da, fa, ps, ds, hK, hsp⟩, hok, hsl⟩ := id hC
  obtain ⟨cp, hLp⟩ := hK.2.2.2.2.2.1
  obtain ⟨cd, hLd⟩ := hK.2.2.2.2.2.2.1
  have hpl := hK.2.2.2.2.2.2.2.1
  have hdl := hK.2.2.2.2.2.2.2.2.1
  have hdk := hK.2.2.2.2.2.2.2.2.2.2.1
  have hpk := hK.2.2.2.2.2.2.2.2.2.1
  have hrm := hK.2.2.2.2.2.2.2.2.2.2.2.1
  have hfr := hK.2.2.2.2.2.2.2.2.2.2.2.2.2
  have hR8 := hok.2.1
  have hD14 := hok.2.2.1
  have hP4 := hok.2.2.2.1
  have hdo := hok.2.2.2.2.1
  have hpo := hok.2.2.2.2.2.1
  have hf9 := hok.2.2.2.2.2.2.2
  refine aw_iload1 h dX0_isPerson_0 ?_
  refine aw_i2l h dX0_isPerson_1 ?_
  refine aw_lconst h _ cl_0 dX0_isPerson_2 ?_
  refine aw_aload0 h dX0_isPerson_3 ?_
  refine aw_getr h fl_X0_12 (gx0 hX) dX0_isPerson_4 rfl hc0 ?_
  refine aw_callVE0 h hl cl_X0_125 (met_x_many hK hok) hK.1 rfl dX0_isPerson_7 (Nat.le_of_ble_eq_true rfl) rfl (Nat.zero_le _) (Nat.zero_le _) ?_
  refine aw_iconst h _ ci_1 dX0_isPerson_10 ?_
  refine aw_isub h dX0_isPerson_11 ?_
  refine aw_i2l h dX0_isPerson_12 ?_
  refine aw_callSE3 h hl cl_X0_129 (met_x_in) dX0_isPerson_13 (Nat.le_of_ble_eq_true rfl) rfl (Nat.zero_le _) (Nat.zero_le _) ?_
  rw [in_rng (by omega)]
  exact aw_zret h hr dX0_isPerson_16 (by first | exact z01_0 | exact z01_1 | exact z01_b _) (⟨rfl, rfl, rfl, rfl⟩) (Nat.zero_le _) (Nat.zero_le _)
theorem met_x_isRoom {w : Wd} {G : Gm} {I : Im} {L : Lm} (hX : XG G) {sl : Nat → Prop} {K : CS} {c : Nat} (hC : XC sl G I K c) {p : Int32} : AMet w yX0_isRoom cX0_isRoom 2 (some .boolean) 2 65 0 0 [.ref (w.1 + 0), .int p] G I L (Exact (some (.int (bI (decide (0 ≤ p) && decide (p < nI (kR K)))))) G I L) := by
  refine AMet.of (ls0 := [some (.ref (w.1 + 0)), some (.int p)]) rfl (Nat.le_of_ble_eq_true rfl) rfl (fun q hq => hq) (fun X h hl hr hi => ?_)
  obtain ⟨hc0, ⟨pl, pa, dl, da, fa, ps, ds, hK, hsp⟩, hok, hsl⟩ := id hC
  obtain ⟨cp, hLp⟩ := hK.2.2.2.2.2.1
  obtain ⟨cd, hLd⟩ := hK.2.2.2.2.2.2.1
  have hpl := hK.2.2.2.2.2.2.2.1
  have hdl := hK.2.2.2.2.2.2.2.2.1
  have hdk := hK.2.2.2.2.2.2.2.2.2.2.1
  have hpk := hK.2.2.2.2.2.2.2.2.2.1
  have hrm := hK.2.2.2.2.2.2.2.2.2.2.2.1
  have hfr := hK.2.2.2.2.2.2.2.2.2.2.2.2.2
  have hR8 := hok.2.1
  have hD14 := hok.2.2.1
  have hP4 := hok.2.2.2.1
  have hdo := hok.2.2.2.2.1
  have hpo := hok.2.2.2.2.2.1
  have hf9 := hok.2.2.2.2.2.2.2
  refine aw_iload1 h dX0_isRoom_0 ?_
  refine aw_i2l h dX0_isRoom_1 ?_
  refine aw_lconst h _ cl_0 dX0_isRoom_2 ?_
  refine aw_aload0 h dX0_isRoom_3 ?_
  refine aw_getr h fl_X0_12 (gx0 hX) dX0_isRoom_4 rfl hc0 ?_
  refine aw_getiV h fl_X0_123 hK.1 dX0_isRoom_7 rfl (hrm) ?_
  refine aw_iconst h _ ci_1 dX0_isRoom_10 ?_
  refine aw_isub h dX0_isRoom_11 ?_
  refine aw_i2l h dX0_isRoom_12 ?_
  refine aw_callSE3 h hl cl_X0_129 (met_x_in) dX0_isRoom_13 (Nat.le_of_ble_eq_true rfl) rfl (Nat.zero_le _) (Nat.zero_le _) ?_
  rw [in_rng (by omega)]
  exact aw_zret h hr dX0_isRoom_16 (by first | exact z01_0 | exact z01_1 | exact z01_b _) (⟨rfl, rfl, rfl, rfl⟩) (Nat.zero_le _) (Nat.zero_le _)
theorem met_x_isDoor {w : Wd} {G : Gm} {I : Im} {L : Lm} (hX : XG G) {sl : Nat → Prop} {K : CS} {c : Nat} (hC : XC sl G I K c) {p : Int32} : AMet w yX0_isDoor cX0_isDoor 2 (some .boolean) 2 65 0 0 [.ref (w.1 + 0), .int p] G I L (Exact (some (.int (bI (decide (0 ≤ p) && decide (p < nI (kD K).length))))) G I L) := by
  refine AMet.of (ls0 := [some (.ref (w.1 + 0)), some (.int p)]) rfl (Nat.le_of_ble_eq_true rfl) rfl (fun q hq => hq) (fun X h hl hr hi => ?_)
  obtain ⟨hc0, ⟨pl, pa, dl, da, fa, ps, ds, hK, hsp⟩, hok, hsl⟩ := id hC
  obtain ⟨cp, hLp⟩ := hK.2.2.2.2.2.1
  obtain ⟨cd, hLd⟩ := hK.2.2.2.2.2.2.1
  have hpl := hK.2.2.2.2.2.2.2.1
  have hdl := hK.2.2.2.2.2.2.2.2.1
  have hdk := hK.2.2.2.2.2.2.2.2.2.2.1
  have hpk := hK.2.2.2.2.2.2.2.2.2.1
  have hrm := hK.2.2.2.2.2.2.2.2.2.2.2.1
  have hfr := hK.2.2.2.2.2.2.2.2.2.2.2.2.2
  have hR8 := hok.2.1
  have hD14 := hok.2.2.1
  have hP4 := hok.2.2.2.1
  have hdo := hok.2.2.2.2.1
  have hpo := hok.2.2.2.2.2.1
  have hf9 := hok.2.2.2.2.2.2.2
  refine aw_iload1 h dX0_isDoor_0 ?_
  refine aw_i2l h dX0_isDoor_1 ?_
  refine aw_lconst h _ cl_0 dX0_isDoor_2 ?_
  refine aw_aload0 h dX0_isDoor_3 ?_
  refine aw_getr h fl_X0_12 (gx0 hX) dX0_isDoor_4 rfl hc0 ?_
  refine aw_getr h fl_X0_133 hK.1 dX0_isDoor_7 rfl hK.2.2.1 ?_
  refine aw_callVE0 h hl cl_X0_136 (met_j_size hLd) hLd.1 rfl dX0_isDoor_10 (Nat.le_of_ble_eq_true rfl) rfl (Nat.zero_le _) (Nat.zero_le _) ?_
  rw [hdl]
  refine aw_iconst h _ ci_1 dX0_isDoor_13 ?_
  refine aw_isub h dX0_isDoor_14 ?_
  refine aw_i2l h dX0_isDoor_15 ?_
  refine aw_callSE3 h hl cl_X0_129 (met_x_in) dX0_isDoor_16 (Nat.le_of_ble_eq_true rfl) rfl (Nat.zero_le _) (Nat.zero_le _) ?_
  rw [in_rng (by omega)]
  exact aw_zret h hr dX0_isDoor_19 (by first | exact z01_0 | exact z01_1 | exact z01_b _) (⟨rfl, rfl, rfl, rfl⟩) (Nat.zero_le _) (Nat.zero_le _)
theorem met_x_has {w : Wd} {G : Gm} {I : Im} {L : Lm} {m k : Nat} (hm : m < 2 ^ 31) (hk : k < 31) : AMet w yX0_has cX0_has 2 (some .boolean) 1 40 0 0 [.int (nI m), .int (nI k)] G I L (Exact (some (.int (bI (m.testBit k)))) G I L) := by
  refine AMet.of (ls0 := [some (.int (nI m)), some (.int (nI k))]) rfl (Nat.le_of_ble_eq_true rfl) rfl (fun q hq => hq) (fun X h hl hr hi => ?_)
  refine aw_iload0 h dX0_has_0 ?_
  refine aw_iload1 h dX0_has_1 ?_
  refine aw_ishr h dX0_has_2 ?_
  refine aw_iconst h _ ci_1 dX0_has_3 ?_
  refine aw_iand h dX0_has_4 ?_
  refine aw_iconst h _ ci_1 dX0_has_5 ?_
  refine aw_icmp_ne h (tgt := 13) dX0_has_6 (by decide) (fun c6 => ?_) (fun c6 => ?_)
  · refine aw_iconst h _ ci_0 dX0_has_13 ?_
    exact aw_zret h hr dX0_has_14 (by first | exact z01_0 | exact z01_1 | exact z01_b _) (ExB0 (by rw [← bs_has hm hk]; exact decide_eq_false c6)) (Nat.zero_le _) (Nat.zero_le _)
  · refine aw_iconst h _ ci_1 dX0_has_9 ?_
    refine aw_goto h (tgt := 14) dX0_has_10 (by decide) ?_
    exact aw_zret h hr dX0_has_14 (by first | exact z01_0 | exact z01_1 | exact z01_b _) (ExB1 (by rw [← bs_has hm hk]; exact decide_eq_true c6)) (Nat.zero_le _) (Nat.zero_le _)
theorem met_x_leftFrom {w : Wd} {G : Gm} {I : Im} {L : Lm} (hX : XG G) {sl : Nat → Prop} {K : CS} {c : Nat} {S : Nat → Int32} {t : Nat} (hV : XV sl G I K c S t) {s : Nat} (hs : StSh G s) (hA : StAt I s S) (hs7 : s = 7 ∨ s = 13) {p r : Nat} (hp : p < np S) (hr0 : r < nr S) : AMet w yX0_leftFrom cX0_leftFrom 4 (some .int) 7 175 0 0 [.ref (w.1 + 0), .ref (w.1 + s), .int (nI p), .int (nI r)] G I L (Ans (some (.int (nI (distV S (gl S p) r)))) (LLt S (gl S p) G I L)) := by
  refine AMet.of (ls0 := [some (.ref (w.1 + 0)), some (.ref (w.1 + s)), some (.int (nI p)), some (.int (nI r))]) rfl (Nat.le_of_ble_eq_true rfl) rfl (fun q hq => hq) (fun X h hl hr hi => ?_)
  obtain ⟨hC0, hS, hcs, ht, ht2, hdj⟩ := id hV
  have hC := hC0
  obtain ⟨hc0, ⟨pl, pa, dl, da, fa, ps, ds, hK, hsp⟩, hok, hsl⟩ := id hC
  obtain ⟨cp, hLp⟩ := hK.2.2.2.2.2.1
  obtain ⟨cd, hLd⟩ := hK.2.2.2.2.2.2.1
  have hpl := hK.2.2.2.2.2.2.2.1
  have hdl := hK.2.2.2.2.2.2.2.2.1
  have hdk := hK.2.2.2.2.2.2.2.2.2.2.1
  have hpk := hK.2.2.2.2.2.2.2.2.2.1
  have hrm := hK.2.2.2.2.2.2.2.2.2.2.2.1
  have hfr := hK.2.2.2.2.2.2.2.2.2.2.2.2.2
  have hR8 := hok.2.1
  have hD14 := hok.2.2.1
  have hP4 := hok.2.2.2.1
  have hdo := hok.2.2.2.2.1
  have hpo := hok.2.2.2.2.2.1
  have hf9 := hok.2.2.2.2.2.2.2
  have hn := cas_n hcs hok
  have hpv := hA.2.1 p hp
  have hiv := ivp hS hp
  refine aw_aload0 h dX0_leftFrom_0 ?_
  refine aw_aload1 h dX0_leftFrom_1 ?_
  refine aw_getr h fl_X0_192 hs.1 dX0_leftFrom_2 rfl (hs.2 1 (by decide)).1 ?_
  refine aw_iload2 h dX0_leftFrom_5 ?_
  refine aw_ialdV h (hs.2 1 (by decide)).2 (by decide) (by omega) dX0_leftFrom_6 (hpv.2.1.trans hiv.2.2.1) ?_
  refine aw_aload1 h dX0_leftFrom_7 ?_
  refine aw_getiV h fl_X0_195 hs.1 dX0_leftFrom_8 rfl (hA.1.trans ht) ?_
  refine aw_callVN2 h hl cl_X0_198 (met_x_laysLeft hX hV hiv.2.2.2) (gx0 hX) rfl dX0_leftFrom_11 (Nat.le_of_ble_eq_true rfl) rfl (Nat.zero_le _) (Nat.zero_le _) (fun G1 I1 L1 hp9 => ?_)
  obtain ⟨rfl, rfl, f, rfl, hf⟩ := hp9
  refine aw_aload0 h dX0_leftFrom_14 ?_
  refine aw_getr h fl_X0_60 (gx0 hX) dX0_leftFrom_15 rfl (gxp13 hX) ?_
  refine aw_iload3 h dX0_leftFrom_18 ?_
  refine aw_ialdV h (gxs26 hX) (by decide) (by omega) dX0_leftFrom_19 ((congrFun (vup_s I 26 f) _).trans (hf _ hr0)) ?_
  exact aw_iret h hr dX0_leftFrom_20 (⟨rfl, rfl, rfl, f, rfl, hf⟩) (Nat.zero_le _) (Nat.zero_le _)
theorem fI_is_first {p : Nat → Bool} {n k : Nat} (h : ∀ j, j < k → p j = false) (hk : k < n) (hp : p k = true) : (if firstT p n < n then nI (firstT p n) else -1) = nI k := fI_at h hk hp
theorem firstT_none {p : Nat → Bool} {n : Nat} (h : ∀ j, j < n → p j = false) : firstT p n = n := by
  have h1 := firstT_spec p n
  have h2 := firstT_le p n
  rcases Nat.lt_or_ge (firstT p n) n with q | q
  · have h3 := h1.1 q; rw [h _ q] at h3; cases h3
  · omega
theorem met_x_stepOf {w : Wd} {G : Gm} {I : Im} {L : Lm} (hX : XG G) {sl : Nat → Prop} {K : CS} {c : Nat} {S : Nat → Int32} {t : Nat} (hV : XV sl G I K c S t) {s : Nat} (hs : StSh G s) (hA : StAt I s S) (hs7 : s = 7 ∨ s = 13) {p : Nat} (hp : p < np S) : AMet w yX0_stepOf cX0_stepOf 5 (some .int) 8 198 0 0 [.ref (w.1 + 0), .ref (w.1 + s), .int (nI p)] G I L (Ans (some (.int (stepI S (gl S p) (rm S p)))) (LLt S (gl S p) G I L)) := by
  refine AMet.of (ls0 := [some (.ref (w.1 + 0)), some (.ref (w.1 + s)), some (.int (nI p)), none, none]) rfl (Nat.le_of_ble_eq_true rfl) rfl (fun q hq => hq) (fun X h hl hr hi => ?_)
  obtain ⟨hC0, hS, hcs, ht, ht2, hdj⟩ := id hV
  have hC := hC0
  obtain ⟨hc0, ⟨pl, pa, dl, da, fa, ps, ds, hK, hsp⟩, hok, hsl⟩ := id hC
  obtain ⟨cp, hLp⟩ := hK.2.2.2.2.2.1
  obtain ⟨cd, hLd⟩ := hK.2.2.2.2.2.2.1
  have hpl := hK.2.2.2.2.2.2.2.1
  have hdl := hK.2.2.2.2.2.2.2.2.1
  have hdk := hK.2.2.2.2.2.2.2.2.2.2.1
  have hpk := hK.2.2.2.2.2.2.2.2.2.1
  have hrm := hK.2.2.2.2.2.2.2.2.2.2.2.1
  have hfr := hK.2.2.2.2.2.2.2.2.2.2.2.2.2
  have hR8 := hok.2.1
  have hD14 := hok.2.2.1
  have hP4 := hok.2.2.2.1
  have hdo := hok.2.2.2.2.1
  have hpo := hok.2.2.2.2.2.1
  have hf9 := hok.2.2.2.2.2.2.2
  have hn := cas_n hcs hok
  have hpv := hA.2.1 p hp
  have hiv := ivp hS hp
  have hdl9 := dist_le S (gl S p) (rm S p)
  refine aw_aload0 h dX0_stepOf_0 ?_
  refine aw_aload1 h dX0_stepOf_1 ?_
  refine aw_iload2 h dX0_stepOf_2 ?_
  refine aw_aload1 h dX0_stepOf_3 ?_
  refine aw_getr h fl_X0_202 hs.1 dX0_stepOf_4 rfl (hs.2 0 (by decide)).1 ?_
  refine aw_iload2 h dX0_stepOf_7 ?_
  refine aw_ialdV h (hs.2 0 (by decide)).2 (by decide) (by omega) dX0_stepOf_8 (hpv.1.trans hiv.1) ?_
  refine aw_callVA3 h hl cl_X0_205 (met_x_leftFrom hX hV hs hA hs7 hp hiv.2.1) (gx0 hX) rfl dX0_stepOf_9 (Nat.le_of_ble_eq_true rfl) rfl (Nat.zero_le _) (Nat.zero_le _) (fun G1 I1 L1 hp9 => ?_)
  obtain ⟨rfl, rfl, f, rfl, hf⟩ := hp9
  have hA1 : StAt (va_up I 26 f) s S := hA.ix (fun m hm => vup_n _ _ (by simp [SCs] at hm; omega))
  have hV1 : XV sl G (va_up I 26 f) K c S t := ⟨hC0.r (n := 26) (f := f) rfl, hV.2⟩
  have hpv1 := hA1.2.1 p hp
  have hC := hC0.r (n := 26) (f := f) rfl
  obtain ⟨-, ⟨pl, pa, dl, da, fa, ps, ds, hK, hsp⟩, -, -⟩ := id hC
  obtain ⟨cd, hLd⟩ := hK.2.2.2.2.2.2.1
  obtain ⟨cp, hLp⟩ := hK.2.2.2.2.2.1
  have hdl := hK.2.2.2.2.2.2.2.2.1
  have hrm := hK.2.2.2.2.2.2.2.2.2.2.2.1
  refine aw_istore3 h rfl dX0_stepOf_12 ?_
  refine aw_iload3 h dX0_stepOf_13 ?_
  refine aw_if_eqN h (tgt := 23) (by omega) dX0_stepOf_14 (by decide) (fun c14 => ?_) (fun c14 => ?_)
  · refine aw_iconst h _ ci_m1 dX0_stepOf_23 ?_
    exact aw_iret h hr dX0_stepOf_24 (⟨by unfold stepI; rw [if_pos (Or.inl (by omega))], rfl, rfl, f, rfl, hf⟩) (Nat.zero_le _) (Nat.zero_le _)
  · refine aw_iload3 h dX0_stepOf_17 ?_
    refine aw_bipush h _ cb_99 dX0_stepOf_18 ?_
    refine aw_icmp_ltN h (tgt := 25) (by omega) (by decide) dX0_stepOf_20 (by decide) (fun c20 => ?_) (fun c20 => ?_)
    · have hnz : ¬ (distV S (gl S p) (rm S p) = 0 ∨ distV S (gl S p) (rm S p) = 99) := by omega
      have key : ∀ (fu k : Nat), k ≤ nr S → nr S < k + fu → (∀ j, j < k → (adjB S (rm S p) j && (distV S (gl S p) j == distV S (gl S p) (rm S p) - 1)) = false) → AW X 0 0 28 [some (.ref (w.1 + 0)), some (.ref (w.1 + s)), some (.int (nI p)), some (.int (nI (distV S (gl S p) (rm S p)))), some (.int (nI k))] [] G (va_up I 26 f) L := by
        intro fu
        induction fu with
        | zero => intro k hle hlt; exact absurd hlt (by omega)
        | succ fu ih =>
          intro k hle hlt hno
          refine aw_iload4 h dX0_stepOf_28 ?_
          refine aw_aload0 h dX0_stepOf_30 ?_
          refine aw_getr h fl_X0_12 (gx0 hX) dX0_stepOf_31 rfl hc0 ?_
          refine aw_getiV h fl_X0_123 hK.1 dX0_stepOf_34 rfl (hrm) ?_
          refine aw_icmp_geN h (tgt := 85) (by omega) (by omega) dX0_stepOf_37 (by decide) (fun c37 => ?_) (fun c37 => ?_)
          · refine aw_iconst h _ ci_m1 dX0_stepOf_85 ?_
            exact aw_iret h hr dX0_stepOf_86 (⟨by unfold stepI stepF; rw [if_neg hnz, if_neg (by rw [firstT_none (fun j hj => hno j (by omega))]; omega)], rfl, rfl, f, rfl, hf⟩) (Nat.zero_le _) (Nat.zero_le _)
          · refine aw_aload0 h dX0_stepOf_40 ?_
            refine aw_getr h fl_X0_60 (gx0 hX) dX0_stepOf_41 rfl (gxp13 hX) ?_
            refine aw_iload4 h dX0_stepOf_44 ?_
            refine aw_ialdV h (gxs26 hX) (by decide) (by omega) dX0_stepOf_46 ((congrFun (vup_s I 26 f) _).trans (hf _ (by omega))) ?_
            refine aw_iload3 h dX0_stepOf_47 ?_
            refine aw_iconst h _ ci_1 dX0_stepOf_48 ?_
            refine aw_isubN h (by omega) dX0_stepOf_49 ?_
            refine aw_icmp_neN h (tgt := 79) (by have := dist_le S (gl S p) k; omega) (by omega) dX0_stepOf_50 (by decide) (fun c50 => ?_) (fun c50 => ?_)
            · refine aw_iincN4 h rfl dX0_stepOf_79 ?_
              refine aw_goto h (tgt := 28) dX0_stepOf_82 (by decide) ?_
              refine ih (k + 1) (by omega) (by omega) (fun j hj => ?_)
              by_cases e : j = k
              · subst e; rw [show (distV S (gl S p) j == distV S (gl S p) (rm S p) - 1) = false from beq_eq_false_iff_ne.mpr c50, Bool.and_false]
              · exact hno j (by omega)
            · refine aw_aload0 h dX0_stepOf_53 ?_
              refine aw_getr h fl_X0_12 (gx0 hX) dX0_stepOf_54 rfl hc0 ?_
              refine aw_aload1 h dX0_stepOf_57 ?_
              refine aw_getr h fl_X0_202 hs.1 dX0_stepOf_58 rfl (hs.2 0 (by decide)).1 ?_
              refine aw_iload2 h dX0_stepOf_61 ?_
              refine aw_ialdV h (hs.2 0 (by decide)).2 (by decide) (by omega) dX0_stepOf_62 (hpv1.1.trans hiv.1) ?_
              refine aw_iload4 h dX0_stepOf_63 ?_
              refine aw_aload1 h dX0_stepOf_65 ?_
              refine aw_getiV h fl_X0_195 hs.1 dX0_stepOf_66 rfl (hA1.1.trans ht) ?_
              refine aw_callVE3 h hl cl_X0_209 (met_x_between hK hok (a := rm S p) (b := k) (by omega) (by omega) ht2) hK.1 rfl dX0_stepOf_69 (Nat.le_of_ble_eq_true rfl) rfl (Nat.zero_le _) (Nat.zero_le _) ?_
              refine aw_iconst h _ ci_m1 dX0_stepOf_72 ?_
              refine aw_icmp_eq h (tgt := 79) dX0_stepOf_73 (by decide) (fun c73 => ?_) (fun c73 => ?_)
              · refine aw_iincN4 h rfl dX0_stepOf_79 ?_
                refine aw_goto h (tgt := 28) dX0_stepOf_82 (by decide) ?_
                refine ih (k + 1) (by omega) (by omega) (fun j hj => ?_)
                by_cases e : j = k
                · subst e; rw [show adjB S (rm S p) j = false from Bool.eq_false_iff.mpr (fun q => (beK_adj hcs hok ht ht2 _ _).mpr q c73), Bool.false_and]
                · exact hno j (by omega)
              · refine aw_iload4 h dX0_stepOf_76 ?_
                exact aw_iret h hr dX0_stepOf_78 (⟨by unfold stepI stepF; rw [if_neg hnz, fI_is_first hno (by omega) (by rw [(beK_adj hcs hok ht ht2 _ _).mp c73, c50]; simp)], rfl, rfl, f, rfl, hf⟩) (Nat.zero_le _) (Nat.zero_le _)
      refine aw_iconst h _ ci_0 dX0_stepOf_25 ?_
      refine aw_istore4 h rfl dX0_stepOf_26 ?_
      exact key (nr S + 1) 0 (Nat.zero_le _) (by omega) (fun j hj => absurd hj (by omega))
    · refine aw_iconst h _ ci_m1 dX0_stepOf_23 ?_
      exact aw_iret h hr dX0_stepOf_24 (⟨by unfold stepI; rw [if_pos (Or.inr (by omega))], rfl, rfl, f, rfl, hf⟩) (Nat.zero_le _) (Nat.zero_le _)
