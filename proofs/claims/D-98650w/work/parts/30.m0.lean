/-! The reference's cells and its vector: rooms, doors, people .. -/
set_option maxRecDepth 100000
/-- answers of truth -/
def bI : Bool → Int32
  | true => nI 1
  | false => nI 0
theorem z01_0 : nI 0 = 0 ∨ nI 0 = 1 := Or.inl rfl
theorem z01_1 : nI 1 = 0 ∨ nI 1 = 1 := Or.inr rfl
theorem z01_b (b : Bool) : bI b = 0 ∨ bI b = 1 := by cases b; exact Or.inl rfl; exact Or.inr rfl
theorem bI_0 {b : Bool} (h : b = false) : nI 0 = bI b := by rw [h]; rfl
theorem bI_1 {b : Bool} (h : b = true) : nI 1 = bI b := by rw [h]; rfl
theorem ExB0 {b : Bool} {G : Gm} {I : Im} {L : Lm} (h : b = false) : Exact (some (.int (bI b))) G I L (some (.int (nI 0))) G I L := ⟨by rw [bI_0 h], rfl, rfl, rfl⟩
theorem ExB1 {b : Bool} {G : Gm} {I : Im} {L : Lm} (h : b = true) : Exact (some (.int (bI b))) G I L (some (.int (nI 1))) G I L := ⟨by rw [bI_1 h], rfl, rfl, rfl⟩
section BW
variable {X : Cx} {cc : ByteArray} {own : String} {rt : Option FieldType} {mL F Lo mc ms : Nat} {w : Wd} {cs ss pc : Nat} {ls : List (Option Value)} {st : List Value} {G : Gm} {I : Im} {L : Lm}
theorem aw_if_eqB (h : CX X cc own rt mL F Lo mc ms w) {b : Bool} {off : Int} {tgt : Nat} (d : decode cc pc = .ok (.ifCond .eq off, 3)) (ht : (pc : Int) + off = (tgt : Int)) (kt : b = false → AW X cs ss tgt ls st G I L) (kf : b = true → AW X cs ss (pc + 3) ls st G I L) : AW X cs ss pc ls (.int (bI b) :: st) G I L :=
  aw_if_eq h d ht (fun q => kt (by cases b; rfl; exact absurd q (by decide))) (fun q => kf (by cases b; exact absurd (show bI false = 0 from rfl) q; rfl))
theorem aw_if_neB (h : CX X cc own rt mL F Lo mc ms w) {b : Bool} {off : Int} {tgt : Nat} (d : decode cc pc = .ok (.ifCond .ne off, 3)) (ht : (pc : Int) + off = (tgt : Int)) (kt : b = true → AW X cs ss tgt ls st G I L) (kf : b = false → AW X cs ss (pc + 3) ls st G I L) : AW X cs ss pc ls (.int (bI b) :: st) G I L :=
  aw_if_ne h d ht (fun q => kt (by cases b; exact absurd (show bI false = 0 from rfl) q; rfl)) (fun q => kf (by cases b; rfl; exact absurd q (by decide)))
end BW
/-- the reference's cells: the object, then its arrays, in the order of its constructor -/
def gmP : List (Nat × Nat) := [(0, 162), (3, 163), (4, 164), (5, 165), (6, 166), (7, 167), (15, 168), (17, 169), (19, 170), (20, 171), (23, 172), (24, 173), (25, 174), (26, 175), (28, 176), (29, 177), (30, 178), (36, 179), (37, 180), (38, 181), (40, 182), (41, 183), (42, 184), (43, 185)]
def gmS : List (Nat × Nat × Nat) := [(162, 102, 400), (163, 100, 2400), (164, 100, 7), (165, 100, 288), (166, 100, 6), (167, 100, 84), (168, 100, 400), (169, 101, 64), (170, 101, 12), (171, 100, 123), (172, 100, 8), (173, 100, 4), (174, 103, 4), (175, 100, 680), (176, 100, 34), (177, 100, 32768), (178, 100, 32768), (179, 100, 4096), (180, 103, 7), (181, 100, 28), (182, 100, 492), (183, 100, 4), (184, 100, 4), (185, 103, 4)]
def GM (G : Gm) : Prop := SHP G 161 4 44 ∧ (∀ p ∈ gmP, G.2.2 161 p.1 = some p.2) ∧ ∀ p ∈ gmS, SHP G p.1 p.2.1 p.2.2
theorem gmt {G : Gm} (h : GM G) : SHP G 161 4 44 := h.1
theorem gmp0 {G : Gm} (h : GM G) : G.2.2 161 0 = some 162 := h.2.1 (0, 162) (by decide)
theorem gms162 {G : Gm} (h : GM G) : SHP G 162 102 400 := h.2.2 (162, 102, 400) (by decide)
theorem gmp3 {G : Gm} (h : GM G) : G.2.2 161 3 = some 163 := h.2.1 (3, 163) (by decide)
theorem gms163 {G : Gm} (h : GM G) : SHP G 163 100 2400 := h.2.2 (163, 100, 2400) (by decide)
theorem gmp4 {G : Gm} (h : GM G) : G.2.2 161 4 = some 164 := h.2.1 (4, 164) (by decide)
theorem gms164 {G : Gm} (h : GM G) : SHP G 164 100 7 := h.2.2 (164, 100, 7) (by decide)
theorem gmp5 {G : Gm} (h : GM G) : G.2.2 161 5 = some 165 := h.2.1 (5, 165) (by decide)
theorem gms165 {G : Gm} (h : GM G) : SHP G 165 100 288 := h.2.2 (165, 100, 288) (by decide)
theorem gmp6 {G : Gm} (h : GM G) : G.2.2 161 6 = some 166 := h.2.1 (6, 166) (by decide)
theorem gms166 {G : Gm} (h : GM G) : SHP G 166 100 6 := h.2.2 (166, 100, 6) (by decide)
theorem gmp7 {G : Gm} (h : GM G) : G.2.2 161 7 = some 167 := h.2.1 (7, 167) (by decide)
theorem gms167 {G : Gm} (h : GM G) : SHP G 167 100 84 := h.2.2 (167, 100, 84) (by decide)
theorem gmp15 {G : Gm} (h : GM G) : G.2.2 161 15 = some 168 := h.2.1 (15, 168) (by decide)
theorem gms168 {G : Gm} (h : GM G) : SHP G 168 100 400 := h.2.2 (168, 100, 400) (by decide)
theorem gmp17 {G : Gm} (h : GM G) : G.2.2 161 17 = some 169 := h.2.1 (17, 169) (by decide)
theorem gms169 {G : Gm} (h : GM G) : SHP G 169 101 64 := h.2.2 (169, 101, 64) (by decide)
theorem gmp19 {G : Gm} (h : GM G) : G.2.2 161 19 = some 170 := h.2.1 (19, 170) (by decide)
theorem gms170 {G : Gm} (h : GM G) : SHP G 170 101 12 := h.2.2 (170, 101, 12) (by decide)
theorem gmp20 {G : Gm} (h : GM G) : G.2.2 161 20 = some 171 := h.2.1 (20, 171) (by decide)
theorem gms171 {G : Gm} (h : GM G) : SHP G 171 100 123 := h.2.2 (171, 100, 123) (by decide)
theorem gmp23 {G : Gm} (h : GM G) : G.2.2 161 23 = some 172 := h.2.1 (23, 172) (by decide)
theorem gms172 {G : Gm} (h : GM G) : SHP G 172 100 8 := h.2.2 (172, 100, 8) (by decide)
theorem gmp24 {G : Gm} (h : GM G) : G.2.2 161 24 = some 173 := h.2.1 (24, 173) (by decide)
theorem gms173 {G : Gm} (h : GM G) : SHP G 173 100 4 := h.2.2 (173, 100, 4) (by decide)
theorem gmp25 {G : Gm} (h : GM G) : G.2.2 161 25 = some 174 := h.2.1 (25, 174) (by decide)
theorem gms174 {G : Gm} (h : GM G) : SHP G 174 103 4 := h.2.2 (174, 103, 4) (by decide)
theorem gmp26 {G : Gm} (h : GM G) : G.2.2 161 26 = some 175 := h.2.1 (26, 175) (by decide)
theorem gms175 {G : Gm} (h : GM G) : SHP G 175 100 680 := h.2.2 (175, 100, 680) (by decide)
theorem gmp28 {G : Gm} (h : GM G) : G.2.2 161 28 = some 176 := h.2.1 (28, 176) (by decide)
theorem gms176 {G : Gm} (h : GM G) : SHP G 176 100 34 := h.2.2 (176, 100, 34) (by decide)
theorem gmp29 {G : Gm} (h : GM G) : G.2.2 161 29 = some 177 := h.2.1 (29, 177) (by decide)
theorem gms177 {G : Gm} (h : GM G) : SHP G 177 100 32768 := h.2.2 (177, 100, 32768) (by decide)
theorem gmp30 {G : Gm} (h : GM G) : G.2.2 161 30 = some 178 := h.2.1 (30, 178) (by decide)
theorem gms178 {G : Gm} (h : GM G) : SHP G 178 100 32768 := h.2.2 (178, 100, 32768) (by decide)
theorem gmp36 {G : Gm} (h : GM G) : G.2.2 161 36 = some 179 := h.2.1 (36, 179) (by decide)
theorem gms179 {G : Gm} (h : GM G) : SHP G 179 100 4096 := h.2.2 (179, 100, 4096) (by decide)
theorem gmp37 {G : Gm} (h : GM G) : G.2.2 161 37 = some 180 := h.2.1 (37, 180) (by decide)
theorem gms180 {G : Gm} (h : GM G) : SHP G 180 103 7 := h.2.2 (180, 103, 7) (by decide)
theorem gmp38 {G : Gm} (h : GM G) : G.2.2 161 38 = some 181 := h.2.1 (38, 181) (by decide)
theorem gms181 {G : Gm} (h : GM G) : SHP G 181 100 28 := h.2.2 (181, 100, 28) (by decide)
theorem gmp40 {G : Gm} (h : GM G) : G.2.2 161 40 = some 182 := h.2.1 (40, 182) (by decide)
theorem gms182 {G : Gm} (h : GM G) : SHP G 182 100 492 := h.2.2 (182, 100, 492) (by decide)
theorem gmp41 {G : Gm} (h : GM G) : G.2.2 161 41 = some 183 := h.2.1 (41, 183) (by decide)
theorem gms183 {G : Gm} (h : GM G) : SHP G 183 100 4 := h.2.2 (183, 100, 4) (by decide)
theorem gmp42 {G : Gm} (h : GM G) : G.2.2 161 42 = some 184 := h.2.1 (42, 184) (by decide)
theorem gms184 {G : Gm} (h : GM G) : SHP G 184 100 4 := h.2.2 (184, 100, 4) (by decide)
theorem gmp43 {G : Gm} (h : GM G) : G.2.2 161 43 = some 185 := h.2.1 (43, 185) (by decide)
theorem gms185 {G : Gm} (h : GM G) : SHP G 185 103 4 := h.2.2 (185, 103, 4) (by decide)
/-- the vector's words -/
def nv (S : Nat → Int32) (i : Nat) : Nat := (S i).toNatClampNeg
def nr (S : Nat → Int32) : Nat := nv S 0
def nd (S : Nat → Int32) : Nat := nv S 1
def np (S : Nat → Int32) : Nat := nv S 2
def dv (S : Nat → Int32) (d k : Nat) : Int32 := S (42 + 3 * d + k)
def pv (S : Nat → Int32) (p k : Nat) : Int32 := S (10 + 6 * p + k)
def near (S : Nat → Int32) (d : Nat) : Nat := (dv S d 0).toNatClampNeg
def farr (S : Nat → Int32) (d : Nat) : Nat := (dv S d 1).toNatClampNeg
def rm (S : Nat → Int32) (p : Nat) : Nat := (pv S p 0).toNatClampNeg
def gl (S : Nat → Int32) (p : Nat) : Nat := (pv S p 1).toNatClampNeg
def hourV (S : Nat → Int32) : Int32 := S 3 - S 3 / nI 24 * nI 24
def nightB (S : Nat → Int32) : Bool := decide (0 < S 0) && (decide (0 ≤ S 4) && (decide (S 4 ≤ hourV S) && decide (hourV S ≤ S 5)))
def openB (S : Nat → Int32) (d : Nat) : Bool := decide (¬ S (34 + near S d) = S (34 + farr S d)) && (decide (dv S d 2 = 0) || nightB S)
/-- what holds of the vector at all times -/
def InvS (S : Nat → Int32) : Prop := S 0 = nI (nr S) ∧ nr S ≤ 8 ∧ S 1 = nI (nd S) ∧ nd S ≤ 14 ∧ S 2 = nI (np S) ∧ np S ≤ 4 ∧
  (∀ d, d < nd S → dv S d 0 = nI (near S d) ∧ near S d < nr S ∧ dv S d 1 = nI (farr S d) ∧ farr S d < nr S) ∧
  (∀ p, p < np S → pv S p 0 = nI (rm S p) ∧ rm S p < nr S ∧ pv S p 1 = nI (gl S p) ∧ gl S p < nr S)
section INVS
variable {S : Nat → Int32}
theorem iv0 (h : InvS S) : S 0 = nI (nr S) := h.1
theorem iv0b (h : InvS S) : nr S ≤ 8 := h.2.1
theorem iv1 (h : InvS S) : S 1 = nI (nd S) := h.2.2.1
theorem iv1b (h : InvS S) : nd S ≤ 14 := h.2.2.2.1
theorem iv2 (h : InvS S) : S 2 = nI (np S) := h.2.2.2.2.1
theorem iv2b (h : InvS S) : np S ≤ 4 := h.2.2.2.2.2.1
theorem ivd (h : InvS S) {d : Nat} (hd : d < nd S) : dv S d 0 = nI (near S d) ∧ near S d < nr S ∧ dv S d 1 = nI (farr S d) ∧ farr S d < nr S := h.2.2.2.2.2.2.1 d hd
theorem ivp (h : InvS S) {p : Nat} (hp : p < np S) : pv S p 0 = nI (rm S p) ∧ rm S p < nr S ∧ pv S p 1 = nI (gl S p) ∧ gl S p < nr S := h.2.2.2.2.2.2.2 p hp
end INVS
theorem met_m_in {w : Wd} {G : Gm} {I : Im} {L : Lm} {v lo hi : Int64} : AMet w yX4_in cX4_in 6 (some .boolean) 1 40 0 0 [.long v, .long lo, .long hi] G I L (Exact (some (.int (bI (decide (lo ≤ v) && decide (v ≤ hi))))) G I L) := by
  refine AMet.of (ls0 := [some (.long v), none, some (.long lo), none, some (.long hi), none]) rfl (Nat.le_of_ble_eq_true rfl) rfl (fun q hq => hq) (fun X h hl hr hi => ?_)
  refine aw_lload0 h dX4_in_0 ?_
  refine aw_lload2 h dX4_in_1 ?_
  refine aw_lcmp_lt h (tgt := 17) dX4_in_2 dX4_in_3 (by decide) (fun c2 => ?_) (fun c2 => ?_)
  · refine aw_iconst h _ ci_0 dX4_in_17 ?_
    exact aw_zret h hr dX4_in_18 (by first | exact z01_0 | exact z01_1 | exact z01_b _) (ExB0 (by simp [Int64.not_le.mpr c2])) (Nat.zero_le _) (Nat.zero_le _)
  · refine aw_lload0 h dX4_in_6 ?_
    refine aw_lload4 h dX4_in_7 ?_
    refine aw_lcmp_gt h (tgt := 17) dX4_in_9 dX4_in_10 (by decide) (fun c9 => ?_) (fun c9 => ?_)
    · refine aw_iconst h _ ci_0 dX4_in_17 ?_
      exact aw_zret h hr dX4_in_18 (by first | exact z01_0 | exact z01_1 | exact z01_b _) (ExB0 (by simp [Int64.not_le.mpr c9])) (Nat.zero_le _) (Nat.zero_le _)
    · refine aw_iconst h _ ci_1 dX4_in_13 ?_
      refine aw_goto h (tgt := 18) dX4_in_14 (by decide) ?_
      exact aw_zret h hr dX4_in_18 (by first | exact z01_0 | exact z01_1 | exact z01_b _) (ExB1 (by simp [Int64.not_lt.mp c2, Int64.not_lt.mp c9])) (Nat.zero_le _) (Nat.zero_le _)
theorem met_m_isOf {w : Wd} {G : Gm} {I : Im} {L : Lm} {v k : Int32} : AMet w yX4_isOf cX4_isOf 2 (some .boolean) 1 40 0 0 [.int v, .int k] G I L (Exact (some (.int (bI (decide ((v >>> (k &&& 31)) &&& nI 1 = nI 1))))) G I L) := by
  refine AMet.of (ls0 := [some (.int v), some (.int k)]) rfl (Nat.le_of_ble_eq_true rfl) rfl (fun q hq => hq) (fun X h hl hr hi => ?_)
  refine aw_iload0 h dX4_isOf_0 ?_
  refine aw_iload1 h dX4_isOf_1 ?_
  refine aw_ishr h dX4_isOf_2 ?_
  refine aw_iconst h _ ci_1 dX4_isOf_3 ?_
  refine aw_iand h dX4_isOf_4 ?_
  refine aw_iconst h _ ci_1 dX4_isOf_5 ?_
  refine aw_icmp_ne h (tgt := 13) dX4_isOf_6 (by decide) (fun c6 => ?_) (fun c6 => ?_)
  · refine aw_iconst h _ ci_0 dX4_isOf_13 ?_
    exact aw_zret h hr dX4_isOf_14 (by first | exact z01_0 | exact z01_1 | exact z01_b _) (ExB0 (by simp [c6])) (Nat.zero_le _) (Nat.zero_le _)
  · refine aw_iconst h _ ci_1 dX4_isOf_9 ?_
    refine aw_goto h (tgt := 14) dX4_isOf_10 (by decide) ?_
    exact aw_zret h hr dX4_isOf_14 (by first | exact z01_0 | exact z01_1 | exact z01_b _) (ExB1 (by simp [c6])) (Nat.zero_le _) (Nat.zero_le _)
section IVE
variable {I : Im} {S : Nat → Int32}
theorem iv0e (hE : I 171 = S) (h : InvS S) : I 171 0 = nI (nr S) := by rw [hE]; exact h.1
theorem iv1e (hE : I 171 = S) (h : InvS S) : I 171 1 = nI (nd S) := by rw [hE]; exact iv1 h
theorem iv2e (hE : I 171 = S) (h : InvS S) : I 171 2 = nI (np S) := by rw [hE]; exact iv2 h
end IVE
theorem met_m_isCastle {w : Wd} {G : Gm} {I : Im} {L : Lm} (hG : GM G) {S : Nat → Int32} (hE : I 171 = S) (hS : InvS S) : AMet w yX4_isCastle cX4_isCastle 1 (some .boolean) 1 40 0 0 [.ref (w.1 + 161)] G I L (Exact (some (.int (bI (decide (0 < nr S))))) G I L) := by
  refine AMet.of (ls0 := [some (.ref (w.1 + 161))]) rfl (Nat.le_of_ble_eq_true rfl) rfl (fun q hq => hq) (fun X h hl hr hi => ?_)
  refine aw_aload0 h dX4_isCastle_0 ?_
  refine aw_getr h fl_X4_39 (gmt hG) dX4_isCastle_1 rfl (gmp20 hG) ?_
  refine aw_iconst h _ ci_0 dX4_isCastle_4 ?_
  refine aw_ialdV h (gms171 hG) (by decide) (by omega) dX4_isCastle_5 (iv0e hE hS) ?_
  refine aw_if_leN h (tgt := 13) (by have := iv0b hS; omega) dX4_isCastle_6 (by decide) (fun c6 => ?_) (fun c6 => ?_)
  · refine aw_iconst h _ ci_0 dX4_isCastle_13 ?_
    exact aw_zret h hr dX4_isCastle_14 (by first | exact z01_0 | exact z01_1 | exact z01_b _) (ExB0 (by simp; omega)) (Nat.zero_le _) (Nat.zero_le _)
  · refine aw_iconst h _ ci_1 dX4_isCastle_9 ?_
    refine aw_goto h (tgt := 14) dX4_isCastle_10 (by decide) ?_
    exact aw_zret h hr dX4_isCastle_14 (by first | exact z01_0 | exact z01_1 | exact z01_b _) (ExB1 (by simp; omega)) (Nat.zero_le _) (Nat.zero_le _)
theorem met_m_isPerson {w : Wd} {G : Gm} {I : Im} {L : Lm} (hG : GM G) {S : Nat → Int32} (hE : I 171 = S) (hS : InvS S) {p : Int32} : AMet w yX4_isPerson cX4_isPerson 2 (some .boolean) 1 40 0 0 [.ref (w.1 + 161), .int p] G I L (Exact (some (.int (bI (decide (0 ≤ p) && decide (p < nI (np S)))))) G I L) := by
  refine AMet.of (ls0 := [some (.ref (w.1 + 161)), some (.int p)]) rfl (Nat.le_of_ble_eq_true rfl) rfl (fun q hq => hq) (fun X h hl hr hi => ?_)
  refine aw_iload1 h dX4_isPerson_0 ?_
  refine aw_if_lt h (tgt := 18) dX4_isPerson_1 (by decide) (fun c1 => ?_) (fun c1 => ?_)
  · refine aw_iconst h _ ci_0 dX4_isPerson_18 ?_
    exact aw_zret h hr dX4_isPerson_19 (by first | exact z01_0 | exact z01_1 | exact z01_b _) (ExB0 (by simp [Int32.not_le.mpr c1])) (Nat.zero_le _) (Nat.zero_le _)
  · refine aw_iload1 h dX4_isPerson_4 ?_
    refine aw_aload0 h dX4_isPerson_5 ?_
    refine aw_getr h fl_X4_39 (gmt hG) dX4_isPerson_6 rfl (gmp20 hG) ?_
    refine aw_iconst h _ ci_2 dX4_isPerson_9 ?_
    refine aw_ialdV h (gms171 hG) (by decide) (by omega) dX4_isPerson_10 (iv2e hE hS) ?_
    refine aw_icmp_ge h (tgt := 18) dX4_isPerson_11 (by decide) (fun c11 => ?_) (fun c11 => ?_)
    · refine aw_iconst h _ ci_0 dX4_isPerson_18 ?_
      exact aw_zret h hr dX4_isPerson_19 (by first | exact z01_0 | exact z01_1 | exact z01_b _) (ExB0 (by simp [Int32.not_lt.mpr c11])) (Nat.zero_le _) (Nat.zero_le _)
    · refine aw_iconst h _ ci_1 dX4_isPerson_14 ?_
      refine aw_goto h (tgt := 19) dX4_isPerson_15 (by decide) ?_
      exact aw_zret h hr dX4_isPerson_19 (by first | exact z01_0 | exact z01_1 | exact z01_b _) (ExB1 (by simp [Int32.not_lt.mp c1, Int32.not_le.mp c11])) (Nat.zero_le _) (Nat.zero_le _)
theorem met_m_isRoom {w : Wd} {G : Gm} {I : Im} {L : Lm} (hG : GM G) {S : Nat → Int32} (hE : I 171 = S) (hS : InvS S) {p : Int32} : AMet w yX4_isRoom cX4_isRoom 2 (some .boolean) 1 40 0 0 [.ref (w.1 + 161), .int p] G I L (Exact (some (.int (bI (decide (0 ≤ p) && decide (p < nI (nr S)))))) G I L) := by
  refine AMet.of (ls0 := [some (.ref (w.1 + 161)), some (.int p)]) rfl (Nat.le_of_ble_eq_true rfl) rfl (fun q hq => hq) (fun X h hl hr hi => ?_)
  refine aw_iload1 h dX4_isRoom_0 ?_
  refine aw_if_lt h (tgt := 18) dX4_isRoom_1 (by decide) (fun c1 => ?_) (fun c1 => ?_)
  · refine aw_iconst h _ ci_0 dX4_isRoom_18 ?_
    exact aw_zret h hr dX4_isRoom_19 (by first | exact z01_0 | exact z01_1 | exact z01_b _) (ExB0 (by simp [Int32.not_le.mpr c1])) (Nat.zero_le _) (Nat.zero_le _)
  · refine aw_iload1 h dX4_isRoom_4 ?_
    refine aw_aload0 h dX4_isRoom_5 ?_
    refine aw_getr h fl_X4_39 (gmt hG) dX4_isRoom_6 rfl (gmp20 hG) ?_
    refine aw_iconst h _ ci_0 dX4_isRoom_9 ?_
    refine aw_ialdV h (gms171 hG) (by decide) (by omega) dX4_isRoom_10 (iv0e hE hS) ?_
    refine aw_icmp_ge h (tgt := 18) dX4_isRoom_11 (by decide) (fun c11 => ?_) (fun c11 => ?_)
    · refine aw_iconst h _ ci_0 dX4_isRoom_18 ?_
      exact aw_zret h hr dX4_isRoom_19 (by first | exact z01_0 | exact z01_1 | exact z01_b _) (ExB0 (by simp [Int32.not_lt.mpr c11])) (Nat.zero_le _) (Nat.zero_le _)
    · refine aw_iconst h _ ci_1 dX4_isRoom_14 ?_
      refine aw_goto h (tgt := 19) dX4_isRoom_15 (by decide) ?_
      exact aw_zret h hr dX4_isRoom_19 (by first | exact z01_0 | exact z01_1 | exact z01_b _) (ExB1 (by simp [Int32.not_lt.mp c1, Int32.not_le.mp c11])) (Nat.zero_le _) (Nat.zero_le _)
theorem met_m_isDoor {w : Wd} {G : Gm} {I : Im} {L : Lm} (hG : GM G) {S : Nat → Int32} (hE : I 171 = S) (hS : InvS S) {p : Int32} : AMet w yX4_isDoor cX4_isDoor 2 (some .boolean) 1 40 0 0 [.ref (w.1 + 161), .int p] G I L (Exact (some (.int (bI (decide (0 ≤ p) && decide (p < nI (nd S)))))) G I L) := by
  refine AMet.of (ls0 := [some (.ref (w.1 + 161)), some (.int p)]) rfl (Nat.le_of_ble_eq_true rfl) rfl (fun q hq => hq) (fun X h hl hr hi => ?_)
  refine aw_iload1 h dX4_isDoor_0 ?_
  refine aw_if_lt h (tgt := 18) dX4_isDoor_1 (by decide) (fun c1 => ?_) (fun c1 => ?_)
  · refine aw_iconst h _ ci_0 dX4_isDoor_18 ?_
    exact aw_zret h hr dX4_isDoor_19 (by first | exact z01_0 | exact z01_1 | exact z01_b _) (ExB0 (by simp [Int32.not_le.mpr c1])) (Nat.zero_le _) (Nat.zero_le _)
  · refine aw_iload1 h dX4_isDoor_4 ?_
    refine aw_aload0 h dX4_isDoor_5 ?_
    refine aw_getr h fl_X4_39 (gmt hG) dX4_isDoor_6 rfl (gmp20 hG) ?_
    refine aw_iconst h _ ci_1 dX4_isDoor_9 ?_
    refine aw_ialdV h (gms171 hG) (by decide) (by omega) dX4_isDoor_10 (iv1e hE hS) ?_
    refine aw_icmp_ge h (tgt := 18) dX4_isDoor_11 (by decide) (fun c11 => ?_) (fun c11 => ?_)
    · refine aw_iconst h _ ci_0 dX4_isDoor_18 ?_
      exact aw_zret h hr dX4_isDoor_19 (by first | exact z01_0 | exact z01_1 | exact z01_b _) (ExB0 (by simp [Int32.not_lt.mpr c11])) (Nat.zero_le _) (Nat.zero_le _)
    · refine aw_iconst h _ ci_1 dX4_isDoor_14 ?_
      refine aw_goto h (tgt := 19) dX4_isDoor_15 (by decide) ?_
      exact aw_zret h hr dX4_isDoor_19 (by first | exact z01_0 | exact z01_1 | exact z01_b _) (ExB1 (by simp [Int32.not_lt.mp c1, Int32.not_le.mp c11])) (Nat.zero_le _) (Nat.zero_le _)
theorem met_m_personOf {w : Wd} {G : Gm} {I : Im} {L : Lm} (hG : GM G) {S : Nat → Int32} (hE : I 171 = S) {p k : Nat} (hp : 10 + 6 * p + k < 123) : AMet w yX4_personOf cX4_personOf 3 (some .int) 1 40 0 0 [.ref (w.1 + 161), .int (nI p), .int (nI k)] G I L (Exact (some (.int (pv S p k))) G I L) := by
  refine AMet.of (ls0 := [some (.ref (w.1 + 161)), some (.int (nI p)), some (.int (nI k))]) rfl (Nat.le_of_ble_eq_true rfl) rfl (fun q hq => hq) (fun X h hl hr hi => ?_)
  refine aw_aload0 h dX4_personOf_0 ?_
  refine aw_getr h fl_X4_39 (gmt hG) dX4_personOf_1 rfl (gmp20 hG) ?_
  refine aw_bipush h _ cb_10 dX4_personOf_4 ?_
  refine aw_bipush h _ cb_6 dX4_personOf_6 ?_
  refine aw_iload1 h dX4_personOf_8 ?_
  refine aw_imulN h dX4_personOf_9 ?_
  refine aw_iaddN h dX4_personOf_10 ?_
  refine aw_iload2 h dX4_personOf_11 ?_
  refine aw_iaddN h dX4_personOf_12 ?_
  refine aw_ialdV h (gms171 hG) (by decide) (by omega) dX4_personOf_13 (congrFun hE _) ?_
  exact aw_iret h hr dX4_personOf_14 (⟨rfl, rfl, rfl, rfl⟩) (Nat.zero_le _) (Nat.zero_le _)
theorem met_m_nearOf {w : Wd} {G : Gm} {I : Im} {L : Lm} (hG : GM G) {S : Nat → Int32} (hE : I 171 = S) (hS : InvS S) {d : Nat} (hd : d < nd S) : AMet w yX4_nearOf cX4_nearOf 2 (some .int) 1 40 0 0 [.ref (w.1 + 161), .int (nI d)] G I L (Exact (some (.int (nI (near S d)))) G I L) := by
  refine AMet.of (ls0 := [some (.ref (w.1 + 161)), some (.int (nI d))]) rfl (Nat.le_of_ble_eq_true rfl) rfl (fun q hq => hq) (fun X h hl hr hi => ?_)
  refine aw_aload0 h dX4_nearOf_0 ?_
  refine aw_getr h fl_X4_39 (gmt hG) dX4_nearOf_1 rfl (gmp20 hG) ?_
  refine aw_bipush h _ cb_42 dX4_nearOf_4 ?_
  refine aw_iconst h _ ci_3 dX4_nearOf_6 ?_
  refine aw_iload1 h dX4_nearOf_7 ?_
  refine aw_imulN h dX4_nearOf_8 ?_
  refine aw_iaddN h dX4_nearOf_9 ?_
  refine aw_ialdV h (gms171 hG) (by decide) (by have := iv1b hS; omega) dX4_nearOf_10 ((congrFun hE _).trans (ivd hS hd).1) ?_
  exact aw_iret h hr dX4_nearOf_11 (⟨rfl, rfl, rfl, rfl⟩) (Nat.zero_le _) (Nat.zero_le _)
theorem met_m_farOf {w : Wd} {G : Gm} {I : Im} {L : Lm} (hG : GM G) {S : Nat → Int32} (hE : I 171 = S) (hS : InvS S) {d : Nat} (hd : d < nd S) : AMet w yX4_farOf cX4_farOf 2 (some .int) 1 40 0 0 [.ref (w.1 + 161), .int (nI d)] G I L (Exact (some (.int (nI (farr S d)))) G I L) := by
  refine AMet.of (ls0 := [some (.ref (w.1 + 161)), some (.int (nI d))]) rfl (Nat.le_of_ble_eq_true rfl) rfl (fun q hq => hq) (fun X h hl hr hi => ?_)
  refine aw_aload0 h dX4_farOf_0 ?_
  refine aw_getr h fl_X4_39 (gmt hG) dX4_farOf_1 rfl (gmp20 hG) ?_
  refine aw_bipush h _ cb_42 dX4_farOf_4 ?_
  refine aw_iconst h _ ci_3 dX4_farOf_6 ?_
  refine aw_iload1 h dX4_farOf_7 ?_
  refine aw_imulN h dX4_farOf_8 ?_
  refine aw_iaddN h dX4_farOf_9 ?_
  refine aw_iconst h _ ci_1 dX4_farOf_10 ?_
  refine aw_iaddN h dX4_farOf_11 ?_
  refine aw_ialdV h (gms171 hG) (by decide) (by have := iv1b hS; omega) dX4_farOf_12 ((congrFun hE _).trans (ivd hS hd).2.2.1) ?_
  exact aw_iret h hr dX4_farOf_13 (⟨rfl, rfl, rfl, rfl⟩) (Nat.zero_le _) (Nat.zero_le _)
theorem met_m_isNight {w : Wd} {G : Gm} {I : Im} {L : Lm} (hG : GM G) {S : Nat → Int32} (hE : I 171 = S) : AMet w yX4_isNight cX4_isNight 2 (some .boolean) 1 40 0 0 [.ref (w.1 + 161)] G I L (Exact (some (.int (bI (nightB S)))) G I L) := by
  refine AMet.of (ls0 := [some (.ref (w.1 + 161)), none]) rfl (Nat.le_of_ble_eq_true rfl) rfl (fun q hq => hq) (fun X h hl hr hi => ?_)
  refine aw_aload0 h dX4_isNight_0 ?_
  refine aw_getr h fl_X4_39 (gmt hG) dX4_isNight_1 rfl (gmp20 hG) ?_
  refine aw_iconst h _ ci_3 dX4_isNight_4 ?_
  refine aw_ialdV h (gms171 hG) (by decide) (by omega) dX4_isNight_5 (congrFun hE 3) ?_
  refine aw_bipush h _ cb_24 dX4_isNight_6 ?_
  refine aw_irem h (by decide) dX4_isNight_8 ?_
  refine aw_istore1 h rfl dX4_isNight_9 ?_
  refine aw_aload0 h dX4_isNight_10 ?_
  refine aw_getr h fl_X4_39 (gmt hG) dX4_isNight_11 rfl (gmp20 hG) ?_
  refine aw_iconst h _ ci_0 dX4_isNight_14 ?_
  refine aw_ialdV h (gms171 hG) (by decide) (by omega) dX4_isNight_15 (congrFun hE 0) ?_
  refine aw_if_le h (tgt := 52) dX4_isNight_16 (by decide) (fun c16 => ?_) (fun c16 => ?_)
  · refine aw_iconst h _ ci_0 dX4_isNight_52 ?_
    exact aw_zret h hr dX4_isNight_53 (by first | exact z01_0 | exact z01_1 | exact z01_b _) (ExB0 (by simp [nightB, Int32.not_lt.mpr c16])) (Nat.zero_le _) (Nat.zero_le _)
  · refine aw_aload0 h dX4_isNight_19 ?_
    refine aw_getr h fl_X4_39 (gmt hG) dX4_isNight_20 rfl (gmp20 hG) ?_
    refine aw_iconst h _ ci_4 dX4_isNight_23 ?_
    refine aw_ialdV h (gms171 hG) (by decide) (by omega) dX4_isNight_24 (congrFun hE 4) ?_
    refine aw_if_lt h (tgt := 52) dX4_isNight_25 (by decide) (fun c25 => ?_) (fun c25 => ?_)
    · refine aw_iconst h _ ci_0 dX4_isNight_52 ?_
      exact aw_zret h hr dX4_isNight_53 (by first | exact z01_0 | exact z01_1 | exact z01_b _) (ExB0 (by simp [nightB, Int32.not_le.mpr c25])) (Nat.zero_le _) (Nat.zero_le _)
    · refine aw_iload1 h dX4_isNight_28 ?_
      refine aw_aload0 h dX4_isNight_29 ?_
      refine aw_getr h fl_X4_39 (gmt hG) dX4_isNight_30 rfl (gmp20 hG) ?_
      refine aw_iconst h _ ci_4 dX4_isNight_33 ?_
      refine aw_ialdV h (gms171 hG) (by decide) (by omega) dX4_isNight_34 (congrFun hE 4) ?_
      refine aw_icmp_lt h (tgt := 52) dX4_isNight_35 (by decide) (fun c35 => ?_) (fun c35 => ?_)
      · refine aw_iconst h _ ci_0 dX4_isNight_52 ?_
        exact aw_zret h hr dX4_isNight_53 (by first | exact z01_0 | exact z01_1 | exact z01_b _) (ExB0 (by simp [nightB, hourV, Int32.not_le.mpr c35])) (Nat.zero_le _) (Nat.zero_le _)
      · refine aw_iload1 h dX4_isNight_38 ?_
        refine aw_aload0 h dX4_isNight_39 ?_
        refine aw_getr h fl_X4_39 (gmt hG) dX4_isNight_40 rfl (gmp20 hG) ?_
        refine aw_iconst h _ ci_5 dX4_isNight_43 ?_
        refine aw_ialdV h (gms171 hG) (by decide) (by omega) dX4_isNight_44 (congrFun hE 5) ?_
        refine aw_icmp_gt h (tgt := 52) dX4_isNight_45 (by decide) (fun c45 => ?_) (fun c45 => ?_)
        · refine aw_iconst h _ ci_0 dX4_isNight_52 ?_
          exact aw_zret h hr dX4_isNight_53 (by first | exact z01_0 | exact z01_1 | exact z01_b _) (ExB0 (by simp [nightB, hourV, Int32.not_le.mpr c45])) (Nat.zero_le _) (Nat.zero_le _)
        · refine aw_iconst h _ ci_1 dX4_isNight_48 ?_
          refine aw_goto h (tgt := 53) dX4_isNight_49 (by decide) ?_
          exact aw_zret h hr dX4_isNight_53 (by first | exact z01_0 | exact z01_1 | exact z01_b _) (ExB1 (by simp [nightB, hourV, Int32.not_le.mp c16, Int32.not_lt.mp c25, Int32.not_lt.mp c35, Int32.not_lt.mp c45])) (Nat.zero_le _) (Nat.zero_le _)
theorem met_m_isOpen {w : Wd} {G : Gm} {I : Im} {L : Lm} (hG : GM G) {S : Nat → Int32} (hE : I 171 = S) (hS : InvS S) {d : Nat} (hd : d < nd S) : AMet w yX4_isOpen cX4_isOpen 2 (some .boolean) 2 61 0 0 [.ref (w.1 + 161), .int (nI d)] G I L (Exact (some (.int (bI (openB S d)))) G I L) := by
  refine AMet.of (ls0 := [some (.ref (w.1 + 161)), some (.int (nI d))]) rfl (Nat.le_of_ble_eq_true rfl) rfl (fun q hq => hq) (fun X h hl hr hi => ?_)
  refine aw_aload0 h dX4_isOpen_0 ?_
  refine aw_getr h fl_X4_39 (gmt hG) dX4_isOpen_1 rfl (gmp20 hG) ?_
  refine aw_bipush h _ cb_34 dX4_isOpen_4 ?_
  refine aw_aload0 h dX4_isOpen_6 ?_
  refine aw_iload1 h dX4_isOpen_7 ?_
  refine aw_callVE1 h hl cl_X4_301 (met_m_nearOf hG hE hS hd) (gmt hG) rfl dX4_isOpen_8 (Nat.le_of_ble_eq_true rfl) rfl (Nat.zero_le _) (Nat.zero_le _) ?_
  refine aw_iaddN h dX4_isOpen_11 ?_
  refine aw_ialdV h (gms171 hG) (by decide) (by have := (ivd hS hd).2.1; have := iv0b hS; omega) dX4_isOpen_12 (congrFun hE _) ?_
  refine aw_aload0 h dX4_isOpen_13 ?_
  refine aw_getr h fl_X4_39 (gmt hG) dX4_isOpen_14 rfl (gmp20 hG) ?_
  refine aw_bipush h _ cb_34 dX4_isOpen_17 ?_
  refine aw_aload0 h dX4_isOpen_19 ?_
  refine aw_iload1 h dX4_isOpen_20 ?_
  refine aw_callVE1 h hl cl_X4_304 (met_m_farOf hG hE hS hd) (gmt hG) rfl dX4_isOpen_21 (Nat.le_of_ble_eq_true rfl) rfl (Nat.zero_le _) (Nat.zero_le _) ?_
  refine aw_iaddN h dX4_isOpen_24 ?_
  refine aw_ialdV h (gms171 hG) (by decide) (by have := (ivd hS hd).2.2.2; have := iv0b hS; omega) dX4_isOpen_25 (congrFun hE _) ?_
  refine aw_icmp_eq h (tgt := 56) dX4_isOpen_26 (by decide) (fun c26 => ?_) (fun c26 => ?_)
  · refine aw_iconst h _ ci_0 dX4_isOpen_56 ?_
    exact aw_zret h hr dX4_isOpen_57 (by first | exact z01_0 | exact z01_1 | exact z01_b _) (ExB0 (by simp [openB, c26])) (Nat.zero_le _) (Nat.zero_le _)
  · refine aw_aload0 h dX4_isOpen_29 ?_
    refine aw_getr h fl_X4_39 (gmt hG) dX4_isOpen_30 rfl (gmp20 hG) ?_
    refine aw_bipush h _ cb_42 dX4_isOpen_33 ?_
    refine aw_iconst h _ ci_3 dX4_isOpen_35 ?_
    refine aw_iload1 h dX4_isOpen_36 ?_
    refine aw_imulN h dX4_isOpen_37 ?_
    refine aw_iaddN h dX4_isOpen_38 ?_
    refine aw_iconst h _ ci_2 dX4_isOpen_39 ?_
    refine aw_iaddN h dX4_isOpen_40 ?_
    refine aw_ialdV h (gms171 hG) (by decide) (by have := iv1b hS; omega) dX4_isOpen_41 (congrFun hE _) ?_
    refine aw_if_eq h (tgt := 52) dX4_isOpen_42 (by decide) (fun c42 => ?_) (fun c42 => ?_)
    · refine aw_iconst h _ ci_1 dX4_isOpen_52 ?_
      refine aw_goto h (tgt := 57) dX4_isOpen_53 (by decide) ?_
      exact aw_zret h hr dX4_isOpen_57 (by first | exact z01_0 | exact z01_1 | exact z01_b _) (ExB1 (by simp [openB, c26, dv, show S (42 + 3 * d + 2) = 0 from c42])) (Nat.zero_le _) (Nat.zero_le _)
    · refine aw_aload0 h dX4_isOpen_45 ?_
      refine aw_callVE0 h hl cl_X4_307 (met_m_isNight hG hE) (gmt hG) rfl dX4_isOpen_46 (Nat.le_of_ble_eq_true rfl) rfl (Nat.zero_le _) (Nat.zero_le _) ?_
      refine aw_if_eqB h (tgt := 56) dX4_isOpen_49 (by decide) (fun c49 => ?_) (fun c49 => ?_)
      · refine aw_iconst h _ ci_0 dX4_isOpen_56 ?_
        exact aw_zret h hr dX4_isOpen_57 (by first | exact z01_0 | exact z01_1 | exact z01_b _) (ExB0 (by simp [openB, c26, dv, show ¬ S (42 + 3 * d + 2) = 0 from c42, c49])) (Nat.zero_le _) (Nat.zero_le _)
      · refine aw_iconst h _ ci_1 dX4_isOpen_52 ?_
        refine aw_goto h (tgt := 57) dX4_isOpen_53 (by decide) ?_
        exact aw_zret h hr dX4_isOpen_57 (by first | exact z01_0 | exact z01_1 | exact z01_b _) (ExB1 (by simp [openB, c26, c49])) (Nat.zero_le _) (Nat.zero_le _)
