/-! The reference: sums and tests reckoned out on a stack -/
set_option maxRecDepth 100000
theorem upd2_upd2 {α : Type} (I : Nat → Nat → α) (n i : Nat) (x y : α) : upd2 (upd2 I n i x) n i y = upd2 I n i y := by
  unfold upd2
  rw [vup_vup, vup_s, vup_vup]
theorem upd2_id {α : Type} (I : Nat → Nat → α) (n i : Nat) {x : α} (h : I n i = x) : upd2 I n i x = I := by
  unfold upd2
  rw [← h, vup_id, vup_id]
/-- one sign of a sum or test: its kind and its number -/
abbrev Sg : Type := Nat × Nat
def cellOf (q : Sg) : Int32 := nI (q.1 + 16 * q.2)
def oneN (k : Nat) (x y : Int64) : Int64 := match k with
  | 2 => x + y
  | 3 => x - y
  | 4 => x * y
  | 5 => if y = lN 0 then lN 0 else x / y
  | 6 => if x < y then lN 1 else lN 0
  | 7 => if x ≤ y then lN 1 else lN 0
  | 8 => if x = y then lN 1 else lN 0
  | 9 => if y ≤ x then lN 1 else lN 0
  | 10 => if y < x then lN 1 else lN 0
  | 12 => x &&& y
  | 14 => if y = lN 0 then lN 0 else x - x / y * y
  | _ => x ||| y
def stepR (W : Nat → Int64) (q : Sg) (st : List Int64) : List Int64 :=
  if q.1 = 0 then lN q.2 :: st else if q.1 = 1 then W q.2 :: st
  else if q.1 = 11 then (lN 1 - st.headD 0) :: st.tail else oneN q.1 (st.tail.headD 0) (st.headD 0) :: st.tail.tail
def evR (W : Nat → Int64) : List Sg → List Int64 → List Int64
  | [], st => st
  | q :: cs, st => evR W cs (stepR W q st)
def valR (W : Nat → Int64) (cs : List Sg) : Int64 := (evR W cs []).headD 0
/-- well made, with d on the stack: one is left at the end, never more than 64 -/
def okR : List Sg → Nat → Prop
  | [], d => d = 1
  | q :: cs, d => q.2 < 2 ^ 20 ∧ q.1 < 15 ∧ (if q.1 = 0 then d < 64 ∧ okR cs (d + 1) else if q.1 = 1 then q.2 < 12 ∧ d < 64 ∧ okR cs (d + 1) else if q.1 = 11 then 1 ≤ d ∧ okR cs d else 2 ≤ d ∧ okR cs (d - 1))
def CodeAt (I : Im) (a : Nat) (cs : List Sg) : Prop := ∀ j, j < cs.length → I 163 (a + j) = cellOf (cs.getD j (0, 0))
theorem CodeAt.tail {I : Im} {a : Nat} {q : Sg} {cs : List Sg} (h : CodeAt I a (q :: cs)) : CodeAt I (a + 1) cs := by
  intro j hj
  have := h (j + 1) (by simp; omega)
  rw [show a + 1 + j = a + (j + 1) by omega, this]
  simp
theorem CodeAt.head {I : Im} {a : Nat} {q : Sg} {cs : List Sg} (h : CodeAt I a (q :: cs)) : I 163 a = cellOf q := by
  have := h 0 (by simp)
  simpa using this
theorem cell_k {q : Sg} (h2 : q.2 < 2 ^ 20) (h1 : q.1 < 15) : cellOf q &&& nI 15 = nI q.1 := by
  unfold cellOf
  rw [pk_andN (by omega) 4 (by decide)]
  congr 1
  omega
theorem cell_v {q : Sg} (h2 : q.2 < 2 ^ 20) (h1 : q.1 < 15) : cellOf q >>> (nI 4 &&& 31) = nI q.2 := by
  unfold cellOf
  rw [pk_shrN (by omega) (nI 4 &&& 31) 4 (by decide)]
  congr 1
  omega
/-- the stack's row holds a list, its last first -/
def StkAt (f : Nat → Int64) (st : List Int64) : Prop := ∀ j, j < st.length → f j = st.getD (st.length - 1 - j) 0
theorem StkAt.push {f : Nat → Int64} {st : List Int64} (h : StkAt f st) (v : Int64) : StkAt (va_up f st.length v) (v :: st) := by
  intro j hj
  simp only [List.length_cons] at hj ⊢
  by_cases e : j = st.length
  · subst e; rw [vup_s]; simp
  · rw [vup_n _ _ e, h j (by omega), show st.length + 1 - 1 - j = (st.length - 1 - j) + 1 by omega, List.getD_cons_succ]
theorem StkAt.tail {f : Nat → Int64} {v : Int64} {st : List Int64} (h : StkAt f (v :: st)) : StkAt f st := by
  intro j hj
  rw [h j (by simp; omega), List.length_cons, show st.length + 1 - 1 - j = (st.length - 1 - j) + 1 by omega, List.getD_cons_succ]
theorem StkAt.head {f : Nat → Int64} {v : Int64} {st : List Int64} (h : StkAt f (v :: st)) : f st.length = v := by
  rw [h st.length (by simp)]; simp
theorem met_m_push {w : Wd} {G : Gm} {I : Im} {L : Lm} (hG : GM G) {t : Nat} (hT : I 161 18 = nI t) (ht : t < 64) {v : Int64} : AMet w yX4_push cX4_push 3 none 1 40 0 0 [.ref (w.1 + 161), .long v] G I L (Exact none G (upd2 I 161 18 (nI (t + 1))) (upd2 L 169 t v)) := by
  refine AMet.of (ls0 := [some (.ref (w.1 + 161)), some (.long v), none]) rfl (Nat.le_of_ble_eq_true rfl) rfl (fun q hq => hq) (fun X h hl hr hi => ?_)
  refine aw_aload0 h dX4_push_0 ?_
  refine aw_getr h fl_X4_32 (gmt hG) dX4_push_1 rfl (gmp17 hG) ?_
  refine aw_aload0 h dX4_push_4 ?_
  refine aw_getiV h fl_X4_286 (gmt hG) dX4_push_5 rfl (hT) ?_
  refine aw_lload1 h dX4_push_8 ?_
  refine aw_lastN h (gms169 hG) (by decide) (by omega) dX4_push_9 ?_
  refine aw_aload0 h dX4_push_10 ?_
  refine aw_dup h rfl dX4_push_11 ?_
  refine aw_getiV h fl_X4_286 (gmt hG) dX4_push_12 rfl (hT) ?_
  refine aw_iconst h _ ci_1 dX4_push_15 ?_
  refine aw_iaddN h dX4_push_16 ?_
  refine aw_puti h fl_X4_286 ft_X4_286 (fun z => by cases z) (gmt hG) dX4_push_17 rfl ?_
  exact aw_vret h hr dX4_push_20 (⟨rfl, rfl, rfl, rfl⟩) (Nat.zero_le _) (Nat.zero_le _)
theorem met_m_pop {w : Wd} {G : Gm} {I : Im} {L : Lm} (hG : GM G) {t : Nat} (hT : I 161 18 = nI (t + 1)) (ht : t < 64) : AMet w yX4_pop cX4_pop 1 (some .long) 1 40 0 0 [.ref (w.1 + 161)] G I L (Exact (some (.long (L 169 t))) G (upd2 I 161 18 (nI t)) L) := by
  refine AMet.of (ls0 := [some (.ref (w.1 + 161))]) rfl (Nat.le_of_ble_eq_true rfl) rfl (fun q hq => hq) (fun X h hl hr hi => ?_)
  refine aw_aload0 h dX4_pop_0 ?_
  refine aw_dup h rfl dX4_pop_1 ?_
  refine aw_getiV h fl_X4_286 (gmt hG) dX4_pop_2 rfl (hT) ?_
  refine aw_iconst h _ ci_1 dX4_pop_5 ?_
  refine aw_isubN h (by omega) dX4_pop_6 ?_
  rw [Nat.add_sub_cancel]
  refine aw_puti h fl_X4_286 ft_X4_286 (fun z => by cases z) (gmt hG) dX4_pop_7 rfl ?_
  refine aw_aload0 h dX4_pop_10 ?_
  refine aw_getr h fl_X4_32 (gmt hG) dX4_pop_11 rfl (gmp17 hG) ?_
  refine aw_aload0 h dX4_pop_14 ?_
  refine aw_getiV h fl_X4_286 (gmt hG) dX4_pop_15 rfl ((rfl : nI t = nI t)) ?_
  refine aw_laldN h (gms169 hG) (by decide) (by omega) dX4_pop_18 ?_
  exact aw_lret h hr dX4_pop_19 (⟨rfl, rfl, rfl, rfl⟩) (Nat.zero_le _) (Nat.zero_le _)
theorem met_m_one {w : Wd} {G : Gm} {I : Im} {L : Lm} {k : Nat} (hk : 2 ≤ k) (hk2 : k < 15) {x y : Int64} : AMet w yX4_one cX4_one 5 (some .long) 1 40 0 0 [.int (nI k), .long x, .long y] G I L (Exact (some (.long (oneN k x y))) G I L) := by
  refine AMet.of (ls0 := [some (.int (nI k)), some (.long x), none, some (.long y), none]) rfl (Nat.le_of_ble_eq_true rfl) rfl (fun q hq => hq) (fun X h hl hr hi => ?_)
  rcases (by omega : k = 2 ∨ k = 3 ∨ k = 4 ∨ k = 5 ∨ k = 6 ∨ k = 7 ∨ k = 8 ∨ k = 9 ∨ k = 10 ∨ k = 11 ∨ k = 12 ∨ k = 13 ∨ k = 14) with rfl | rfl | rfl | rfl | rfl | rfl | rfl | rfl | rfl | rfl | rfl | rfl | rfl
  · refine aw_iload0 h dX4_one_0 ?_
    refine aw_tableIn h (tgt := 68) dX4_one_1 (by decide) (by decide) (off := 67) (by decide) (by decide) ?_
    refine aw_lload1 h dX4_one_68 ?_
    refine aw_lload3 h dX4_one_69 ?_
    refine aw_ladd h dX4_one_70 ?_
    exact aw_lret h hr dX4_one_71 (⟨by first | (simp [oneN, *]; done) | (simp only [oneN]; rw [if_neg (by first | exact Int64.not_lt.mpr (by assumption) | exact Int64.not_le.mpr (by assumption))]), rfl, rfl, rfl⟩) (Nat.zero_le _) (Nat.zero_le _)
  · refine aw_iload0 h dX4_one_0 ?_
    refine aw_tableIn h (tgt := 72) dX4_one_1 (by decide) (by decide) (off := 71) (by decide) (by decide) ?_
    refine aw_lload1 h dX4_one_72 ?_
    refine aw_lload3 h dX4_one_73 ?_
    refine aw_lsub h dX4_one_74 ?_
    exact aw_lret h hr dX4_one_75 (⟨by first | (simp [oneN, *]; done) | (simp only [oneN]; rw [if_neg (by first | exact Int64.not_lt.mpr (by assumption) | exact Int64.not_le.mpr (by assumption))]), rfl, rfl, rfl⟩) (Nat.zero_le _) (Nat.zero_le _)
  · refine aw_iload0 h dX4_one_0 ?_
    refine aw_tableIn h (tgt := 76) dX4_one_1 (by decide) (by decide) (off := 75) (by decide) (by decide) ?_
    refine aw_lload1 h dX4_one_76 ?_
    refine aw_lload3 h dX4_one_77 ?_
    refine aw_lmul h dX4_one_78 ?_
    exact aw_lret h hr dX4_one_79 (⟨by first | (simp [oneN, *]; done) | (simp only [oneN]; rw [if_neg (by first | exact Int64.not_lt.mpr (by assumption) | exact Int64.not_le.mpr (by assumption))]), rfl, rfl, rfl⟩) (Nat.zero_le _) (Nat.zero_le _)
  · refine aw_iload0 h dX4_one_0 ?_
    refine aw_tableIn h (tgt := 80) dX4_one_1 (by decide) (by decide) (off := 79) (by decide) (by decide) ?_
    refine aw_lload3 h dX4_one_80 ?_
    refine aw_lconst h _ cl_0 dX4_one_81 ?_
    refine aw_lcmp_ne h (tgt := 90) dX4_one_82 dX4_one_83 (by decide) (fun c82 => ?_) (fun c82 => ?_)
    · refine aw_lload1 h dX4_one_90 ?_
      refine aw_lload3 h dX4_one_91 ?_
      refine aw_ldiv h (c82) dX4_one_92 ?_
      exact aw_lret h hr dX4_one_93 (⟨by first | (simp [oneN, *]; done) | (simp only [oneN]; rw [if_neg (by first | exact Int64.not_lt.mpr (by assumption) | exact Int64.not_le.mpr (by assumption))]), rfl, rfl, rfl⟩) (Nat.zero_le _) (Nat.zero_le _)
    · refine aw_lconst h _ cl_0 dX4_one_86 ?_
      refine aw_goto h (tgt := 93) dX4_one_87 (by decide) ?_
      exact aw_lret h hr dX4_one_93 (⟨by first | (simp [oneN, *]; done) | (simp only [oneN]; rw [if_neg (by first | exact Int64.not_lt.mpr (by assumption) | exact Int64.not_le.mpr (by assumption))]), rfl, rfl, rfl⟩) (Nat.zero_le _) (Nat.zero_le _)
  · refine aw_iload0 h dX4_one_0 ?_
    refine aw_tableIn h (tgt := 108) dX4_one_1 (by decide) (by decide) (off := 107) (by decide) (by decide) ?_
    refine aw_lload1 h dX4_one_108 ?_
    refine aw_lload3 h dX4_one_109 ?_
    refine aw_lcmp_ge h (tgt := 118) dX4_one_110 dX4_one_111 (by decide) (fun c110 => ?_) (fun c110 => ?_)
    · refine aw_lconst h _ cl_0 dX4_one_118 ?_
      exact aw_lret h hr dX4_one_119 (⟨by first | (simp [oneN, *]; done) | (simp only [oneN]; rw [if_neg (by first | exact Int64.not_lt.mpr (by assumption) | exact Int64.not_le.mpr (by assumption))]), rfl, rfl, rfl⟩) (Nat.zero_le _) (Nat.zero_le _)
    · refine aw_lconst h _ cl_1 dX4_one_114 ?_
      refine aw_goto h (tgt := 119) dX4_one_115 (by decide) ?_
      exact aw_lret h hr dX4_one_119 (⟨by first | (simp [oneN, *]; done) | (simp only [oneN]; rw [if_neg (by first | exact Int64.not_lt.mpr (by assumption) | exact Int64.not_le.mpr (by assumption))]), rfl, rfl, rfl⟩) (Nat.zero_le _) (Nat.zero_le _)
  · refine aw_iload0 h dX4_one_0 ?_
    refine aw_tableIn h (tgt := 120) dX4_one_1 (by decide) (by decide) (off := 119) (by decide) (by decide) ?_
    refine aw_lload1 h dX4_one_120 ?_
    refine aw_lload3 h dX4_one_121 ?_
    refine aw_lcmp_gt h (tgt := 130) dX4_one_122 dX4_one_123 (by decide) (fun c122 => ?_) (fun c122 => ?_)
    · refine aw_lconst h _ cl_0 dX4_one_130 ?_
      exact aw_lret h hr dX4_one_131 (⟨by first | (simp [oneN, *]; done) | (simp only [oneN]; rw [if_neg (by first | exact Int64.not_lt.mpr (by assumption) | exact Int64.not_le.mpr (by assumption))]), rfl, rfl, rfl⟩) (Nat.zero_le _) (Nat.zero_le _)
    · refine aw_lconst h _ cl_1 dX4_one_126 ?_
      refine aw_goto h (tgt := 131) dX4_one_127 (by decide) ?_
      exact aw_lret h hr dX4_one_131 (⟨by first | (simp [oneN, *]; done) | (simp only [oneN]; rw [if_neg (by first | exact Int64.not_lt.mpr (by assumption) | exact Int64.not_le.mpr (by assumption))]), rfl, rfl, rfl⟩) (Nat.zero_le _) (Nat.zero_le _)
  · refine aw_iload0 h dX4_one_0 ?_
    refine aw_tableIn h (tgt := 132) dX4_one_1 (by decide) (by decide) (off := 131) (by decide) (by decide) ?_
    refine aw_lload1 h dX4_one_132 ?_
    refine aw_lload3 h dX4_one_133 ?_
    refine aw_lcmp_ne h (tgt := 142) dX4_one_134 dX4_one_135 (by decide) (fun c134 => ?_) (fun c134 => ?_)
    · refine aw_lconst h _ cl_0 dX4_one_142 ?_
      exact aw_lret h hr dX4_one_143 (⟨by first | (simp [oneN, *]; done) | (simp only [oneN]; rw [if_neg (by first | exact Int64.not_lt.mpr (by assumption) | exact Int64.not_le.mpr (by assumption))]), rfl, rfl, rfl⟩) (Nat.zero_le _) (Nat.zero_le _)
    · refine aw_lconst h _ cl_1 dX4_one_138 ?_
      refine aw_goto h (tgt := 143) dX4_one_139 (by decide) ?_
      exact aw_lret h hr dX4_one_143 (⟨by first | (simp [oneN, *]; done) | (simp only [oneN]; rw [if_neg (by first | exact Int64.not_lt.mpr (by assumption) | exact Int64.not_le.mpr (by assumption))]), rfl, rfl, rfl⟩) (Nat.zero_le _) (Nat.zero_le _)
  · refine aw_iload0 h dX4_one_0 ?_
    refine aw_tableIn h (tgt := 144) dX4_one_1 (by decide) (by decide) (off := 143) (by decide) (by decide) ?_
    refine aw_lload1 h dX4_one_144 ?_
    refine aw_lload3 h dX4_one_145 ?_
    refine aw_lcmp_lt h (tgt := 154) dX4_one_146 dX4_one_147 (by decide) (fun c146 => ?_) (fun c146 => ?_)
    · refine aw_lconst h _ cl_0 dX4_one_154 ?_
      exact aw_lret h hr dX4_one_155 (⟨by first | (simp [oneN, *]; done) | (simp only [oneN]; rw [if_neg (by first | exact Int64.not_lt.mpr (by assumption) | exact Int64.not_le.mpr (by assumption))]), rfl, rfl, rfl⟩) (Nat.zero_le _) (Nat.zero_le _)
    · refine aw_lconst h _ cl_1 dX4_one_150 ?_
      refine aw_goto h (tgt := 155) dX4_one_151 (by decide) ?_
      exact aw_lret h hr dX4_one_155 (⟨by first | (simp [oneN, *]; done) | (simp only [oneN]; rw [if_neg (by first | exact Int64.not_lt.mpr (by assumption) | exact Int64.not_le.mpr (by assumption))]), rfl, rfl, rfl⟩) (Nat.zero_le _) (Nat.zero_le _)
  · refine aw_iload0 h dX4_one_0 ?_
    refine aw_tableIn h (tgt := 156) dX4_one_1 (by decide) (by decide) (off := 155) (by decide) (by decide) ?_
    refine aw_lload1 h dX4_one_156 ?_
    refine aw_lload3 h dX4_one_157 ?_
    refine aw_lcmp_le h (tgt := 166) dX4_one_158 dX4_one_159 (by decide) (fun c158 => ?_) (fun c158 => ?_)
    · refine aw_lconst h _ cl_0 dX4_one_166 ?_
      exact aw_lret h hr dX4_one_167 (⟨by first | (simp [oneN, *]; done) | (simp only [oneN]; rw [if_neg (by first | exact Int64.not_lt.mpr (by assumption) | exact Int64.not_le.mpr (by assumption))]), rfl, rfl, rfl⟩) (Nat.zero_le _) (Nat.zero_le _)
    · refine aw_lconst h _ cl_1 dX4_one_162 ?_
      refine aw_goto h (tgt := 167) dX4_one_163 (by decide) ?_
      exact aw_lret h hr dX4_one_167 (⟨by first | (simp [oneN, *]; done) | (simp only [oneN]; rw [if_neg (by first | exact Int64.not_lt.mpr (by assumption) | exact Int64.not_le.mpr (by assumption))]), rfl, rfl, rfl⟩) (Nat.zero_le _) (Nat.zero_le _)
  · refine aw_iload0 h dX4_one_0 ?_
    refine aw_tableIn h (tgt := 172) dX4_one_1 (by decide) (by decide) (off := 171) (by decide) (by decide) ?_
    refine aw_lload1 h dX4_one_172 ?_
    refine aw_lload3 h dX4_one_173 ?_
    refine aw_lor h dX4_one_174 ?_
    exact aw_lret h hr dX4_one_175 (⟨by first | (simp [oneN, *]; done) | (simp only [oneN]; rw [if_neg (by first | exact Int64.not_lt.mpr (by assumption) | exact Int64.not_le.mpr (by assumption))]), rfl, rfl, rfl⟩) (Nat.zero_le _) (Nat.zero_le _)
  · refine aw_iload0 h dX4_one_0 ?_
    refine aw_tableIn h (tgt := 168) dX4_one_1 (by decide) (by decide) (off := 167) (by decide) (by decide) ?_
    refine aw_lload1 h dX4_one_168 ?_
    refine aw_lload3 h dX4_one_169 ?_
    refine aw_land h dX4_one_170 ?_
    exact aw_lret h hr dX4_one_171 (⟨by first | (simp [oneN, *]; done) | (simp only [oneN]; rw [if_neg (by first | exact Int64.not_lt.mpr (by assumption) | exact Int64.not_le.mpr (by assumption))]), rfl, rfl, rfl⟩) (Nat.zero_le _) (Nat.zero_le _)
  · refine aw_iload0 h dX4_one_0 ?_
    refine aw_tableIn h (tgt := 172) dX4_one_1 (by decide) (by decide) (off := 171) (by decide) (by decide) ?_
    refine aw_lload1 h dX4_one_172 ?_
    refine aw_lload3 h dX4_one_173 ?_
    refine aw_lor h dX4_one_174 ?_
    exact aw_lret h hr dX4_one_175 (⟨by first | (simp [oneN, *]; done) | (simp only [oneN]; rw [if_neg (by first | exact Int64.not_lt.mpr (by assumption) | exact Int64.not_le.mpr (by assumption))]), rfl, rfl, rfl⟩) (Nat.zero_le _) (Nat.zero_le _)
  · refine aw_iload0 h dX4_one_0 ?_
    refine aw_tableIn h (tgt := 94) dX4_one_1 (by decide) (by decide) (off := 93) (by decide) (by decide) ?_
    refine aw_lload3 h dX4_one_94 ?_
    refine aw_lconst h _ cl_0 dX4_one_95 ?_
    refine aw_lcmp_ne h (tgt := 104) dX4_one_96 dX4_one_97 (by decide) (fun c96 => ?_) (fun c96 => ?_)
    · refine aw_lload1 h dX4_one_104 ?_
      refine aw_lload3 h dX4_one_105 ?_
      refine aw_lrem h (c96) dX4_one_106 ?_
      exact aw_lret h hr dX4_one_107 (⟨by first | (simp [oneN, *]; done) | (simp only [oneN]; rw [if_neg (by first | exact Int64.not_lt.mpr (by assumption) | exact Int64.not_le.mpr (by assumption))]), rfl, rfl, rfl⟩) (Nat.zero_le _) (Nat.zero_le _)
    · refine aw_lconst h _ cl_0 dX4_one_100 ?_
      refine aw_goto h (tgt := 107) dX4_one_101 (by decide) ?_
      exact aw_lret h hr dX4_one_107 (⟨by first | (simp [oneN, *]; done) | (simp only [oneN]; rw [if_neg (by first | exact Int64.not_lt.mpr (by assumption) | exact Int64.not_le.mpr (by assumption))]), rfl, rfl, rfl⟩) (Nat.zero_le _) (Nat.zero_le _)
/-- reckoning: the stack's row and its top are changed, no more -/
def PR (G : Gm) (I : Im) (L : Lm) : Gm → Im → Lm → Prop := fun G1 I1 L1 => G = G1 ∧ (∃ t : Int32, upd2 I 161 18 t = I1) ∧ ∃ f : Nat → Int64, va_up L 169 f = L1
theorem stk_split {st : List Int64} {d : Nat} (h : d + 1 ≤ st.length) : ∃ v r, st = v :: r ∧ d ≤ r.length := by
  cases st with
  | nil => simp at h
  | cons v r => exact ⟨v, r, rfl, by simpa using h⟩
/-- reckons(t, b, e) -/
theorem met_m_reckons {w : Wd} {G : Gm} {I : Im} {L : Lm} (hG : GM G) {rl b e : Nat} {cs : List Sg} (hrl : rl < 6) (he : e = b + cs.length) (he2 : e ≤ 400) (hC : CodeAt I (400 * rl + b) cs) (hok : okR cs 0) : AMet w yX4_reckons cX4_reckons 11 (some .long) 2 64 0 0 [.ref (w.1 + 161), .int (nI rl), .int (nI b), .int (nI e)] G I L (Ans (some (.long (valR (L 170) cs))) (PR G I L)) := by
  refine AMet.of (ls0 := [some (.ref (w.1 + 161)), some (.int (nI rl)), some (.int (nI b)), some (.int (nI e)), none, none, none, none, none, none, none]) rfl (Nat.le_of_ble_eq_true rfl) rfl (fun q hq => hq) (fun X h hl hr hi => ?_)
  generalize hcs0 : cs = cs0
  have key : ∀ (cs : List Sg) (st : List Int64) (f : Nat → Int64) (i : Nat) (o5 o6 o7 o9 : Option Value), CodeAt I (400 * rl + i) cs → e = i + cs.length → StkAt f st → okR cs st.length → st.length ≤ 64 → (evR (L 170) cs st).headD 0 = valR (L 170) cs0 → AW X 0 0 8 [some (.ref (w.1 + 161)), some (.int (nI rl)), some (.int (nI b)), some (.int (nI e)), some (.int (nI (i))), o5, o6, o7, none, o9, none] [] G (upd2 I 161 18 (nI st.length)) (va_up L 169 f) := by
    intro cs
    induction cs with
    | nil =>
      intro st f i o5 o6 o7 o9 hC hi hF hok hlen hfin
      obtain ⟨v0, r0, rfl, -⟩ := stk_split (st := st) (d := 0) (by have : st.length = 1 := hok; omega)
      refine aw_iload4 h dX4_reckons_8 ?_
      refine aw_iload3 h dX4_reckons_10 ?_
      refine aw_icmp_geN h (tgt := 135) (by omega) (by omega) dX4_reckons_11 (by decide) (fun c11 => ?_) (fun c11 => ?_)
      · refine aw_aload0 h dX4_reckons_135 ?_
        refine aw_callVE0 h hl cl_X4_293 (met_m_pop hG rfl (by have h9 : r0.length + 1 ≤ 64 := hlen; omega)) (gmt hG) rfl dX4_reckons_136 (Nat.le_of_ble_eq_true rfl) rfl (Nat.zero_le _) (Nat.zero_le _) ?_
        rw [upd2_upd2]
        exact aw_lret h hr dX4_reckons_139 (⟨by rw [hcs0, ← hfin, show (va_up L 169 f) 169 r0.length = f r0.length from rfl, hF.head]; rfl, rfl, ⟨_, rfl⟩, f, rfl⟩) (Nat.zero_le _) (Nat.zero_le _)
      · exact absurd (by simp at hi; omega) c11
    | cons q cs ih =>
      intro st f i o5 o6 o7 o9 hC hi hF hok hlen hfin
      simp only [List.length_cons] at hi
      have hq := hC.head
      obtain ⟨hq2, hq1, hok⟩ := hok
      refine aw_iload4 h dX4_reckons_8 ?_
      refine aw_iload3 h dX4_reckons_10 ?_
      refine aw_icmp_geN h (tgt := 135) (by omega) (by omega) dX4_reckons_11 (by decide) (fun c11 => ?_) (fun c11 => ?_)
      · exact absurd c11 (by omega)
      · refine aw_aload0 h dX4_reckons_14 ?_
        refine aw_getr h fl_X4_13 (gmt hG) dX4_reckons_15 rfl (gmp3 hG) ?_
        refine aw_sipush h _ cs_400 dX4_reckons_18 ?_
        refine aw_iload1 h dX4_reckons_21 ?_
        refine aw_imulN h dX4_reckons_22 ?_
        refine aw_iload4 h dX4_reckons_23 ?_
        refine aw_iaddN h dX4_reckons_25 ?_
        refine aw_ialdV h (gms163 hG) (by decide) (by omega) dX4_reckons_26 (hq) ?_
        refine aw_bipush h _ cb_15 dX4_reckons_27 ?_
        refine aw_iand h dX4_reckons_29 ?_
        rw [cell_k hq2 hq1]
        refine aw_istore5 h rfl dX4_reckons_30 ?_
        refine aw_aload0 h dX4_reckons_32 ?_
        refine aw_getr h fl_X4_13 (gmt hG) dX4_reckons_33 rfl (gmp3 hG) ?_
        refine aw_sipush h _ cs_400 dX4_reckons_36 ?_
        refine aw_iload1 h dX4_reckons_39 ?_
        refine aw_imulN h dX4_reckons_40 ?_
        refine aw_iload4 h dX4_reckons_41 ?_
        refine aw_iaddN h dX4_reckons_43 ?_
        refine aw_ialdV h (gms163 hG) (by decide) (by omega) dX4_reckons_44 (hq) ?_
        refine aw_iconst h _ ci_4 dX4_reckons_45 ?_
        refine aw_ishr h dX4_reckons_46 ?_
        rw [cell_v hq2 hq1]
        refine aw_istore6 h rfl dX4_reckons_47 ?_
        refine aw_iload5 h dX4_reckons_49 ?_
        refine aw_if_neN h (tgt := 64) (by omega) dX4_reckons_51 (by decide) (fun c51 => ?_) (fun c51 => ?_)
        · refine aw_iload5 h dX4_reckons_64 ?_
          refine aw_iconst h _ ci_1 dX4_reckons_66 ?_
          refine aw_icmp_neN h (tgt := 84) (by omega) (by decide) dX4_reckons_67 (by decide) (fun c67 => ?_) (fun c67 => ?_)
          · refine aw_iload5 h dX4_reckons_84 ?_
            refine aw_bipush h _ cb_11 dX4_reckons_86 ?_
            refine aw_icmp_neN h (tgt := 104) (by omega) (by decide) dX4_reckons_88 (by decide) (fun c88 => ?_) (fun c88 => ?_)
            · rw [if_neg c51, if_neg c67, if_neg c88] at hok
              obtain ⟨y0, r1, rfl, h1⟩ := stk_split (st := st) (d := 1) hok.1
              obtain ⟨x0, r0, rfl, -⟩ := stk_split (st := r1) (d := 0) h1
              have hl2 : r0.length + 1 + 1 ≤ 64 := hlen
              refine aw_aload0 h dX4_reckons_104 ?_
              refine aw_callVE0 h hl cl_X4_293 (met_m_pop (t := r0.length + 1) hG rfl (by omega)) (gmt hG) rfl dX4_reckons_105 (Nat.le_of_ble_eq_true rfl) rfl (Nat.zero_le _) (Nat.zero_le _) ?_
              rw [upd2_upd2, show (va_up L 169 f) 169 (r0.length + 1) = y0 from hF.head]
              refine aw_lstore7 h rfl dX4_reckons_108 ?_
              refine aw_aload0 h dX4_reckons_110 ?_
              refine aw_callVE0 h hl cl_X4_293 (met_m_pop (t := r0.length) hG rfl (by omega)) (gmt hG) rfl dX4_reckons_111 (Nat.le_of_ble_eq_true rfl) rfl (Nat.zero_le _) (Nat.zero_le _) ?_
              rw [upd2_upd2, show (va_up L 169 f) 169 r0.length = x0 from hF.tail.head]
              refine aw_lstore9 h rfl dX4_reckons_114 ?_
              refine aw_aload0 h dX4_reckons_116 ?_
              refine aw_iload5 h dX4_reckons_117 ?_
              refine aw_lload9 h dX4_reckons_119 ?_
              refine aw_lload7 h dX4_reckons_121 ?_
              refine aw_callSE3 h hl cl_X4_297 (met_m_one (by omega) hq1) dX4_reckons_123 (Nat.le_of_ble_eq_true rfl) rfl (Nat.zero_le _) (Nat.zero_le _) ?_
              refine aw_callVD1 h hl cl_X4_289 (met_m_push hG rfl (by omega)) (gmt hG) rfl dX4_reckons_126 (Nat.le_of_ble_eq_true rfl) rfl (Nat.zero_le _) (Nat.zero_le _) ?_
              rw [upd2_upd2, upd2_vup]
              refine aw_iincN4 h rfl dX4_reckons_129 ?_
              refine aw_goto h (tgt := 8) dX4_reckons_132 (by decide) ?_
              exact ih (oneN q.1 x0 y0 :: r0) _ (i + 1) _ _ _ _ hC.tail (by omega) (hF.tail.tail.push _) hok.2 (by simp; omega) (by have h9 : stepR (L 170) q (y0 :: x0 :: r0) = oneN q.1 x0 y0 :: r0 := (by simp [stepR, *]); rw [← h9]; exact hfin)
            · rw [if_neg c51, if_neg c67, if_pos c88] at hok
              obtain ⟨v0, r0, rfl, -⟩ := stk_split (st := st) (d := 0) hok.1
              have hl2 : r0.length + 1 ≤ 64 := hlen
              refine aw_aload0 h dX4_reckons_91 ?_
              refine aw_lconst h _ cl_1 dX4_reckons_92 ?_
              refine aw_aload0 h dX4_reckons_93 ?_
              refine aw_callVE0 h hl cl_X4_293 (met_m_pop (t := r0.length) hG rfl (by omega)) (gmt hG) rfl dX4_reckons_94 (Nat.le_of_ble_eq_true rfl) rfl (Nat.zero_le _) (Nat.zero_le _) ?_
              rw [upd2_upd2, show (va_up L 169 f) 169 r0.length = v0 from hF.head]
              refine aw_lsub h dX4_reckons_97 ?_
              refine aw_callVD1 h hl cl_X4_289 (met_m_push hG rfl (by omega)) (gmt hG) rfl dX4_reckons_98 (Nat.le_of_ble_eq_true rfl) rfl (Nat.zero_le _) (Nat.zero_le _) ?_
              rw [upd2_upd2, upd2_vup]
              refine aw_goto h (tgt := 129) dX4_reckons_101 (by decide) ?_
              refine aw_iincN4 h rfl dX4_reckons_129 ?_
              refine aw_goto h (tgt := 8) dX4_reckons_132 (by decide) ?_
              exact ih ((lN 1 - v0) :: r0) _ (i + 1) _ _ _ _ hC.tail (by omega) (hF.tail.push _) hok.2 (by simp; omega) (by have h9 : stepR (L 170) q (v0 :: r0) = (lN 1 - v0) :: r0 := (by simp [stepR, *]); rw [← h9]; exact hfin)
          · rw [if_neg c51, if_pos c67] at hok
            refine aw_aload0 h dX4_reckons_70 ?_
            refine aw_aload0 h dX4_reckons_71 ?_
            refine aw_getr h fl_X4_36 (gmt hG) dX4_reckons_72 rfl (gmp19 hG) ?_
            refine aw_iload6 h dX4_reckons_75 ?_
            refine aw_laldN h (gms170 hG) (by decide) (hok.1) dX4_reckons_77 ?_
            refine aw_callVD1 h hl cl_X4_289 (met_m_push hG rfl hok.2.1) (gmt hG) rfl dX4_reckons_78 (Nat.le_of_ble_eq_true rfl) rfl (Nat.zero_le _) (Nat.zero_le _) ?_
            rw [upd2_upd2, upd2_vup]
            refine aw_goto h (tgt := 129) dX4_reckons_81 (by decide) ?_
            refine aw_iincN4 h rfl dX4_reckons_129 ?_
            refine aw_goto h (tgt := 8) dX4_reckons_132 (by decide) ?_
            exact ih (L 170 q.2 :: st) _ (i + 1) _ _ _ _ hC.tail (by omega) (hF.push _) hok.2.2 (by simp; omega) (by have h9 : stepR (L 170) q st = L 170 q.2 :: st := (by simp [stepR, *]); rw [← h9]; exact hfin)
        · rw [if_pos c51] at hok
          refine aw_aload0 h dX4_reckons_54 ?_
          refine aw_iload6 h dX4_reckons_55 ?_
          refine aw_i2lN h (by omega) dX4_reckons_57 ?_
          refine aw_callVD1 h hl cl_X4_289 (met_m_push hG rfl hok.1) (gmt hG) rfl dX4_reckons_58 (Nat.le_of_ble_eq_true rfl) rfl (Nat.zero_le _) (Nat.zero_le _) ?_
          rw [upd2_upd2, upd2_vup]
          refine aw_goto h (tgt := 129) dX4_reckons_61 (by decide) ?_
          refine aw_iincN4 h rfl dX4_reckons_129 ?_
          refine aw_goto h (tgt := 8) dX4_reckons_132 (by decide) ?_
          exact ih (lN q.2 :: st) _ (i + 1) _ _ _ _ hC.tail (by omega) (hF.push _) hok.2 (by simp; omega) (by have h9 : stepR (L 170) q st = lN q.2 :: st := (by simp [stepR, *]); rw [← h9]; exact hfin)
  refine aw_aload0 h dX4_reckons_0 ?_
  refine aw_iconst h _ ci_0 dX4_reckons_1 ?_
  refine aw_puti h fl_X4_286 ft_X4_286 (fun z => by cases z) (gmt hG) dX4_reckons_2 rfl ?_
  refine aw_iload2 h dX4_reckons_5 ?_
  refine aw_istore4 h rfl dX4_reckons_6 ?_
  subst hcs0
  have hL : va_up L 169 (L 169) = L := vup_id L 169
  have h0 := key cs [] (L 169) b none none none none hC he (fun j hj => absurd hj (by simp)) hok (by simp) rfl
  rw [hL] at h0
  exact h0
