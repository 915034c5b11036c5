/-! The component: sums and tests as trees -/
set_option maxRecDepth 100000
theorem evR_app (W : Nat → Int64) (xs ys : List Sg) : ∀ st, evR W (xs ++ ys) st = evR W ys (evR W xs st) := by
  induction xs with
  | nil => intro st; rfl
  | cons q xs ih => intro st; exact ih _
def sgC (k : Nat) : Nat := if k = 2 then 43 else if k = 3 then 45 else if k = 4 then 42 else if k = 5 then 47 else 37
/-- a sum's tree: its code -/
def TV (sl : Nat → Prop) (G : Gm) (I : Im) : Nat → Nat → List Sg → Prop
  | 0, _, _ => False
  | d + 1, n, cs => sl n ∧ ((SHP G n 10 1 ∧ ∃ v, v < 2 ^ 20 ∧ cs = [(0, v)] ∧ I n 0 = nI v) ∨ (SHP G n 11 1 ∧ ∃ v, v < 12 ∧ cs = [(1, v)] ∧ I n 0 = nI v) ∨ (SHP G n 12 3 ∧ ∃ a b ca cb k, TV sl G I d a ca ∧ TV sl G I d b cb ∧ cs = ca ++ cb ++ [(k, 0)] ∧ (k = 2 ∨ k = 3 ∨ k = 4 ∨ k = 5 ∨ k = 14) ∧ G.2.2 n 0 = some a ∧ G.2.2 n 1 = some b ∧ I n 2 = nI (sgC k)))
theorem TV.ev {sl : Nat → Prop} {G : Gm} {I : Im} (W : Nat → Int64) : ∀ d n cs, TV sl G I d n cs → ∀ st, evR W cs st = valR W cs :: st := by
  intro d
  induction d with
  | zero => intro n cs h; cases h
  | succ d ih =>
    intro n cs h st
    rcases h.2 with ⟨-, v, -, rfl, -⟩ | ⟨-, v, -, rfl, -⟩ | ⟨-, a, b, ca, cb, k, ha, hb, rfl, hk, -⟩
    · rfl
    · rfl
    · have e : ∀ st, evR W (ca ++ cb ++ [(k, 0)]) st = oneN k (valR W ca) (valR W cb) :: st := fun st => by
        rw [evR_app, evR_app, ih _ _ ha, ih _ _ hb]
        show stepR W (k, 0) _ = _
        unfold stepR
        rw [if_neg (show ¬ k = 0 by omega), if_neg (show ¬ k = 1 by omega), if_neg (show ¬ k = 11 by omega)]
        rfl
      rw [e]
      show _ = (evR W (ca ++ cb ++ [(k, 0)]) []).headD 0 :: st
      rw [e]; rfl
theorem TV.val {sl : Nat → Prop} {G : Gm} {I : Im} (W : Nat → Int64) {d a b : Nat} {ca cb : List Sg} {k : Nat} (ha : TV sl G I d a ca) (hb : TV sl G I d b cb) (hk : 2 ≤ k ∧ k ≠ 11) : valR W (ca ++ cb ++ [(k, 0)]) = oneN k (valR W ca) (valR W cb) := by
  show (evR W (ca ++ cb ++ [(k, 0)]) []).headD 0 = _
  rw [evR_app, evR_app, ha.ev, hb.ev]
  show (stepR W (k, 0) _).headD 0 = _
  unfold stepR
  rw [if_neg (show ¬ k = 0 by omega), if_neg (show ¬ k = 1 by omega), if_neg hk.2]
  rfl
def cmC (s : Nat) : Nat := if s ≤ 1 then 60 else if s = 2 then 61 else 62
def cmE (s : Nat) : Bool := decide (s = 1) || decide (s = 3)
/-- a test's tree: its code -/
def TC (sl : Nat → Prop) (G : Gm) (I : Im) : Nat → Nat → List Sg → Prop
  | 0, _, _ => False
  | d + 1, n, cs => sl n ∧ ((SHP G n 16 4 ∧ ∃ a b ca cb s, TV sl G I d a ca ∧ TV sl G I d b cb ∧ cs = ca ++ cb ++ [(6 + s, 0)] ∧ s ≤ 4 ∧ G.2.2 n 0 = some a ∧ G.2.2 n 1 = some b ∧ I n 2 = nI (cmC s) ∧ I n 3 = bI (cmE s)) ∨ (SHP G n 15 1 ∧ ∃ a ca, TC sl G I d a ca ∧ cs = ca ++ [(11, 0)] ∧ G.2.2 n 0 = some a) ∨ (SHP G n 17 3 ∧ ∃ a b ca cb k, TC sl G I d a ca ∧ TC sl G I d b cb ∧ cs = ca ++ cb ++ [(k, 0)] ∧ (k = 12 ∨ k = 13) ∧ G.2.2 n 0 = some a ∧ G.2.2 n 1 = some b ∧ I n 2 = bI (decide (k = 13))))
def isC (W : Nat → Int64) (cs : List Sg) : Bool := decide (valR W cs = lN 1)
def b64 : Bool → Int64
  | true => lN 1
  | false => lN 0
theorem b64_1 (b : Bool) : decide (b64 b = lN 1) = b := by cases b <;> decide
theorem b64_ite {p : Prop} [Decidable p] : (if p then lN 1 else lN 0) = b64 (decide p) := by by_cases h : p <;> simp [h, b64]
theorem n1_b (b : Bool) : lN 1 - b64 b = b64 (!b) := by cases b <;> decide
theorem n2_b (a b : Bool) : b64 a &&& b64 b = b64 (a && b) := by cases a <;> cases b <;> decide
theorem n3_b (a b : Bool) : b64 a ||| b64 b = b64 (a || b) := by cases a <;> cases b <;> decide
theorem ev11 (W : Nat → Int64) (x : Int64) (st : List Int64) : evR W [(11, 0)] (x :: st) = (lN 1 - x) :: st := by
  show stepR W (11, 0) (x :: st) = _
  unfold stepR
  rw [if_neg (show ¬ (11 : Nat) = 0 by decide), if_neg (show ¬ (11 : Nat) = 1 by decide), if_pos rfl]
  rfl
theorem ev2 (W : Nat → Int64) {k : Nat} (hk : 2 ≤ k ∧ k ≠ 11) (x y : Int64) (st : List Int64) : evR W [(k, 0)] (y :: x :: st) = oneN k x y :: st := by
  show stepR W (k, 0) (y :: x :: st) = _
  unfold stepR
  rw [if_neg (show ¬ k = 0 by omega), if_neg (show ¬ k = 1 by omega), if_neg hk.2]
  rfl
theorem one_cmp (s : Nat) (hs : s ≤ 4) (x y : Int64) : ∃ b : Bool, oneN (6 + s) x y = b64 b ∧ b = (if x = y then decide (s = 2) || cmE s else (decide (s ≤ 1) && decide (x < y)) || (decide (3 ≤ s) && decide (y < x))) := by
  refine ⟨_, ?_, rfl⟩
  have hle : ∀ a b : Int64, (a ≤ b) ↔ (a = b ∨ a < b) := fun a b => by
    constructor
    · intro q
      rcases Int64.lt_or_eq_of_le q with h | h
      · exact Or.inr h
      · exact Or.inl h
    · rintro (rfl | q)
      · exact Int64.le_refl _
      · exact Int64.le_of_lt q
  have hirr : ¬ y < y := Int64.lt_irrefl
  rcases (by omega : s = 0 ∨ s = 1 ∨ s = 2 ∨ s = 3 ∨ s = 4) with rfl | rfl | rfl | rfl | rfl
  · show (if x < y then lN 1 else lN 0) = _
    by_cases e : x = y
    · subst e; rw [if_pos rfl, if_neg Int64.lt_irrefl]; rfl
    · rw [if_neg e, b64_ite]; simp [cmE]
  · show (if x ≤ y then lN 1 else lN 0) = _
    by_cases e : x = y
    · subst e; rw [if_pos rfl, if_pos (Int64.le_refl _)]; rfl
    · have e7 : decide (x ≤ y) = decide (x < y) := decide_eq_decide.mpr ((hle x y).trans ⟨fun q => q.resolve_left e, Or.inr⟩)
      rw [if_neg e, b64_ite, e7]; simp [cmE]
  · show (if x = y then lN 1 else lN 0) = _
    by_cases e : x = y
    · rw [if_pos e, if_pos e]; rfl
    · rw [if_neg e, if_neg e]; simp [cmE, b64]
  · show (if y ≤ x then lN 1 else lN 0) = _
    by_cases e : x = y
    · subst e; rw [if_pos rfl, if_pos (Int64.le_refl _)]; rfl
    · have e7 : decide (y ≤ x) = decide (y < x) := decide_eq_decide.mpr ((hle y x).trans ⟨fun q => q.resolve_left (fun z => e z.symm), Or.inr⟩)
      rw [if_neg e, b64_ite, e7]; simp [cmE]
  · show (if y < x then lN 1 else lN 0) = _
    by_cases e : x = y
    · subst e; rw [if_pos rfl, if_neg Int64.lt_irrefl]; rfl
    · rw [if_neg e, b64_ite]; simp [cmE]
theorem TC.ev {sl : Nat → Prop} {G : Gm} {I : Im} (W : Nat → Int64) : ∀ d n cs, TC sl G I d n cs → ∃ b : Bool, ∀ st, evR W cs st = b64 b :: st := by
  intro d
  induction d with
  | zero => intro n cs h; cases h
  | succ d ih =>
    intro n cs h
    rcases h.2 with ⟨-, a, b, ca, cb, s, ha, hb, rfl, hs, -⟩ | ⟨-, a, ca, ha, rfl, -⟩ | ⟨-, a, b, ca, cb, k, ha, hb, rfl, hk, -⟩
    · obtain ⟨b1, h1, -⟩ := one_cmp s hs (valR W ca) (valR W cb)
      refine ⟨b1, fun st => ?_⟩
      rw [evR_app, evR_app, ha.ev, hb.ev]
      show stepR W (6 + s, 0) _ = _
      unfold stepR
      rw [if_neg (show ¬ 6 + s = 0 by omega), if_neg (show ¬ 6 + s = 1 by omega), if_neg (show ¬ 6 + s = 11 by omega), ← h1]
      rfl
    · obtain ⟨b1, h1⟩ := ih _ _ ha
      refine ⟨!b1, fun st => ?_⟩
      rw [evR_app, h1, ev11, n1_b]
    · obtain ⟨b1, h1⟩ := ih _ _ ha
      obtain ⟨b2, h2⟩ := ih _ _ hb
      rcases hk with rfl | rfl
      · refine ⟨b1 && b2, fun st => ?_⟩
        rw [evR_app, evR_app, h1, h2, ev2 W (by decide), show oneN 12 (b64 b1) (b64 b2) = b64 b1 &&& b64 b2 from rfl, n2_b]
      · refine ⟨b1 || b2, fun st => ?_⟩
        rw [evR_app, evR_app, h1, h2, ev2 W (by decide), show oneN 13 (b64 b1) (b64 b2) = b64 b1 ||| b64 b2 from rfl, n3_b]
theorem TC.is {sl : Nat → Prop} {G : Gm} {I : Im} (W : Nat → Int64) {d n : Nat} {cs : List Sg} (h : TC sl G I d n cs) : ∀ st, evR W cs st = b64 (isC W cs) :: st := by
  obtain ⟨b, hb⟩ := TC.ev W d n cs h
  have e : isC W cs = b := by
    unfold isC
    rw [show valR W cs = b64 b from by show (evR W cs []).headD 0 = _; rw [hb]; rfl]
    exact b64_1 b
  rw [e]; exact hb
theorem isC_not {sl : Nat → Prop} {G : Gm} {I : Im} (W : Nat → Int64) {d a : Nat} {ca : List Sg} (h : TC sl G I d a ca) : isC W (ca ++ [(11, 0)]) = !isC W ca := by
  have e : valR W (ca ++ [(11, 0)]) = b64 (!isC W ca) := by
    unfold valR
    rw [evR_app, h.is W, ev11, n1_b]; rfl
  show decide (valR W (ca ++ [(11, 0)]) = lN 1) = _
  rw [e, b64_1]
theorem isC_two {sl : Nat → Prop} {G : Gm} {I : Im} (W : Nat → Int64) {d a b k : Nat} {ca cb : List Sg} (h : TC sl G I d a ca) (h2 : TC sl G I d b cb) (hk : k = 12 ∨ k = 13) : isC W (ca ++ cb ++ [(k, 0)]) = if k = 13 then (isC W ca || isC W cb) else (isC W ca && isC W cb) := by
  have e : valR W (ca ++ cb ++ [(k, 0)]) = oneN k (b64 (isC W ca)) (b64 (isC W cb)) := by
    unfold valR
    rw [evR_app, evR_app, h.is W, h2.is W, ev2 W (by omega)]; rfl
  show decide (valR W (ca ++ cb ++ [(k, 0)]) = lN 1) = _
  rw [e]
  rcases hk with rfl | rfl
  · rw [if_neg (by decide), show oneN 12 (b64 (isC W ca)) (b64 (isC W cb)) = b64 (isC W ca) &&& b64 (isC W cb) from rfl, n2_b, b64_1]
  · rw [if_pos rfl, show oneN 13 (b64 (isC W ca)) (b64 (isC W cb)) = b64 (isC W ca) ||| b64 (isC W cb) from rfl, n3_b, b64_1]
def VM (w : Wd) (sl : Nat → Prop) (m d : Nat) (G : Gm) (I : Im) (L : Lm) : Prop := ∀ n cs, TV sl G I d n cs → (SHP G n 10 1 → AMet w yX10_of cX10_of 2 (some .long) (1 + d) (40 + 30 * d) 0 0 [.ref (w.1 + n), .ref (w.1 + m)] G I L (Exact (some (.long (valR (L m) cs))) G I L)) ∧ (SHP G n 11 1 → AMet w yX11_of cX11_of 2 (some .long) (1 + d) (40 + 30 * d) 0 0 [.ref (w.1 + n), .ref (w.1 + m)] G I L (Exact (some (.long (valR (L m) cs))) G I L)) ∧ (SHP G n 12 3 → AMet w yX12_of cX12_of 6 (some .long) (1 + d) (40 + 30 * d) 0 0 [.ref (w.1 + n), .ref (w.1 + m)] G I L (Exact (some (.long (valR (L m) cs))) G I L))
def CM (w : Wd) (sl : Nat → Prop) (m d : Nat) (G : Gm) (I : Im) (L : Lm) : Prop := ∀ n cs, TC sl G I d n cs → (SHP G n 16 4 → AMet w yX16_is cX16_is 6 (some .boolean) (1 + d) (40 + 30 * d) 0 0 [.ref (w.1 + n), .ref (w.1 + m)] G I L (Exact (some (.int (bI (isC (L m) cs)))) G I L)) ∧ (SHP G n 15 1 → AMet w yX15_is cX15_is 2 (some .boolean) (1 + d) (40 + 30 * d) 0 0 [.ref (w.1 + n), .ref (w.1 + m)] G I L (Exact (some (.int (bI (isC (L m) cs)))) G I L)) ∧ (SHP G n 17 3 → AMet w yX17_is cX17_is 2 (some .boolean) (1 + d) (40 + 30 * d) 0 0 [.ref (w.1 + n), .ref (w.1 + m)] G I L (Exact (some (.int (bI (isC (L m) cs)))) G I L))
theorem SHP.uni {G : Gm} {n k len k2 len2 : Nat} (h : SHP G n k len) (h2 : SHP G n k2 len2) : k = k2 := congrArg Prod.fst (h.2.symm.trans h2.2)
theorem RM_of {F' Lo' mL' F Lo : Nat} (h1 : F' + 1 ≤ F) (h2 : 8 + (mL' + 11) + Lo' ≤ Lo) : RM F' Lo' mL' F Lo = true := by
  unfold RM
  rw [decide_eq_true h1, decide_eq_true h2]; rfl
section TRW
variable {X : Cx} {cc : ByteArray} {own : String} {rt : Option FieldType} {mL F Lo mc ms : Nat} {w : Wd} {cs ss pc : Nat} {ls : List (Option Value)} {rest : List Value} {G : Gm} {I : Im} {L : Lm}
theorem aw_of (h : CX X cc own rt mL F Lo mc ms w) (hl : LX X) {idx m d a : Nat} {sl : Nat → Prop} {ca : List Sg} (f : CLU own idx RX10 RX9 ⟨RX9, "of", "([J)J"⟩ yX10_of cX10_of 2 (some .long) 1 ∧ CLU own idx RX11 RX9 ⟨RX9, "of", "([J)J"⟩ yX11_of cX11_of 2 (some .long) 1 ∧ CLU own idx RX12 RX9 ⟨RX9, "of", "([J)J"⟩ yX12_of cX12_of 6 (some .long) 1) (hV : VM w sl m d G I L) (hT : TV sl G I d a ca) (hF : (1 + d) + 1 ≤ F ∧ 8 + (6 + 11) + (40 + 30 * d) ≤ Lo) (hcs : cs ≤ mc) (hss : ss ≤ ms) (dd : decode cc pc = .ok (.invokevirtual idx, 3)) (hcat : (rest.map fun v => v.category).sum ≤ 8)
    (kk : AW X cs ss (pc + 3) ls (.long (valR (L m) ca) :: rest) G I L) : AW X cs ss pc ls (.ref (w.1 + m) :: .ref (w.1 + a) :: rest) G I L := by
  have hv := hV a ca hT
  cases d with
  | zero => cases hT
  | succ d =>
    rcases hT.2 with ⟨h0, -⟩ | ⟨h0, -⟩ | ⟨h0, -⟩
    · exact aw_callUE1 h hl f.1 (hv.1 h0) h0 rfl dd hcat (RM_of hF.1 (by omega)) hcs hss kk
    · exact aw_callUE1 h hl f.2.1 (hv.2.1 h0) h0 rfl dd hcat (RM_of hF.1 (by omega)) hcs hss kk
    · exact aw_callUE1 h hl f.2.2 (hv.2.2 h0) h0 rfl dd hcat (RM_of hF.1 (by omega)) hcs hss kk
theorem aw_is (h : CX X cc own rt mL F Lo mc ms w) (hl : LX X) {idx m d a : Nat} {sl : Nat → Prop} {ca : List Sg} (f : CLU own idx RX16 RX14 ⟨RX14, "is", "([J)Z"⟩ yX16_is cX16_is 6 (some .boolean) 1 ∧ CLU own idx RX15 RX14 ⟨RX14, "is", "([J)Z"⟩ yX15_is cX15_is 2 (some .boolean) 1 ∧ CLU own idx RX17 RX14 ⟨RX14, "is", "([J)Z"⟩ yX17_is cX17_is 2 (some .boolean) 1) (hV : CM w sl m d G I L) (hT : TC sl G I d a ca) (hF : (1 + d) + 1 ≤ F ∧ 8 + (6 + 11) + (40 + 30 * d) ≤ Lo) (hcs : cs ≤ mc) (hss : ss ≤ ms) (dd : decode cc pc = .ok (.invokevirtual idx, 3)) (hcat : (rest.map fun v => v.category).sum ≤ 8)
    (kk : AW X cs ss (pc + 3) ls (.int (bI (isC (L m) ca)) :: rest) G I L) : AW X cs ss pc ls (.ref (w.1 + m) :: .ref (w.1 + a) :: rest) G I L := by
  have hv := hV a ca hT
  cases d with
  | zero => cases hT
  | succ d =>
    rcases hT.2 with ⟨h0, -⟩ | ⟨h0, -⟩ | ⟨h0, -⟩
    · exact aw_callUE1 h hl f.1 (hv.1 h0) h0 rfl dd hcat (RM_of hF.1 (by omega)) hcs hss kk
    · exact aw_callUE1 h hl f.2.1 (hv.2.1 h0) h0 rfl dd hcat (RM_of hF.1 (by omega)) hcs hss kk
    · exact aw_callUE1 h hl f.2.2 (hv.2.2 h0) h0 rfl dd hcat (RM_of hF.1 (by omega)) hcs hss kk
end TRW
theorem AMet.shp' : True := trivial
theorem met_x_ofPlain {w : Wd} {G : Gm} {I : Im} {L : Lm} {sl : Nat → Prop} {m d n : Nat} {cs : List Sg} (hm : SHP G m 101 12) {v : Nat} (hs : SHP G n 10 1) (hv : v < 2 ^ 20) (hcs : cs = [(0, v)]) (hI : I n 0 = nI v) : AMet w yX10_of cX10_of 2 (some .long) (1 + (d + 1)) (40 + 30 * (d + 1)) 0 0 [.ref (w.1 + n), .ref (w.1 + m)] G I L (Exact (some (.long (valR (L m) cs))) G I L) := by
  refine AMet.of (ls0 := [some (.ref (w.1 + n)), some (.ref (w.1 + m))]) rfl (Nat.le_of_ble_eq_true rfl) rfl (fun q hq => hq) (fun X h hl hr hi => ?_)
  refine aw_aload0 h dX10_of_0 ?_
  refine aw_getiV h fl_X10_7 hs dX10_of_1 rfl (hI) ?_
  refine aw_i2lN h (by omega) dX10_of_4 ?_
  exact aw_lret h hr dX10_of_5 (⟨by rw [hcs]; rfl, rfl, rfl, rfl⟩) (Nat.zero_le _) (Nat.zero_le _)
theorem met_x_ofAsked {w : Wd} {G : Gm} {I : Im} {L : Lm} {sl : Nat → Prop} {m d n : Nat} {cs : List Sg} (hm : SHP G m 101 12) {v : Nat} (hs : SHP G n 11 1) (hv : v < 12) (hcs : cs = [(1, v)]) (hI : I n 0 = nI v) : AMet w yX11_of cX11_of 2 (some .long) (1 + (d + 1)) (40 + 30 * (d + 1)) 0 0 [.ref (w.1 + n), .ref (w.1 + m)] G I L (Exact (some (.long (valR (L m) cs))) G I L) := by
  refine AMet.of (ls0 := [some (.ref (w.1 + n)), some (.ref (w.1 + m))]) rfl (Nat.le_of_ble_eq_true rfl) rfl (fun q hq => hq) (fun X h hl hr hi => ?_)
  refine aw_aload1 h dX11_of_0 ?_
  refine aw_aload0 h dX11_of_1 ?_
  refine aw_getiV h fl_X11_7 hs dX11_of_2 rfl (hI) ?_
  refine aw_laldN h hm (by decide) (by omega) dX11_of_5 ?_
  exact aw_lret h hr dX11_of_6 (⟨by rw [hcs]; rfl, rfl, rfl, rfl⟩) (Nat.zero_le _) (Nat.zero_le _)
theorem met_x_ofJoined {w : Wd} {G : Gm} {I : Im} {L : Lm} {sl : Nat → Prop} {m d n : Nat} {cs : List Sg} (hm : SHP G m 101 12) {a b k : Nat} {ca cb : List Sg} (hs : SHP G n 12 3) (hV : VM w sl m d G I L) (ha : TV sl G I d a ca) (hb : TV sl G I d b cb) (hcs : cs = ca ++ cb ++ [(k, 0)]) (hk : k = 2 ∨ k = 3 ∨ k = 4 ∨ k = 5 ∨ k = 14) (hP0 : G.2.2 n 0 = some a) (hP1 : G.2.2 n 1 = some b) (hI2 : I n 2 = nI (sgC k)) : AMet w yX12_of cX12_of 6 (some .long) (1 + (d + 1)) (40 + 30 * (d + 1)) 0 0 [.ref (w.1 + n), .ref (w.1 + m)] G I L (Exact (some (.long (valR (L m) cs))) G I L) := by
  refine AMet.of (ls0 := [some (.ref (w.1 + n)), some (.ref (w.1 + m)), none, none, none, none]) rfl (Nat.le_of_ble_eq_true rfl) rfl (fun q hq => hq) (fun X h hl hr hi => ?_)
  have hk9 : 2 ≤ k ∧ k ≠ 11 := by omega
  have hval := TV.val (L m) ha hb hk9
  rw [← hcs] at hval
  rcases hk with rfl | rfl | rfl | rfl | rfl
  · refine aw_aload0 h dX12_of_0 ?_
    refine aw_getr h fl_X12_7 hs dX12_of_1 rfl hP0 ?_
    refine aw_aload1 h dX12_of_4 ?_
    refine aw_of h hl ⟨cu_X12_20_X10, cu_X12_20_X11, cu_X12_20_X12⟩ hV ha (⟨by omega, by omega⟩) (Nat.zero_le _) (Nat.zero_le _) dX12_of_5 (Nat.le_of_ble_eq_true rfl) ?_
    refine aw_lstore2 h rfl dX12_of_8 ?_
    refine aw_aload0 h dX12_of_9 ?_
    refine aw_getr h fl_X12_13 hs dX12_of_10 rfl hP1 ?_
    refine aw_aload1 h dX12_of_13 ?_
    refine aw_of h hl ⟨cu_X12_20_X10, cu_X12_20_X11, cu_X12_20_X12⟩ hV hb (⟨by omega, by omega⟩) (Nat.zero_le _) (Nat.zero_le _) dX12_of_14 (Nat.le_of_ble_eq_true rfl) ?_
    refine aw_lstore4 h rfl dX12_of_17 ?_
    refine aw_aload0 h dX12_of_19 ?_
    refine aw_getiV h fl_X12_16 hs dX12_of_20 rfl (hI2) ?_
    refine aw_bipush h _ cb_43 dX12_of_23 ?_
    refine aw_icmp_neN h (tgt := 35) (by decide) (by decide) dX12_of_25 (by decide) (fun c25 => ?_) (fun c25 => ?_)
    · exact absurd rfl c25
    · refine aw_lload2 h dX12_of_28 ?_
      refine aw_lload4 h dX12_of_29 ?_
      refine aw_ladd h dX12_of_31 ?_
      refine aw_goto h (tgt := 98) dX12_of_32 (by decide) ?_
      exact aw_lret h hr dX12_of_98 (⟨by rw [hval]; rfl, rfl, rfl, rfl⟩) (Nat.zero_le _) (Nat.zero_le _)
  · refine aw_aload0 h dX12_of_0 ?_
    refine aw_getr h fl_X12_7 hs dX12_of_1 rfl hP0 ?_
    refine aw_aload1 h dX12_of_4 ?_
    refine aw_of h hl ⟨cu_X12_20_X10, cu_X12_20_X11, cu_X12_20_X12⟩ hV ha (⟨by omega, by omega⟩) (Nat.zero_le _) (Nat.zero_le _) dX12_of_5 (Nat.le_of_ble_eq_true rfl) ?_
    refine aw_lstore2 h rfl dX12_of_8 ?_
    refine aw_aload0 h dX12_of_9 ?_
    refine aw_getr h fl_X12_13 hs dX12_of_10 rfl hP1 ?_
    refine aw_aload1 h dX12_of_13 ?_
    refine aw_of h hl ⟨cu_X12_20_X10, cu_X12_20_X11, cu_X12_20_X12⟩ hV hb (⟨by omega, by omega⟩) (Nat.zero_le _) (Nat.zero_le _) dX12_of_14 (Nat.le_of_ble_eq_true rfl) ?_
    refine aw_lstore4 h rfl dX12_of_17 ?_
    refine aw_aload0 h dX12_of_19 ?_
    refine aw_getiV h fl_X12_16 hs dX12_of_20 rfl (hI2) ?_
    refine aw_bipush h _ cb_43 dX12_of_23 ?_
    refine aw_icmp_neN h (tgt := 35) (by decide) (by decide) dX12_of_25 (by decide) (fun c25 => ?_) (fun c25 => ?_)
    · refine aw_aload0 h dX12_of_35 ?_
      refine aw_getiV h fl_X12_16 hs dX12_of_36 rfl (hI2) ?_
      refine aw_bipush h _ cb_45 dX12_of_39 ?_
      refine aw_icmp_neN h (tgt := 51) (by decide) (by decide) dX12_of_41 (by decide) (fun c41 => ?_) (fun c41 => ?_)
      · exact absurd rfl c41
      · refine aw_lload2 h dX12_of_44 ?_
        refine aw_lload4 h dX12_of_45 ?_
        refine aw_lsub h dX12_of_47 ?_
        refine aw_goto h (tgt := 98) dX12_of_48 (by decide) ?_
        exact aw_lret h hr dX12_of_98 (⟨by rw [hval]; rfl, rfl, rfl, rfl⟩) (Nat.zero_le _) (Nat.zero_le _)
    · exact absurd c25 (by decide)
  · refine aw_aload0 h dX12_of_0 ?_
    refine aw_getr h fl_X12_7 hs dX12_of_1 rfl hP0 ?_
    refine aw_aload1 h dX12_of_4 ?_
    refine aw_of h hl ⟨cu_X12_20_X10, cu_X12_20_X11, cu_X12_20_X12⟩ hV ha (⟨by omega, by omega⟩) (Nat.zero_le _) (Nat.zero_le _) dX12_of_5 (Nat.le_of_ble_eq_true rfl) ?_
    refine aw_lstore2 h rfl dX12_of_8 ?_
    refine aw_aload0 h dX12_of_9 ?_
    refine aw_getr h fl_X12_13 hs dX12_of_10 rfl hP1 ?_
    refine aw_aload1 h dX12_of_13 ?_
    refine aw_of h hl ⟨cu_X12_20_X10, cu_X12_20_X11, cu_X12_20_X12⟩ hV hb (⟨by omega, by omega⟩) (Nat.zero_le _) (Nat.zero_le _) dX12_of_14 (Nat.le_of_ble_eq_true rfl) ?_
    refine aw_lstore4 h rfl dX12_of_17 ?_
    refine aw_aload0 h dX12_of_19 ?_
    refine aw_getiV h fl_X12_16 hs dX12_of_20 rfl (hI2) ?_
    refine aw_bipush h _ cb_43 dX12_of_23 ?_
    refine aw_icmp_neN h (tgt := 35) (by decide) (by decide) dX12_of_25 (by decide) (fun c25 => ?_) (fun c25 => ?_)
    · refine aw_aload0 h dX12_of_35 ?_
      refine aw_getiV h fl_X12_16 hs dX12_of_36 rfl (hI2) ?_
      refine aw_bipush h _ cb_45 dX12_of_39 ?_
      refine aw_icmp_neN h (tgt := 51) (by decide) (by decide) dX12_of_41 (by decide) (fun c41 => ?_) (fun c41 => ?_)
      · refine aw_aload0 h dX12_of_51 ?_
        refine aw_getiV h fl_X12_16 hs dX12_of_52 rfl (hI2) ?_
        refine aw_bipush h _ cb_42 dX12_of_55 ?_
        refine aw_icmp_neN h (tgt := 67) (by decide) (by decide) dX12_of_57 (by decide) (fun c57 => ?_) (fun c57 => ?_)
        · exact absurd rfl c57
        · refine aw_lload2 h dX12_of_60 ?_
          refine aw_lload4 h dX12_of_61 ?_
          refine aw_lmul h dX12_of_63 ?_
          refine aw_goto h (tgt := 98) dX12_of_64 (by decide) ?_
          exact aw_lret h hr dX12_of_98 (⟨by rw [hval]; rfl, rfl, rfl, rfl⟩) (Nat.zero_le _) (Nat.zero_le _)
      · exact absurd c41 (by decide)
    · exact absurd c25 (by decide)
  · refine aw_aload0 h dX12_of_0 ?_
    refine aw_getr h fl_X12_7 hs dX12_of_1 rfl hP0 ?_
    refine aw_aload1 h dX12_of_4 ?_
    refine aw_of h hl ⟨cu_X12_20_X10, cu_X12_20_X11, cu_X12_20_X12⟩ hV ha (⟨by omega, by omega⟩) (Nat.zero_le _) (Nat.zero_le _) dX12_of_5 (Nat.le_of_ble_eq_true rfl) ?_
    refine aw_lstore2 h rfl dX12_of_8 ?_
    refine aw_aload0 h dX12_of_9 ?_
    refine aw_getr h fl_X12_13 hs dX12_of_10 rfl hP1 ?_
    refine aw_aload1 h dX12_of_13 ?_
    refine aw_of h hl ⟨cu_X12_20_X10, cu_X12_20_X11, cu_X12_20_X12⟩ hV hb (⟨by omega, by omega⟩) (Nat.zero_le _) (Nat.zero_le _) dX12_of_14 (Nat.le_of_ble_eq_true rfl) ?_
    refine aw_lstore4 h rfl dX12_of_17 ?_
    refine aw_aload0 h dX12_of_19 ?_
    refine aw_getiV h fl_X12_16 hs dX12_of_20 rfl (hI2) ?_
    refine aw_bipush h _ cb_43 dX12_of_23 ?_
    refine aw_icmp_neN h (tgt := 35) (by decide) (by decide) dX12_of_25 (by decide) (fun c25 => ?_) (fun c25 => ?_)
    · refine aw_aload0 h dX12_of_35 ?_
      refine aw_getiV h fl_X12_16 hs dX12_of_36 rfl (hI2) ?_
      refine aw_bipush h _ cb_45 dX12_of_39 ?_
      refine aw_icmp_neN h (tgt := 51) (by decide) (by decide) dX12_of_41 (by decide) (fun c41 => ?_) (fun c41 => ?_)
      · refine aw_aload0 h dX12_of_51 ?_
        refine aw_getiV h fl_X12_16 hs dX12_of_52 rfl (hI2) ?_
        refine aw_bipush h _ cb_42 dX12_of_55 ?_
        refine aw_icmp_neN h (tgt := 67) (by decide) (by decide) dX12_of_57 (by decide) (fun c57 => ?_) (fun c57 => ?_)
        · refine aw_lload4 h dX12_of_67 ?_
          refine aw_lconst h _ cl_0 dX12_of_69 ?_
          refine aw_lcmp_ne h (tgt := 78) dX12_of_70 dX12_of_71 (by decide) (fun c70 => ?_) (fun c70 => ?_)
          · refine aw_aload0 h dX12_of_78 ?_
            refine aw_getiV h fl_X12_16 hs dX12_of_79 rfl (hI2) ?_
            refine aw_bipush h _ cb_47 dX12_of_82 ?_
            refine aw_icmp_neN h (tgt := 94) (by decide) (by decide) dX12_of_84 (by decide) (fun c84 => ?_) (fun c84 => ?_)
            · exact absurd rfl c84
            · refine aw_lload2 h dX12_of_87 ?_
              refine aw_lload4 h dX12_of_88 ?_
              refine aw_ldiv h (c70) dX12_of_90 ?_
              refine aw_goto h (tgt := 98) dX12_of_91 (by decide) ?_
              exact aw_lret h hr dX12_of_98 (⟨by rw [hval]; show some (Value.long (valR (L m) ca / valR (L m) cb)) = some (Value.long (if valR (L m) cb = lN 0 then lN 0 else valR (L m) ca / valR (L m) cb)); rw [if_neg c70], rfl, rfl, rfl⟩) (Nat.zero_le _) (Nat.zero_le _)
          · refine aw_lconst h _ cl_0 dX12_of_74 ?_
            refine aw_goto h (tgt := 98) dX12_of_75 (by decide) ?_
            exact aw_lret h hr dX12_of_98 (⟨by rw [hval]; show some (Value.long (lN 0)) = some (Value.long (if valR (L m) cb = lN 0 then lN 0 else valR (L m) ca / valR (L m) cb)); rw [if_pos c70], rfl, rfl, rfl⟩) (Nat.zero_le _) (Nat.zero_le _)
        · exact absurd c57 (by decide)
      · exact absurd c41 (by decide)
    · exact absurd c25 (by decide)
  · refine aw_aload0 h dX12_of_0 ?_
    refine aw_getr h fl_X12_7 hs dX12_of_1 rfl hP0 ?_
    refine aw_aload1 h dX12_of_4 ?_
    refine aw_of h hl ⟨cu_X12_20_X10, cu_X12_20_X11, cu_X12_20_X12⟩ hV ha (⟨by omega, by omega⟩) (Nat.zero_le _) (Nat.zero_le _) dX12_of_5 (Nat.le_of_ble_eq_true rfl) ?_
    refine aw_lstore2 h rfl dX12_of_8 ?_
    refine aw_aload0 h dX12_of_9 ?_
    refine aw_getr h fl_X12_13 hs dX12_of_10 rfl hP1 ?_
    refine aw_aload1 h dX12_of_13 ?_
    refine aw_of h hl ⟨cu_X12_20_X10, cu_X12_20_X11, cu_X12_20_X12⟩ hV hb (⟨by omega, by omega⟩) (Nat.zero_le _) (Nat.zero_le _) dX12_of_14 (Nat.le_of_ble_eq_true rfl) ?_
    refine aw_lstore4 h rfl dX12_of_17 ?_
    refine aw_aload0 h dX12_of_19 ?_
    refine aw_getiV h fl_X12_16 hs dX12_of_20 rfl (hI2) ?_
    refine aw_bipush h _ cb_43 dX12_of_23 ?_
    refine aw_icmp_neN h (tgt := 35) (by decide) (by decide) dX12_of_25 (by decide) (fun c25 => ?_) (fun c25 => ?_)
    · refine aw_aload0 h dX12_of_35 ?_
      refine aw_getiV h fl_X12_16 hs dX12_of_36 rfl (hI2) ?_
      refine aw_bipush h _ cb_45 dX12_of_39 ?_
      refine aw_icmp_neN h (tgt := 51) (by decide) (by decide) dX12_of_41 (by decide) (fun c41 => ?_) (fun c41 => ?_)
      · refine aw_aload0 h dX12_of_51 ?_
        refine aw_getiV h fl_X12_16 hs dX12_of_52 rfl (hI2) ?_
        refine aw_bipush h _ cb_42 dX12_of_55 ?_
        refine aw_icmp_neN h (tgt := 67) (by decide) (by decide) dX12_of_57 (by decide) (fun c57 => ?_) (fun c57 => ?_)
        · refine aw_lload4 h dX12_of_67 ?_
          refine aw_lconst h _ cl_0 dX12_of_69 ?_
          refine aw_lcmp_ne h (tgt := 78) dX12_of_70 dX12_of_71 (by decide) (fun c70 => ?_) (fun c70 => ?_)
          · refine aw_aload0 h dX12_of_78 ?_
            refine aw_getiV h fl_X12_16 hs dX12_of_79 rfl (hI2) ?_
            refine aw_bipush h _ cb_47 dX12_of_82 ?_
            refine aw_icmp_neN h (tgt := 94) (by decide) (by decide) dX12_of_84 (by decide) (fun c84 => ?_) (fun c84 => ?_)
            · refine aw_lload2 h dX12_of_94 ?_
              refine aw_lload4 h dX12_of_95 ?_
              refine aw_lrem h (c70) dX12_of_97 ?_
              exact aw_lret h hr dX12_of_98 (⟨by rw [hval]; show _ = some (Value.long (if valR (L m) cb = lN 0 then lN 0 else valR (L m) ca - valR (L m) ca / valR (L m) cb * valR (L m) cb)); rw [if_neg c70], rfl, rfl, rfl⟩) (Nat.zero_le _) (Nat.zero_le _)
            · exact absurd c84 (by decide)
          · refine aw_lconst h _ cl_0 dX12_of_74 ?_
            refine aw_goto h (tgt := 98) dX12_of_75 (by decide) ?_
            exact aw_lret h hr dX12_of_98 (⟨by rw [hval]; show some (Value.long (lN 0)) = some (Value.long (if valR (L m) cb = lN 0 then lN 0 else valR (L m) ca - valR (L m) ca / valR (L m) cb * valR (L m) cb)); rw [if_pos c70], rfl, rfl, rfl⟩) (Nat.zero_le _) (Nat.zero_le _)
        · exact absurd c57 (by decide)
      · exact absurd c41 (by decide)
    · exact absurd c25 (by decide)
theorem VM.all {w : Wd} {sl : Nat → Prop} {m : Nat} {G : Gm} {I : Im} {L : Lm} (hm : SHP G m 101 12) : ∀ d, VM w sl m d G I L := by
  intro d
  induction d with
  | zero => intro n cs h; cases h
  | succ d ih =>
    intro n cs h
    rcases h.2 with ⟨hs, v, h1, h2, h3⟩ | ⟨hs, v, h1, h2, h3⟩ | ⟨hs, a, b, ca, cb, k, h1, h2, h3, h4, h5, h6, h7⟩
    · exact ⟨fun _ => met_x_ofPlain (sl := sl) hm hs h1 h2 h3, fun q => absurd (hs.uni q) (by decide), fun q => absurd (hs.uni q) (by decide)⟩
    · exact ⟨fun q => absurd (hs.uni q) (by decide), fun _ => met_x_ofAsked (sl := sl) hm hs h1 h2 h3, fun q => absurd (hs.uni q) (by decide)⟩
    · exact ⟨fun q => absurd (hs.uni q) (by decide), fun q => absurd (hs.uni q) (by decide), fun _ => met_x_ofJoined hm hs ih h1 h2 h3 h4 h5 h6 h7⟩
