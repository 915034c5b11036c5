/-! The reference: words, clauses, who will go where -/
set_option maxRecDepth 100000
abbrev Cl : Type := List Sg × Option (List Sg)
def ClAt (I : Im) (rl c : Nat) (q : Cl) : Prop := ∃ b e, I 165 (48 * rl + 4 * c) = nI b ∧ I 165 (48 * rl + 4 * c + 1) = nI e ∧ e = b + q.1.length ∧ e ≤ 400 ∧ CodeAt I (400 * rl + b) q.1 ∧ okR q.1 0 ∧
  (match q.2 with
   | none => I 165 (48 * rl + 4 * c + 2) = -1
   | some t => ∃ b2 e2, I 165 (48 * rl + 4 * c + 2) = nI b2 ∧ I 165 (48 * rl + 4 * c + 3) = nI e2 ∧ e2 = b2 + t.length ∧ e2 ≤ 400 ∧ CodeAt I (400 * rl + b2) t ∧ okR t 0)
def RuleAt (I : Im) (rl : Nat) (cl : List Cl) : Prop := cl.length ≤ 12 ∧ I 166 rl = nI cl.length ∧ ∀ c, c < cl.length → ClAt I rl c (cl.getD c ([], none))
def holdsV (W : Nat → Int64) (q : Cl) : Bool := match q.2 with
  | none => true
  | some t => decide (valR W t = lN 1)
def goesV (W : Nat → Int64) : List Cl → Int64
  | [] => lN 0
  | q :: r => if holdsV W q = true then valR W q.1 else goesV W r
theorem goes_skip {W : Nat → Int64} {q : Cl} {r : List Cl} (h : holdsV W q = false) : goesV W (q :: r) = goesV W r := by rw [goesV, if_neg (by rw [h]; decide)]
theorem goes_hit {W : Nat → Int64} {q : Cl} {r : List Cl} (h : holdsV W q = true) : goesV W (q :: r) = valR W q.1 := by rw [goesV, if_pos h]
theorem drop_getD {α : Type} {l : List α} {c : Nat} (d : α) (h : c < l.length) : l.drop c = l.getD c d :: l.drop (c + 1) := by
  rw [List.drop_eq_getElem_cons h]
  congr 1
  simp [List.getD, h]
def popc (m : Nat) : Nat := sumN 4 (fun k => if m.testBit k then 1 else 0)
theorem popc_step : ∀ s, s < 16 → s ≠ 0 → (s &&& (s - 1)) < 16 ∧ popc (s &&& (s - 1)) + 1 = popc s := by decide
def askB (S : Nat → Int32) (p o : Nat) : Bool := decide (¬ o = p) && (decide (stepI S (gl S o) (rm S o) = nI (rm S p)) && decide (S (34 + rm S p) < S (34 + rm S o)))
def askV (S : Nat → Int32) (p : Nat) : Nat := sumN (np S) (fun o => if askB S p o = true then 1 else 0)
def hereV (S : Nat → Int32) (p : Nat) : Nat := sumN (np S) (fun q => if (decide (¬ q = p) && decide (rm S q = rm S p)) = true then 1 else 0)
def wordsV (S : Nat → Int32) (p : Nat) : Nat → Int64
  | 0 => lN p
  | 1 => lN (rm S p)
  | 2 => (S (34 + rm S p)).toInt64
  | 3 => lN (gl S p)
  | 4 => lN (distV S (gl S p) (rm S p))
  | 5 => (pv S p 2).toInt64
  | 6 => (S 3).toInt64
  | 7 => if nightB S = true then lN 1 else lN 0
  | 8 => lN (hereV S p)
  | 9 => (pv S p 3).toInt64
  | 10 => (pv S p 4).toInt64
  | 11 => lN (askV S p)
  | _ => 0
theorem here_popc {S : Nat → Int32} {p : Nat} (hp : p < np S) (h4 : np S ≤ 4) : pinN S (rm S p) - (pinN S (rm S p) &&& 2 ^ p) < 16 ∧ popc (pinN S (rm S p) - (pinN S (rm S p) &&& 2 ^ p)) = hereV S p := by
  unfold pinN hereV
  generalize hf : (fun q => rm S q == rm S p) = f
  have hg : (fun q => if (decide (¬ q = p) && decide (rm S q = rm S p)) = true then 1 else 0) = (fun q : Nat => if (decide (¬ q = p) && f q) = true then 1 else 0) := by
    funext q; rw [← hf]; simp
  rw [hg]
  generalize np S = n at hp h4
  clear hg hf
  have h0 : ∀ (n : Nat), n ≤ 4 → ∀ p, p < n → ∀ b0 b1 b2 b3 : Bool, (mskN n (fun q => match q with | 0 => b0 | 1 => b1 | 2 => b2 | _ => b3) - (mskN n (fun q => match q with | 0 => b0 | 1 => b1 | 2 => b2 | _ => b3) &&& 2 ^ p) < 16) ∧ popc (mskN n (fun q => match q with | 0 => b0 | 1 => b1 | 2 => b2 | _ => b3) - (mskN n (fun q => match q with | 0 => b0 | 1 => b1 | 2 => b2 | _ => b3) &&& 2 ^ p)) = sumN n (fun q => if (decide (¬ q = p) && (match q with | 0 => b0 | 1 => b1 | 2 => b2 | _ => b3)) = true then 1 else 0) := by
    intro n hn
    rcases (by omega : n = 0 ∨ n = 1 ∨ n = 2 ∨ n = 3 ∨ n = 4) with rfl | rfl | rfl | rfl | rfl <;> decide
  have hm : ∀ m, m ≤ 4 → mskN m f = mskN m (fun q => match q with | 0 => f 0 | 1 => f 1 | 2 => f 2 | _ => f 3) := by
    intro m hm
    rcases (by omega : m = 0 ∨ m = 1 ∨ m = 2 ∨ m = 3 ∨ m = 4) with rfl | rfl | rfl | rfl | rfl <;> rfl
  have hs : ∀ m, m ≤ 4 → sumN m (fun q => if (decide (¬ q = p) && f q) = true then 1 else 0) = sumN m (fun q => if (decide (¬ q = p) && (match q with | 0 => f 0 | 1 => f 1 | 2 => f 2 | _ => f 3)) = true then 1 else 0) := by
    intro m hm
    rcases (by omega : m = 0 ∨ m = 1 ∨ m = 2 ∨ m = 3 ∨ m = 4) with rfl | rfl | rfl | rfl | rfl <;> rfl
  rw [hm n h4, hs n h4]
  exact h0 n h4 p hp _ _ _ _
theorem evR_congr {W W' : Nat → Int64} (h : ∀ j, j < 12 → W j = W' j) : ∀ (cs : List Sg) (d : Nat) (st : List Int64), okR cs d → evR W cs st = evR W' cs st := by
  intro cs
  induction cs with
  | nil => intro d st _; rfl
  | cons q cs ih =>
    intro d st hok
    obtain ⟨-, -, hok⟩ := hok
    have hs : stepR W q st = stepR W' q st := by
      unfold stepR
      by_cases h0 : q.1 = 0
      · rw [if_pos h0, if_pos h0]
      · rw [if_neg h0, if_neg h0]
        by_cases h1 : q.1 = 1
        · rw [if_neg h0, if_pos h1] at hok
          rw [if_pos h1, if_pos h1, h _ hok.1]
        · rw [if_neg h1, if_neg h1]
    show evR W cs (stepR W q st) = evR W' cs (stepR W' q st)
    rw [hs]
    by_cases h0 : q.1 = 0
    · rw [if_pos h0] at hok; exact ih _ _ hok.2
    · rw [if_neg h0] at hok
      by_cases h1 : q.1 = 1
      · rw [if_pos h1] at hok; exact ih _ _ hok.2.2
      · rw [if_neg h1] at hok
        by_cases h2 : q.1 = 11
        · rw [if_pos h2] at hok; exact ih _ _ hok.2
        · rw [if_neg h2] at hok; exact ih _ _ hok.2
theorem goes_congr {I : Im} {rl : Nat} {W W' : Nat → Int64} (h : ∀ j, j < 12 → W j = W' j) {cl : List Cl} (hR : RuleAt I rl cl) : goesV W cl = goesV W' cl := by
  have hm : ∀ q ∈ cl, okR q.1 0 ∧ ∀ t, q.2 = some t → okR t 0 := by
    intro q hq
    obtain ⟨c, hc⟩ := List.getElem?_of_mem hq
    have hl := (List.getElem?_eq_some_iff.mp hc).1
    have h2 := hR.2.2 c hl
    rw [show cl.getD c ([], none) = q by simp [List.getD, hc]] at h2
    obtain ⟨b, e, -, -, -, -, -, h3, h4⟩ := h2
    refine ⟨h3, fun t ht => ?_⟩
    rw [ht] at h4
    obtain ⟨_, _, _, _, _, _, _, h5⟩ := h4
    exact h5
  clear hR
  induction cl with
  | nil => rfl
  | cons q r ih =>
    have h1 := hm q List.mem_cons_self
    have e1 : valR W q.1 = valR W' q.1 := by unfold valR; rw [evR_congr h q.1 0 [] h1.1]
    have e2 : holdsV W q = holdsV W' q := by
      unfold holdsV
      cases hq : q.2 with
      | none => rfl
      | some t => dsimp only; unfold valR; rw [evR_congr h t 0 [] (h1.2 t hq)]
    rw [goesV, goesV, e1, e2, ih (fun q hq => hm q (List.mem_cons_of_mem _ hq))]
theorem met_m_bits {w : Wd} {G : Gm} {I : Im} {L : Lm} {m : Nat} (hm : m < 16) : AMet w yX4_bits cX4_bits 3 (some .int) 1 40 0 0 [.int (nI m)] G I L (Exact (some (.int (nI (popc m)))) G I L) := by
  refine AMet.of (ls0 := [some (.int (nI m)), none, none]) rfl (Nat.le_of_ble_eq_true rfl) rfl (fun q hq => hq) (fun X h hl hr hi => ?_)
  have key : ∀ (n s c : Nat), s < 16 → popc s < n → c + popc s = popc m → AW X 0 0 4 [some (.int (nI m)), some (.int (nI c)), some (.int (nI s))] [] G I L := by
    intro n
    induction n with
    | zero => intro s c h1 h2; exact absurd h2 (by omega)
    | succ n ih =>
      intro s c h1 h2 h3
      refine aw_iload2 h dX4_bits_4 ?_
      refine aw_if_eqN h (tgt := 20) (by omega) dX4_bits_5 (by decide) (fun c5 => ?_) (fun c5 => ?_)
      · refine aw_iload1 h dX4_bits_20 ?_
        exact aw_iret h hr dX4_bits_21 (⟨by rw [← h3, c5]; rfl, rfl, rfl, rfl⟩) (Nat.zero_le _) (Nat.zero_le _)
      · refine aw_iincN1 h rfl dX4_bits_8 ?_
        refine aw_iload2 h dX4_bits_11 ?_
        refine aw_iload2 h dX4_bits_12 ?_
        refine aw_iconst h _ ci_1 dX4_bits_13 ?_
        refine aw_isubN h (by omega) dX4_bits_14 ?_
        refine aw_iand h dX4_bits_15 ?_
        refine aw_istore2 h rfl dX4_bits_16 ?_
        refine aw_goto h (tgt := 4) dX4_bits_17 (by decide) ?_
        rw [bs_and]
        have h4 := popc_step s h1 c5
        exact ih _ _ h4.1 (by omega) (by omega)
  refine aw_iconst h _ ci_0 dX4_bits_0 ?_
  refine aw_istore1 h rfl dX4_bits_1 ?_
  refine aw_iload0 h dX4_bits_2 ?_
  refine aw_istore2 h rfl dX4_bits_3 ?_
  exact key (popc m + 1) m 0 hm (by omega) (by omega)
theorem met_m_askersOf {w : Wd} {G : Gm} {I : Im} {L : Lm} (hG : GM G) {S : Nat → Int32} (hE : I 171 = S) (hS : InvS S) {p : Nat} (hp : p < np S) : AMet w yX4_askersOf cX4_askersOf 5 (some .int) 7 176 0 0 [.ref (w.1 + 161), .int (nI p)] G I L (Ans (some (.int (nI (askV S p)))) (PU 172 G I L)) := by
  refine AMet.of (ls0 := [some (.ref (w.1 + 161)), some (.int (nI p)), none, none, none]) rfl (Nat.le_of_ble_eq_true rfl) rfl (fun q hq => hq) (fun X h hl hr hi => ?_)
  have keyN : ∀ {n : Nat} (f : Nat → Int32) (k : Nat) {o : Option Value}, k < np S → np S < k + (n + 1) → askB S p k = false → (∀ (k : Nat) (f : Nat → Int32) (o : Option Value), k ≤ np S → np S < k + n → AW X 0 0 4 [some (.ref (w.1 + 161)), some (.int (nI p)), some (.int (nI (sumN k (fun o => if askB S p o = true then 1 else 0)))), some (.int (nI k)), o] [] G (va_up I 172 f) L) → AW X 0 0 38 [some (.ref (w.1 + 161)), some (.int (nI p)), some (.int (nI (sumN k (fun o => if askB S p o = true then 1 else 0)))), some (.int (nI k)), o] [.int (nI 0)] G (va_up I 172 f) L := by
    intro n f k o hk h2 hb ih
    have hE2 : va_up I 172 f 171 = S := hE
    refine aw_istore4 h rfl dX4_askersOf_38 ?_
    refine aw_iload2 h dX4_askersOf_40 ?_
    refine aw_iload4 h dX4_askersOf_41 ?_
    refine aw_if_eqN h (tgt := 81) (by decide) dX4_askersOf_43 (by decide) (fun c43 => ?_) (fun c43 => ?_)
    · refine aw_iconst h _ ci_0 dX4_askersOf_81 ?_
      refine aw_iaddN h dX4_askersOf_82 ?_
      refine aw_istore2 h rfl dX4_askersOf_83 ?_
      refine aw_iincN3 h rfl dX4_askersOf_84 ?_
      refine aw_goto h (tgt := 4) dX4_askersOf_87 (by decide) ?_
      rw [Nat.add_zero]
      have e : sumN (k + 1) (fun o => if askB S p o = true then 1 else 0) = sumN k (fun o => if askB S p o = true then 1 else 0) := by simp [sumN, hb]
      rw [← e]
      exact ih (k + 1) f _ (by omega) (by omega)
    · exact absurd rfl c43
  have keyS : ∀ {n : Nat} (f : Nat → Int32) (k : Nat) {o : Option Value}, k < np S → np S < k + (n + 1) → ¬ k = p → stepI S (gl S k) (rm S k) = nI (rm S p) → (∀ (k : Nat) (f : Nat → Int32) (o : Option Value), k ≤ np S → np S < k + n → AW X 0 0 4 [some (.ref (w.1 + 161)), some (.int (nI p)), some (.int (nI (sumN k (fun o => if askB S p o = true then 1 else 0)))), some (.int (nI k)), o] [] G (va_up I 172 f) L) → AW X 0 0 38 [some (.ref (w.1 + 161)), some (.int (nI p)), some (.int (nI (sumN k (fun o => if askB S p o = true then 1 else 0)))), some (.int (nI k)), o] [.int (nI 1)] G (va_up I 172 f) L := by
    intro n f k o hk h2 hne hst ih
    have hE2 : va_up I 172 f 171 = S := hE
    refine aw_istore4 h rfl dX4_askersOf_38 ?_
    refine aw_iload2 h dX4_askersOf_40 ?_
    refine aw_iload4 h dX4_askersOf_41 ?_
    refine aw_if_eqN h (tgt := 81) (by decide) dX4_askersOf_43 (by decide) (fun c43 => ?_) (fun c43 => ?_)
    · exact absurd c43 (by decide)
    · refine aw_aload0 h dX4_askersOf_46 ?_
      refine aw_getr h fl_X4_39 (gmt hG) dX4_askersOf_47 rfl (gmp20 hG) ?_
      refine aw_bipush h _ cb_34 dX4_askersOf_50 ?_
      refine aw_aload0 h dX4_askersOf_52 ?_
      refine aw_iload3 h dX4_askersOf_53 ?_
      refine aw_iconst h _ ci_0 dX4_askersOf_54 ?_
      refine aw_callVE2 h hl cl_X4_279 (met_m_personOf hG hE2 (by have := iv2b hS; omega)) (gmt hG) rfl dX4_askersOf_55 (Nat.le_of_ble_eq_true rfl) rfl (Nat.zero_le _) (Nat.zero_le _) ?_
      rw [(ivp hS hk).1]
      refine aw_iaddN h dX4_askersOf_58 ?_
      refine aw_ialdV h (gms171 hG) (by decide) (by have := (ivp hS hk).2.1; have := iv0b hS; omega) dX4_askersOf_59 (congrFun hE2 _) ?_
      refine aw_aload0 h dX4_askersOf_60 ?_
      refine aw_getr h fl_X4_39 (gmt hG) dX4_askersOf_61 rfl (gmp20 hG) ?_
      refine aw_bipush h _ cb_34 dX4_askersOf_64 ?_
      refine aw_aload0 h dX4_askersOf_66 ?_
      refine aw_iload1 h dX4_askersOf_67 ?_
      refine aw_iconst h _ ci_0 dX4_askersOf_68 ?_
      refine aw_callVE2 h hl cl_X4_279 (met_m_personOf hG hE2 (by have := iv2b hS; omega)) (gmt hG) rfl dX4_askersOf_69 (Nat.le_of_ble_eq_true rfl) rfl (Nat.zero_le _) (Nat.zero_le _) ?_
      rw [(ivp hS hp).1]
      refine aw_iaddN h dX4_askersOf_72 ?_
      refine aw_ialdV h (gms171 hG) (by decide) (by have := (ivp hS hp).2.1; have := iv0b hS; omega) dX4_askersOf_73 (congrFun hE2 _) ?_
      refine aw_icmp_le h (tgt := 81) dX4_askersOf_74 (by decide) (fun c74 => ?_) (fun c74 => ?_)
      · refine aw_iconst h _ ci_0 dX4_askersOf_81 ?_
        refine aw_iaddN h dX4_askersOf_82 ?_
        refine aw_istore2 h rfl dX4_askersOf_83 ?_
        refine aw_iincN3 h rfl dX4_askersOf_84 ?_
        refine aw_goto h (tgt := 4) dX4_askersOf_87 (by decide) ?_
        have hb : askB S p k = false := by simp only [askB, decide_eq_true hne, decide_eq_true hst, Bool.true_and, decide_eq_false_iff_not]; exact Int32.not_lt.mpr c74
        have e : sumN (k + 1) (fun o => if askB S p o = true then 1 else 0) = sumN k (fun o => if askB S p o = true then 1 else 0) := by simp [sumN, hb]
        rw [Nat.add_zero, ← e]
        exact ih (k + 1) f _ (by omega) (by omega)
      · refine aw_iconst h _ ci_1 dX4_askersOf_77 ?_
        refine aw_goto h (tgt := 82) dX4_askersOf_78 (by decide) ?_
        refine aw_iaddN h dX4_askersOf_82 ?_
        refine aw_istore2 h rfl dX4_askersOf_83 ?_
        refine aw_iincN3 h rfl dX4_askersOf_84 ?_
        refine aw_goto h (tgt := 4) dX4_askersOf_87 (by decide) ?_
        have hb : askB S p k = true := by simp only [askB, decide_eq_true hne, decide_eq_true hst, Bool.true_and, decide_eq_true_eq]; exact Int32.not_le.mp c74
        have e : sumN (k + 1) (fun o => if askB S p o = true then 1 else 0) = sumN k (fun o => if askB S p o = true then 1 else 0) + 1 := by simp [sumN, hb]
        rw [← e]
        exact ih (k + 1) f _ (by omega) (by omega)
  have key : ∀ (n k : Nat) (f : Nat → Int32) (o : Option Value), k ≤ np S → np S < k + n → AW X 0 0 4 [some (.ref (w.1 + 161)), some (.int (nI p)), some (.int (nI (sumN k (fun o => if askB S p o = true then 1 else 0)))), some (.int (nI k)), o] [] G (va_up I 172 f) L := by
    intro n
    induction n with
    | zero => intro k f o h1 h2; exact absurd h2 (by omega)
    | succ n ih =>
      intro k f o h1 h2
      have hE2 : va_up I 172 f 171 = S := hE
      refine aw_iload3 h dX4_askersOf_4 ?_
      refine aw_aload0 h dX4_askersOf_5 ?_
      refine aw_getr h fl_X4_39 (gmt hG) dX4_askersOf_6 rfl (gmp20 hG) ?_
      refine aw_iconst h _ ci_2 dX4_askersOf_9 ?_
      refine aw_ialdV h (gms171 hG) (by decide) (by omega) dX4_askersOf_10 (iv2e hE2 hS) ?_
      refine aw_icmp_geN h (tgt := 90) (by have := iv2b hS; omega) (by have := iv2b hS; omega) dX4_askersOf_11 (by decide) (fun c11 => ?_) (fun c11 => ?_)
      · refine aw_iload2 h dX4_askersOf_90 ?_
        exact aw_iret h hr dX4_askersOf_91 (⟨by rw [show k = np S by omega]; rfl, rfl, rfl, f, rfl⟩) (Nat.zero_le _) (Nat.zero_le _)
      · refine aw_iload3 h dX4_askersOf_14 ?_
        refine aw_iload1 h dX4_askersOf_15 ?_
        refine aw_icmp_eqN h (tgt := 37) (by have := iv2b hS; omega) (by have := iv2b hS; omega) dX4_askersOf_16 (by decide) (fun c16 => ?_) (fun c16 => ?_)
        · refine aw_iconst h _ ci_0 dX4_askersOf_37 ?_
          exact keyN f k (by omega) h2 (by simp [askB, c16]) ih
        · refine aw_aload0 h dX4_askersOf_19 ?_
          refine aw_iload3 h dX4_askersOf_20 ?_
          refine aw_callVA1 h hl cl_X4_333 (met_m_stepOf hG hE2 hS (by omega)) (gmt hG) rfl dX4_askersOf_21 (Nat.le_of_ble_eq_true rfl) rfl (Nat.zero_le _) (Nat.zero_le _) (fun G1 I1 L1 hp => ?_)
          obtain ⟨rfl, rfl, f2, rfl, hf2⟩ := hp
          rw [vup_vup]
          have hE3 : va_up I 172 f2 171 = S := hE
          refine aw_aload0 h dX4_askersOf_24 ?_
          refine aw_iload1 h dX4_askersOf_25 ?_
          refine aw_iconst h _ ci_0 dX4_askersOf_26 ?_
          refine aw_callVE2 h hl cl_X4_279 (met_m_personOf hG hE3 (by have := iv2b hS; omega)) (gmt hG) rfl dX4_askersOf_27 (Nat.le_of_ble_eq_true rfl) rfl (Nat.zero_le _) (Nat.zero_le _) ?_
          rw [(ivp hS hp).1]
          refine aw_icmp_ne h (tgt := 37) dX4_askersOf_30 (by decide) (fun c30 => ?_) (fun c30 => ?_)
          · refine aw_iconst h _ ci_0 dX4_askersOf_37 ?_
            exact keyN f2 k (by omega) h2 (by simp [askB, c30]) ih
          · refine aw_iconst h _ ci_1 dX4_askersOf_33 ?_
            refine aw_goto h (tgt := 38) dX4_askersOf_34 (by decide) ?_
            exact keyS f2 k (by omega) h2 c16 c30 ih
  have hI : I = va_up I 172 (I 172) := (vup_id I 172).symm
  rw [hI]
  refine aw_iconst h _ ci_0 dX4_askersOf_0 ?_
  refine aw_istore2 h rfl dX4_askersOf_1 ?_
  refine aw_iconst h _ ci_0 dX4_askersOf_2 ?_
  refine aw_istore3 h rfl dX4_askersOf_3 ?_
  exact key (np S + 1) 0 (I 172) _ (Nat.zero_le _) (by omega)
theorem met_m_summedBy {w : Wd} {G : Gm} {I : Im} {L : Lm} (hG : GM G) {rl : Nat} {cl : List Cl} (hrl : rl < 6) (hR : RuleAt I rl cl) : AMet w yX4_summedBy cX4_summedBy 4 (some .long) 3 94 0 0 [.ref (w.1 + 161), .int (nI rl)] G I L (Ans (some (.long (goesV (L 170) cl))) (PR G I L)) := by
  refine AMet.of (ls0 := [some (.ref (w.1 + 161)), some (.int (nI rl)), none, none]) rfl (Nat.le_of_ble_eq_true rfl) rfl (fun q hq => hq) (fun X h hl hr hi => ?_)
  have key : ∀ (n c : Nat) (t : Int32) (f : Nat → Int64) (o : Option Value), c ≤ cl.length → cl.length < c + n → goesV (L 170) (cl.drop c) = goesV (L 170) cl → AW X 0 0 2 [some (.ref (w.1 + 161)), some (.int (nI rl)), some (.int (nI c)), o] [] G (upd2 I 161 18 t) (va_up L 169 f) := by
    intro n
    induction n with
    | zero => intro c t f o h1 h2; exact absurd h2 (by omega)
    | succ n ih =>
      intro c t f o h1 h2 hgo
      refine aw_iload2 h dX4_summedBy_2 ?_
      refine aw_aload0 h dX4_summedBy_3 ?_
      refine aw_getr h fl_X4_23 (gmt hG) dX4_summedBy_4 rfl (gmp6 hG) ?_
      refine aw_iload1 h dX4_summedBy_7 ?_
      refine aw_ialdV h (gms166 hG) (by decide) (by omega) dX4_summedBy_8 (hR.2.1) ?_
      refine aw_icmp_geN h (tgt := 84) (by have := hR.1; omega) (by have := hR.1; omega) dX4_summedBy_9 (by decide) (fun c9 => ?_) (fun c9 => ?_)
      · refine aw_lconst h _ cl_0 dX4_summedBy_84 ?_
        exact aw_lret h hr dX4_summedBy_85 (⟨by rw [← hgo, List.drop_of_length_le (by omega)]; rfl, rfl, ⟨_, rfl⟩, _, rfl⟩) (Nat.zero_le _) (Nat.zero_le _)
      · have hlt : c < cl.length := by omega
        have hl12 := hR.1
        have hcl := hR.2.2 c hlt
        rw [drop_getD ([], none) hlt] at hgo
        generalize cl.getD c ([], none) = q at hcl hgo
        obtain ⟨q1, q2⟩ := q
        obtain ⟨b, e, hb, he, hbe, he4, hC, hok, hw⟩ := hcl
        cases q2 with
        | none =>
          have hgo2 : valR (L 170) q1 = goesV (L 170) cl := by rw [← hgo]; simp [goesV, holdsV]
          have hw : I 165 (48 * rl + 4 * c + 2) = -1 := hw
          refine aw_bipush h _ cb_48 dX4_summedBy_12 ?_
          refine aw_iload1 h dX4_summedBy_14 ?_
          refine aw_imulN h dX4_summedBy_15 ?_
          refine aw_iconst h _ ci_4 dX4_summedBy_16 ?_
          refine aw_iload2 h dX4_summedBy_17 ?_
          refine aw_imulN h dX4_summedBy_18 ?_
          refine aw_iaddN h dX4_summedBy_19 ?_
          refine aw_istore3 h rfl dX4_summedBy_20 ?_
          refine aw_aload0 h dX4_summedBy_21 ?_
          refine aw_getr h fl_X4_20 (gmt hG) dX4_summedBy_22 rfl (gmp5 hG) ?_
          refine aw_iload3 h dX4_summedBy_25 ?_
          refine aw_iconst h _ ci_2 dX4_summedBy_26 ?_
          refine aw_iaddN h dX4_summedBy_27 ?_
          refine aw_ialdV h (gms165 hG) (by decide) (by omega) dX4_summedBy_28 (hw) ?_
          refine aw_if_lt h (tgt := 58) dX4_summedBy_29 (by decide) (fun c29 => ?_) (fun c29 => ?_)
          · refine aw_aload0 h dX4_summedBy_58 ?_
            refine aw_iload1 h dX4_summedBy_59 ?_
            refine aw_aload0 h dX4_summedBy_60 ?_
            refine aw_getr h fl_X4_20 (gmt hG) dX4_summedBy_61 rfl (gmp5 hG) ?_
            refine aw_iload3 h dX4_summedBy_64 ?_
            refine aw_ialdV h (gms165 hG) (by decide) (by omega) dX4_summedBy_65 (hb) ?_
            refine aw_aload0 h dX4_summedBy_66 ?_
            refine aw_getr h fl_X4_20 (gmt hG) dX4_summedBy_67 rfl (gmp5 hG) ?_
            refine aw_iload3 h dX4_summedBy_70 ?_
            refine aw_iconst h _ ci_1 dX4_summedBy_71 ?_
            refine aw_iaddN h dX4_summedBy_72 ?_
            refine aw_ialdV h (gms165 hG) (by decide) (by omega) dX4_summedBy_73 (he) ?_
            refine aw_callVA3 h hl cl_X4_358 (met_m_reckons hG hrl hbe he4 hC hok) (gmt hG) rfl dX4_summedBy_74 (Nat.le_of_ble_eq_true rfl) rfl (Nat.zero_le _) (Nat.zero_le _) (fun G1 I1 L1 hp => ?_)
            obtain ⟨rfl, ⟨t2, rfl⟩, f2, rfl⟩ := hp
            rw [upd2_upd2, vup_vup]
            exact aw_lret h hr dX4_summedBy_77 (⟨by rw [← hgo2]; rfl, rfl, ⟨_, rfl⟩, _, rfl⟩) (Nat.zero_le _) (Nat.zero_le _)
          · exact absurd (show (-1 : Int32) < 0 by decide) c29
        | some tc =>
          obtain ⟨b2, e2, hb2, he2, hbe2, he42, hC2, hok2⟩ := hw
          refine aw_bipush h _ cb_48 dX4_summedBy_12 ?_
          refine aw_iload1 h dX4_summedBy_14 ?_
          refine aw_imulN h dX4_summedBy_15 ?_
          refine aw_iconst h _ ci_4 dX4_summedBy_16 ?_
          refine aw_iload2 h dX4_summedBy_17 ?_
          refine aw_imulN h dX4_summedBy_18 ?_
          refine aw_iaddN h dX4_summedBy_19 ?_
          refine aw_istore3 h rfl dX4_summedBy_20 ?_
          refine aw_aload0 h dX4_summedBy_21 ?_
          refine aw_getr h fl_X4_20 (gmt hG) dX4_summedBy_22 rfl (gmp5 hG) ?_
          refine aw_iload3 h dX4_summedBy_25 ?_
          refine aw_iconst h _ ci_2 dX4_summedBy_26 ?_
          refine aw_iaddN h dX4_summedBy_27 ?_
          refine aw_ialdV h (gms165 hG) (by decide) (by omega) dX4_summedBy_28 (hb2) ?_
          refine aw_if_ltN h (tgt := 58) (by omega) dX4_summedBy_29 (by decide) (fun c29 => ?_) (fun c29 => ?_)
          · exact absurd c29 (by omega)
          · refine aw_aload0 h dX4_summedBy_32 ?_
            refine aw_iload1 h dX4_summedBy_33 ?_
            refine aw_aload0 h dX4_summedBy_34 ?_
            refine aw_getr h fl_X4_20 (gmt hG) dX4_summedBy_35 rfl (gmp5 hG) ?_
            refine aw_iload3 h dX4_summedBy_38 ?_
            refine aw_iconst h _ ci_2 dX4_summedBy_39 ?_
            refine aw_iaddN h dX4_summedBy_40 ?_
            refine aw_ialdV h (gms165 hG) (by decide) (by omega) dX4_summedBy_41 (hb2) ?_
            refine aw_aload0 h dX4_summedBy_42 ?_
            refine aw_getr h fl_X4_20 (gmt hG) dX4_summedBy_43 rfl (gmp5 hG) ?_
            refine aw_iload3 h dX4_summedBy_46 ?_
            refine aw_iconst h _ ci_3 dX4_summedBy_47 ?_
            refine aw_iaddN h dX4_summedBy_48 ?_
            refine aw_ialdV h (gms165 hG) (by decide) (by omega) dX4_summedBy_49 (he2) ?_
            refine aw_callVA3 h hl cl_X4_358 (met_m_reckons hG hrl hbe2 he42 hC2 hok2) (gmt hG) rfl dX4_summedBy_50 (Nat.le_of_ble_eq_true rfl) rfl (Nat.zero_le _) (Nat.zero_le _) (fun G1 I1 L1 hp => ?_)
            obtain ⟨rfl, ⟨t2, rfl⟩, f2, rfl⟩ := hp
            rw [upd2_upd2, vup_vup]
            refine aw_lconst h _ cl_1 dX4_summedBy_53 ?_
            refine aw_lcmp_ne h (tgt := 78) dX4_summedBy_54 dX4_summedBy_55 (by decide) (fun c54 => ?_) (fun c54 => ?_)
            · refine aw_iincN2 h rfl dX4_summedBy_78 ?_
              refine aw_goto h (tgt := 2) dX4_summedBy_81 (by decide) ?_
              exact ih (c + 1) t2 f2 _ (by omega) (by omega) ((goes_skip (show holdsV (L 170) (q1, some tc) = false from decide_eq_false c54)).symm.trans hgo)
            · refine aw_aload0 h dX4_summedBy_58 ?_
              refine aw_iload1 h dX4_summedBy_59 ?_
              refine aw_aload0 h dX4_summedBy_60 ?_
              refine aw_getr h fl_X4_20 (gmt hG) dX4_summedBy_61 rfl (gmp5 hG) ?_
              refine aw_iload3 h dX4_summedBy_64 ?_
              refine aw_ialdV h (gms165 hG) (by decide) (by omega) dX4_summedBy_65 (hb) ?_
              refine aw_aload0 h dX4_summedBy_66 ?_
              refine aw_getr h fl_X4_20 (gmt hG) dX4_summedBy_67 rfl (gmp5 hG) ?_
              refine aw_iload3 h dX4_summedBy_70 ?_
              refine aw_iconst h _ ci_1 dX4_summedBy_71 ?_
              refine aw_iaddN h dX4_summedBy_72 ?_
              refine aw_ialdV h (gms165 hG) (by decide) (by omega) dX4_summedBy_73 (he) ?_
              refine aw_callVA3 h hl cl_X4_358 (met_m_reckons hG hrl hbe he4 hC hok) (gmt hG) rfl dX4_summedBy_74 (Nat.le_of_ble_eq_true rfl) rfl (Nat.zero_le _) (Nat.zero_le _) (fun G1 I1 L1 hp => ?_)
              obtain ⟨rfl, ⟨t3, rfl⟩, f3, rfl⟩ := hp
              rw [upd2_upd2, vup_vup]
              exact aw_lret h hr dX4_summedBy_77 (⟨by rw [← hgo, goes_hit (show holdsV (L 170) (q1, some tc) = true from decide_eq_true c54)]; rfl, rfl, ⟨_, rfl⟩, _, rfl⟩) (Nat.zero_le _) (Nat.zero_le _)
  have hI : I = upd2 I 161 18 (I 161 18) := (upd2_id I 161 18 rfl).symm
  have hL : L = va_up L 169 (L 169) := (vup_id L 169).symm
  rw [hI, hL]
  refine aw_iconst h _ ci_0 dX4_summedBy_0 ?_
  refine aw_istore2 h rfl dX4_summedBy_1 ?_
  exact key (cl.length + 1) 0 _ _ _ (Nat.zero_le _) (by omega) rfl
/-- the words laid -/
def PWd (S : Nat → Int32) (p : Nat) (G : Gm) (I : Im) (L : Lm) : Gm → Im → Lm → Prop := fun G1 I1 L1 => G = G1 ∧ (∃ f : Nat → Int32, va_up I 172 f = I1) ∧ ∃ g : Nat → Int64, va_up L 170 g = L1 ∧ ∀ j, j < 12 → g j = wordsV S p j
theorem words12 {S : Nat → Int32} {p : Nat} {g : Nat → Int64} (h0 : g 0 = wordsV S p 0) (h1 : g 1 = wordsV S p 1) (h2 : g 2 = wordsV S p 2) (h3 : g 3 = wordsV S p 3) (h4 : g 4 = wordsV S p 4) (h5 : g 5 = wordsV S p 5) (h6 : g 6 = wordsV S p 6) (h7 : g 7 = wordsV S p 7) (h8 : g 8 = wordsV S p 8) (h9 : g 9 = wordsV S p 9) (h10 : g 10 = wordsV S p 10) (h11 : g 11 = wordsV S p 11) : ∀ j, j < 12 → g j = wordsV S p j := by
  intro j hj
  rcases (by omega : j = 0 ∨ j = 1 ∨ j = 2 ∨ j = 3 ∨ j = 4 ∨ j = 5 ∨ j = 6 ∨ j = 7 ∨ j = 8 ∨ j = 9 ∨ j = 10 ∨ j = 11) with rfl | rfl | rfl | rfl | rfl | rfl | rfl | rfl | rfl | rfl | rfl | rfl <;> assumption
theorem hereLe (S : Nat → Int32) (p : Nat) : hereV S p ≤ np S := by
  have := sumN_le (n := np S) (b := 1) (f := fun q => if (decide (¬ q = p) && decide (rm S q = rm S p)) = true then 1 else 0) (fun q _ => by split <;> omega)
  unfold hereV; omega
theorem askLe (S : Nat → Int32) (p : Nat) : askV S p ≤ np S := by
  have := sumN_le (n := np S) (b := 1) (f := fun o => if askB S p o = true then 1 else 0) (fun q _ => by split <;> omega)
  unfold askV; omega
theorem met_m_words {w : Wd} {G : Gm} {I : Im} {L : Lm} (hG : GM G) {S : Nat → Int32} (hE : I 171 = S) (hS : InvS S) {p : Nat} (hp : p < np S) : AMet w yX4_words cX4_words 3 none 8 200 0 0 [.ref (w.1 + 161), .int (nI p)] G I L (Ans none (PWd S p G I L)) := by
  refine AMet.of (ls0 := [some (.ref (w.1 + 161)), some (.int (nI p)), none]) rfl (Nat.le_of_ble_eq_true rfl) rfl (fun q hq => hq) (fun X h hl hr hi => ?_)
  refine aw_aload0 h dX4_words_0 ?_
  refine aw_iload1 h dX4_words_1 ?_
  refine aw_iconst h _ ci_0 dX4_words_2 ?_
  refine aw_callVE2 h hl cl_X4_279 (met_m_personOf hG hE (by have := iv2b hS; omega)) (gmt hG) rfl dX4_words_3 (Nat.le_of_ble_eq_true rfl) rfl (Nat.zero_le _) (Nat.zero_le _) ?_
  rw [(ivp hS hp).1]
  refine aw_istore2 h rfl dX4_words_6 ?_
  refine aw_aload0 h dX4_words_7 ?_
  refine aw_getr h fl_X4_36 (gmt hG) dX4_words_8 rfl (gmp19 hG) ?_
  refine aw_iconst h _ ci_0 dX4_words_11 ?_
  refine aw_iload1 h dX4_words_12 ?_
  refine aw_i2lN h (by have := iv2b hS; omega) dX4_words_13 ?_
  refine aw_lastN h (gms170 hG) (by decide) (by omega) dX4_words_14 ?_
  rw [upd2_self]
  refine aw_aload0 h dX4_words_15 ?_
  refine aw_getr h fl_X4_36 (gmt hG) dX4_words_16 rfl (gmp19 hG) ?_
  refine aw_iconst h _ ci_1 dX4_words_19 ?_
  refine aw_iload2 h dX4_words_20 ?_
  refine aw_i2lN h (by have := (ivp hS hp).2.1; have := iv0b hS; omega) dX4_words_21 ?_
  refine aw_lastN h (gms170 hG) (by decide) (by omega) dX4_words_22 ?_
  rw [upd2_vup]
  refine aw_aload0 h dX4_words_23 ?_
  refine aw_getr h fl_X4_36 (gmt hG) dX4_words_24 rfl (gmp19 hG) ?_
  refine aw_iconst h _ ci_2 dX4_words_27 ?_
  refine aw_aload0 h dX4_words_28 ?_
  refine aw_getr h fl_X4_39 (gmt hG) dX4_words_29 rfl (gmp20 hG) ?_
  refine aw_bipush h _ cb_34 dX4_words_32 ?_
  refine aw_iload2 h dX4_words_34 ?_
  refine aw_iaddN h dX4_words_35 ?_
  refine aw_ialdV h (gms171 hG) (by decide) (by have := (ivp hS hp).2.1; have := iv0b hS; omega) dX4_words_36 (congrFun hE _) ?_
  refine aw_i2l h dX4_words_37 ?_
  refine aw_lastN h (gms170 hG) (by decide) (by omega) dX4_words_38 ?_
  rw [upd2_vup]
  refine aw_aload0 h dX4_words_39 ?_
  refine aw_getr h fl_X4_36 (gmt hG) dX4_words_40 rfl (gmp19 hG) ?_
  refine aw_iconst h _ ci_3 dX4_words_43 ?_
  refine aw_aload0 h dX4_words_44 ?_
  refine aw_iload1 h dX4_words_45 ?_
  refine aw_iconst h _ ci_1 dX4_words_46 ?_
  refine aw_callVE2 h hl cl_X4_279 (met_m_personOf hG hE (by have := iv2b hS; omega)) (gmt hG) rfl dX4_words_47 (Nat.le_of_ble_eq_true rfl) rfl (Nat.zero_le _) (Nat.zero_le _) ?_
  rw [(ivp hS hp).2.2.1]
  refine aw_i2lN h (by have := (ivp hS hp).2.2.2; have := iv0b hS; omega) dX4_words_50 ?_
  refine aw_lastN h (gms170 hG) (by decide) (by omega) dX4_words_51 ?_
  rw [upd2_vup]
  refine aw_aload0 h dX4_words_52 ?_
  refine aw_getr h fl_X4_36 (gmt hG) dX4_words_53 rfl (gmp19 hG) ?_
  refine aw_iconst h _ ci_4 dX4_words_56 ?_
  refine aw_aload0 h dX4_words_57 ?_
  refine aw_iload1 h dX4_words_58 ?_
  refine aw_callVA1 h hl cl_X4_319 (met_m_leftOf hG hE hS (by omega)) (gmt hG) rfl dX4_words_59 (Nat.le_of_ble_eq_true rfl) rfl (Nat.zero_le _) (Nat.zero_le _) (fun G1 I1 L1 hp => ?_)
  obtain ⟨rfl, rfl, f, rfl, hf⟩ := hp
  have hE2 : va_up I 172 f 171 = S := hE
  refine aw_i2lN h (by have := dist_le S (gl S p) (rm S p); omega) dX4_words_62 ?_
  refine aw_lastN h (gms170 hG) (by decide) (by omega) dX4_words_63 ?_
  rw [upd2_vup]
  refine aw_aload0 h dX4_words_64 ?_
  refine aw_getr h fl_X4_36 (gmt hG) dX4_words_65 rfl (gmp19 hG) ?_
  refine aw_iconst h _ ci_5 dX4_words_68 ?_
  refine aw_aload0 h dX4_words_69 ?_
  refine aw_iload1 h dX4_words_70 ?_
  refine aw_iconst h _ ci_2 dX4_words_71 ?_
  refine aw_callVE2 h hl cl_X4_279 (met_m_personOf hG hE2 (by have := iv2b hS; omega)) (gmt hG) rfl dX4_words_72 (Nat.le_of_ble_eq_true rfl) rfl (Nat.zero_le _) (Nat.zero_le _) ?_
  refine aw_i2l h dX4_words_75 ?_
  refine aw_lastN h (gms170 hG) (by decide) (by omega) dX4_words_76 ?_
  rw [upd2_vup]
  refine aw_aload0 h dX4_words_77 ?_
  refine aw_getr h fl_X4_36 (gmt hG) dX4_words_78 rfl (gmp19 hG) ?_
  refine aw_bipush h _ cb_6 dX4_words_81 ?_
  refine aw_aload0 h dX4_words_83 ?_
  refine aw_getr h fl_X4_39 (gmt hG) dX4_words_84 rfl (gmp20 hG) ?_
  refine aw_iconst h _ ci_3 dX4_words_87 ?_
  refine aw_ialdV h (gms171 hG) (by decide) (by omega) dX4_words_88 (congrFun hE2 _) ?_
  refine aw_i2l h dX4_words_89 ?_
  refine aw_lastN h (gms170 hG) (by decide) (by omega) dX4_words_90 ?_
  rw [upd2_vup]
  refine aw_aload0 h dX4_words_91 ?_
  refine aw_getr h fl_X4_36 (gmt hG) dX4_words_92 rfl (gmp19 hG) ?_
  refine aw_bipush h _ cb_7 dX4_words_95 ?_
  refine aw_aload0 h dX4_words_97 ?_
  refine aw_callVE0 h hl cl_X4_307 (met_m_isNight hG hE2) (gmt hG) rfl dX4_words_98 (Nat.le_of_ble_eq_true rfl) rfl (Nat.zero_le _) (Nat.zero_le _) ?_
  refine aw_if_eqB h (tgt := 108) dX4_words_101 (by decide) (fun c101 => ?_) (fun c101 => ?_)
  · refine aw_lconst h _ cl_0 dX4_words_108 ?_
    refine aw_lastN h (gms170 hG) (by decide) (by omega) dX4_words_109 ?_
    rw [upd2_vup]
    refine aw_aload0 h dX4_words_110 ?_
    refine aw_getr h fl_X4_36 (gmt hG) dX4_words_111 rfl (gmp19 hG) ?_
    refine aw_bipush h _ cb_8 dX4_words_114 ?_
    refine aw_aload0 h dX4_words_116 ?_
    refine aw_iload2 h dX4_words_117 ?_
    refine aw_callVE1 h hl cl_X4_341 (met_m_peopleIn hG hE2 hS (ivp hS hp).2.1) (gmt hG) rfl dX4_words_118 (Nat.le_of_ble_eq_true rfl) rfl (Nat.zero_le _) (Nat.zero_le _) ?_
    refine aw_iconst h _ ci_1 dX4_words_121 ?_
    refine aw_iload1 h dX4_words_122 ?_
    refine aw_ishl h dX4_words_123 ?_
    rw [bs_shl1 (by have := iv2b hS; omega)]
    refine aw_iconst h _ ci_m1 dX4_words_124 ?_
    refine aw_ixor h dX4_words_125 ?_
    refine aw_iand h dX4_words_126 ?_
    rw [bs_not _ _ (by have := msk_lt (np S) (fun q => rm S q == rm S p); have h2 : (2:Nat) ^ np S ≤ 2 ^ 4 := Nat.pow_le_pow_right (by decide) (iv2b hS); unfold pinN; omega)]
    refine aw_callSE1 h hl cl_X4_352 (met_m_bits (here_popc hp (iv2b hS)).1) dX4_words_127 (Nat.le_of_ble_eq_true rfl) rfl (Nat.zero_le _) (Nat.zero_le _) ?_
    rw [(here_popc hp (iv2b hS)).2]
    refine aw_i2lN h (by have := hereLe S p; have := iv2b hS; omega) dX4_words_130 ?_
    refine aw_lastN h (gms170 hG) (by decide) (by omega) dX4_words_131 ?_
    rw [upd2_vup]
    refine aw_aload0 h dX4_words_132 ?_
    refine aw_getr h fl_X4_36 (gmt hG) dX4_words_133 rfl (gmp19 hG) ?_
    refine aw_bipush h _ cb_9 dX4_words_136 ?_
    refine aw_aload0 h dX4_words_138 ?_
    refine aw_iload1 h dX4_words_139 ?_
    refine aw_iconst h _ ci_3 dX4_words_140 ?_
    refine aw_callVE2 h hl cl_X4_279 (met_m_personOf hG hE2 (by have := iv2b hS; omega)) (gmt hG) rfl dX4_words_141 (Nat.le_of_ble_eq_true rfl) rfl (Nat.zero_le _) (Nat.zero_le _) ?_
    refine aw_i2l h dX4_words_144 ?_
    refine aw_lastN h (gms170 hG) (by decide) (by omega) dX4_words_145 ?_
    rw [upd2_vup]
    refine aw_aload0 h dX4_words_146 ?_
    refine aw_getr h fl_X4_36 (gmt hG) dX4_words_147 rfl (gmp19 hG) ?_
    refine aw_bipush h _ cb_10 dX4_words_150 ?_
    refine aw_aload0 h dX4_words_152 ?_
    refine aw_iload1 h dX4_words_153 ?_
    refine aw_iconst h _ ci_4 dX4_words_154 ?_
    refine aw_callVE2 h hl cl_X4_279 (met_m_personOf hG hE2 (by have := iv2b hS; omega)) (gmt hG) rfl dX4_words_155 (Nat.le_of_ble_eq_true rfl) rfl (Nat.zero_le _) (Nat.zero_le _) ?_
    refine aw_i2l h dX4_words_158 ?_
    refine aw_lastN h (gms170 hG) (by decide) (by omega) dX4_words_159 ?_
    rw [upd2_vup]
    refine aw_aload0 h dX4_words_160 ?_
    refine aw_getr h fl_X4_36 (gmt hG) dX4_words_161 rfl (gmp19 hG) ?_
    refine aw_bipush h _ cb_11 dX4_words_164 ?_
    refine aw_aload0 h dX4_words_166 ?_
    refine aw_iload1 h dX4_words_167 ?_
    refine aw_callVA1 h hl cl_X4_355 (met_m_askersOf hG hE2 hS hp) (gmt hG) rfl dX4_words_168 (Nat.le_of_ble_eq_true rfl) rfl (Nat.zero_le _) (Nat.zero_le _) (fun G1 I1 L1 hp1 => ?_)
    obtain ⟨rfl, rfl, f2, rfl⟩ := hp1
    rw [vup_vup]
    refine aw_i2lN h (by have := askLe S p; have := iv2b hS; omega) dX4_words_171 ?_
    refine aw_lastN h (gms170 hG) (by decide) (by omega) dX4_words_172 ?_
    rw [upd2_vup]
    exact aw_vret h hr dX4_words_173 (⟨rfl, rfl, ⟨_, rfl⟩, _, rfl, words12 rfl rfl rfl rfl rfl rfl rfl (by simp [va_up, wordsV, c101]) rfl rfl rfl rfl⟩) (Nat.zero_le _) (Nat.zero_le _)
  · refine aw_lconst h _ cl_1 dX4_words_104 ?_
    refine aw_goto h (tgt := 109) dX4_words_105 (by decide) ?_
    refine aw_lastN h (gms170 hG) (by decide) (by omega) dX4_words_109 ?_
    rw [upd2_vup]
    refine aw_aload0 h dX4_words_110 ?_
    refine aw_getr h fl_X4_36 (gmt hG) dX4_words_111 rfl (gmp19 hG) ?_
    refine aw_bipush h _ cb_8 dX4_words_114 ?_
    refine aw_aload0 h dX4_words_116 ?_
    refine aw_iload2 h dX4_words_117 ?_
    refine aw_callVE1 h hl cl_X4_341 (met_m_peopleIn hG hE2 hS (ivp hS hp).2.1) (gmt hG) rfl dX4_words_118 (Nat.le_of_ble_eq_true rfl) rfl (Nat.zero_le _) (Nat.zero_le _) ?_
    refine aw_iconst h _ ci_1 dX4_words_121 ?_
    refine aw_iload1 h dX4_words_122 ?_
    refine aw_ishl h dX4_words_123 ?_
    rw [bs_shl1 (by have := iv2b hS; omega)]
    refine aw_iconst h _ ci_m1 dX4_words_124 ?_
    refine aw_ixor h dX4_words_125 ?_
    refine aw_iand h dX4_words_126 ?_
    rw [bs_not _ _ (by have := msk_lt (np S) (fun q => rm S q == rm S p); have h2 : (2:Nat) ^ np S ≤ 2 ^ 4 := Nat.pow_le_pow_right (by decide) (iv2b hS); unfold pinN; omega)]
    refine aw_callSE1 h hl cl_X4_352 (met_m_bits (here_popc hp (iv2b hS)).1) dX4_words_127 (Nat.le_of_ble_eq_true rfl) rfl (Nat.zero_le _) (Nat.zero_le _) ?_
    rw [(here_popc hp (iv2b hS)).2]
    refine aw_i2lN h (by have := hereLe S p; have := iv2b hS; omega) dX4_words_130 ?_
    refine aw_lastN h (gms170 hG) (by decide) (by omega) dX4_words_131 ?_
    rw [upd2_vup]
    refine aw_aload0 h dX4_words_132 ?_
    refine aw_getr h fl_X4_36 (gmt hG) dX4_words_133 rfl (gmp19 hG) ?_
    refine aw_bipush h _ cb_9 dX4_words_136 ?_
    refine aw_aload0 h dX4_words_138 ?_
    refine aw_iload1 h dX4_words_139 ?_
    refine aw_iconst h _ ci_3 dX4_words_140 ?_
    refine aw_callVE2 h hl cl_X4_279 (met_m_personOf hG hE2 (by have := iv2b hS; omega)) (gmt hG) rfl dX4_words_141 (Nat.le_of_ble_eq_true rfl) rfl (Nat.zero_le _) (Nat.zero_le _) ?_
    refine aw_i2l h dX4_words_144 ?_
    refine aw_lastN h (gms170 hG) (by decide) (by omega) dX4_words_145 ?_
    rw [upd2_vup]
    refine aw_aload0 h dX4_words_146 ?_
    refine aw_getr h fl_X4_36 (gmt hG) dX4_words_147 rfl (gmp19 hG) ?_
    refine aw_bipush h _ cb_10 dX4_words_150 ?_
    refine aw_aload0 h dX4_words_152 ?_
    refine aw_iload1 h dX4_words_153 ?_
    refine aw_iconst h _ ci_4 dX4_words_154 ?_
    refine aw_callVE2 h hl cl_X4_279 (met_m_personOf hG hE2 (by have := iv2b hS; omega)) (gmt hG) rfl dX4_words_155 (Nat.le_of_ble_eq_true rfl) rfl (Nat.zero_le _) (Nat.zero_le _) ?_
    refine aw_i2l h dX4_words_158 ?_
    refine aw_lastN h (gms170 hG) (by decide) (by omega) dX4_words_159 ?_
    rw [upd2_vup]
    refine aw_aload0 h dX4_words_160 ?_
    refine aw_getr h fl_X4_36 (gmt hG) dX4_words_161 rfl (gmp19 hG) ?_
    refine aw_bipush h _ cb_11 dX4_words_164 ?_
    refine aw_aload0 h dX4_words_166 ?_
    refine aw_iload1 h dX4_words_167 ?_
    refine aw_callVA1 h hl cl_X4_355 (met_m_askersOf hG hE2 hS hp) (gmt hG) rfl dX4_words_168 (Nat.le_of_ble_eq_true rfl) rfl (Nat.zero_le _) (Nat.zero_le _) (fun G1 I1 L1 hp1 => ?_)
    obtain ⟨rfl, rfl, f2, rfl⟩ := hp1
    rw [vup_vup]
    refine aw_i2lN h (by have := askLe S p; have := iv2b hS; omega) dX4_words_171 ?_
    refine aw_lastN h (gms170 hG) (by decide) (by omega) dX4_words_172 ?_
    rw [upd2_vup]
    exact aw_vret h hr dX4_words_173 (⟨rfl, rfl, ⟨_, rfl⟩, _, rfl, words12 rfl rfl rfl rfl rfl rfl rfl (by simp [va_up, wordsV, c101]) rfl rfl rfl rfl⟩) (Nat.zero_le _) (Nat.zero_le _)
