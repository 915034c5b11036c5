/-! The component: all who pass a door -/
set_option maxRecDepth 100000
/-- rows of people in a State's cells -/
def StR (I : Im) (s n : Nat) (R : Nat → Nat → Int32) : Prop := (∀ p, p < n → I (s + 1) p = R p 0 ∧ I (s + 2) p = R p 1 ∧ I (s + 3) p = R p 3 ∧ I (s + 4) p = R p 4 ∧ I (s + 5) p = R p 5) ∧ ∀ p, n ≤ p → p < 4 → I (s + 3) p = 0 ∧ I (s + 4) p = 0
section XN
variable (S : Nat → Int32) (fr : Option (List Cl))
/-- doors ahead of d are passed; at d those who go out ahead of a, those who come in ahead of b -/
def xnB (d a b q : Nat) : Bool := decide (0 ≤ willI S fr q) && (decide (wdn S fr q < d) || (decide (wdn S fr q = d) && (if outB S fr q = true then decide (q < a) else decide (q < b))))
def XN (d a b : Nat) : Nat → Nat → Int32 := fun q => if xnB S fr d a b q = true then newRow S fr q else pv S q
def comD (d q : Nat) : Bool := insB S fr d q && decide (cntB (insB S fr d) q < cntB (outsB S fr d) (np S))
end XN
section XN2
variable {S : Nat → Int32} {fr : Option (List Cl)}
theorem wd_d {d q : Nat} (hd : d < 100) (h : wdB S fr d q = true) : willI S fr q = nI d ∧ 0 ≤ willI S fr q ∧ wdn S fr q = d := by
  have h1 : willI S fr q = nI d := of_decide_eq_true h
  refine ⟨h1, by rw [h1]; exact nI_pos' (by omega), ?_⟩
  unfold wdn; rw [h1, nI_clamp (by omega)]
theorem wd_n {d q : Nat} (hS : InvS S) (h0 : 0 ≤ willI S fr q) (hw : wdn S fr q = d) : wdB S fr d q = true := by
  have := (wdn_of h0 hS).1
  unfold wdB
  rw [this, hw]; exact decide_eq_true rfl
theorem com_is {d q : Nat} (hS : InvS S) (hd : d < 100) : comD S fr d q = (comesB S fr q && wdB S fr d q) := by
  unfold comD comesB insB
  by_cases h : wdB S fr d q = true
  · have h2 := wd_d hd h
    have h3 : (willI S fr q).toNatClampNeg = d := h2.2.2
    rw [h, decide_eq_true h2.2.1, h3]
    simp only [Bool.true_and, Bool.and_true]
  · have h : wdB S fr d q = false := by simpa using h
    rw [h]; simp
theorem xn_same {d d' a b a' b' q : Nat} (h : xnB S fr d a b q = xnB S fr d' a' b' q) : XN S fr d a b q = XN S fr d' a' b' q := by unfold XN; rw [h]
theorem xn_pv {d a b q : Nat} (h : xnB S fr d a b q = false) : XN S fr d a b q = pv S q := by unfold XN; rw [h]; rfl
theorem xn_new {d a b q : Nat} (h : xnB S fr d a b q = true) : XN S fr d a b q = newRow S fr q := by unfold XN; rw [if_pos h]
/-- one more who goes out -/
theorem xn_out {d k b : Nat} (hd : d < 100) (h : outsB S fr d k = true) : XN S fr d (k + 1) b = va_up (XN S fr d k b) k (rowOut S k d) ∧ XN S fr d k b k = pv S k := by
  obtain ⟨h1, h2⟩ := (Bool.and_eq_true _ _).mp h
  obtain ⟨w1, w2, w3⟩ := wd_d hd h1
  refine ⟨funext fun q => ?_, xn_pv ?_⟩
  · by_cases e : q = k
    · subst e
      rw [vup_s, xn_new]
      · unfold newRow; rw [if_pos h2]; rw [show (willI S fr q).toNatClampNeg = d from w3]
      · unfold xnB; rw [decide_eq_true w2, w3, h2]; simp
    · rw [vup_n _ _ e]
      refine xn_same ?_
      unfold xnB
      rw [show decide (q < k + 1) = decide (q < k) from decide_eq_decide.mpr (by omega)]
  · unfold xnB; rw [w3, h2]; simp
theorem xn_skip {d k b : Nat} (hS : InvS S) (h : outsB S fr d k = false) : XN S fr d (k + 1) b = XN S fr d k b := by
  funext q
  refine xn_same ?_
  by_cases e : q = k
  · subst e
    unfold xnB
    by_cases h0 : 0 ≤ willI S fr q
    · by_cases hw : wdn S fr q = d
      · have h1 := wd_n hS h0 hw
        have h2 : outB S fr q = false := by unfold outsB at h; rw [h1] at h; simpa using h
        rw [h2]; rfl
      · rw [decide_eq_false hw]; simp
    · rw [decide_eq_false h0]; rfl
  · unfold xnB
    rw [show decide (q < k + 1) = decide (q < k) from decide_eq_decide.mpr (by omega)]
theorem xn_in {d a k : Nat} (hd : d < 100) (h : comD S fr d k = true) : XN S fr d a (k + 1) = va_up (XN S fr d a k) k (rowIn S k d (nthI (outsB S fr d) (np S) (cntB (insB S fr d) k))) ∧ XN S fr d a k k = pv S k := by
  obtain ⟨h1, h2⟩ := (Bool.and_eq_true _ _).mp h
  obtain ⟨h3, h4⟩ := (Bool.and_eq_true _ _).mp h1
  have h4 : outB S fr k = false := by simpa using h4
  obtain ⟨w1, w2, w3⟩ := wd_d hd h3
  have hc : comesB S fr k = true := by
    unfold comesB
    rw [h4, decide_eq_true w2, show (willI S fr k).toNatClampNeg = d from w3, h2]; rfl
  refine ⟨funext fun q => ?_, xn_pv ?_⟩
  · by_cases e : q = k
    · subst e
      rw [vup_s, xn_new]
      · unfold newRow; rw [if_neg (by rw [h4]; exact Bool.false_ne_true), if_pos hc, show (willI S fr q).toNatClampNeg = d from w3]
      · unfold xnB; rw [decide_eq_true w2, w3, h4]; simp
    · rw [vup_n _ _ e]
      refine xn_same ?_
      unfold xnB
      rw [show decide (q < k + 1) = decide (q < k) from decide_eq_decide.mpr (by omega)]
  · unfold xnB; rw [w3, h4]; simp
theorem xn_inskip {d a k : Nat} (hS : InvS S) (hd : d < 100) (h : comD S fr d k = false) : XN S fr d a (k + 1) = XN S fr d a k := by
  funext q
  by_cases e : q = k
  · subst e
    by_cases ho : outB S fr q = true
    · refine xn_same ?_
      unfold xnB; rw [if_pos ho, if_pos ho]
    · have ho : outB S fr q = false := by simpa using ho
      by_cases hx : (decide (0 ≤ willI S fr q) && decide (wdn S fr q = d)) = true
      · obtain ⟨h0', hw'⟩ := (Bool.and_eq_true _ _).mp hx
        have h0 := of_decide_eq_true h0'
        have hw := of_decide_eq_true hw'
        have h1 := wd_n hS h0 hw
        have hcm : comesB S fr q = false := by
          have h9 := com_is (fr := fr) hS hd (q := q)
          rw [h, h1, Bool.and_true] at h9
          exact h9.symm
        have hn : newRow S fr q = pv S q := by unfold newRow; rw [if_neg (by rw [ho]; exact Bool.false_ne_true), if_neg (by rw [hcm]; exact Bool.false_ne_true)]
        unfold XN
        split <;> split <;> first | rfl | exact hn | exact hn.symm
      · refine xn_same ?_
        unfold xnB
        by_cases h0 : 0 ≤ willI S fr q
        · have hw : ¬ wdn S fr q = d := fun z => hx (by rw [decide_eq_true h0, decide_eq_true z]; rfl)
          rw [decide_eq_false hw]; simp
        · rw [decide_eq_false h0]; rfl
  · refine xn_same ?_
    unfold xnB
    rw [show decide (q < k + 1) = decide (q < k) from decide_eq_decide.mpr (by omega)]
theorem com_cnt {d k : Nat} (h : cntB (insB S fr d) k ≤ cntB (outsB S fr d) (np S)) : cntB (comD S fr d) k = cntB (insB S fr d) k := by
  refine cntB_same (fun q hq => ?_)
  unfold comD
  by_cases hi : insB S fr d q = true
  · have := cntB_lt (insB S fr d) hq hi
    rw [hi, decide_eq_true (by omega)]; rfl
  · have hi : insB S fr d q = false := by simpa using hi
    rw [hi]; rfl
theorem com_full {d k q : Nat} (h : cntB (insB S fr d) k = cntB (outsB S fr d) (np S)) (hq : k ≤ q) : comD S fr d q = false := by
  unfold comD
  have := cntB_mono (insB S fr d) hq
  rw [decide_eq_false (by omega), Bool.and_false]
theorem com_rest {d k n : Nat} (h : cntB (insB S fr d) k = cntB (outsB S fr d) (np S)) (hn : k ≤ n) : cntB (comD S fr d) n = cntB (comD S fr d) k ∧ ∀ a, InvS S → d < 100 → XN S fr d a n = XN S fr d a k := by
  induction n with
  | zero => rw [show k = 0 by omega]; exact ⟨rfl, fun _ _ _ => rfl⟩
  | succ n ih =>
    by_cases e : k = n + 1
    · subst e; exact ⟨rfl, fun _ _ _ => rfl⟩
    · have h1 := ih (by omega)
      have h2 := com_full h (show k ≤ n by omega)
      exact ⟨by rw [cntB_s, h2, h1.1]; rfl, fun a hS hd => (xn_inskip hS hd h2).trans (h1.2 a hS hd)⟩
theorem xn_next {d : Nat} (hS : InvS S) (q : Nat) (hq : q < np S) : XN S fr d (np S) (np S) q = XN S fr (d + 1) 0 0 q := by
  refine xn_same ?_
  unfold xnB
  by_cases h0 : 0 ≤ willI S fr q
  · rw [decide_eq_true h0]
    by_cases hw : wdn S fr q = d
    · rw [decide_eq_true hw, decide_eq_true (show wdn S fr q < d + 1 by omega), decide_eq_true hq]; simp
    · rw [decide_eq_false hw, decide_eq_decide.mpr (show wdn S fr q < d + 1 ↔ wdn S fr q < d by omega)]
      by_cases h2 : wdn S fr q = d + 1
      · rw [decide_eq_true h2, decide_eq_false (show ¬ wdn S fr q < d by omega)]; simp
      · rw [decide_eq_false h2]; simp
  · rw [decide_eq_false h0]; rfl
end XN2
theorem StR.up {I : Im} {s n p : Nat} {R : Nat → Nat → Int32} {I1 : Im} (h : StR I s n R) {Rp : Nat → Int32} (hI : ∀ j, j < 5 → ∀ q, q ≠ p → I1 (s + 1 + j) q = I (s + 1 + j) q) (hp : I1 (s + 1) p = Rp 0 ∧ I1 (s + 2) p = Rp 1 ∧ I1 (s + 3) p = Rp 3 ∧ I1 (s + 4) p = Rp 4 ∧ I1 (s + 5) p = Rp 5) (hn : p < n) : StR I1 s n (va_up R p Rp) := by
  refine ⟨fun q hq => ?_, fun q hq h4 => ?_⟩
  · by_cases e : q = p
    · subst e; rw [vup_s]; exact hp
    · rw [vup_n _ _ e]
      have h1 := h.1 q hq
      exact ⟨(hI 0 (by decide) q e).trans h1.1, (hI 1 (by decide) q e).trans h1.2.1, (hI 2 (by decide) q e).trans h1.2.2.1, (hI 3 (by decide) q e).trans h1.2.2.2.1, (hI 4 (by decide) q e).trans h1.2.2.2.2⟩
  · have h1 := h.2 q hq h4
    exact ⟨(hI 2 (by decide) q (by omega)).trans h1.1, (hI 3 (by decide) q (by omega)).trans h1.2⟩
theorem StR.ix {I I1 : Im} {s n : Nat} {R : Nat → Nat → Int32} (h : StR I s n R) (he : ∀ j, j < 5 → I1 (s + 1 + j) = I (s + 1 + j)) : StR I1 s n R := by
  have e0 := he 0 (by decide)
  have e1 := he 1 (by decide)
  have e2 := he 2 (by decide)
  have e3 := he 3 (by decide)
  have e4 := he 4 (by decide)
  unfold StR
  rw [show s + 1 = s + 1 + 0 from rfl, e0, show s + 2 = s + 1 + 1 from rfl, e1, show s + 3 = s + 1 + 2 from rfl, e2, show s + 4 = s + 1 + 3 from rfl, e3, show s + 5 = s + 1 + 4 from rfl, e4]
  exact h
theorem StR.ext {I : Im} {s n : Nat} {R R2 : Nat → Nat → Int32} (h : StR I s n R) (he : ∀ q, q < n → R q = R2 q) : StR I s n R2 := ⟨fun q hq => by rw [← he q hq]; exact h.1 q hq, h.2⟩
def PSt (S : Nat → Int32) (fr : Option (List Cl)) (s d : Nat) (G : Gm) (I : Im) (L : Lm) : Gm → Im → Lm → Prop := fun G1 I1 L1 => G = G1 ∧ IX [31, s + 1, s + 2, s + 3, s + 4, s + 5] I L I1 L1 ∧ StR I1 s (np S) (XN S fr (d + 1) 0 0)
theorem met_x_passes {w : Wd} {G : Gm} {I : Im} {L : Lm} (hX : XG G) {sl : Nat → Prop} {K : CS} {c : Nat} {S : Nat → Int32} {t : Nat} (hV : XV sl G I K c S t) {s : Nat} (hs : StSh G s) (hs7 : s = 7 ∨ s = 13) {fr : Option (List Cl)} (hw : ∀ q, q < np S → I 29 q = willI S fr q) {d : Nat} (hdd : d < (kD K).length) (hR0 : StR I s (np S) (XN S fr d 0 0)) : AMet w yX0_passes cX0_passes 7 (some .int) 6 148 0 0 [.ref (w.1 + 0), .ref (w.1 + s), .int (nI d), .int (nI (mskN (np S) (outB S fr)))] G I L (Ans (some (.int (nI (cntB (outsB S fr d) (np S) + cntB (comD S fr d) (np S))))) (PSt S fr s d G I L)) := by
  refine AMet.of (ls0 := [some (.ref (w.1 + 0)), some (.ref (w.1 + s)), some (.int (nI d)), some (.int (nI (mskN (np S) (outB S fr)))), none, none, none]) rfl (Nat.le_of_ble_eq_true rfl) rfl (fun q hq => hq) (fun X h hl hr hi => ?_)
  obtain ⟨hC0, hS, hcs, ht, ht2, hdj⟩ := id hV
  have hC := hC0
  obtain ⟨hc0, ⟨pl, pa, dl, da, fa, ps, ds, hK, hsp⟩, hok, hsl⟩ := id hC
  obtain ⟨cp, hLp⟩ := hK.2.2.2.2.2.1
  obtain ⟨cd, hLd⟩ := hK.2.2.2.2.2.2.1
  have hpl := hK.2.2.2.2.2.2.2.1
  have hdl := hK.2.2.2.2.2.2.2.2.1
  have hdk := hK.2.2.2.2.2.2.2.2.2.2.1
  have hpk := hK.2.2.2.2.2.2.2.2.2.1
  have hrm := hK.2.2.2.2.2.2.2.2.2.2.2.1
  have hfr := hK.2.2.2.2.2.2.2.2.2.2.2.2.2
  have hR8 := hok.2.1
  have hD14 := hok.2.2.1
  have hP4 := hok.2.2.2.1
  have hdo := hok.2.2.2.2.1
  have hpo := hok.2.2.2.2.2.1
  have hf9 := hok.2.2.2.2.2.2.2
  have hn := cas_n hcs hok
  have hx := cas_d hcs hok hdd
  have hrng : s + 5 < 26 := by omega
  have key2 : ∀ (fu k : Nat) (I1 : Im) (L1 : Lm), k ≤ np S → np S < k + fu → IX [31, s + 1, s + 2, s + 3, s + 4, s + 5] I L I1 L1 → StR I1 s (np S) (XN S fr d (np S) k) → (∀ j, j < cntB (outsB S fr d) (np S) → I1 31 j = nthI (outsB S fr d) (np S) j) → cntB (insB S fr d) k ≤ cntB (outsB S fr d) (np S) → AW X 0 0 79 [some (.ref (w.1 + 0)), some (.ref (w.1 + s)), some (.int (nI d)), some (.int (nI (mskN (np S) (outB S fr)))), some (.int (nI (cntB (outsB S fr d) (np S)))), some (.int (nI (cntB (insB S fr d) k))), some (.int (nI k))] [] G I1 L1 := by
    intro fu
    induction fu with
    | zero => intro k I1 L1 hle hlt; exact absurd hlt (by omega)
    | succ fu ih =>
      intro k I1 L1 hle hlt hix hRo h31 hle2
      have hC := hC0.ix (hix.nm (fun m hm => by rcases hs7 with rfl | rfl <;> (revert m; decide)))
      obtain ⟨hc0, ⟨pl, pa, dl, da, fa, ps, ds, hK, hsp⟩, -, -⟩ := id hC
      obtain ⟨cp, hLp⟩ := hK.2.2.2.2.2.1
      have h29 : ∀ q, q < np S → I1 29 q = willI S fr q := fun q hq => (congrFun (hix 29 (by simp; omega)).1 q).trans (hw q hq)
      refine aw_iload6 h dX0_passes_79 ?_
      refine aw_aload0 h dX0_passes_81 ?_
      refine aw_getr h fl_X0_12 (gx0 hX) dX0_passes_82 rfl hc0 ?_
      refine aw_callVE0 h hl cl_X0_125 (met_x_many hK hok) hK.1 rfl dX0_passes_85 (Nat.le_of_ble_eq_true rfl) rfl (Nat.zero_le _) (Nat.zero_le _) ?_
      refine aw_icmp_geN h (tgt := 151) (by omega) (by omega) dX0_passes_88 (by decide) (fun c88 => ?_) (fun c88 => ?_)
      · refine aw_iload4 h dX0_passes_151 ?_
        refine aw_iload5 h dX0_passes_153 ?_
        refine aw_iaddN h dX0_passes_155 ?_
        refine aw_iret h hr dX0_passes_156 (?_) (Nat.zero_le _) (Nat.zero_le _)
        have hkk : k = np S := by omega
        subst hkk
        exact ⟨by rw [com_cnt hle2], rfl, hix, hRo.ext (fun q hq => xn_next hS q hq)⟩
      · have hkn : k < np S := by omega
        have hgo4 := msk_lt (np S) (outB S fr)
        have h24 : 2 ^ np S ≤ 2 ^ 4 := Nat.pow_le_pow_right (by decide) (by omega)
        have hicn := cntB_le (insB S fr d) k
        have hocn := cntB_le (outsB S fr d) (np S)
        refine aw_iload5 h dX0_passes_91 ?_
        refine aw_iload4 h dX0_passes_93 ?_
        refine aw_icmp_geN h (tgt := 151) (by have := cntB_le (insB S fr d) k; omega) (by have := cntB_le (outsB S fr d) (np S); omega) dX0_passes_95 (by decide) (fun c95 => ?_) (fun c95 => ?_)
        · refine aw_iload4 h dX0_passes_151 ?_
          refine aw_iload5 h dX0_passes_153 ?_
          refine aw_iaddN h dX0_passes_155 ?_
          refine aw_iret h hr dX0_passes_156 (?_) (Nat.zero_le _) (Nat.zero_le _)
          have hfu : cntB (insB S fr d) k = cntB (outsB S fr d) (np S) := by omega
          have hrs := com_rest hfu hle
          exact ⟨by rw [hrs.1, com_cnt hle2], rfl, hix, (by rw [← hrs.2 (np S) hS (by omega)] at hRo; exact hRo.ext (fun q hq => xn_next hS q hq))⟩
        · refine aw_iload3 h dX0_passes_98 ?_
          refine aw_iload6 h dX0_passes_99 ?_
          refine aw_callSE2 h hl cl_X0_213 (met_x_has (m := mskN (np S) (outB S fr)) (k := k) (by omega) (by omega)) dX0_passes_101 (Nat.le_of_ble_eq_true rfl) rfl (Nat.zero_le _) (Nat.zero_le _) ?_
          rw [msk_bit, decide_eq_true hkn, Bool.true_and]
          refine aw_if_neB h (tgt := 145) dX0_passes_104 (by decide) (fun c104 => ?_) (fun c104 => ?_)
          · refine aw_iincN6 h rfl dX0_passes_145 ?_
            refine aw_goto h (tgt := 79) dX0_passes_148 (by decide) ?_
            have hin : insB S fr d k = false := by unfold insB wdB; rw [c104]; simp
            have hcm : comD S fr d k = false := by unfold comD; rw [hin]; rfl
            have hcs1 : cntB (insB S fr d) (k + 1) = cntB (insB S fr d) k := by rw [cntB_s, if_neg (by rw [hin]; exact Bool.false_ne_true)]; rfl
            rw [← hcs1]
            exact ih (k + 1) _ L1 (by omega) (by omega) hix (by rw [xn_inskip hS (by omega) hcm]; exact hRo) h31 (by omega)
          · refine aw_aload0 h dX0_passes_107 ?_
            refine aw_getr h fl_X0_74 (gx0 hX) dX0_passes_108 rfl (gxp16 hX) ?_
            refine aw_iload6 h dX0_passes_111 ?_
            refine aw_ialdV h (gxs29 hX) (by decide) (by omega) dX0_passes_113 (h29 k hkn) ?_
            refine aw_iload2 h dX0_passes_114 ?_
            refine aw_icmp_eq h (tgt := 121) dX0_passes_115 (by decide) (fun c115 => ?_) (fun c115 => ?_)
            · have hin : insB S fr d k = true := by unfold insB wdB; rw [decide_eq_true c115, c104]; rfl
              have hcs1 : cntB (insB S fr d) (k + 1) = cntB (insB S fr d) k + 1 := by rw [cntB_s, if_pos hin]
              have hcm : comD S fr d k = true := by unfold comD; rw [hin, decide_eq_true (show cntB (insB S fr d) k < (cntB (outsB S fr d) (np S)) by omega)]; rfl
              obtain ⟨ob, hob1, hob2, -, -⟩ := nthI_of (f := outsB S fr d) (n := np S) (k := cntB (insB S fr d) k) (by omega)
              have hobv : I1 31 (cntB (insB S fr d) k) = nI ob := (h31 _ (by omega)).trans hob2
              refine aw_aload1 h dX0_passes_121 ?_
              refine aw_iload6 h dX0_passes_122 ?_
              refine aw_aload0 h dX0_passes_124 ?_
              refine aw_getr h fl_X0_12 (gx0 hX) dX0_passes_125 rfl hc0 ?_
              refine aw_iload2 h dX0_passes_128 ?_
              refine aw_callVE1 h hl cl_X0_179 (met_x_inner hK hok hdd) hK.1 rfl dX0_passes_129 (Nat.le_of_ble_eq_true rfl) rfl (Nat.zero_le _) (Nat.zero_le _) ?_
              refine aw_aload0 h dX0_passes_132 ?_
              refine aw_getr h fl_X0_80 (gx0 hX) dX0_passes_133 rfl (gxp18 hX) ?_
              refine aw_iload5 h dX0_passes_136 ?_
              refine aw_ialdV h (gxs31 hX) (by decide) (by omega) dX0_passes_138 (hobv) ?_
              refine aw_callVD3 h hl cl_X0_292 (met_x_comesIn hs (p := k) (o := ob) (by omega)) hs.1 rfl dX0_passes_139 (Nat.le_of_ble_eq_true rfl) rfl (Nat.zero_le _) (Nat.zero_le _) ?_
              refine aw_iincN5 h rfl dX0_passes_142 ?_
              refine aw_iincN6 h rfl dX0_passes_145 ?_
              refine aw_goto h (tgt := 79) dX0_passes_148 (by decide) ?_
              have hrow := hRo.1 k hkn
              have hxi := xn_in (a := np S) (show d < 100 by omega) hcm
              rw [hxi.2] at hrow
              rw [← hcs1]
              refine ih (k + 1) _ L1 (by omega) (by omega) (((hix.trans (IX.i (by simp))).trans (IX.i (by simp))).trans (IX.i (by simp))) ?_ (fun j hj => ?_) (by omega)
              · rw [hxi.1]
                refine (hRo.up (p := k) (Rp := rowIn S k d (nthI (outsB S fr d) (np S) (cntB (insB S fr d) k))) (I1 := (upd2 (upd2 (upd2 I1 (s + 1 + 0) k (nI (inK K d))) (s + 1 + 2) k (upd2 I1 (s + 1 + 0) k (nI (inK K d)) (s + 1 + 2) k + nI 1)) (s + 1 + 4) k (nI ob))) (fun j hj q hq => ?_) ?_ hkn)
                · by_cases e4 : s + 1 + j = s + 1 + 4
                  · rw [e4, upd2_s, vup_n _ _ hq, upd2_r (by omega), upd2_r (by omega)]
                  · rw [upd2_r e4]
                    by_cases e3 : s + 1 + j = s + 1 + 2
                    · rw [e3, upd2_s, vup_n _ _ hq, upd2_r (by omega)]
                    · rw [upd2_r e3]
                      by_cases e0 : s + 1 + j = s + 1 + 0
                      · rw [e0, upd2_s, vup_n _ _ hq]
                      · rw [upd2_r e0]
                · unfold rowIn
                  refine ⟨?_, ?_, ?_, ?_, ?_⟩
                  · rw [upd2_r (by omega), upd2_r (by omega), upd2_s, vup_s, vup_n _ _ (by decide), vup_n _ _ (by decide), vup_s, hx.1]
                  · rw [upd2_r (by omega), upd2_r (by omega), upd2_r (by omega), vup_n _ _ (by decide), vup_n _ _ (by decide), vup_n _ _ (by decide)]; exact hrow.2.1
                  · rw [upd2_r (by omega), upd2_s, vup_s, vup_n _ _ (by decide), vup_s, upd2_r (by omega), show I1 (s + 1 + 2) k = pv S k 3 from hrow.2.2.1]
                  · rw [upd2_r (by omega), upd2_r (by omega), upd2_r (by omega), vup_n _ _ (by decide), vup_n _ _ (by decide), vup_n _ _ (by decide)]; exact hrow.2.2.2.1
                  · rw [upd2_s, vup_s, vup_s, hob2]
              · rw [upd2_n _ _ _ (by omega), upd2_n _ _ _ (by omega), upd2_n _ _ _ (by omega)]; exact h31 j hj
            · refine aw_goto h (tgt := 145) dX0_passes_118 (by decide) ?_
              refine aw_iincN6 h rfl dX0_passes_145 ?_
              refine aw_goto h (tgt := 79) dX0_passes_148 (by decide) ?_
              have hin : insB S fr d k = false := by unfold insB wdB; rw [decide_eq_false c115]; rfl
              have hcm : comD S fr d k = false := by unfold comD; rw [hin]; rfl
              have hcs1 : cntB (insB S fr d) (k + 1) = cntB (insB S fr d) k := by rw [cntB_s, if_neg (by rw [hin]; exact Bool.false_ne_true)]; rfl
              rw [← hcs1]
              exact ih (k + 1) _ L1 (by omega) (by omega) hix (by rw [xn_inskip hS (by omega) hcm]; exact hRo) h31 (by omega)
  have k73 : ∀ (I1 : Im) (L1 : Lm), StR I1 s (np S) (XN S fr d (np S) 0) → IX [31, s + 1, s + 2, s + 3, s + 4, s + 5] I L I1 L1 → (∀ q, q < np S → outsB S fr d q = true → I1 31 (cntB (outsB S fr d) q) = nI q) → ∀ {x : Nat}, cntB (outsB S fr d) x = cntB (outsB S fr d) (np S) → ∀ (o5 o6 : Option Value), AW X 0 0 73 [some (.ref (w.1 + 0)), some (.ref (w.1 + s)), some (.int (nI d)), some (.int (nI (mskN (np S) (outB S fr)))), some (.int (nI (cntB (outsB S fr d) x))), o5, o6] [] G I1 L1 := by
    intro I1 L1 hRo hix h31 x hxx o5 o6
    rw [hxx]
    refine aw_iconst h _ ci_0 dX0_passes_73 ?_
    refine aw_istore5 h rfl dX0_passes_74 ?_
    refine aw_iconst h _ ci_0 dX0_passes_76 ?_
    refine aw_istore6 h rfl dX0_passes_77 ?_
    exact key2 (np S + 1) 0 I1 L1 (Nat.zero_le _) (by omega) hix hRo (fun j hj => by
      obtain ⟨q, hq, e1, e2, e3⟩ := nthI_of hj
      rw [e1, ← e3]; exact h31 q hq e2) (Nat.zero_le _)
  have key1 : ∀ (fu k : Nat) (I1 : Im), k ≤ np S → np S < k + fu → IX [31, s + 1, s + 2, s + 3, s + 4, s + 5] I L I1 L → StR I1 s (np S) (XN S fr d k 0) → (∀ q, q < k → outsB S fr d q = true → I1 31 (cntB (outsB S fr d) q) = nI q) → AW X 0 0 6 [some (.ref (w.1 + 0)), some (.ref (w.1 + s)), some (.int (nI d)), some (.int (nI (mskN (np S) (outB S fr)))), some (.int (nI (cntB (outsB S fr d) k))), some (.int (nI k)), none] [] G I1 L := by
    intro fu
    induction fu with
    | zero => intro k I1 hle hlt; exact absurd hlt (by omega)
    | succ fu ih =>
      intro k I1 hle hlt hix hRo h31
      have hC := hC0.ix (hix.nm (fun m hm => by rcases hs7 with rfl | rfl <;> (revert m; decide)))
      obtain ⟨hc0, ⟨pl, pa, dl, da, fa, ps, ds, hK, hsp⟩, -, -⟩ := id hC
      obtain ⟨cp, hLp⟩ := hK.2.2.2.2.2.1
      have h29 : ∀ q, q < np S → I1 29 q = willI S fr q := fun q hq => (congrFun (hix 29 (by simp; omega)).1 q).trans (hw q hq)
      refine aw_iload5 h dX0_passes_6 ?_
      refine aw_aload0 h dX0_passes_8 ?_
      refine aw_getr h fl_X0_12 (gx0 hX) dX0_passes_9 rfl hc0 ?_
      refine aw_callVE0 h hl cl_X0_125 (met_x_many hK hok) hK.1 rfl dX0_passes_12 (Nat.le_of_ble_eq_true rfl) rfl (Nat.zero_le _) (Nat.zero_le _) ?_
      refine aw_icmp_geN h (tgt := 73) (by omega) (by omega) dX0_passes_15 (by decide) (fun c15 => ?_) (fun c15 => ?_)
      · exact k73 I1 L (by rw [show k = np S by omega] at hRo; exact hRo) hix (by rw [show k = np S by omega] at h31; exact h31) (by rw [show k = np S by omega]) _ _
      · have hkn : k < np S := by omega
        have hgo4 := msk_lt (np S) (outB S fr)
        have h24 : 2 ^ np S ≤ 2 ^ 4 := Nat.pow_le_pow_right (by decide) (by omega)
        have hocn := cntB_le (outsB S fr d) k
        refine aw_iload3 h dX0_passes_18 ?_
        refine aw_iload5 h dX0_passes_19 ?_
        refine aw_callSE2 h hl cl_X0_213 (met_x_has (m := mskN (np S) (outB S fr)) (k := k) (by omega) (by omega)) dX0_passes_21 (Nat.le_of_ble_eq_true rfl) rfl (Nat.zero_le _) (Nat.zero_le _) ?_
        rw [msk_bit, decide_eq_true hkn, Bool.true_and]
        refine aw_if_eqB h (tgt := 67) dX0_passes_24 (by decide) (fun c24 => ?_) (fun c24 => ?_)
        · refine aw_iincN5 h rfl dX0_passes_67 ?_
          refine aw_goto h (tgt := 6) dX0_passes_70 (by decide) ?_
          have hob : outsB S fr d k = false := by unfold outsB wdB; rw [c24, Bool.and_false]
          have hcs1 : cntB (outsB S fr d) (k + 1) = (cntB (outsB S fr d) k) := by rw [cntB_s, if_neg (by rw [hob]; exact Bool.false_ne_true)]; rfl
          rw [← hcs1]
          refine ih (k + 1) _ (by omega) (by omega) hix (by rw [xn_skip hS hob]; exact hRo) (fun q hq hoq => ?_)
          by_cases e : q = k
          · subst e; rw [hob] at hoq; cases hoq
          · exact h31 q (by omega) hoq
        · refine aw_aload0 h dX0_passes_27 ?_
          refine aw_getr h fl_X0_74 (gx0 hX) dX0_passes_28 rfl (gxp16 hX) ?_
          refine aw_iload5 h dX0_passes_31 ?_
          refine aw_ialdV h (gxs29 hX) (by decide) (by omega) dX0_passes_33 (h29 k hkn) ?_
          refine aw_iload2 h dX0_passes_34 ?_
          refine aw_icmp_eq h (tgt := 41) dX0_passes_35 (by decide) (fun c35 => ?_) (fun c35 => ?_)
          · have hwk : willI S fr k = nI d := c35
            refine aw_aload1 h dX0_passes_41 ?_
            refine aw_iload5 h dX0_passes_42 ?_
            refine aw_aload0 h dX0_passes_44 ?_
            refine aw_getr h fl_X0_12 (gx0 hX) dX0_passes_45 rfl hc0 ?_
            refine aw_iload2 h dX0_passes_48 ?_
            refine aw_callVE1 h hl cl_X0_183 (met_x_outer hK hok hdd) hK.1 rfl dX0_passes_49 (Nat.le_of_ble_eq_true rfl) rfl (Nat.zero_le _) (Nat.zero_le _) ?_
            refine aw_callVD2 h hl cl_X0_289 (met_x_goesOut hs (p := k) (by omega)) hs.1 rfl dX0_passes_52 (Nat.le_of_ble_eq_true rfl) rfl (Nat.zero_le _) (Nat.zero_le _) ?_
            refine aw_aload0 h dX0_passes_55 ?_
            refine aw_getr h fl_X0_80 (gx0 hX) dX0_passes_56 rfl (gxp18 hX) ?_
            refine aw_iload4 h dX0_passes_59 ?_
            refine aw_iload5 h dX0_passes_61 ?_
            refine aw_iastN h (gxs31 hX) (by decide) (by omega) dX0_passes_63 ?_
            refine aw_iincN4 h rfl dX0_passes_64 ?_
            refine aw_iincN5 h rfl dX0_passes_67 ?_
            refine aw_goto h (tgt := 6) dX0_passes_70 (by decide) ?_
            have hob : outsB S fr d k = true := by unfold outsB wdB; rw [decide_eq_true hwk, c24]; rfl
            have hxo := xn_out (b := 0) (show d < 100 by omega) hob
            have hrow := hRo.1 k hkn
            rw [hxo.2] at hrow
            have hro : StR (upd2 (upd2 (upd2 I1 (s + 1 + 0) k (nI (ouK K d))) (s + 1 + 3) k (upd2 I1 (s + 1 + 0) k (nI (ouK K d)) (s + 1 + 3) k + nI 1)) 31 (cntB (outsB S fr d) k) (nI k)) s (np S) (XN S fr d (k + 1) 0) := by
              rw [hxo.1]
              refine (hRo.up (p := k) (Rp := rowOut S k d) (I1 := upd2 (upd2 (upd2 I1 (s + 1 + 0) k (nI (ouK K d))) (s + 1 + 3) k (upd2 I1 (s + 1 + 0) k (nI (ouK K d)) (s + 1 + 3) k + nI 1)) 31 (cntB (outsB S fr d) k) (nI k)) (fun j hj q hq => ?_) ?_ hkn)
              · rw [upd2_r (by omega)]
                by_cases e3 : s + 1 + j = s + 1 + 3
                · rw [e3, upd2_s, vup_n _ _ hq, upd2_r (by omega)]
                · rw [upd2_r e3]
                  by_cases e0 : s + 1 + j = s + 1 + 0
                  · rw [e0, upd2_s, vup_n _ _ hq]
                  · rw [upd2_r e0]
              · unfold rowOut
                refine ⟨?_, ?_, ?_, ?_, ?_⟩
                · rw [upd2_r (by omega), upd2_r (by omega), upd2_s, vup_s, vup_n _ _ (by decide), vup_s, hx.2.1]
                · rw [upd2_r (by omega), upd2_r (by omega), upd2_r (by omega), vup_n _ _ (by decide), vup_n _ _ (by decide)]; exact hrow.2.1
                · rw [upd2_r (by omega), upd2_r (by omega), upd2_r (by omega), vup_n _ _ (by decide), vup_n _ _ (by decide)]; exact hrow.2.2.1
                · rw [upd2_r (by omega), upd2_s, vup_s, vup_s, upd2_r (by omega), show I1 (s + 1 + 3) k = pv S k 4 from hrow.2.2.2.1]
                · rw [upd2_r (by omega), upd2_r (by omega), upd2_r (by omega), vup_n _ _ (by decide), vup_n _ _ (by decide)]; exact hrow.2.2.2.2
            have hcs1 : cntB (outsB S fr d) (k + 1) = (cntB (outsB S fr d) k) + 1 := by rw [cntB_s, if_pos hob]
            rw [← hcs1]
            refine ih (k + 1) _ (by omega) (by omega) (((hix.trans (IX.i (by simp))).trans (IX.i (by simp))).trans (IX.i (by simp))) hro (fun q hq hoq => ?_)
            rw [upd2_s]
            by_cases e : q = k
            · subst e; rw [vup_s]
            · have := cntB_lt (outsB S fr d) (show q < k by omega) hoq
              rw [vup_n _ _ (by omega), upd2_n _ _ _ (by omega), upd2_n _ _ _ (by omega)]; exact h31 q (by omega) hoq
          · refine aw_goto h (tgt := 67) dX0_passes_38 (by decide) ?_
            refine aw_iincN5 h rfl dX0_passes_67 ?_
            refine aw_goto h (tgt := 6) dX0_passes_70 (by decide) ?_
            have hob : outsB S fr d k = false := by unfold outsB wdB; rw [decide_eq_false c35]; rfl
            have hcs1 : cntB (outsB S fr d) (k + 1) = (cntB (outsB S fr d) k) := by rw [cntB_s, if_neg (by rw [hob]; exact Bool.false_ne_true)]; rfl
            rw [← hcs1]
            refine ih (k + 1) _ (by omega) (by omega) hix (by rw [xn_skip hS hob]; exact hRo) (fun q hq hoq => ?_)
            by_cases e : q = k
            · subst e; rw [hob] at hoq; cases hoq
            · exact h31 q (by omega) hoq
  refine aw_iconst h _ ci_0 dX0_passes_0 ?_
  refine aw_istore4 h rfl dX0_passes_1 ?_
  refine aw_iconst h _ ci_0 dX0_passes_3 ?_
  refine aw_istore5 h rfl dX0_passes_4 ?_
  exact key1 (np S + 1) 0 I (Nat.zero_le _) (by omega) IX.rf hR0 (fun q hq => absurd hq (Nat.not_lt_zero _))
