/-! The component: places in three bits; one is reached -/
set_option maxRecDepth 100000
theorem pw8 (p : Nat) : pw 8 p = 2 ^ (3 * p) := by unfold pw; rw [show (8 : Nat) = 2 ^ 3 by decide, ← Nat.pow_mul]
theorem bs_place {c p : Nat} (hc : c < 2 ^ 31) (hp : p ≤ 4) : (nI c >>> (nI (3 * p) &&& 31)) &&& nI 7 = nI (dg 8 c p) := by
  rw [pk_shrN hc (nI (3 * p) &&& 31) (3 * p) (sm_31 _ (by omega)), bs_and]
  have h1 : c / 2 ^ (3 * p) &&& 7 = c / 2 ^ (3 * p) % 8 := Nat.and_two_pow_sub_one_eq_mod (c / 2 ^ (3 * p)) 3
  rw [h1]
  unfold dg
  rw [pw8]
theorem bs_notN (m y : Nat) : nI m &&& (nI y ^^^ (-1)) = nI (m - (m &&& y)) := by
  have e : nI m &&& (nI y ^^^ (-1)) = nI m - (nI m &&& nI y) := by
    apply Int32.toBitVec_inj.1
    rw [Int32.toBitVec_sub, Int32.toBitVec_and, Int32.toBitVec_and, Int32.toBitVec_xor]
    generalize (nI m).toBitVec = x
    generalize (nI y).toBitVec = y
    have h1 : (-1 : Int32).toBitVec = BitVec.allOnes 32 := by decide
    rw [h1, BitVec.xor_allOnes]
    have h2 : x = (x &&& y) + (x &&& ~~~y) := by
      rw [BitVec.add_eq_or_of_and_eq_zero]
      · apply BitVec.eq_of_getLsbD_eq
        intro i hi
        simp [hi]
        cases x[i] <;> cases y[i] <;> rfl
      · apply BitVec.eq_of_getLsbD_eq
        intro i hi
        simp [hi]
        exact fun _ h _ => h
    have h3 : x - (x &&& y) = (x &&& ~~~y) := by
      conv => lhs; lhs; rw [h2]
      rw [BitVec.add_comm, BitVec.add_sub_cancel]
    exact h3.symm
  rw [e, bs_and, pk_sub Nat.and_le_left]
theorem and_7 (c s : Nat) : c &&& (7 * 2 ^ s) = c / 2 ^ s % 8 * 2 ^ s := by
  rw [← Nat.shiftLeft_eq, ← Nat.shiftLeft_eq, ← Nat.shiftRight_eq_div_pow]
  apply Nat.eq_of_testBit_eq
  intro i
  rw [Nat.testBit_and, Nat.testBit_shiftLeft, Nat.testBit_shiftLeft, show (8 : Nat) = 2 ^ 3 by decide, Nat.testBit_mod_two_pow, Nat.testBit_shiftRight, show (7 : Nat) = 2 ^ 3 - 1 by decide, Nat.testBit_two_pow_sub_one]
  by_cases h : s ≤ i
  · rw [decide_eq_true (show i ≥ s from h), show s + (i - s) = i by omega, Bool.true_and, Bool.true_and, Bool.and_comm]
  · rw [decide_eq_false (show ¬ i ≥ s from h)]; simp
theorem or_add {x s y : Nat} (h : y < 2 ^ s) : x * 2 ^ s ||| y = x * 2 ^ s + y := by
  rw [← Nat.shiftLeft_eq, Nat.shiftLeft_add_eq_or_of_lt h]
theorem bs_moved {c p r : Nat} (hc : c < 2 ^ 15) (hp : p ≤ 4) (hr : r < 8) : (nI c &&& ((nI 7 <<< (nI (3 * p) &&& 31)) ^^^ (-1))) ||| (nI r <<< (nI (3 * p) &&& 31)) = nI (mv 8 c p r) := by
  have hs : (2 : Nat) ^ (3 * p) ≤ 2 ^ 12 := Nat.pow_le_pow_right (by decide) (by omega)
  have hr2 : r * 2 ^ (3 * p) ≤ 7 * 2 ^ (3 * p) := Nat.mul_le_mul_right _ (by omega)
  rw [pk_shlN (n := 7) (nI (3 * p) &&& 31) (3 * p) (sm_31 _ (by omega)) (by omega), pk_shlN (n := r) (nI (3 * p) &&& 31) (3 * p) (sm_31 _ (by omega)) (by omega), bs_notN, bs_or, and_7]
  congr 1
  have h1 : c - c / 2 ^ (3 * p) % 8 * 2 ^ (3 * p) = c / 2 ^ (3 * p + 3) * 2 ^ (3 * p + 3) + c % 2 ^ (3 * p) := by
    have a1 := Nat.mod_add_div c (2 ^ (3 * p))
    have a2 := Nat.mod_add_div (c / 2 ^ (3 * p)) 8
    have a3 : c / 2 ^ (3 * p) / 8 = c / 2 ^ (3 * p + 3) := by rw [Nat.div_div_eq_div_mul, Nat.pow_add]
    rw [a3] at a2
    have a4 : 2 ^ (3 * p) * (c / 2 ^ (3 * p)) = c / 2 ^ (3 * p) % 8 * 2 ^ (3 * p) + c / 2 ^ (3 * p + 3) * 2 ^ (3 * p + 3) := by
      have a5 : 2 ^ (3 * p) * (c / 2 ^ (3 * p)) = 2 ^ (3 * p) * (c / 2 ^ (3 * p) % 8 + 8 * (c / 2 ^ (3 * p + 3))) := by rw [a2]
      rw [a5, Nat.mul_add, Nat.mul_comm (2 ^ (3 * p)) (c / 2 ^ (3 * p) % 8), ← Nat.mul_assoc, Nat.mul_comm (2 ^ (3 * p) * 8), show 2 ^ (3 * p) * 8 = 2 ^ (3 * p + 3) by rw [Nat.pow_add]]
    omega
  have hlo : c % 2 ^ (3 * p) < 2 ^ (3 * p) := Nat.mod_lt _ (Nat.pow_pos (by decide))
  have h2 : r * 2 ^ (3 * p) + c % 2 ^ (3 * p) < 2 ^ (3 * p + 3) := by
    rw [Nat.pow_add]; omega
  have h3 : (c / 2 ^ (3 * p + 3) * 2 ^ (3 * p + 3) + c % 2 ^ (3 * p)) ||| r * 2 ^ (3 * p) = c / 2 ^ (3 * p + 3) * 2 ^ (3 * p + 3) + (r * 2 ^ (3 * p) + c % 2 ^ (3 * p)) := by
    rw [← or_add (x := c / 2 ^ (3 * p + 3)) (s := 3 * p + 3) (y := c % 2 ^ (3 * p)) (by rw [Nat.pow_add]; omega), Nat.or_assoc, Nat.or_comm (c % 2 ^ (3 * p)), or_add hlo, or_add h2]
  rw [h1, h3]
  have hle : c / 2 ^ (3 * p) % 8 * 2 ^ (3 * p) ≤ c := Nat.le_trans (Nat.mul_le_mul_right _ (Nat.mod_le _ _)) (Nat.div_mul_le_self c (2 ^ (3 * p)))
  unfold mv dg
  rw [pw8]
  omega
theorem enc_or {v : Nat → Nat} {p : Nat} (h : ∀ q, q < p → v q < 8) : enc 8 p v ||| v p * 2 ^ (3 * p) = enc 8 (p + 1) v := by
  have h1 := enc_lt h
  rw [pw8] at h1
  rw [enc, pw8, Nat.or_comm, or_add h1, Nat.add_comm]
theorem code_a {p d j : Nat} : (nI p + nI 1) * nI 128 + nI d * nI 8 + qI j + nI 1 = nI ((p + 1) * 128 + d * 8 + j) := by
  have h : qI j + nI 1 = nI j := by
    rw [← nI_q, Int32.sub_add_cancel]
  rw [Int32.add_assoc _ (qI j) (nI 1), h, nI_add, pk_mul, pk_mul, nI_add, nI_add]
theorem code_b {d q : Nat} : ((-1 : Int32) + nI 1) * nI 128 + nI d * nI 8 + nI q + nI 1 = nI (d * 8 + q + 1) := by
  rw [show ((-1 : Int32) + nI 1) * nI 128 = nI 0 by decide, pk_mul, nI_add, nI_add, nI_add, Nat.zero_add]
def srE (m : Nat) : Bool := decide (153 ≤ m) && decide (m ≤ 156)
def srF (j : Nat) : Bool := j == 26
/-- what the search keeps -/
def QX (M cnt : Nat) (qv lv par lab : Nat → Nat) (I : Im) : Prop := I 0 26 = nI cnt ∧ (∀ j, j < cnt → I 156 j = nI (qv j)) ∧ (∀ c, c < M → (seenB cnt qv c → I 153 c = nI (lv c)) ∧ (¬ seenB cnt qv c → I 153 c = -1)) ∧ ∀ j, 1 ≤ j → j < cnt → I 154 (qv j) = nI (qv (par j)) ∧ I 155 (qv j) = nI (lab j % 1024)
def SX (S : Nat → Int32) (n : Nat) (inw : Int32) (c0 k l0 : Nat) (P : Nat → Prop) (cnt : Nat) (qv lv par lab : Nat → Nat) (I : Im) : Prop := QX (pw 8 n) cnt qv lv par lab I ∧ BFI (E8 S n inw) (fun c => c = c0) (pw 8 n) cnt k qv lv ∧ LXI (FEd S 8 n inw) cnt k l0 qv lv par lab ∧ (∀ j, j < cnt → VC S n (qv j)) ∧ (∀ i, i < k → P (qv i)) ∧ cnt ≤ pw 8 n ∧ (∀ j, j < cnt → lv (qv j) ≤ j) ∧ qv 0 = c0 ∧ 0 < cnt
def SK (S : Nat → Int32) (n : Nat) (inw : Int32) (c0 k l0 : Nat) (P : Nat → Prop) (c : Nat) (I : Im) : Prop := ∃ cnt qv lv par lab, SX S n inw c0 k l0 P cnt qv lv par lab I ∧ k < cnt ∧ qv k = c
theorem pw8_le {n : Nat} (hn : n ≤ 5) : pw 8 n ≤ 32768 := pw_le (k := 5) (by decide) hn
theorem vup_inj {qv : Nat → Nat} {cnt u M : Nat} (h1 : ∀ j, j < cnt → qv j < M) : True := trivial
theorem SK.seen {S : Nat → Int32} {n : Nat} {inw : Int32} {c0 k l : Nat} {P : Nat → Prop} {c u : Nat} {I : Im} (hS : InvS S) (hn : n ≤ 5) (hF : FEd S 8 n inw c l u) {cnt : Nat} {qv lv par lab : Nat → Nat} (h : SX S n inw c0 k l P cnt qv lv par lab I) (hk : k < cnt) (hq : qv k = c) (hs : seenB cnt qv u) : SK S n inw c0 k (l + 1) P c I := by
  obtain ⟨a1, a2, a3, a4⟩ := h
  exact ⟨cnt, qv, lv, par, lab, ⟨a1, a2, a3.seen (fun x hx => FE_uniq hS hn hx (by rw [hq]; exact hF)) hs, a4⟩, hk, hq⟩
theorem SK.add {S : Nat → Int32} {n : Nat} {inw : Int32} {c0 k l : Nat} {P : Nat → Prop} {c u : Nat} {I I1 : Im} (hS : InvS S) (h0 : 0 < nr S) (hn : n ≤ 5) (hF : FEd S 8 n inw c l u) {cnt : Nat} {qv lv par lab : Nat → Nat} (h : SX S n inw c0 k l P cnt qv lv par lab I) (hk : k < cnt) (hq : qv k = c) (hs : ¬ seenB cnt qv u) (e26 : I1 0 26 = nI (cnt + 1)) (e153 : I1 153 = va_up (I 153) u (nI (lv c + 1))) (e154 : I1 154 = va_up (I 154) u (nI c)) (e155 : I1 155 = va_up (I 155) u (nI (l % 1024))) (e156 : I1 156 = va_up (I 156) cnt (nI u)) : SK S n inw c0 k (l + 1) P c I1 := by
  obtain ⟨⟨q1, q2, q3, q4⟩, a2, a3, a4, a5, a6, a7, a8, a9⟩ := h
  have hcV := a4 k hk
  rw [hq] at hcV
  have hu := (FE_cv hS h0 hcV hF).1
  have hroom := a2.room hu.1 hs
  have hqn : ∀ j, j < cnt → va_up qv cnt u j = qv j := fun j hj => vup_n _ _ (by omega)
  have hne : ∀ j, j < cnt → qv j ≠ u := fun j hj e => hs ⟨j, hj, e⟩
  have hseen : ∀ x, seenB (cnt + 1) (va_up qv cnt u) x ↔ (x = u ∨ seenB cnt qv x) := by
    intro x
    constructor
    · rintro ⟨j, hj, e⟩
      by_cases e2 : j = cnt
      · subst e2; rw [vup_s] at e; exact Or.inl e.symm
      · rw [hqn j (by omega)] at e; exact Or.inr ⟨j, by omega, e⟩
    · rintro (rfl | ⟨j, hj, e⟩)
      · exact ⟨cnt, by omega, vup_s _ _ _⟩
      · exact ⟨j, by omega, by rw [hqn j hj]; exact e⟩
  have hadd := a2.add hk hu.1 (by rw [hq]; exact ⟨l, hF⟩) hs
  have hla := a3.add hk (by rw [hq]; exact hF) (fun x hx => FE_uniq hS hn hx (by rw [hq]; exact hF)) hs
  have hlk := a7 k hk
  rw [hq] at hadd hla hlk
  refine ⟨cnt + 1, va_up qv cnt u, va_up lv u (lv c + 1), va_up par cnt k, va_up lab cnt l, ⟨⟨e26, fun j hj => ?_, fun x hx => ⟨fun hx2 => ?_, fun hx2 => ?_⟩, fun j h1 hj => ?_⟩, hadd, hla, fun j hj => ?_, fun i hi => ?_, hroom, fun j hj => ?_, ?_, Nat.succ_pos _⟩, by omega, (hqn k hk).trans hq⟩
  · rw [e156]
    by_cases e : j = cnt
    · subst e; rw [vup_s, vup_s]
    · rw [vup_n _ _ e, hqn j (by omega)]; exact q2 j (by omega)
  · rw [e153]
    by_cases e : x = u
    · subst e; rw [vup_s, vup_s]
    · rw [vup_n _ _ e, vup_n _ _ e]
      exact (q3 x hx).1 (((hseen x).mp hx2).resolve_left e)
  · have e : x ≠ u := fun e => hx2 ((hseen x).mpr (Or.inl e))
    rw [e153, vup_n _ _ e]
    exact (q3 x hx).2 (fun q => hx2 ((hseen x).mpr (Or.inr q)))
  · rw [e154, e155]
    by_cases e : j = cnt
    · subst e
      rw [vup_s, vup_s, vup_s, vup_s, vup_s, hqn k hk, hq]
      exact ⟨rfl, rfl⟩
    · have h9 := a3.1 j h1 (by omega)
      rw [hqn j (by omega), vup_n _ _ (hne j (by omega)), vup_n _ _ (hne j (by omega)), vup_n par _ (by omega), vup_n lab _ (by omega), hqn _ (by omega)]
      exact q4 j h1 (by omega)
  · by_cases e : j = cnt
    · subst e; rw [vup_s]; exact hu
    · rw [hqn j (by omega)]; exact a4 j (by omega)
  · rw [hqn i (by omega)]; exact a5 i hi
  · by_cases e : j = cnt
    · subst e; rw [vup_s, vup_s]; omega
    · rw [hqn j (by omega), vup_n _ _ (hne j (by omega))]; exact a7 j (by omega)
  · rw [hqn 0 a9]; exact a8
theorem met_x_placeOf {w : Wd} {G : Gm} {I : Im} {L : Lm} {c p : Nat} (hc : c < 2 ^ 15) (hp : p ≤ 4) : AMet w yX0_placeOf cX0_placeOf 2 (some .int) 1 40 0 0 [.int (nI c), .int (nI p)] G I L (Exact (some (.int (nI (dg 8 c p)))) G I L) := by
  refine AMet.of (ls0 := [some (.int (nI c)), some (.int (nI p))]) rfl (Nat.le_of_ble_eq_true rfl) rfl (fun q hq => hq) (fun X h hl hr hi => ?_)
  refine aw_iload0 h dX0_placeOf_0 ?_
  refine aw_iconst h _ ci_3 dX0_placeOf_1 ?_
  refine aw_iload1 h dX0_placeOf_2 ?_
  refine aw_imulN h dX0_placeOf_3 ?_
  refine aw_ishr h dX0_placeOf_4 ?_
  refine aw_bipush h _ cb_7 dX0_placeOf_5 ?_
  refine aw_iand h dX0_placeOf_7 ?_
  rw [bs_place (by omega) hp]
  exact aw_iret h hr dX0_placeOf_8 (⟨rfl, rfl, rfl, rfl⟩) (Nat.zero_le _) (Nat.zero_le _)
theorem met_x_moved {w : Wd} {G : Gm} {I : Im} {L : Lm} {c p r : Nat} (hc : c < 2 ^ 15) (hp : p ≤ 4) (hr8 : r < 8) : AMet w yX0_moved cX0_moved 3 (some .int) 1 40 0 0 [.int (nI c), .int (nI p), .int (nI r)] G I L (Exact (some (.int (nI (mv 8 c p r)))) G I L) := by
  refine AMet.of (ls0 := [some (.int (nI c)), some (.int (nI p)), some (.int (nI r))]) rfl (Nat.le_of_ble_eq_true rfl) rfl (fun q hq => hq) (fun X h hl hr hi => ?_)
  refine aw_iload0 h dX0_moved_0 ?_
  refine aw_bipush h _ cb_7 dX0_moved_1 ?_
  refine aw_iconst h _ ci_3 dX0_moved_3 ?_
  refine aw_iload1 h dX0_moved_4 ?_
  refine aw_imulN h dX0_moved_5 ?_
  refine aw_ishl h dX0_moved_6 ?_
  refine aw_iconst h _ ci_m1 dX0_moved_7 ?_
  refine aw_ixor h dX0_moved_8 ?_
  refine aw_iand h dX0_moved_9 ?_
  refine aw_iload2 h dX0_moved_10 ?_
  refine aw_iconst h _ ci_3 dX0_moved_11 ?_
  refine aw_iload1 h dX0_moved_12 ?_
  refine aw_imulN h dX0_moved_13 ?_
  refine aw_ishl h dX0_moved_14 ?_
  refine aw_ior h dX0_moved_15 ?_
  rw [bs_moved hc hp hr8]
  exact aw_iret h hr dX0_moved_16 (⟨rfl, rfl, rfl, rfl⟩) (Nat.zero_le _) (Nat.zero_le _)
theorem met_x_codeOf {w : Wd} {G : Gm} {I : Im} {L : Lm} {x y z : Int32} : AMet w yX0_codeOf cX0_codeOf 3 (some .int) 1 40 0 0 [.int x, .int y, .int z] G I L (Exact (some (.int ((x + nI 1) * nI 128 + y * nI 8 + z + nI 1))) G I L) := by
  refine AMet.of (ls0 := [some (.int x), some (.int y), some (.int z)]) rfl (Nat.le_of_ble_eq_true rfl) rfl (fun q hq => hq) (fun X h hl hr hi => ?_)
  refine aw_iload0 h dX0_codeOf_0 ?_
  refine aw_iconst h _ ci_1 dX0_codeOf_1 ?_
  refine aw_iadd h dX0_codeOf_2 ?_
  refine aw_sipush h _ cs_128 dX0_codeOf_3 ?_
  refine aw_imul h dX0_codeOf_6 ?_
  refine aw_iload1 h dX0_codeOf_7 ?_
  refine aw_bipush h _ cb_8 dX0_codeOf_8 ?_
  refine aw_imul h dX0_codeOf_10 ?_
  refine aw_iadd h dX0_codeOf_11 ?_
  refine aw_iload2 h dX0_codeOf_12 ?_
  refine aw_iadd h dX0_codeOf_13 ?_
  refine aw_iconst h _ ci_1 dX0_codeOf_14 ?_
  refine aw_iadd h dX0_codeOf_15 ?_
  exact aw_iret h hr dX0_codeOf_16 (⟨rfl, rfl, rfl, rfl⟩) (Nat.zero_le _) (Nat.zero_le _)
theorem met_x_placesNow {w : Wd} {G : Gm} {I : Im} {L : Lm} (hX : XG G) {sl : Nat → Prop} {K : CS} {c : Nat} {S : Nat → Int32} {t : Nat} (hV : XV sl G I K c S t) (hA : StAt I 7 S) : AMet w yX0_placesNow cX0_placesNow 3 (some .int) 3 80 0 0 [.ref (w.1 + 0)] G I L (Exact (some (.int (nI (enc 8 (np S) (rm S))))) G I L) := by
  refine AMet.of (ls0 := [some (.ref (w.1 + 0)), none, none]) rfl (Nat.le_of_ble_eq_true rfl) rfl (fun q hq => hq) (fun X h hl hr hi => ?_)
  obtain ⟨hC0, hS, hcs, ht, ht2, hdj⟩ := id hV
  have hC := hC0
  obtain ⟨hc0, ⟨pl, pa, dl, da, fa, ps, ds, hK, hsp⟩, hok, hsl⟩ := id hC
  obtain ⟨cp, hLp⟩ := hK.2.2.2.2.2.1
  obtain ⟨cd, hLd⟩ := hK.2.2.2.2.2.2.1
  have hpl := hK.2.2.2.2.2.2.2.1
  have hdl := hK.2.2.2.2.2.2.2.2.1
  have hdk := hK.2.2.2.2.2.2.2.2.2.2.1
  have hpk := hK.2.2.2.2.2.2.2.2.2.1
  have hrm := hK.2.2.2.2.2.2.2.2.2.2.2.1
  have hfr := hK.2.2.2.2.2.2.2.2.2.2.2.2.2
  have hR8 := hok.2.1
  have hD14 := hok.2.2.1
  have hP4 := hok.2.2.2.1
  have hdo := hok.2.2.2.2.1
  have hpo := hok.2.2.2.2.2.1
  have hf9 := hok.2.2.2.2.2.2.2
  have hn := cas_n hcs hok
  have b2 := iv2b hS
  have key : ∀ (fu k : Nat), k ≤ np S → np S < k + fu → AW X 0 0 4 [some (.ref (w.1 + 0)), some (.int (nI (enc 8 k (rm S)))), some (.int (nI k))] [] G I L := by
    intro fu
    induction fu with
    | zero => intro k hle hlt; exact absurd hlt (by omega)
    | succ fu ih =>
      intro k hle hlt
      have h8 := iv0b hS
      have hlt := fun q => (ivp hS (p := q))
      refine aw_iload2 h dX0_placesNow_4 ?_
      refine aw_aload0 h dX0_placesNow_5 ?_
      refine aw_getr h fl_X0_12 (gx0 hX) dX0_placesNow_6 rfl hc0 ?_
      refine aw_callVE0 h hl cl_X0_125 (met_x_many hK hok) hK.1 rfl dX0_placesNow_9 (Nat.le_of_ble_eq_true rfl) rfl (Nat.zero_le _) (Nat.zero_le _) ?_
      refine aw_icmp_geN h (tgt := 37) (by omega) (by omega) dX0_placesNow_12 (by decide) (fun c12 => ?_) (fun c12 => ?_)
      · refine aw_iload1 h dX0_placesNow_37 ?_
        exact aw_iret h hr dX0_placesNow_38 (⟨by rw [show k = np S by omega], rfl, rfl, rfl⟩) (Nat.zero_le _) (Nat.zero_le _)
      · have hiv := ivp hS (show k < np S by omega)
        have hs : (2 : Nat) ^ (3 * k) ≤ 2 ^ 12 := Nat.pow_le_pow_right (by decide) (by omega)
        have hr2 : rm S k * 2 ^ (3 * k) ≤ 7 * 2 ^ (3 * k) := Nat.mul_le_mul_right _ (by omega)
        refine aw_iload1 h dX0_placesNow_15 ?_
        refine aw_aload0 h dX0_placesNow_16 ?_
        refine aw_getr h fl_X0_19 (gx0 hX) dX0_placesNow_17 rfl (gxp1 hX) ?_
        refine aw_getr h fl_X0_202 (gxt7 hX).1 dX0_placesNow_20 rfl ((gxt7 hX).2 0 (by decide)).1 ?_
        refine aw_iload2 h dX0_placesNow_23 ?_
        refine aw_ialdV h ((gxt7 hX).2 0 (by decide)).2 (by decide) (by omega) dX0_placesNow_24 ((hA.2.1 k (by omega)).1.trans hiv.1) ?_
        refine aw_iconst h _ ci_3 dX0_placesNow_25 ?_
        refine aw_iload2 h dX0_placesNow_26 ?_
        refine aw_imulN h dX0_placesNow_27 ?_
        refine aw_ishl h dX0_placesNow_28 ?_
        rw [pk_shlN (n := rm S k) (nI (3 * k) &&& 31) (3 * k) (sm_31 _ (by omega)) (by omega)]
        refine aw_ior h dX0_placesNow_29 ?_
        rw [bs_or, enc_or (v := rm S) (fun q hq => by have := (ivp hS (show q < np S by omega)).2.1; omega)]
        refine aw_istore1 h rfl dX0_placesNow_30 ?_
        refine aw_iincN2 h rfl dX0_placesNow_31 ?_
        refine aw_goto h (tgt := 4) dX0_placesNow_34 (by decide) ?_
        exact ih (k + 1) (by omega) (by omega)
  refine aw_iconst h _ ci_0 dX0_placesNow_0 ?_
  refine aw_istore1 h rfl dX0_placesNow_1 ?_
  refine aw_iconst h _ ci_0 dX0_placesNow_2 ?_
  refine aw_istore2 h rfl dX0_placesNow_3 ?_
  exact key (np S + 1) 0 (Nat.zero_le _) (by omega)
def at8 (S : Nat → Int32) (m c : Nat) : Bool := !anyN (np S) (fun p => m.testBit p && !decide (dg 8 c p = gl S p))
theorem met_x_areThere {w : Wd} {G : Gm} {I : Im} {L : Lm} (hX : XG G) {sl : Nat → Prop} {K : CS} {cK : Nat} {S : Nat → Int32} {t : Nat} (hV : XV sl G I K cK S t) (hA : StAt I 7 S) {c m : Nat} (hc : c < 2 ^ 15) (hm : m < 2 ^ 31) : AMet w yX0_areThere cX0_areThere 4 (some .boolean) 3 80 0 0 [.ref (w.1 + 0), .int (nI c), .int (nI m)] G I L (Exact (some (.int (bI (at8 S m c)))) G I L) := by
  refine AMet.of (ls0 := [some (.ref (w.1 + 0)), some (.int (nI c)), some (.int (nI m)), none]) rfl (Nat.le_of_ble_eq_true rfl) rfl (fun q hq => hq) (fun X h hl hr hi => ?_)
  obtain ⟨hC0, hS, hcs, ht, ht2, hdj⟩ := id hV
  have hC := hC0
  obtain ⟨hc0, ⟨pl, pa, dl, da, fa, ps, ds, hK, hsp⟩, hok, hsl⟩ := id hC
  obtain ⟨cp, hLp⟩ := hK.2.2.2.2.2.1
  obtain ⟨cd, hLd⟩ := hK.2.2.2.2.2.2.1
  have hpl := hK.2.2.2.2.2.2.2.1
  have hdl := hK.2.2.2.2.2.2.2.2.1
  have hdk := hK.2.2.2.2.2.2.2.2.2.2.1
  have hpk := hK.2.2.2.2.2.2.2.2.2.1
  have hrm := hK.2.2.2.2.2.2.2.2.2.2.2.1
  have hfr := hK.2.2.2.2.2.2.2.2.2.2.2.2.2
  have hR8 := hok.2.1
  have hD14 := hok.2.2.1
  have hP4 := hok.2.2.2.1
  have hdo := hok.2.2.2.2.1
  have hpo := hok.2.2.2.2.2.1
  have hf9 := hok.2.2.2.2.2.2.2
  have hn := cas_n hcs hok
  have b2 := iv2b hS
  have key : ∀ (fu k : Nat), k ≤ np S → np S < k + fu → (∀ j, j < k → (m.testBit j && !decide (dg 8 c j = gl S j)) = false) → AW X 0 0 2 [some (.ref (w.1 + 0)), some (.int (nI c)), some (.int (nI m)), some (.int (nI k))] [] G I L := by
    intro fu
    induction fu with
    | zero => intro k hle hlt; exact absurd hlt (by omega)
    | succ fu ih =>
      intro k hle hlt hno
      refine aw_iload3 h dX0_areThere_2 ?_
      refine aw_aload0 h dX0_areThere_3 ?_
      refine aw_getr h fl_X0_12 (gx0 hX) dX0_areThere_4 rfl hc0 ?_
      refine aw_callVE0 h hl cl_X0_125 (met_x_many hK hok) hK.1 rfl dX0_areThere_7 (Nat.le_of_ble_eq_true rfl) rfl (Nat.zero_le _) (Nat.zero_le _) ?_
      refine aw_icmp_geN h (tgt := 46) (by omega) (by omega) dX0_areThere_10 (by decide) (fun c10 => ?_) (fun c10 => ?_)
      · refine aw_iconst h _ ci_1 dX0_areThere_46 ?_
        exact aw_zret h hr dX0_areThere_47 (by first | exact z01_0 | exact z01_1 | exact z01_b _) (ExB1 (by unfold at8; rw [Bool.not_eq_true', anyN_false]; intro j hj; exact hno j (by omega))) (Nat.zero_le _) (Nat.zero_le _)
      · have hiv := ivp hS (show k < np S by omega)
        have hdl := dg_lt (b := 8) (by decide) c k
        refine aw_iload2 h dX0_areThere_13 ?_
        refine aw_iload3 h dX0_areThere_14 ?_
        refine aw_callSE2 h hl cl_X0_213 (met_x_has (m := m) (k := k) hm (by omega)) dX0_areThere_15 (Nat.le_of_ble_eq_true rfl) rfl (Nat.zero_le _) (Nat.zero_le _) ?_
        refine aw_if_eqB h (tgt := 40) dX0_areThere_18 (by decide) (fun c18 => ?_) (fun c18 => ?_)
        · refine aw_iincN3 h rfl dX0_areThere_40 ?_
          refine aw_goto h (tgt := 2) dX0_areThere_43 (by decide) ?_
          refine ih (k + 1) (by omega) (by omega) (fun j hj => ?_)
          by_cases e : j = k
          · subst e; rw [c18, Bool.false_and]
          · exact hno j (by omega)
        · refine aw_iload1 h dX0_areThere_21 ?_
          refine aw_iload3 h dX0_areThere_22 ?_
          refine aw_callSE2 h hl cl_X0_331 (met_x_placeOf hc (p := k) (by omega)) dX0_areThere_23 (Nat.le_of_ble_eq_true rfl) rfl (Nat.zero_le _) (Nat.zero_le _) ?_
          refine aw_aload0 h dX0_areThere_26 ?_
          refine aw_getr h fl_X0_19 (gx0 hX) dX0_areThere_27 rfl (gxp1 hX) ?_
          refine aw_getr h fl_X0_192 (gxt7 hX).1 dX0_areThere_30 rfl ((gxt7 hX).2 1 (by decide)).1 ?_
          refine aw_iload3 h dX0_areThere_33 ?_
          refine aw_ialdV h ((gxt7 hX).2 1 (by decide)).2 (by decide) (by omega) dX0_areThere_34 ((hA.2.1 k (by omega)).2.1.trans hiv.2.2.1) ?_
          refine aw_icmp_eqN h (tgt := 40) (by omega) (by omega) dX0_areThere_35 (by decide) (fun c35 => ?_) (fun c35 => ?_)
          · refine aw_iincN3 h rfl dX0_areThere_40 ?_
            refine aw_goto h (tgt := 2) dX0_areThere_43 (by decide) ?_
            refine ih (k + 1) (by omega) (by omega) (fun j hj => ?_)
            by_cases e : j = k
            · subst e; rw [c18, decide_eq_true c35]; rfl
            · exact hno j (by omega)
          · refine aw_iconst h _ ci_0 dX0_areThere_38 ?_
            exact aw_zret h hr dX0_areThere_39 (by first | exact z01_0 | exact z01_1 | exact z01_b _) (ExB0 (by unfold at8; rw [Bool.not_eq_false', anyN_iff]; exact ⟨k, by omega, by rw [c18, decide_eq_false c35]; rfl⟩)) (Nat.zero_le _) (Nat.zero_le _)
  refine aw_iconst h _ ci_0 dX0_areThere_0 ?_
  refine aw_istore3 h rfl dX0_areThere_1 ?_
  exact key (np S + 1) 0 (Nat.zero_le _) (by omega) (fun j hj => absurd hj (Nat.not_lt_zero _))
def SRt (S : Nat → Int32) (n : Nat) (inw : Int32) (c0 k l : Nat) (P : Nat → Prop) (c : Nat) (G : Gm) (I : Im) (L : Lm) : Gm → Im → Lm → Prop := fun G1 I1 L1 => G = G1 ∧ XM srE srF I L I1 L1 ∧ SK S n inw c0 k l P c I1
theorem met_x_reaches {w : Wd} {G : Gm} {I : Im} {L : Lm} (hX : XG G) {S : Nat → Int32} (hS : InvS S) (h0 : 0 < nr S) {n : Nat} (hn : n ≤ 5) {inw : Int32} {c0 k l : Nat} {P : Nat → Prop} {c u : Nat} (hSK : SK S n inw c0 k l P c I) (hF : FEd S 8 n inw c l u) : AMet w yX0_reaches cX0_reaches 4 none 1 40 0 0 [.ref (w.1 + 0), .int (nI u), .int (nI c), .int (nI (l % 1024))] G I L (Ans none (SRt S n inw c0 k (l + 1) P c G I L)) := by
  refine AMet.of (ls0 := [some (.ref (w.1 + 0)), some (.int (nI u)), some (.int (nI c)), some (.int (nI (l % 1024)))]) rfl (Nat.le_of_ble_eq_true rfl) rfl (fun q hq => hq) (fun X h hl hr hi => ?_)
  obtain ⟨cnt, qv, lv, par, lab, hSX, hk, hq⟩ := hSK
  have hM := pw8_le hn
  have hcV : VC S n c := hq ▸ hSX.2.2.2.1 k hk
  have hu := (FE_cv hS h0 hcV hF).1.1
  have hcl := hcV.1
  have q1 := hSX.1.1
  have q3 := hSX.1.2.2.1
  have hlc : I 153 c = nI (lv c) := (q3 c hcl).1 ⟨k, hk, hq⟩
  have hlk := hSX.2.2.2.2.2.2.1 k hk
  rw [hq] at hlk
  have hcm := hSX.2.2.2.2.2.1
  by_cases hs : seenB cnt qv u
  · have hlu : lv u < 2 ^ 31 := by
      obtain ⟨j, hj, e⟩ := hs
      have := hSX.2.2.2.2.2.2.1 j hj
      rw [e] at this; omega
    refine aw_aload0 h dX0_reaches_0 ?_
    refine aw_getr h fl_X0_92 (gx0 hX) dX0_reaches_1 rfl (gxp22 hX) ?_
    refine aw_iload1 h dX0_reaches_4 ?_
    refine aw_ialdV h (gxs153 hX) (by decide) (by omega) dX0_reaches_5 ((q3 u hu).1 hs) ?_
    refine aw_iconst h _ ci_m1 dX0_reaches_6 ?_
    refine aw_icmp_eq h (tgt := 11) dX0_reaches_7 (by decide) (fun c7 => ?_) (fun c7 => ?_)
    · exact absurd c7 (ne_m1 hlu)
    · exact aw_vret h hr dX0_reaches_10 (⟨rfl, rfl, XM.rf, SK.seen hS hn hF hSX hk hq hs⟩) (Nat.zero_le _) (Nat.zero_le _)
  · have hroom := hSX.2.1.room hu hs
    have hcnt : cnt < 32768 := by omega
    refine aw_aload0 h dX0_reaches_0 ?_
    refine aw_getr h fl_X0_92 (gx0 hX) dX0_reaches_1 rfl (gxp22 hX) ?_
    refine aw_iload1 h dX0_reaches_4 ?_
    refine aw_ialdV h (gxs153 hX) (by decide) (by omega) dX0_reaches_5 ((q3 u hu).2 hs) ?_
    refine aw_iconst h _ ci_m1 dX0_reaches_6 ?_
    refine aw_icmp_eq h (tgt := 11) dX0_reaches_7 (by decide) (fun c7 => ?_) (fun c7 => ?_)
    · refine aw_aload0 h dX0_reaches_11 ?_
      refine aw_getr h fl_X0_92 (gx0 hX) dX0_reaches_12 rfl (gxp22 hX) ?_
      refine aw_iload1 h dX0_reaches_15 ?_
      refine aw_aload0 h dX0_reaches_16 ?_
      refine aw_getr h fl_X0_92 (gx0 hX) dX0_reaches_17 rfl (gxp22 hX) ?_
      refine aw_iload2 h dX0_reaches_20 ?_
      refine aw_ialdV h (gxs153 hX) (by decide) (by omega) dX0_reaches_21 (hlc) ?_
      refine aw_iconst h _ ci_1 dX0_reaches_22 ?_
      refine aw_iaddN h dX0_reaches_23 ?_
      refine aw_iastN h (gxs153 hX) (by decide) (by omega) dX0_reaches_24 ?_
      refine aw_aload0 h dX0_reaches_25 ?_
      refine aw_getr h fl_X0_95 (gx0 hX) dX0_reaches_26 rfl (gxp23 hX) ?_
      refine aw_iload1 h dX0_reaches_29 ?_
      refine aw_iload2 h dX0_reaches_30 ?_
      refine aw_iastN h (gxs154 hX) (by decide) (by omega) dX0_reaches_31 ?_
      refine aw_aload0 h dX0_reaches_32 ?_
      refine aw_getr h fl_X0_98 (gx0 hX) dX0_reaches_33 rfl (gxp24 hX) ?_
      refine aw_iload1 h dX0_reaches_36 ?_
      refine aw_iload3 h dX0_reaches_37 ?_
      refine aw_iastN h (gxs155 hX) (by decide) (by omega) dX0_reaches_38 ?_
      refine aw_aload0 h dX0_reaches_39 ?_
      refine aw_getr h fl_X0_101 (gx0 hX) dX0_reaches_40 rfl (gxp25 hX) ?_
      refine aw_aload0 h dX0_reaches_43 ?_
      refine aw_getiV h fl_X0_328 (gx0 hX) dX0_reaches_44 rfl ((show (upd2 (upd2 (upd2 I 153 u (nI (lv c + 1))) 154 u (nI c)) 155 u (nI (l % 1024))) 0 26 = nI cnt from q1)) ?_
      refine aw_iload1 h dX0_reaches_47 ?_
      refine aw_iastN h (gxs156 hX) (by decide) (by omega) dX0_reaches_48 ?_
      refine aw_aload0 h dX0_reaches_49 ?_
      refine aw_dup h rfl dX0_reaches_50 ?_
      refine aw_getiV h fl_X0_328 (gx0 hX) dX0_reaches_51 rfl ((show (upd2 (upd2 (upd2 (upd2 I 153 u (nI (lv c + 1))) 154 u (nI c)) 155 u (nI (l % 1024))) 156 cnt (nI u)) 0 26 = nI cnt from q1)) ?_
      refine aw_iconst h _ ci_1 dX0_reaches_54 ?_
      refine aw_iaddN h dX0_reaches_55 ?_
      refine aw_puti h fl_X0_328 ft_X0_328 (fun z => by cases z) (gx0 hX) dX0_reaches_56 rfl ?_
      exact aw_vret h hr dX0_reaches_59 (⟨rfl, rfl, ((((XM.i (by decide) rfl).trans (XM.i (by decide) rfl)).trans (XM.i (by decide) rfl)).trans (XM.i (by decide) rfl)).trans (XM.f rfl), SK.add hS h0 hn hF hSX hk hq hs rfl rfl rfl rfl rfl⟩) (Nat.zero_le _) (Nat.zero_le _)
    · exact absurd rfl c7
