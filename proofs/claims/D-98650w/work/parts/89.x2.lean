/-! The component: its cells, its States -/
set_option maxRecDepth 100000
/-- cells of the component that are written at work -/
def MutB (m : Nat) : Bool := decide (m = 0) || ((decide (7 ≤ m) && decide (m ≤ 18)) || (decide (21 ≤ m) && decide (m ≤ 160)))
def StSh (G : Gm) (s : Nat) : Prop := SHP G s 2 6 ∧ ∀ k, k < 5 → G.2.2 s k = some (s + 1 + k) ∧ SHP G (s + 1 + k) 100 4
def gxP : List (Nat × Nat) := [(1, 7), (2, 13), (3, 19), (5, 21), (6, 22), (8, 23), (9, 24), (10, 25), (13, 26), (14, 27), (15, 28), (16, 29), (17, 30), (18, 31), (19, 32), (22, 153), (23, 154), (24, 155), (25, 156), (28, 157), (29, 158), (30, 159), (31, 160)]
def gxS : List (Nat × Nat × Nat) := [(21, 3, 7), (22, 102, 400), (23, 100, 10), (24, 100, 10), (25, 100, 10), (26, 100, 8), (27, 101, 12), (28, 100, 4), (29, 100, 4), (30, 100, 4), (31, 100, 4), (32, 104, 20), (153, 100, 32768), (154, 100, 32768), (155, 100, 32768), (156, 100, 32768), (157, 100, 4096), (158, 103, 4096), (159, 100, 28), (160, 105, 4)]
def XG (G : Gm) : Prop := SHP G 0 0 32 ∧ (∀ p ∈ gxP, G.2.2 0 p.1 = some p.2) ∧ (∀ p ∈ gxS, SHP G p.1 p.2.1 p.2.2) ∧ StSh G 7 ∧ StSh G 13 ∧ (∀ i, i < 20 → StSh G (33 + 6 * i) ∧ G.2.2 32 i = some (33 + 6 * i))
theorem gx0 {G : Gm} (h : XG G) : SHP G 0 0 32 := h.1
theorem gxt7 {G : Gm} (h : XG G) : StSh G 7 := h.2.2.2.1
theorem gxt13 {G : Gm} (h : XG G) : StSh G 13 := h.2.2.2.2.1
theorem gxp1 {G : Gm} (h : XG G) : G.2.2 0 1 = some 7 := h.2.1 (1, 7) (by decide)
theorem gxp2 {G : Gm} (h : XG G) : G.2.2 0 2 = some 13 := h.2.1 (2, 13) (by decide)
theorem gxp3 {G : Gm} (h : XG G) : G.2.2 0 3 = some 19 := h.2.1 (3, 19) (by decide)
theorem gxp5 {G : Gm} (h : XG G) : G.2.2 0 5 = some 21 := h.2.1 (5, 21) (by decide)
theorem gxp6 {G : Gm} (h : XG G) : G.2.2 0 6 = some 22 := h.2.1 (6, 22) (by decide)
theorem gxp8 {G : Gm} (h : XG G) : G.2.2 0 8 = some 23 := h.2.1 (8, 23) (by decide)
theorem gxp9 {G : Gm} (h : XG G) : G.2.2 0 9 = some 24 := h.2.1 (9, 24) (by decide)
theorem gxp10 {G : Gm} (h : XG G) : G.2.2 0 10 = some 25 := h.2.1 (10, 25) (by decide)
theorem gxp13 {G : Gm} (h : XG G) : G.2.2 0 13 = some 26 := h.2.1 (13, 26) (by decide)
theorem gxp14 {G : Gm} (h : XG G) : G.2.2 0 14 = some 27 := h.2.1 (14, 27) (by decide)
theorem gxp15 {G : Gm} (h : XG G) : G.2.2 0 15 = some 28 := h.2.1 (15, 28) (by decide)
theorem gxp16 {G : Gm} (h : XG G) : G.2.2 0 16 = some 29 := h.2.1 (16, 29) (by decide)
theorem gxp17 {G : Gm} (h : XG G) : G.2.2 0 17 = some 30 := h.2.1 (17, 30) (by decide)
theorem gxp18 {G : Gm} (h : XG G) : G.2.2 0 18 = some 31 := h.2.1 (18, 31) (by decide)
theorem gxp19 {G : Gm} (h : XG G) : G.2.2 0 19 = some 32 := h.2.1 (19, 32) (by decide)
theorem gxp22 {G : Gm} (h : XG G) : G.2.2 0 22 = some 153 := h.2.1 (22, 153) (by decide)
theorem gxp23 {G : Gm} (h : XG G) : G.2.2 0 23 = some 154 := h.2.1 (23, 154) (by decide)
theorem gxp24 {G : Gm} (h : XG G) : G.2.2 0 24 = some 155 := h.2.1 (24, 155) (by decide)
theorem gxp25 {G : Gm} (h : XG G) : G.2.2 0 25 = some 156 := h.2.1 (25, 156) (by decide)
theorem gxp28 {G : Gm} (h : XG G) : G.2.2 0 28 = some 157 := h.2.1 (28, 157) (by decide)
theorem gxp29 {G : Gm} (h : XG G) : G.2.2 0 29 = some 158 := h.2.1 (29, 158) (by decide)
theorem gxp30 {G : Gm} (h : XG G) : G.2.2 0 30 = some 159 := h.2.1 (30, 159) (by decide)
theorem gxp31 {G : Gm} (h : XG G) : G.2.2 0 31 = some 160 := h.2.1 (31, 160) (by decide)
theorem gxs21 {G : Gm} (h : XG G) : SHP G 21 3 7 := h.2.2.1 (21, 3, 7) (by decide)
theorem gxs22 {G : Gm} (h : XG G) : SHP G 22 102 400 := h.2.2.1 (22, 102, 400) (by decide)
theorem gxs23 {G : Gm} (h : XG G) : SHP G 23 100 10 := h.2.2.1 (23, 100, 10) (by decide)
theorem gxs24 {G : Gm} (h : XG G) : SHP G 24 100 10 := h.2.2.1 (24, 100, 10) (by decide)
theorem gxs25 {G : Gm} (h : XG G) : SHP G 25 100 10 := h.2.2.1 (25, 100, 10) (by decide)
theorem gxs26 {G : Gm} (h : XG G) : SHP G 26 100 8 := h.2.2.1 (26, 100, 8) (by decide)
theorem gxs27 {G : Gm} (h : XG G) : SHP G 27 101 12 := h.2.2.1 (27, 101, 12) (by decide)
theorem gxs28 {G : Gm} (h : XG G) : SHP G 28 100 4 := h.2.2.1 (28, 100, 4) (by decide)
theorem gxs29 {G : Gm} (h : XG G) : SHP G 29 100 4 := h.2.2.1 (29, 100, 4) (by decide)
theorem gxs30 {G : Gm} (h : XG G) : SHP G 30 100 4 := h.2.2.1 (30, 100, 4) (by decide)
theorem gxs31 {G : Gm} (h : XG G) : SHP G 31 100 4 := h.2.2.1 (31, 100, 4) (by decide)
theorem gxs32 {G : Gm} (h : XG G) : SHP G 32 104 20 := h.2.2.1 (32, 104, 20) (by decide)
theorem gxs153 {G : Gm} (h : XG G) : SHP G 153 100 32768 := h.2.2.1 (153, 100, 32768) (by decide)
theorem gxs154 {G : Gm} (h : XG G) : SHP G 154 100 32768 := h.2.2.1 (154, 100, 32768) (by decide)
theorem gxs155 {G : Gm} (h : XG G) : SHP G 155 100 32768 := h.2.2.1 (155, 100, 32768) (by decide)
theorem gxs156 {G : Gm} (h : XG G) : SHP G 156 100 32768 := h.2.2.1 (156, 100, 32768) (by decide)
theorem gxs157 {G : Gm} (h : XG G) : SHP G 157 100 4096 := h.2.2.1 (157, 100, 4096) (by decide)
theorem gxs158 {G : Gm} (h : XG G) : SHP G 158 103 4096 := h.2.2.1 (158, 103, 4096) (by decide)
theorem gxs159 {G : Gm} (h : XG G) : SHP G 159 100 28 := h.2.2.1 (159, 100, 28) (by decide)
theorem gxs160 {G : Gm} (h : XG G) : SHP G 160 105 4 := h.2.2.1 (160, 105, 4) (by decide)
/-- a castle whose cells are sealed -/
def KX (sl : Nat → Prop) (G : Gm) (I : Im) (K : CS) (c : Nat) : Prop := ∃ pl pa dl da fa ps ds, KAt G I c K pl pa dl da fa ps ds ∧ ∀ m ∈ KC c pl pa dl da fa ps ds, sl m
/-- the castle in force -/
def XC (sl : Nat → Prop) (G : Gm) (I : Im) (K : CS) (c : Nat) : Prop := G.2.2 0 0 = some c ∧ KX sl G I K c ∧ CSok K ∧ ∀ m, sl m → MutB m = false
theorem KAt.ix {G : Gm} {I I1 : Im} {c pl pa dl da fa : Nat} {ps ds : List Nat} {K : CS} (hK : KAt G I c K pl pa dl da fa ps ds) (he : ∀ m, m ∈ KC c pl pa dl da fa ps ds → I1 m = I m) : KAt G I1 c K pl pa dl da fa ps ds := by
  obtain ⟨a1, a2, a3, a4, a5, ⟨c1, a6⟩, ⟨c2, a7⟩, a8, a9, a10, a11, a12, a13, a14⟩ := hK
  have e1 := he c (by simp [KC])
  have e2 := he pl (by simp [KC])
  have e4 := he dl (by simp [KC])
  have e6 := he fa (by simp [KC])
  refine ⟨a1, a2, a3, a4, a5, ⟨c1, a6.1, a6.2.1, a6.2.2.1, by rw [e2]; exact a6.2.2.2.1, a6.2.2.2.2⟩, ⟨c2, a7.1, a7.2.1, a7.2.2.1, by rw [e4]; exact a7.2.2.2.1, a7.2.2.2.2⟩, a8, a9, fun k hk => ?_, fun k hk => ?_, by rw [e1]; exact a12, ?_, fun r hr => by rw [e6]; exact a14 r hr⟩
  · have e7 := he (ps.getD k 0) (by simp only [KC, List.mem_cons, List.mem_append]; exact Or.inr (Or.inr (Or.inr (Or.inr (Or.inr (Or.inr (Or.inl (getD_mem hk))))))))
    rw [e7]; exact a10 k hk
  · have e7 := he (ds.getD k 0) (by simp only [KC, List.mem_cons, List.mem_append]; exact Or.inr (Or.inr (Or.inr (Or.inr (Or.inr (Or.inr (Or.inr (getD_mem hk))))))))
    rw [e7]; exact a11 k hk
  · cases hn : kN K with
    | none => rw [hn] at a13; rw [e1]; exact a13
    | some q => rw [hn] at a13; rw [e1]; exact a13
theorem KX.ix {sl : Nat → Prop} {G : Gm} {I I1 : Im} {K : CS} {c : Nat} (h : KX sl G I K c) (he : ∀ m, sl m → I1 m = I m) : KX sl G I1 K c := by
  obtain ⟨pl, pa, dl, da, fa, ps, ds, hK, hsp⟩ := h
  exact ⟨pl, pa, dl, da, fa, ps, ds, hK.ix (fun m hm => he m (hsp m hm)), hsp⟩
theorem XC.ix {sl : Nat → Prop} {G : Gm} {I I1 : Im} {K : CS} {c : Nat} (h : XC sl G I K c) (he : ∀ m, MutB m = false → I1 m = I m) : XC sl G I1 K c := ⟨h.1, h.2.1.ix (fun m hm => he m (h.2.2.2 m hm)), h.2.2⟩
/-- rows that are left as they were -/
def IX (ex : List Nat) (I : Im) (L : Lm) (I1 : Im) (L1 : Lm) : Prop := ∀ m, m ∉ ex → I1 m = I m ∧ L1 m = L m
theorem IX.rf {ex : List Nat} {I : Im} {L : Lm} : IX ex I L I L := fun _ _ => ⟨rfl, rfl⟩
theorem IX.trans {ex : List Nat} {I I1 I2 : Im} {L L1 L2 : Lm} (h : IX ex I L I1 L1) (h2 : IX ex I1 L1 I2 L2) : IX ex I L I2 L2 := fun m hm => ⟨(h2 m hm).1.trans (h m hm).1, (h2 m hm).2.trans (h m hm).2⟩
theorem IX.mono {ex ex2 : List Nat} {I I1 : Im} {L L1 : Lm} (h : IX ex I L I1 L1) (he : ∀ m, m ∈ ex → m ∈ ex2) : IX ex2 I L I1 L1 := fun m hm => h m (fun q => hm (he m q))
theorem IX.i {ex : List Nat} {I : Im} {L : Lm} {n j : Nat} {x : Int32} (h : n ∈ ex) : IX ex I L (upd2 I n j x) L := fun m hm => ⟨upd2_n _ _ _ (fun e => hm (e ▸ h)), rfl⟩
theorem IX.r {ex : List Nat} {I : Im} {L : Lm} {n : Nat} {f : Nat → Int32} (h : n ∈ ex) : IX ex I L (va_up I n f) L := fun m hm => ⟨vup_n _ _ (fun e => hm (e ▸ h)), rfl⟩
theorem IX.l {ex : List Nat} {I : Im} {L : Lm} {n j : Nat} {x : Int64} (h : n ∈ ex) : IX ex I L I (upd2 L n j x) := fun m hm => ⟨rfl, upd2_n _ _ _ (fun e => hm (e ▸ h))⟩
/-- none of them is sealed -/
theorem IX.nm {ex : List Nat} {I I1 : Im} {L L1 : Lm} (h : IX ex I L I1 L1) (he : ∀ m ∈ ex, MutB m = true) : ∀ m, MutB m = false → I1 m = I m := fun m hm => (h m (fun q => by rw [he m q] at hm; cases hm)).1
theorem upd2_r {α : Type} {I : Nat → Nat → α} {n i m j : Nat} {x : α} (h : m ≠ n) : upd2 I n i x m j = I m j := congrFun (upd2_n I i x h) j
/-- what a State's cells tell -/
def StAt (I : Im) (s : Nat) (S : Nat → Int32) : Prop := I s 5 = S 3 ∧ (∀ p, p < np S → I (s + 1) p = pv S p 0 ∧ I (s + 2) p = pv S p 1 ∧ I (s + 3) p = pv S p 3 ∧ I (s + 4) p = pv S p 4 ∧ I (s + 5) p = pv S p 5) ∧ ∀ p, np S ≤ p → p < 4 → I (s + 3) p = 0 ∧ I (s + 4) p = 0
def SCs (s : Nat) : List Nat := [s, s + 1, s + 2, s + 3, s + 4, s + 5]
theorem StAt.ix {I I1 : Im} {s : Nat} {S : Nat → Int32} (h : StAt I s S) (he : ∀ m ∈ SCs s, I1 m = I m) : StAt I1 s S := by
  have e0 := he s (by simp [SCs])
  have e1 := he (s + 1) (by simp [SCs])
  have e2 := he (s + 2) (by simp [SCs])
  have e3 := he (s + 3) (by simp [SCs])
  have e4 := he (s + 4) (by simp [SCs])
  have e5 := he (s + 5) (by simp [SCs])
  unfold StAt
  rw [e0, e1, e2, e3, e4, e5]
  exact h
/-- the castle's part of the vector -/
def CasS (S : Nat → Int32) (K : CS) : Prop := S 0 = nI (kR K) ∧ S 1 = nI (kD K).length ∧ S 2 = nI (kP K).length ∧ (match kN K with
    | none => S 4 = -1 ∧ S 5 = -1
    | some q => S 4 = nI q.1 ∧ S 5 = nI q.2) ∧ TN S (kF K) (kD K) 14 ∧ ∀ k, k < (kP K).length → S (10 + 6 * k + 2) = nI (gK (kP K) k).2.2
theorem cas_n {S : Nat → Int32} {K : CS} (h : CasS S K) (hok : CSok K) : nr S = kR K ∧ nd S = (kD K).length ∧ np S = (kP K).length := by
  obtain ⟨h0, h1, h2, -⟩ := h
  obtain ⟨-, a1, a2, a3, -⟩ := hok
  refine ⟨?_, ?_, ?_⟩
  · show (S 0).toNatClampNeg = _; rw [h0, nI_clamp (by omega)]
  · show (S 1).toNatClampNeg = _; rw [h1, nI_clamp (by omega)]
  · show (S 2).toNatClampNeg = _; rw [h2, nI_clamp (by omega)]
theorem cas_d {S : Nat → Int32} {K : CS} (h : CasS S K) (hok : CSok K) {d : Nat} (hd : d < (kD K).length) : near S d = inK K d ∧ farr S d = ouK K d ∧ dv S d 0 = nI (inK K d) ∧ dv S d 1 = nI (ouK K d) ∧ dv S d 2 = nI (gK (kD K) d).2.2 := by
  have hl := inK_lt hok hd
  have hR := hok.2.1
  obtain ⟨t1, t2, t3⟩ := h.2.2.2.2.1.2 d hd
  have hD := hok.2.2.1
  rw [if_pos (by omega)] at t1 t2
  have t1 : dv S d 0 = nI (inK K d) := t1
  have t2 : dv S d 1 = nI (ouK K d) := t2
  refine ⟨?_, ?_, t1, t2, t3⟩
  · show (dv S d 0).toNatClampNeg = _; rw [t1, nI_clamp (by omega)]
  · show (dv S d 1).toNatClampNeg = _; rw [t2, nI_clamp (by omega)]
theorem cas_f {S : Nat → Int32} {K : CS} (h : CasS S K) {r : Nat} (hr : r < 8) : S (34 + r) = nI (kF K r) := h.2.2.2.2.1.1 r hr
theorem cas_nt {S : Nat → Int32} {K : CS} (h : CasS S K) (hok : CSok K) (hR : 0 < kR K) {t : Nat} (ht : S 3 = nI t) (ht2 : t < 2 ^ 30) : nightB S = ntK K t := by
  have hh : hourV S = nI (t % 24) := by
    unfold hourV
    rw [ht]
    exact pk_rem (a := t) (d := 24) (by omega) (by decide) (by decide)
  have h0 : (0 < S 0) = True := by rw [h.1]; exact eq_true ((nI_ltI (a := 0) (by decide) (by have := hok.2.1; omega)).mpr hR)
  have hn := h.2.2.2.1
  unfold nightB ntK
  rw [hh]
  cases hk : kN K with
  | none =>
    rw [hk] at hn
    rw [hn.1]
    simp
  | some q =>
    rw [hk] at hn
    have hq := hok.2.2.2.2.2.2.1 q hk
    rw [hn.1, hn.2, decide_eq_true (p := 0 < S 0) (by rw [h0]; trivial), decide_eq_true (p := (0 : Int32) ≤ nI q.1) (nI_pos' (by omega)), decide_eq_decide.mpr (nI_leI (a := q.1) (b := t % 24) (by omega) (by omega)), decide_eq_decide.mpr (nI_leI (a := t % 24) (b := q.2) (by omega) (by omega))]
    rfl
theorem cas_op {S : Nat → Int32} {K : CS} (h : CasS S K) (hok : CSok K) {t : Nat} (ht : S 3 = nI t) (ht2 : t < 2 ^ 30) {d : Nat} (hd : d < (kD K).length) : openB S d = opK K t d := by
  have hx := cas_d h hok hd
  have hdo := hok.2.2.2.2.1 d hd
  have hR := hok.2.1
  have ha := hok.2.2.2.2.2.2.2 (gK (kD K) d).1 (by omega)
  have hb := hok.2.2.2.2.2.2.2 (gK (kD K) d).2.1 (by omega)
  unfold openB opK
  rw [hx.1, hx.2.1, hx.2.2.2.2, cas_nt h hok (by omega) ht ht2]
  have e1 : decide (¬ S (34 + inK K d) = S (34 + ouK K d)) = decide (kF K (gK (kD K) d).1 ≠ kF K (gK (kD K) d).2.1) := by
    have hl := inK_lt hok hd
    rw [cas_f h (show inK K d < 8 by omega), cas_f h (show ouK K d < 8 by omega)]
    have hi : (inK K d = (gK (kD K) d).1 ∧ ouK K d = (gK (kD K) d).2.1) ∨ (inK K d = (gK (kD K) d).2.1 ∧ ouK K d = (gK (kD K) d).1) := by
      unfold inK ouK tnA tnC
      split
      · exact Or.inl ⟨rfl, rfl⟩
      · exact Or.inr ⟨rfl, rfl⟩
    rcases hi with ⟨e, e2⟩ | ⟨e, e2⟩
    · rw [e, e2]; exact decide_eq_decide.mpr (not_congr (nI_eq (by omega) (by omega)))
    · rw [e, e2]; exact decide_eq_decide.mpr (not_congr ((nI_eq (by omega) (by omega)).trans ⟨fun q => q.symm, fun q => q.symm⟩))
  rw [e1, decide_eq_decide.mpr (show (nI (gK (kD K) d).2.2 = 0) ↔ (gK (kD K) d).2.2 = 0 from nI_eq (b := 0) (by omega) (by decide))]
def CopR (s u : Nat) (G : Gm) (I : Im) (L : Lm) : Gm → Im → Lm → Prop := fun G1 I1 L1 => G = G1 ∧ IX (SCs s) I L I1 L1 ∧ I1 s 5 = I u 5 ∧ ∀ p, p < 4 → ∀ j, j < 5 → I1 (s + 1 + j) p = I (u + 1 + j) p
theorem CopR.st {s u : Nat} {G G1 : Gm} {I I1 : Im} {L L1 : Lm} {S : Nat → Int32} (h : CopR s u G I L G1 I1 L1) (hS : InvS S) (hA : StAt I u S) : StAt I1 s S := by
  obtain ⟨-, -, h1, h2⟩ := h
  have hp4 := iv2b hS
  refine ⟨h1.trans hA.1, fun p hp => ?_, fun p hp hp4 => ?_⟩
  · have h3 := hA.2.1 p hp
    exact ⟨(h2 p (by omega) 0 (by decide)).trans h3.1, (h2 p (by omega) 1 (by decide)).trans h3.2.1, (h2 p (by omega) 2 (by decide)).trans h3.2.2.1, (h2 p (by omega) 3 (by decide)).trans h3.2.2.2.1, (h2 p (by omega) 4 (by decide)).trans h3.2.2.2.2⟩
  · have h3 := hA.2.2 p hp hp4
    exact ⟨(h2 p hp4 2 (by decide)).trans h3.1, (h2 p hp4 3 (by decide)).trans h3.2⟩
theorem met_x_copyFrom {w : Wd} {G : Gm} {I : Im} {L : Lm} {s u : Nat} (hs : StSh G s) (hu : StSh G u) (hd : s + 5 < u ∨ u + 5 < s) : AMet w yX2_copyFrom cX2_copyFrom 3 none 1 40 0 0 [.ref (w.1 + s), .ref (w.1 + u)] G I L (Ans none (CopR s u G I L)) := by
  refine AMet.of (ls0 := [some (.ref (w.1 + s)), some (.ref (w.1 + u)), none]) rfl (Nat.le_of_ble_eq_true rfl) rfl (fun q hq => hq) (fun X h hl hr hi => ?_)
  have key : ∀ (fu k : Nat) (I1 : Im), k ≤ 4 → 4 < k + fu → IX (SCs s) I L I1 L → (∀ p, p < k → ∀ j, j < 5 → I1 (s + 1 + j) p = I (u + 1 + j) p) → AW X 0 0 2 [some (.ref (w.1 + s)), some (.ref (w.1 + u)), some (.int (nI k))] [] G I1 L := by
    intro fu
    induction fu with
    | zero => intro k I1 hle hlt; exact absurd hlt (by omega)
    | succ fu ih =>
      intro k I1 hle hlt hix hcp
      have hq : ∀ j, j < 5 → I1 (u + 1 + j) k = I (u + 1 + j) k := fun j hj => congrFun (hix (u + 1 + j) (by simp [SCs]; omega)).1 k
      refine aw_iload2 h dX2_copyFrom_2 ?_
      refine aw_iconst h _ ci_4 dX2_copyFrom_3 ?_
      refine aw_icmp_geN h (tgt := 73) (by omega) (by decide) dX2_copyFrom_4 (by decide) (fun c4 => ?_) (fun c4 => ?_)
      · refine aw_aload0 h dX2_copyFrom_73 ?_
        refine aw_aload1 h dX2_copyFrom_74 ?_
        refine aw_geti h fl_X2_27 hu.1 dX2_copyFrom_75 rfl ?_
        refine aw_puti h fl_X2_27 ft_X2_27 (fun z => by cases z) hs.1 dX2_copyFrom_78 rfl ?_
        exact aw_vret h hr dX2_copyFrom_81 (⟨rfl, rfl, hix.trans (IX.i (by simp [SCs])), by rw [upd2_s, vup_s]; exact congrFun (hix u (by simp [SCs]; omega)).1 5, fun p hp j hj => (upd2_r (by omega)).trans (hcp p (by omega) j hj)⟩) (Nat.zero_le _) (Nat.zero_le _)
      · refine aw_aload0 h dX2_copyFrom_7 ?_
        refine aw_getr h fl_X2_9 hs.1 dX2_copyFrom_8 rfl (hs.2 0 (by decide)).1 ?_
        refine aw_iload2 h dX2_copyFrom_11 ?_
        refine aw_aload1 h dX2_copyFrom_12 ?_
        refine aw_getr h fl_X2_9 hu.1 dX2_copyFrom_13 rfl (hu.2 0 (by decide)).1 ?_
        refine aw_iload2 h dX2_copyFrom_16 ?_
        refine aw_ialdV h (hu.2 0 (by decide)).2 (by decide) (by omega) dX2_copyFrom_17 ((hq 0 (by decide))) ?_
        refine aw_iastN h (hs.2 0 (by decide)).2 (by decide) (by omega) dX2_copyFrom_18 ?_
        refine aw_aload0 h dX2_copyFrom_19 ?_
        refine aw_getr h fl_X2_15 hs.1 dX2_copyFrom_20 rfl (hs.2 1 (by decide)).1 ?_
        refine aw_iload2 h dX2_copyFrom_23 ?_
        refine aw_aload1 h dX2_copyFrom_24 ?_
        refine aw_getr h fl_X2_15 hu.1 dX2_copyFrom_25 rfl (hu.2 1 (by decide)).1 ?_
        refine aw_iload2 h dX2_copyFrom_28 ?_
        refine aw_ialdV h (hu.2 1 (by decide)).2 (by decide) (by omega) dX2_copyFrom_29 (((upd2_r (by omega)).trans (hq 1 (by decide)))) ?_
        refine aw_iastN h (hs.2 1 (by decide)).2 (by decide) (by omega) dX2_copyFrom_30 ?_
        refine aw_aload0 h dX2_copyFrom_31 ?_
        refine aw_getr h fl_X2_18 hs.1 dX2_copyFrom_32 rfl (hs.2 2 (by decide)).1 ?_
        refine aw_iload2 h dX2_copyFrom_35 ?_
        refine aw_aload1 h dX2_copyFrom_36 ?_
        refine aw_getr h fl_X2_18 hu.1 dX2_copyFrom_37 rfl (hu.2 2 (by decide)).1 ?_
        refine aw_iload2 h dX2_copyFrom_40 ?_
        refine aw_ialdV h (hu.2 2 (by decide)).2 (by decide) (by omega) dX2_copyFrom_41 (((upd2_r (by omega)).trans ((upd2_r (by omega)).trans (hq 2 (by decide))))) ?_
        refine aw_iastN h (hs.2 2 (by decide)).2 (by decide) (by omega) dX2_copyFrom_42 ?_
        refine aw_aload0 h dX2_copyFrom_43 ?_
        refine aw_getr h fl_X2_21 hs.1 dX2_copyFrom_44 rfl (hs.2 3 (by decide)).1 ?_
        refine aw_iload2 h dX2_copyFrom_47 ?_
        refine aw_aload1 h dX2_copyFrom_48 ?_
        refine aw_getr h fl_X2_21 hu.1 dX2_copyFrom_49 rfl (hu.2 3 (by decide)).1 ?_
        refine aw_iload2 h dX2_copyFrom_52 ?_
        refine aw_ialdV h (hu.2 3 (by decide)).2 (by decide) (by omega) dX2_copyFrom_53 (((upd2_r (by omega)).trans ((upd2_r (by omega)).trans ((upd2_r (by omega)).trans (hq 3 (by decide)))))) ?_
        refine aw_iastN h (hs.2 3 (by decide)).2 (by decide) (by omega) dX2_copyFrom_54 ?_
        refine aw_aload0 h dX2_copyFrom_55 ?_
        refine aw_getr h fl_X2_24 hs.1 dX2_copyFrom_56 rfl (hs.2 4 (by decide)).1 ?_
        refine aw_iload2 h dX2_copyFrom_59 ?_
        refine aw_aload1 h dX2_copyFrom_60 ?_
        refine aw_getr h fl_X2_24 hu.1 dX2_copyFrom_61 rfl (hu.2 4 (by decide)).1 ?_
        refine aw_iload2 h dX2_copyFrom_64 ?_
        refine aw_ialdV h (hu.2 4 (by decide)).2 (by decide) (by omega) dX2_copyFrom_65 (((upd2_r (by omega)).trans ((upd2_r (by omega)).trans ((upd2_r (by omega)).trans ((upd2_r (by omega)).trans (hq 4 (by decide))))))) ?_
        refine aw_iastN h (hs.2 4 (by decide)).2 (by decide) (by omega) dX2_copyFrom_66 ?_
        refine aw_iincN2 h rfl dX2_copyFrom_67 ?_
        refine aw_goto h (tgt := 2) dX2_copyFrom_70 (by decide) ?_
        refine ih (k + 1) (upd2 (upd2 (upd2 (upd2 (upd2 I1 (s + 1 + 0) k (I (u + 1 + 0) k)) (s + 1 + 1) k (I (u + 1 + 1) k)) (s + 1 + 2) k (I (u + 1 + 2) k)) (s + 1 + 3) k (I (u + 1 + 3) k)) (s + 1 + 4) k (I (u + 1 + 4) k)) (by omega) (by omega) (((((hix.trans (IX.i (by simp [SCs]))).trans (IX.i (by simp [SCs]))).trans (IX.i (by simp [SCs]))).trans (IX.i (by simp [SCs]))).trans (IX.i (by simp [SCs]))) (fun p hp j hj => ?_)
        by_cases e : p = k
        · subst e
          rcases (by omega : j = 0 ∨ j = 1 ∨ j = 2 ∨ j = 3 ∨ j = 4) with rfl | rfl | rfl | rfl | rfl
          · rw [upd2_r (by omega), upd2_r (by omega), upd2_r (by omega), upd2_r (by omega), upd2_s, vup_s]
          · rw [upd2_r (by omega), upd2_r (by omega), upd2_r (by omega), upd2_s, vup_s]
          · rw [upd2_r (by omega), upd2_r (by omega), upd2_s, vup_s]
          · rw [upd2_r (by omega), upd2_s, vup_s]
          · rw [upd2_s, vup_s]
        · have h9 := hcp p (by omega) j hj
          have hpk : ∀ (J : Im) (n : Nat) (x : Int32) (m : Nat), upd2 J n k x m p = J m p := fun J n x m => by
            by_cases q : m = n
            · subst q; rw [upd2_s, vup_n _ _ e]
            · exact upd2_r q
          rw [hpk, hpk, hpk, hpk, hpk]
          exact h9
  refine aw_iconst h _ ci_0 dX2_copyFrom_0 ?_
  refine aw_istore2 h rfl dX2_copyFrom_1 ?_
  exact key 5 0 I (Nat.zero_le _) (by decide) IX.rf (fun p hp => absurd hp (Nat.not_lt_zero _))
theorem met_x_goesOut {w : Wd} {G : Gm} {I : Im} {L : Lm} {s p r : Nat} (hs : StSh G s) (hp : p < 4) : AMet w yX2_goesOut cX2_goesOut 3 none 1 40 0 0 [.ref (w.1 + s), .int (nI p), .int (nI r)] G I L (Exact none G (upd2 (upd2 I (s + 1 + 0) p (nI r)) (s + 1 + 3) p (upd2 I (s + 1 + 0) p (nI r) (s + 1 + 3) p + nI 1)) L) := by
  refine AMet.of (ls0 := [some (.ref (w.1 + s)), some (.int (nI p)), some (.int (nI r))]) rfl (Nat.le_of_ble_eq_true rfl) rfl (fun q hq => hq) (fun X h hl hr hi => ?_)
  refine aw_aload0 h dX2_goesOut_0 ?_
  refine aw_getr h fl_X2_9 hs.1 dX2_goesOut_1 rfl (hs.2 0 (by decide)).1 ?_
  refine aw_iload1 h dX2_goesOut_4 ?_
  refine aw_iload2 h dX2_goesOut_5 ?_
  refine aw_iastN h (hs.2 0 (by decide)).2 (by decide) (by omega) dX2_goesOut_6 ?_
  refine aw_aload0 h dX2_goesOut_7 ?_
  refine aw_getr h fl_X2_21 hs.1 dX2_goesOut_8 rfl (hs.2 3 (by decide)).1 ?_
  refine aw_iload1 h dX2_goesOut_11 ?_
  refine aw_dup2 h rfl rfl dX2_goesOut_12 ?_
  refine aw_ialdN h (hs.2 3 (by decide)).2 (by decide) (by omega) dX2_goesOut_13 ?_
  refine aw_iconst h _ ci_1 dX2_goesOut_14 ?_
  refine aw_iadd h dX2_goesOut_15 ?_
  refine aw_iastN h (hs.2 3 (by decide)).2 (by decide) (by omega) dX2_goesOut_16 ?_
  exact aw_vret h hr dX2_goesOut_17 (⟨rfl, rfl, rfl, rfl⟩) (Nat.zero_le _) (Nat.zero_le _)
theorem met_x_comesIn {w : Wd} {G : Gm} {I : Im} {L : Lm} {s p r o : Nat} (hs : StSh G s) (hp : p < 4) : AMet w yX2_comesIn cX2_comesIn 4 none 1 40 0 0 [.ref (w.1 + s), .int (nI p), .int (nI r), .int (nI o)] G I L (Exact none G (upd2 (upd2 (upd2 I (s + 1 + 0) p (nI r)) (s + 1 + 2) p (upd2 I (s + 1 + 0) p (nI r) (s + 1 + 2) p + nI 1)) (s + 1 + 4) p (nI o)) L) := by
  refine AMet.of (ls0 := [some (.ref (w.1 + s)), some (.int (nI p)), some (.int (nI r)), some (.int (nI o))]) rfl (Nat.le_of_ble_eq_true rfl) rfl (fun q hq => hq) (fun X h hl hr hi => ?_)
  refine aw_aload0 h dX2_comesIn_0 ?_
  refine aw_getr h fl_X2_9 hs.1 dX2_comesIn_1 rfl (hs.2 0 (by decide)).1 ?_
  refine aw_iload1 h dX2_comesIn_4 ?_
  refine aw_iload2 h dX2_comesIn_5 ?_
  refine aw_iastN h (hs.2 0 (by decide)).2 (by decide) (by omega) dX2_comesIn_6 ?_
  refine aw_aload0 h dX2_comesIn_7 ?_
  refine aw_getr h fl_X2_18 hs.1 dX2_comesIn_8 rfl (hs.2 2 (by decide)).1 ?_
  refine aw_iload1 h dX2_comesIn_11 ?_
  refine aw_dup2 h rfl rfl dX2_comesIn_12 ?_
  refine aw_ialdN h (hs.2 2 (by decide)).2 (by decide) (by omega) dX2_comesIn_13 ?_
  refine aw_iconst h _ ci_1 dX2_comesIn_14 ?_
  refine aw_iadd h dX2_comesIn_15 ?_
  refine aw_iastN h (hs.2 2 (by decide)).2 (by decide) (by omega) dX2_comesIn_16 ?_
  refine aw_aload0 h dX2_comesIn_17 ?_
  refine aw_getr h fl_X2_24 hs.1 dX2_comesIn_18 rfl (hs.2 4 (by decide)).1 ?_
  refine aw_iload1 h dX2_comesIn_21 ?_
  refine aw_iload3 h dX2_comesIn_22 ?_
  refine aw_iastN h (hs.2 4 (by decide)).2 (by decide) (by omega) dX2_comesIn_23 ?_
  exact aw_vret h hr dX2_comesIn_24 (⟨rfl, rfl, rfl, rfl⟩) (Nat.zero_le _) (Nat.zero_le _)
def sum4 (f : Nat → Int32) : Nat → Int32
  | 0 => nI 0
  | k + 1 => sum4 f k + f k
theorem met_x_cameAll {w : Wd} {G : Gm} {I : Im} {L : Lm} {s : Nat} (hs : StSh G s) : AMet w yX2_cameAll cX2_cameAll 3 (some .int) 1 40 0 0 [.ref (w.1 + s)] G I L (Exact (some (.int (sum4 (I (s + 1 + 2)) 4))) G I L) := by
  refine AMet.of (ls0 := [some (.ref (w.1 + s)), none, none]) rfl (Nat.le_of_ble_eq_true rfl) rfl (fun q hq => hq) (fun X h hl hr hi => ?_)
  have key : ∀ (fu k : Nat), k ≤ 4 → 4 < k + fu → AW X 0 0 4 [some (.ref (w.1 + s)), some (.int (sum4 (I (s + 1 + 2)) k)), some (.int (nI k))] [] G I L := by
    intro fu
    induction fu with
    | zero => intro k hle hlt; exact absurd hlt (by omega)
    | succ fu ih =>
      intro k hle hlt
      refine aw_iload2 h dX2_cameAll_4 ?_
      refine aw_iconst h _ ci_4 dX2_cameAll_5 ?_
      refine aw_icmp_geN h (tgt := 24) (by omega) (by decide) dX2_cameAll_6 (by decide) (fun c6 => ?_) (fun c6 => ?_)
      · refine aw_iload1 h dX2_cameAll_24 ?_
        exact aw_iret h hr dX2_cameAll_25 (⟨by rw [show k = 4 by omega], rfl, rfl, rfl⟩) (Nat.zero_le _) (Nat.zero_le _)
      · refine aw_iload1 h dX2_cameAll_9 ?_
        refine aw_aload0 h dX2_cameAll_10 ?_
        refine aw_getr h fl_X2_18 hs.1 dX2_cameAll_11 rfl (hs.2 2 (by decide)).1 ?_
        refine aw_iload2 h dX2_cameAll_14 ?_
        refine aw_ialdN h (hs.2 2 (by decide)).2 (by decide) (by omega) dX2_cameAll_15 ?_
        refine aw_iadd h dX2_cameAll_16 ?_
        refine aw_istore1 h rfl dX2_cameAll_17 ?_
        refine aw_iincN2 h rfl dX2_cameAll_18 ?_
        refine aw_goto h (tgt := 4) dX2_cameAll_21 (by decide) ?_
        exact ih (k + 1) (by omega) (by omega)
  refine aw_iconst h _ ci_0 dX2_cameAll_0 ?_
  refine aw_istore1 h rfl dX2_cameAll_1 ?_
  refine aw_iconst h _ ci_0 dX2_cameAll_2 ?_
  refine aw_istore2 h rfl dX2_cameAll_3 ?_
  exact key 5 0 (Nat.zero_le _) (by decide)

theorem met_x_wentAll {w : Wd} {G : Gm} {I : Im} {L : Lm} {s : Nat} (hs : StSh G s) : AMet w yX2_wentAll cX2_wentAll 3 (some .int) 1 40 0 0 [.ref (w.1 + s)] G I L (Exact (some (.int (sum4 (I (s + 1 + 3)) 4))) G I L) := by
  refine AMet.of (ls0 := [some (.ref (w.1 + s)), none, none]) rfl (Nat.le_of_ble_eq_true rfl) rfl (fun q hq => hq) (fun X h hl hr hi => ?_)
  have key : ∀ (fu k : Nat), k ≤ 4 → 4 < k + fu → AW X 0 0 4 [some (.ref (w.1 + s)), some (.int (sum4 (I (s + 1 + 3)) k)), some (.int (nI k))] [] G I L := by
    intro fu
    induction fu with
    | zero => intro k hle hlt; exact absurd hlt (by omega)
    | succ fu ih =>
      intro k hle hlt
      refine aw_iload2 h dX2_wentAll_4 ?_
      refine aw_iconst h _ ci_4 dX2_wentAll_5 ?_
      refine aw_icmp_geN h (tgt := 24) (by omega) (by decide) dX2_wentAll_6 (by decide) (fun c6 => ?_) (fun c6 => ?_)
      · refine aw_iload1 h dX2_wentAll_24 ?_
        exact aw_iret h hr dX2_wentAll_25 (⟨by rw [show k = 4 by omega], rfl, rfl, rfl⟩) (Nat.zero_le _) (Nat.zero_le _)
      · refine aw_iload1 h dX2_wentAll_9 ?_
        refine aw_aload0 h dX2_wentAll_10 ?_
        refine aw_getr h fl_X2_21 hs.1 dX2_wentAll_11 rfl (hs.2 3 (by decide)).1 ?_
        refine aw_iload2 h dX2_wentAll_14 ?_
        refine aw_ialdN h (hs.2 3 (by decide)).2 (by decide) (by omega) dX2_wentAll_15 ?_
        refine aw_iadd h dX2_wentAll_16 ?_
        refine aw_istore1 h rfl dX2_wentAll_17 ?_
        refine aw_iincN2 h rfl dX2_wentAll_18 ?_
        refine aw_goto h (tgt := 4) dX2_wentAll_21 (by decide) ?_
        exact ih (k + 1) (by omega) (by omega)
  refine aw_iconst h _ ci_0 dX2_wentAll_0 ?_
  refine aw_istore1 h rfl dX2_wentAll_1 ?_
  refine aw_iconst h _ ci_0 dX2_wentAll_2 ?_
  refine aw_istore2 h rfl dX2_wentAll_3 ?_
  exact key 5 0 (Nat.zero_le _) (by decide)
