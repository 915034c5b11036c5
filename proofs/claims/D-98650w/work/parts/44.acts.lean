/-! Plain: what acts leave alone; the row of what was -/
def scrL : List Nat := [161, 164, 167, 168, 172, 173, 174, 176, 177, 178, 179, 180, 181]
def corF : List Nat := [1, 2, 21, 22, 27]
/-- all that matters of the reference's cells stays, but those of ex, and the object's own numbers of exf -/
def MC (ex exf : List Nat) (I : Im) (L : Lm) (I1 : Im) (L1 : Lm) : Prop := (∀ n, n ∉ scrL → n ∉ ex → I1 n = I n) ∧ (∀ j, j ∈ corF → j ∉ exf → I1 161 j = I 161 j) ∧ ∀ n, n ∉ [161, 169, 170] → L1 n = L n
theorem MC.rf {ex exf : List Nat} {I : Im} {L : Lm} : MC ex exf I L I L := ⟨fun _ _ _ => rfl, fun _ _ _ => rfl, fun _ _ => rfl⟩
theorem MC.trans {ex exf : List Nat} {I I1 I2 : Im} {L L1 L2 : Lm} (h : MC ex exf I L I1 L1) (h2 : MC ex exf I1 L1 I2 L2) : MC ex exf I L I2 L2 := ⟨fun n a b => (h2.1 n a b).trans (h.1 n a b), fun j a b => (h2.2.1 j a b).trans (h.2.1 j a b), fun n a => (h2.2.2 n a).trans (h.2.2 n a)⟩
theorem MC.mono {ex exf ex2 exf2 : List Nat} {I I1 : Im} {L L1 : Lm} (h : MC ex exf I L I1 L1) (h1 : ∀ n, n ∈ ex → n ∈ ex2) (h2 : ∀ n, n ∈ exf → n ∈ exf2) : MC ex2 exf2 I L I1 L1 := ⟨fun n a b => h.1 n a (fun q => b (h1 n q)), fun j a b => h.2.1 j a (fun q => b (h2 j q)), h.2.2⟩
theorem MC.up {ex exf : List Nat} {I : Im} {L : Lm} {n : Nat} (f : Nat → Int32) (hn : n ≠ 161) (h : n ∈ scrL ∨ n ∈ ex) : MC ex exf I L (va_up I n f) L := by
  refine ⟨fun m a b => vup_n _ _ (fun e => ?_), fun j _ _ => by rw [vup_n _ _ (Ne.symm hn)], fun _ _ => rfl⟩
  subst e
  rcases h with h | h
  · exact a h
  · exact b h
theorem MC.upF {ex exf : List Nat} {I : Im} {L : Lm} {j : Nat} (x : Int32) (h : j ∉ corF ∨ j ∈ exf) : MC ex exf I L (upd2 I 161 j x) L := by
  refine ⟨fun m a b => upd2_n _ _ _ (fun e => a (by rw [e]; decide)), fun i a b => ?_, fun _ _ => rfl⟩
  rw [upd2_s, vup_n]
  intro e
  subst e
  rcases h with h | h
  · exact h a
  · exact b h
theorem FR.mc {ex exf : List Nat} {I I1 : Im} {L L1 : Lm} {fr : Option (List Cl)} (h : MC ex exf I L I1 L1) (h1 : 163 ∉ ex) (h2 : 165 ∉ ex) (h3 : 166 ∉ ex) (h4 : 21 ∉ exf) (hF : FR I fr) : FR I1 fr := hF.of (h.2.1 21 (by decide) h4) (h.1 163 (by decide) h1) (h.1 165 (by decide) h2) (h.1 166 (by decide) h3)
/-- a query's end: all that matters is as it was -/
def PQ (G : Gm) (I : Im) (L : Lm) : Gm → Im → Lm → Prop := fun G1 I1 L1 => G = G1 ∧ MC [] [] I L I1 L1
def itP (fr : Option (List Cl)) : Nat → (Nat → Int32) → (Nat → Int32)
  | 0, S => S
  | k + 1, S => passS (itP fr k S) fr
theorem InvS.set3 {S : Nat → Int32} (h : InvS S) (v : Int32) : InvS (va_up S 3 v) := by
  have e : ∀ i, i ≠ 3 → va_up S 3 v i = S i := fun i hi => vup_n _ _ hi
  have e1 : nr (va_up S 3 v) = nr S := by unfold nr nv; rw [e 0 (by decide)]
  have e2 : nd (va_up S 3 v) = nd S := by unfold nd nv; rw [e 1 (by decide)]
  have e3 : np (va_up S 3 v) = np S := by unfold np nv; rw [e 2 (by decide)]
  have e4 : ∀ d k, dv (va_up S 3 v) d k = dv S d k := fun d k => e _ (by omega)
  have e5 : ∀ d k, pv (va_up S 3 v) d k = pv S d k := fun d k => e _ (by omega)
  refine ⟨by rw [e1, e 0 (by decide)]; exact iv0 h, by rw [e1]; exact iv0b h, by rw [e2, e 1 (by decide)]; exact iv1 h, by rw [e2]; exact iv1b h, by rw [e3, e 2 (by decide)]; exact iv2 h, by rw [e3]; exact iv2b h, fun d hd => ?_, fun p hp => ?_⟩
  · rw [e2] at hd
    unfold near farr
    rw [e1, e4, e4]
    exact ivd h hd
  · rw [e3] at hp
    unfold rm gl
    rw [e1, e5, e5]
    exact ivp h hp
theorem InvS.pass {S : Nat → Int32} (h : InvS S) (fr : Option (List Cl)) : InvS (passS S fr) := by
  rw [← passS_eq h]
  exact (h.vec (okN2 h (nd S) 0)).set3 _
theorem pass_hi {S : Nat → Int32} {fr : Option (List Cl)} {i : Nat} (h : 34 ≤ i ∨ (i < 10 ∧ i ≠ 3)) : passS S fr i = S i := by
  unfold passS
  rw [vup_n _ _ (by omega), vecP_out (by omega)]
theorem it_hi {S : Nat → Int32} {fr : Option (List Cl)} {i : Nat} (h : 34 ≤ i ∨ (i < 10 ∧ i ≠ 3)) (k : Nat) : itP fr k S i = S i := by
  induction k with
  | zero => rfl
  | succ k ih => show passS (itP fr k S) fr i = S i; rw [pass_hi h, ih]
theorem InvS.it {S : Nat → Int32} (h : InvS S) (fr : Option (List Cl)) (k : Nat) : InvS (itP fr k S) := by
  induction k with
  | zero => exact h
  | succ k ih => exact ih.pass fr
theorem it_np {S : Nat → Int32} {fr : Option (List Cl)} (k : Nat) : np (itP fr k S) = np S := by unfold np nv; rw [it_hi (by omega)]
theorem it_nr {S : Nat → Int32} {fr : Option (List Cl)} (k : Nat) : nr (itP fr k S) = nr S := by unfold nr nv; rw [it_hi (by omega)]
/-- the first 34 of u, the rest of S -/
def overV (S u : Nat → Int32) : Nat → Int32 := fun i => if i < 34 then u i else S i
theorem over_it {S : Nat → Int32} {fr : Option (List Cl)} (k : Nat) : overV (itP fr k S) S = S := by
  funext i
  unfold overV
  split
  · rfl
  · exact it_hi (by omega) k
def HistAt (I : Im) (hist : List (Nat → Int32)) : Prop := I 161 27 = nI hist.length ∧ hist.length ≤ 20 ∧ ∀ j, j < hist.length → ∀ i, i < 34 → I 175 (34 * j + i) = hist.getD j (fun _ => 0) i
def keepH (hist : List (Nat → Int32)) (S : Nat → Int32) : List (Nat → Int32) := (if hist.length = 20 then hist.tail else hist) ++ [S]
theorem HistAt.mc {ex exf : List Nat} {I I1 : Im} {L L1 : Lm} {hist : List (Nat → Int32)} (h : MC ex exf I L I1 L1) (h1 : 175 ∉ ex) (h2 : 27 ∉ exf) (hH : HistAt I hist) : HistAt I1 hist := ⟨by rw [h.2.1 27 (by decide) h2]; exact hH.1, hH.2.1, by rw [h.1 175 (by decide) h1]; exact hH.2.2⟩
