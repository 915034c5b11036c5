/-! AW: fields, arrays, new cells -/
section AW3
variable {X : Cx} {cc : ByteArray} {own : String} {rt : Option FieldType} {mL F Lo mc ms : Nat} {w : Wd} {cs ss pc : Nat} {ls : List (Option Value)} {st : List Value} {G : Gm} {I : Im} {L : Lm}
/-- a field as a class file names it: entry idx of own's pool is field k of class number ci -/
def FL (own : String) (idx ci k : Nat) : Prop := ∃ (C : String) (T : u_T) (N : Nat), vwCl[ci]? = some (C, T, N) ∧ k < N ∧ ci < 100 ∧ N = nfld ci ∧ (∀ z ∈ u_ws C T N, z ∈ lw_all) ∧
  ((∃ ref : String, Cond.fieldLink own idx ref (T k).2.1 (T k).2.2.1 ∈ lw_all ∧ (ref = (T k).1 ∨ Cond.sameField ref (T k).1 (T k).2.1 (T k).2.2.1 ∈ lw_all)) ∨ (∃ host : String, Cond.fieldLinkNest own idx (T k).1 (T k).2.1 (T k).2.2.1 host ∈ lw_tbl))
theorem fld_read {D : va_G} {H : Heap} {B : Nat} {n k ci len : Nat} {C : String} {T : u_T} {N : Nat} (hR : Rel w G I L H) (hs : SHP G n ci len) (hci : ci < 100) (hc : vwCl[ci]? = some (C, T, N)) : ∃ cell : Cell, H[w.1 + n]? = some cell ∧ cell.cls = w.2.1.1 ci ∧ cell.vm = .none ∧ ∀ j, j < N → cell.slots[w.2.1.2 ci j]? = some (vp_V (fvals w.1 G I L n ci) j) := by
  have h := hR.at hs.1
  rw [cellE_obj hs hci] at h
  obtain ⟨r, h1, cell, q1, q2, q3, q4⟩ := h
  have hr : r = (C, T, N) := Option.some.inj (h1.symm.trans hc)
  subst hr
  exact ⟨cell, q1, q2, q3, q4⟩
theorem vp_fvals {B n ci j : Nat} (h : j < nfld ci) : vp_V (fvals B G I L n ci) j = fval B G I L n j (fcode ci j) := by
  simp [vp_V, fvals, h]
theorem aw_get (h : CX X cc own rt mL F Lo mc ms w) {idx ci k n len : Nat} (f : FL own idx ci k) (hs : SHP G n ci len) (d : decode cc pc = .ok (.getfield idx, 3)) (kk : AW X cs ss (pc + 3) ls (fval w.1 G I L n k (fcode ci k) :: st) G I L) : AW X cs ss pc ls (.ref (w.1 + n) :: st) G I L := by
  obtain ⟨p, l, e, R, s, m, args, below, meth, c, Q, w'⟩ := X
  obtain ⟨C, T, N, hc, hk, hci, hN, hin, hl⟩ := f
  obtain ⟨hx, hb, -, -, -, hown, hts, hK, hT, -, -, -, -, -, -, rfl⟩ := h
  intro H locs la r1 r2 r3
  obtain ⟨cell, q1, q2, q3, q4⟩ := fld_read (D := w'.2.1) (B := 0) (k := 0) r1 hs hci hc
  obtain ⟨hS, hfc, kC, hkC, hkind⟩ := hK.1 ci _ hc
  obtain ⟨cf, kf, fi, f, hi, hsl⟩ := hS k hk
  have hst := (u_facts hfc hkC (u_lays hts hin hk) hi).1
  have hv : cell.slots[f.slot]? = some (fval w'.1 G I L n k (fcode ci k)) := by
    rw [hsl, q4 k hk, vp_fvals (by omega)]
  rcases hl with ⟨ref, hl, hsame⟩ | ⟨host, hl⟩
  · have hi' : s.fieldFound? ref (T k).2.1 (T k).2.2.1 = some (cf, kf, fi, f) := by
      rcases hsame with rfl | hsame
      · exact hi
      · exact u_same (hts _ hsame) _ hi
    exact W.getf hx hb hown (hts _ hl) hi' hst q1 (by rw [q3]; exact fun h => by cases h) hv rfl rfl d (kk H locs la r1 r2 r3)
  · exact va_Wgetf hx hb hown (va_Nw.use rfl (hT.1 _ _ _ _ _ _ hl)) hi hst q1 (by rw [q3]; exact fun h => by cases h) hv rfl rfl d (kk H locs la r1 r2 r3)
theorem aw_geti (h : CX X cc own rt mL F Lo mc ms w) {idx ci k n len : Nat} (f : FL own idx ci k) (hs : SHP G n ci len) (d : decode cc pc = .ok (.getfield idx, 3)) (hf : fcode ci k = 0) (kk : AW X cs ss (pc + 3) ls (.int (I n k) :: st) G I L) : AW X cs ss pc ls (.ref (w.1 + n) :: st) G I L :=
  aw_get h f hs d (by rw [hf]; exact kk)
theorem aw_getiV (h : CX X cc own rt mL F Lo mc ms w) {idx ci k n len : Nat} {v : Int32} (f : FL own idx ci k) (hs : SHP G n ci len) (d : decode cc pc = .ok (.getfield idx, 3)) (hf : fcode ci k = 0) (hv : I n k = v) (kk : AW X cs ss (pc + 3) ls (.int v :: st) G I L) : AW X cs ss pc ls (.ref (w.1 + n) :: st) G I L :=
  aw_get h f hs d (by rw [hf]; subst hv; exact kk)
theorem aw_getl (h : CX X cc own rt mL F Lo mc ms w) {idx ci k n len : Nat} (f : FL own idx ci k) (hs : SHP G n ci len) (d : decode cc pc = .ok (.getfield idx, 3)) (hf : fcode ci k = 1) (kk : AW X cs ss (pc + 3) ls (.long (L n k) :: st) G I L) : AW X cs ss pc ls (.ref (w.1 + n) :: st) G I L :=
  aw_get h f hs d (by rw [hf]; exact kk)
theorem aw_getr (h : CX X cc own rt mL F Lo mc ms w) {idx ci k n len q : Nat} (f : FL own idx ci k) (hs : SHP G n ci len) (d : decode cc pc = .ok (.getfield idx, 3)) (hf : fcode ci k = 2) (hp : G.2.2 n k = some q) (kk : AW X cs ss (pc + 3) ls (.ref (w.1 + q) :: st) G I L) : AW X cs ss pc ls (.ref (w.1 + n) :: st) G I L :=
  aw_get h f hs d (by rw [hf]; show AW X cs ss (pc + 3) ls (va_rf ((G.2.2 n k).map (fun q => w.1 + q)) :: st) G I L; rw [hp]; exact kk)
theorem aw_getr0 (h : CX X cc own rt mL F Lo mc ms w) {idx ci k n len : Nat} (f : FL own idx ci k) (hs : SHP G n ci len) (d : decode cc pc = .ok (.getfield idx, 3)) (hf : fcode ci k = 2) (hp : G.2.2 n k = none) (kk : AW X cs ss (pc + 3) ls (.null :: st) G I L) : AW X cs ss pc ls (.ref (w.1 + n) :: st) G I L :=
  aw_get h f hs d (by rw [hf]; show AW X cs ss (pc + 3) ls (va_rf ((G.2.2 n k).map (fun q => w.1 + q)) :: st) G I L; rw [hp]; exact kk)
theorem aw_getx (h : CX X cc own rt mL F Lo mc ms w) {idx ci k n len q : Nat} (f : FL own idx ci k) (hs : SHP G n ci len) (d : decode cc pc = .ok (.getfield idx, 3)) (hf : fcode ci k = 3) (hp : G.2.2 n k = some q) (kk : AW X cs ss (pc + 3) ls (.ref q :: st) G I L) : AW X cs ss pc ls (.ref (w.1 + n) :: st) G I L :=
  aw_get h f hs d (by rw [hf]; show AW X cs ss (pc + 3) ls (va_rf (G.2.2 n k) :: st) G I L; rw [hp]; exact kk)
/-- what a store needs to know of a class: its fields' types and names -/
def FT (ci k : Nat) (ty : FieldType) (fin : Bool) (own : String) : Prop := ∃ (C : String) (T : u_T) (N : Nat) (ty0 : Nat → FieldType), vwCl[ci]? = some (C, T, N) ∧ (∀ j, j < N → parseFieldDescriptor (T j).2.2.1 = some (ty0 j)) ∧ (∀ a, a < N → ∀ b, b < N → a ≠ b → (T a).2.1 ≠ (T b).2.1) ∧ ty0 k = ty ∧ (T k).2.2.2 = fin ∧ (fin = true → (T k).1 = own)
/-- the method is its class's constructor -/
def INI (X : Cx) : Prop := match X with | (_, _, _, _, _, _, _, _, meth, _, _, _) => meth.name = "<init>"
theorem Rel.put {H H1 : Heap} {ci k n len N : Nat} {C : String} {T : u_T} {G' : Gm} {I' : Im} {L' : Lm} {v : Value} {cell : Cell} (hR : Rel w G I L H) (hs : SHP G n ci len) (hci : ci < 100) (hc : vwCl[ci]? = some (C, T, N)) (hN : N = nfld ci) (hk : k < N)
    (hap : ∀ x y, x < N → y < N → x ≠ y → w.2.1.2 ci x ≠ w.2.1.2 ci y) (q0 : H[w.1 + n]? = some cell) (e1 : H1[w.1 + n]? = some (cell.setSlot (w.2.1.2 ci k) v)) (e2 : H1.size = H.size) (e3 : ∀ q : Nat, q ≠ w.1 + n → H1[q]? = H[q]?)
    (g1 : G'.1 = G.1) (g2 : G'.2.1 = G.2.1) (hv : fval w.1 G' I' L' n k (fcode ci k) = v) (ho : ∀ j, j ≠ k → fval w.1 G' I' L' n j (fcode ci j) = fval w.1 G I L n j (fcode ci j)) (hoth : ∀ j, j ≠ n → cellE w G' I' L' j = cellE w G I L j) : Rel w G' I' L' H1 := by
  obtain ⟨cell', q1, q2, q3, q4⟩ := fld_read (D := w.2.1) (B := 0) (k := 0) hR hs hci hc
  cases q0.symm.trans q1
  have hs' : SHP G' n ci len := ⟨by rw [g1]; exact hs.1, by rw [g2]; exact hs.2⟩
  refine hR.set hs.1 g1 ?_ hoth e2 e3
  rw [cellE_obj hs' hci]
  refine ⟨_, hc, _, e1, q2, q3, fun j hj => ?_⟩
  have hj : j < N := hj
  have h1 := t_set q4 hap hk v j hj
  rw [h1, vp_fvals (by omega)]
  by_cases hjk : j = k
  · subst hjk; rw [hv]; simp [updV]
  · rw [ho j hjk]
    simp only [updV, if_neg hjk]
    rw [vp_fvals (by omega)]
theorem aw_put (h : CX X cc own rt mL F Lo mc ms w) {idx ci k n len : Nat} {ty : FieldType} {fin : Bool} {v : Value} {G' : Gm} {I' : Im} {L' : Lm} (f : FL own idx ci k) (ft : FT ci k ty fin own) (hini : fin = true → INI X) (hs : SHP G n ci len) (d : decode cc pc = .ok (.putfield idx, 3)) (hn : narrow ty v = v) (hfit : fits ty v = true)
    (g1 : G'.1 = G.1) (g2 : G'.2.1 = G.2.1) (hv : fval w.1 G' I' L' n k (fcode ci k) = v) (ho : ∀ j, j ≠ k → fval w.1 G' I' L' n j (fcode ci j) = fval w.1 G I L n j (fcode ci j)) (hoth : ∀ j, j ≠ n → cellE w G' I' L' j = cellE w G I L j)
    (kk : AW X cs ss (pc + 3) ls st G' I' L') : AW X cs ss pc ls (v :: .ref (w.1 + n) :: st) G I L := by
  obtain ⟨p, l, e, R, s, m, args, below, meth, c, Q, w'⟩ := X
  obtain ⟨C, T, N, hc, hk, hci, hN, hin, hl⟩ := f
  obtain ⟨C', T', N', ty0, hc', hty, hnm, htk, hfin, hdecl⟩ := ft
  cases hc.symm.trans hc'
  obtain ⟨hx, hb, -, -, -, hown, hts, hK, hT, -, hB, -, -, -, -, rfl⟩ := h
  intro H locs la r1 r2 r3
  obtain ⟨cell, q1, q2, q3, q4⟩ := fld_read (D := w'.2.1) (B := 0) (k := 0) r1 hs hci hc
  have hap := va_apart (own := own) hts hin ty0 hty hnm hK hc
  obtain ⟨hS, hfc, kC, hkC, hkind⟩ := hK.1 ci _ hc
  obtain ⟨cf, kf, fi, f, hi, hsl⟩ := hS k hk
  have hst := (u_facts hfc hkC (u_lays hts hin hk) hi).1
  have hlay := hts _ (hin _ (u_in_lay hk))
  have hd : parseFieldDescriptor (T k).2.2.1 = some ty := by rw [← htk]; exact hty k hk
  have hlt : f.slot < cell.slots.size := by rw [hsl]; exact (Array.getElem?_eq_some_iff.mp (q4 k hk)).1
  have fin' : ∀ H1 : Heap, H1[w'.1 + n]? = some (cell.setSlot f.slot v) → H1.size = H.size → (∀ q : Nat, q ≠ w'.1 + n → H1[q]? = H[q]?) → W p l e R s m args below meth c H1 (locs ++ [⟨w'.1 + n, f.slot⟩]) cs ss Q (F0 m (pc + 3) la st) := by
    intro H1 e1 e2 e3
    rw [hsl] at e1
    exact kk H1 _ la (r1.put hs hci hc hN hk hap q1 e1 e2 e3 g1 g2 hv ho hoth) (r2.put e2 e3 (Nat.le_add_right _ _)) r3
  cases fin with
  | false =>
    unfold u_lay at hlay
    rw [if_neg (by rw [hfin]; decide)] at hlay
    have h6 := u_store hfc hkC hkind hlay hi hd hn hfit
    rcases hl with ⟨ref, hl, hsame⟩ | ⟨host, hl⟩
    · have hi' : s.fieldFound? ref (T k).2.1 (T k).2.2.1 = some (cf, kf, fi, f) := by
        rcases hsame with rfl | hsame
        · exact hi
        · exact u_same (hts _ hsame) _ hi
      exact W.putK hx hb (f := f) ⟨hown, hts _ hl, ⟨_, _, _, hi'⟩, hst⟩ (by rw [q2]; exact h6) q1 q3 hlt rfl rfl d fin'
    · exact va_WputK hx hb (f := f) hown (va_Nw.use rfl (hT.1 _ _ _ _ _ _ hl)) hi hst (by rw [q2]; exact h6) q1 q3 hlt rfl rfl d fin'
  | true =>
    unfold u_lay at hlay
    rw [if_pos hfin] at hlay
    have hdecl := hdecl rfl
    have hcf : m.cls = cf := by
      obtain ⟨_, _, c', _, _, _, -, -, hf', -, -, -, hown2, -⟩ := Cond.laysFinal_spec hlay
      have e1 : c' = cf := by have := hi.symm.trans hf'; simp at this; exact this.1.symm
      rw [hdecl] at hown2
      rw [← e1]; exact Option.some.inj (hown.symm.trans hown2)
    have h6 := u_fits hfc hkC hkind (Or.inr hlay) hi hd hn hfit
    rcases hl with ⟨ref, hl, hsame⟩ | ⟨host, hl⟩
    · have hi' : s.fieldFound? ref (T k).2.1 (T k).2.2.1 = some (cf, kf, fi, f) := by
        rcases hsame with rfl | hsame
        · exact hi
        · exact u_same (hts _ hsame) _ hi
      exact W.putFinK hx hb hown (hts _ hl) hi' hst hcf (hini rfl) (by rw [q2]; exact h6) q1 q3 hlt rfl rfl d fin'
    · have ha : w'.1 + n < H.size := (Array.getElem?_eq_some_iff.mp q1).1
      refine va_Wputf hx hb hown (va_Nw.use rfl (hT.1 _ _ _ _ _ _ hl)) hi hst (Or.inr ⟨hcf, hini rfl⟩) q1 (by rw [q3]; exact fun h => by cases h) hlt h6.1 (by rw [q2, q3]; exact h6.2) rfl rfl d ?_
      refine fin' _ ?_ ?_ ?_
      · simp [Array.getElem?_setIfInBounds, ha]
      · simp
      · intro q hq
        simp [Array.getElem?_setIfInBounds, Ne.symm hq]
theorem fval_upd2 {B n k j : Nat} {x : Int32} (hjk : j ≠ k) (cd : Nat) : fval B G (upd2 I n k x) L n j cd = fval B G I L n j cd := by
  unfold fval
  simp [va_up, hjk]
theorem fval_upd2L {B n k j : Nat} {x : Int64} (hjk : j ≠ k) (cd : Nat) : fval B G I (upd2 L n k x) n j cd = fval B G I L n j cd := by
  unfold fval
  simp [va_up, hjk]
theorem fval_upd2P {B n k j : Nat} {x : Option Nat} (hjk : j ≠ k) (cd : Nat) : fval B (G.1, G.2.1, upd2 G.2.2 n k x) I L n j cd = fval B G I L n j cd := by
  unfold fval
  simp [va_up, hjk]
theorem aw_puti (h : CX X cc own rt mL F Lo mc ms w) {idx ci k n len : Nat} {fin : Bool} {x : Int32} (f : FL own idx ci k) (ft : FT ci k .int fin own) (hini : fin = true → INI X) (hs : SHP G n ci len) (d : decode cc pc = .ok (.putfield idx, 3)) (hf : fcode ci k = 0)
    (kk : AW X cs ss (pc + 3) ls st G (upd2 I n k x) L) : AW X cs ss pc ls (.int x :: .ref (w.1 + n) :: st) G I L :=
  aw_put (G' := G) (I' := (upd2 I n k x)) (L' := L) h f ft hini hs d rfl rfl rfl rfl (by rw [hf]; show Value.int _ = _; simp [va_up]) (fun j hj => fval_upd2 hj _) (fun j hj => cellE_same rfl rfl (by simp [va_up, hj]) rfl) kk
theorem aw_putz (h : CX X cc own rt mL F Lo mc ms w) {idx ci k n len : Nat} {fin : Bool} {x : Int32} (f : FL own idx ci k) (ft : FT ci k .boolean fin own) (hini : fin = true → INI X) (hs : SHP G n ci len) (d : decode cc pc = .ok (.putfield idx, 3)) (hf : fcode ci k = 0) (hx : x = 0 ∨ x = 1)
    (kk : AW X cs ss (pc + 3) ls st G (upd2 I n k x) L) : AW X cs ss pc ls (.int x :: .ref (w.1 + n) :: st) G I L :=
  aw_put (G' := G) (I' := (upd2 I n k x)) (L' := L) h f ft hini hs d (by rcases hx with rfl | rfl <;> decide) (by rcases hx with rfl | rfl <;> decide) rfl rfl (by rw [hf]; show Value.int _ = _; simp [va_up]) (fun j hj => fval_upd2 hj _) (fun j hj => cellE_same rfl rfl (by simp [va_up, hj]) rfl) kk
theorem aw_putl (h : CX X cc own rt mL F Lo mc ms w) {idx ci k n len : Nat} {fin : Bool} {x : Int64} (f : FL own idx ci k) (ft : FT ci k .long fin own) (hini : fin = true → INI X) (hs : SHP G n ci len) (d : decode cc pc = .ok (.putfield idx, 3)) (hf : fcode ci k = 1)
    (kk : AW X cs ss (pc + 3) ls st G I (upd2 L n k x)) : AW X cs ss pc ls (.long x :: .ref (w.1 + n) :: st) G I L :=
  aw_put (G' := G) (I' := I) (L' := (upd2 L n k x)) h f ft hini hs d rfl rfl rfl rfl (by rw [hf]; show Value.long _ = _; simp [va_up]) (fun j hj => fval_upd2L hj _) (fun j hj => cellE_same rfl rfl rfl (by simp [va_up, hj])) kk
/-- a reference's type -/
def rty : FieldType → Bool
  | .object _ => true
  | .array _ => true
  | _ => false
theorem rty_n {t : FieldType} (h : rty t = true) (a : Nat) : narrow t (.ref a) = .ref a ∧ fits t (.ref a) = true ∧ narrow t .null = .null ∧ fits t .null = true := by
  cases t <;> first | exact ⟨rfl, rfl, rfl, rfl⟩ | (cases h)
theorem aw_putr (h : CX X cc own rt mL F Lo mc ms w) {idx ci k n len q : Nat} {ty : FieldType} {fin : Bool} (f : FL own idx ci k) (ft : FT ci k ty fin own) (hini : fin = true → INI X) (hs : SHP G n ci len) (d : decode cc pc = .ok (.putfield idx, 3)) (hf : fcode ci k = 2) (ht : rty ty = true)
    (kk : AW X cs ss (pc + 3) ls st (G.1, G.2.1, upd2 G.2.2 n k (some q)) I L) : AW X cs ss pc ls (.ref (w.1 + q) :: .ref (w.1 + n) :: st) G I L :=
  aw_put (G' := (G.1, G.2.1, upd2 G.2.2 n k (some q))) (I' := I) (L' := L) h f ft hini hs d (rty_n ht _).1 (rty_n ht _).2.1 rfl rfl (by rw [hf]; show va_rf _ = _; simp [va_up, va_rf]) (fun j hj => fval_upd2P hj _) (fun j hj => cellE_same rfl (by simp [va_up, hj]) rfl rfl) kk
theorem aw_putrN (h : CX X cc own rt mL F Lo mc ms w) {idx ci k n len : Nat} {ty : FieldType} {fin : Bool} (f : FL own idx ci k) (ft : FT ci k ty fin own) (hini : fin = true → INI X) (hs : SHP G n ci len) (d : decode cc pc = .ok (.putfield idx, 3)) (hf : fcode ci k = 2) (ht : rty ty = true)
    (kk : AW X cs ss (pc + 3) ls st (G.1, G.2.1, upd2 G.2.2 n k none) I L) : AW X cs ss pc ls (.null :: .ref (w.1 + n) :: st) G I L :=
  aw_put (G' := (G.1, G.2.1, upd2 G.2.2 n k none)) (I' := I) (L' := L) h f ft hini hs d (rty_n ht 0).2.2.1 (rty_n ht 0).2.2.2 rfl rfl (by rw [hf]; show va_rf _ = _; simp [va_up, va_rf]) (fun j hj => fval_upd2P hj _) (fun j hj => cellE_same rfl (by simp [va_up, hj]) rfl rfl) kk
theorem aw_putx (h : CX X cc own rt mL F Lo mc ms w) {idx ci k n len q : Nat} {ty : FieldType} {fin : Bool} (f : FL own idx ci k) (ft : FT ci k ty fin own) (hini : fin = true → INI X) (hs : SHP G n ci len) (d : decode cc pc = .ok (.putfield idx, 3)) (hf : fcode ci k = 3) (ht : rty ty = true)
    (kk : AW X cs ss (pc + 3) ls st (G.1, G.2.1, upd2 G.2.2 n k (some q)) I L) : AW X cs ss pc ls (.ref q :: .ref (w.1 + n) :: st) G I L :=
  aw_put (G' := (G.1, G.2.1, upd2 G.2.2 n k (some q))) (I' := I) (L' := L) h f ft hini hs d (rty_n ht _).1 (rty_n ht _).2.1 rfl rfl (by rw [hf]; show va_rf _ = _; simp [va_up, va_rf]) (fun j hj => fval_upd2P hj _) (fun j hj => cellE_same rfl (by simp [va_up, hj]) rfl rfl) kk
end AW3
