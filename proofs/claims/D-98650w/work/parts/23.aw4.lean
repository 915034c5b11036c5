/-! AW: arrays, new cells, casts -/
section AW4
variable {X : Cx} {cc : ByteArray} {own : String} {rt : Option FieldType} {mL F Lo mc ms : Nat} {w : Wd} {cs ss pc : Nat} {ls : List (Option Value)} {st : List Value} {G : Gm} {I : Im} {L : Lm}
theorem tys_at {k : Nat} {ty : FieldType} (h : (k, ty) ∈ ([(100, .int), (101, .long), (102, .byte), (103, .boolean), (104, .object "OutwardDoors$State"), (105, .object "OutwardDoors$Image"), (106, .object "java/lang/Object")] : List (Nat × FieldType))) : ∃ t0 : Nat, (tysOf w)[t0]? = some (w.2.2.1 k, ty) := by
  simp only [List.mem_cons, Prod.mk.injEq, List.not_mem_nil, or_false] at h
  rcases h with ⟨rfl, rfl⟩ | ⟨rfl, rfl⟩ | ⟨rfl, rfl⟩ | ⟨rfl, rfl⟩ | ⟨rfl, rfl⟩ | ⟨rfl, rfl⟩ | ⟨rfl, rfl⟩
  · exact ⟨0, rfl⟩
  · exact ⟨1, rfl⟩
  · exact ⟨2, rfl⟩
  · exact ⟨3, rfl⟩
  · exact ⟨4, rfl⟩
  · exact ⟨5, rfl⟩
  · exact ⟨6, rfl⟩
theorem Rel.single {H : Heap} (hR : Rel w G I L H) {n : Nat} (hn : n < G.1) : va_P w.2.1 vwCl [(w.1 + n, cellE w G I L n)] H := by
  intro k q hk
  have hz : k < 1 := (List.getElem?_eq_some_iff.mp hk).1
  rw [show k = 0 by omega] at hk
  cases hk
  exact hR.at hn
/-- an index within, as a number -/
theorem vin {j n : Nat} (hj : j < n) (hn : n < 2 ^ 31) : vp_in (nI j) n := vp_in_nI hj hn
theorem aw_iald (h : CX X cc own rt mL F Lo mc ms w) {n len : Nat} {i : Int32} (hs : SHP G n 100 len) (hin : vp_in i len) (d : decode cc pc = .ok (.iaload, 1)) (kk : AW X cs ss (pc + 1) ls (.int (I n i.toNatClampNeg) :: st) G I L) : AW X cs ss pc ls (.int i :: .ref (w.1 + n) :: st) G I L := by
  obtain ⟨p, l, e, R, s, m, args, below, meth, c, Q, w'⟩ := X
  obtain ⟨hx, hb, -, -, -, -, -, hK, -, -, -, -, -, -, -, rfl⟩ := h
  intro H locs la r1 r2 r3
  have hP := r1.single hs.1
  rw [cellE_int hs (Or.inl rfl)] at hP
  exact va_iald hx hb hK hP 0 0 rfl rfl hin d (kk H locs la r1 r2 r3)
theorem aw_bald (h : CX X cc own rt mL F Lo mc ms w) {n len : Nat} {i : Int32} (hs : SHP G n 102 len) (hin : vp_in i len) (d : decode cc pc = .ok (.baload, 1)) (kk : AW X cs ss (pc + 1) ls (.int (I n i.toNatClampNeg) :: st) G I L) : AW X cs ss pc ls (.int i :: .ref (w.1 + n) :: st) G I L := by
  obtain ⟨p, l, e, R, s, m, args, below, meth, c, Q, w'⟩ := X
  obtain ⟨hx, hb, -, -, -, -, -, hK, -, -, -, -, -, -, -, rfl⟩ := h
  intro H locs la r1 r2 r3
  have hP := r1.single hs.1
  rw [cellE_int hs (Or.inr (Or.inl rfl))] at hP
  exact va_bald hx hb hK hP 0 2 rfl rfl hin d (kk H locs la r1 r2 r3)
theorem aw_zald (h : CX X cc own rt mL F Lo mc ms w) {n len : Nat} {i : Int32} (hs : SHP G n 103 len) (hin : vp_in i len) (d : decode cc pc = .ok (.baload, 1)) (kk : AW X cs ss (pc + 1) ls (.int (I n i.toNatClampNeg) :: st) G I L) : AW X cs ss pc ls (.int i :: .ref (w.1 + n) :: st) G I L := by
  obtain ⟨p, l, e, R, s, m, args, below, meth, c, Q, w'⟩ := X
  obtain ⟨hx, hb, -, -, -, -, -, hK, -, -, -, -, -, -, -, rfl⟩ := h
  intro H locs la r1 r2 r3
  have hP := r1.single hs.1
  rw [cellE_int hs (Or.inr (Or.inr rfl))] at hP
  exact va_zald hx hb hK hP 0 3 rfl rfl hin d (kk H locs la r1 r2 r3)
theorem aw_lald (h : CX X cc own rt mL F Lo mc ms w) {n len : Nat} {i : Int32} (hs : SHP G n 101 len) (hin : vp_in i len) (d : decode cc pc = .ok (.laload, 1)) (kk : AW X cs ss (pc + 1) ls (.long (L n i.toNatClampNeg) :: st) G I L) : AW X cs ss pc ls (.int i :: .ref (w.1 + n) :: st) G I L := by
  obtain ⟨p, l, e, R, s, m, args, below, meth, c, Q, w'⟩ := X
  obtain ⟨hx, hb, -, -, -, -, -, hK, -, -, -, -, -, -, -, rfl⟩ := h
  intro H locs la r1 r2 r3
  have hP := r1.single hs.1
  rw [cellE_long hs] at hP
  exact va_lald hx hb hK hP 0 1 rfl rfl hin d (kk H locs la r1 r2 r3)
theorem aw_aald (h : CX X cc own rt mL F Lo mc ms w) {n k len : Nat} {i : Int32} (hs : SHP G n k len) (hk : k = 104 ∨ k = 105 ∨ k = 106) (hin : vp_in i len) (d : decode cc pc = .ok (.aaload, 1)) (kk : AW X cs ss (pc + 1) ls (va_rf ((G.2.2 n i.toNatClampNeg).map (fun q => w.1 + q)) :: st) G I L) : AW X cs ss pc ls (.int i :: .ref (w.1 + n) :: st) G I L := by
  obtain ⟨p, l, e, R, s, m, args, below, meth, c, Q, w'⟩ := X
  obtain ⟨hx, hb, -, -, -, -, -, hK, -, -, -, -, -, -, -, rfl⟩ := h
  intro H locs la r1 r2 r3
  have hP := r1.single hs.1
  rw [cellE_ref hs (by omega)] at hP
  rcases hk with rfl | rfl | rfl
  · exact va_aldq hx hb hK hP 0 4 rfl rfl hin d (kk H locs la r1 r2 r3)
  · exact va_aldq hx hb hK hP 0 5 rfl rfl hin d (kk H locs la r1 r2 r3)
  · exact va_aldq hx hb hK hP 0 6 rfl rfl hin d (kk H locs la r1 r2 r3)
/-- the same, an index that is a number -/
theorem aw_ialdN (h : CX X cc own rt mL F Lo mc ms w) {n len j : Nat} (hs : SHP G n 100 len) (hn : len < 2 ^ 31) (hj : j < len) (d : decode cc pc = .ok (.iaload, 1)) (kk : AW X cs ss (pc + 1) ls (.int (I n j) :: st) G I L) : AW X cs ss pc ls (.int (nI j) :: .ref (w.1 + n) :: st) G I L :=
  aw_iald h hs (vin hj hn) d (by rw [nI_clamp (by omega)]; exact kk)
theorem aw_ialdV (h : CX X cc own rt mL F Lo mc ms w) {n len j : Nat} {v : Int32} (hs : SHP G n 100 len) (hn : len < 2 ^ 31) (hj : j < len) (d : decode cc pc = .ok (.iaload, 1)) (hv : I n j = v) (kk : AW X cs ss (pc + 1) ls (.int v :: st) G I L) : AW X cs ss pc ls (.int (nI j) :: .ref (w.1 + n) :: st) G I L :=
  aw_ialdN h hs hn hj d (by rw [hv]; exact kk)
theorem aw_baldN (h : CX X cc own rt mL F Lo mc ms w) {n len j : Nat} (hs : SHP G n 102 len) (hn : len < 2 ^ 31) (hj : j < len) (d : decode cc pc = .ok (.baload, 1)) (kk : AW X cs ss (pc + 1) ls (.int (I n j) :: st) G I L) : AW X cs ss pc ls (.int (nI j) :: .ref (w.1 + n) :: st) G I L :=
  aw_bald h hs (vin hj hn) d (by rw [nI_clamp (by omega)]; exact kk)
theorem aw_zaldN (h : CX X cc own rt mL F Lo mc ms w) {n len j : Nat} (hs : SHP G n 103 len) (hn : len < 2 ^ 31) (hj : j < len) (d : decode cc pc = .ok (.baload, 1)) (kk : AW X cs ss (pc + 1) ls (.int (I n j) :: st) G I L) : AW X cs ss pc ls (.int (nI j) :: .ref (w.1 + n) :: st) G I L :=
  aw_zald h hs (vin hj hn) d (by rw [nI_clamp (by omega)]; exact kk)
theorem aw_laldN (h : CX X cc own rt mL F Lo mc ms w) {n len j : Nat} (hs : SHP G n 101 len) (hn : len < 2 ^ 31) (hj : j < len) (d : decode cc pc = .ok (.laload, 1)) (kk : AW X cs ss (pc + 1) ls (.long (L n j) :: st) G I L) : AW X cs ss pc ls (.int (nI j) :: .ref (w.1 + n) :: st) G I L :=
  aw_lald h hs (vin hj hn) d (by rw [nI_clamp (by omega)]; exact kk)
theorem aw_aaldN (h : CX X cc own rt mL F Lo mc ms w) {n k len j q : Nat} (hs : SHP G n k len) (hk : k = 104 ∨ k = 105 ∨ k = 106) (hn : len < 2 ^ 31) (hj : j < len) (d : decode cc pc = .ok (.aaload, 1)) (hp : G.2.2 n j = some q) (kk : AW X cs ss (pc + 1) ls (.ref (w.1 + q) :: st) G I L) : AW X cs ss pc ls (.int (nI j) :: .ref (w.1 + n) :: st) G I L :=
  aw_aald h hs hk (vin hj hn) d (by rw [nI_clamp (by omega), hp]; exact kk)
theorem aw_aald0 (h : CX X cc own rt mL F Lo mc ms w) {n k len j : Nat} (hs : SHP G n k len) (hk : k = 104 ∨ k = 105 ∨ k = 106) (hn : len < 2 ^ 31) (hj : j < len) (d : decode cc pc = .ok (.aaload, 1)) (hp : G.2.2 n j = none) (kk : AW X cs ss (pc + 1) ls (.null :: st) G I L) : AW X cs ss pc ls (.int (nI j) :: .ref (w.1 + n) :: st) G I L :=
  aw_aald h hs hk (vin hj hn) d (by rw [nI_clamp (by omega), hp]; exact kk)
theorem vup_same {α : Type} (f g : Nat → α) (k : Nat) (x : α) (h : ∀ q, g q = if q = k then x else f q) : g = va_up f k x := by
  funext q; rw [h]; simp [va_up]
theorem aw_iast (h : CX X cc own rt mL F Lo mc ms w) {n len : Nat} {i x : Int32} (hs : SHP G n 100 len) (hin : vp_in i len) (d : decode cc pc = .ok (.iastore, 1)) (kk : AW X cs ss (pc + 1) ls st G (upd2 I n i.toNatClampNeg x) L) : AW X cs ss pc ls (.int x :: .int i :: .ref (w.1 + n) :: st) G I L := by
  obtain ⟨p, l, e, R, s, m, args, below, meth, c, Q, w'⟩ := X
  obtain ⟨hx, hb, -, -, -, -, -, hK, -, -, -, -, -, -, -, rfl⟩ := h
  intro H locs la r1 r2 r3
  have hP := r1.at hs.1
  rw [cellE_int hs (Or.inl rfl)] at hP
  refine W.iast hx hb hP ((hK.2 0 _ rfl).1 len (fun j => .int (I n j))) (fun q => by cases q) (by show ¬ (i < 0 ∨ (arrV _ _ _).slots.size ≤ _); rw [arrV_size]; exact hin) rfl rfl d fun H1 e z oq => ?_
  refine kk H1 _ la (r1.set hs.1 rfl ?_ (fun j hj => cellE_same rfl rfl (by simp [va_up, hj]) rfl) z oq) (r2.put z oq (Nat.le_add_right _ _)) r3
  rw [cellE_int hs (Or.inl rfl)]
  show H1[_]? = some (vp_cell _ _)
  rw [e, vp_cell_i, vp_cell_i, arrV_store]
  congr 2
  funext q
  by_cases hq : q = i.toNatClampNeg
  · subst hq
    simp [updV, va_up]
  · simp [updV, va_up, hq]
theorem aw_bast (h : CX X cc own rt mL F Lo mc ms w) {n len : Nat} {i x : Int32} (hs : SHP G n 102 len) (hin : vp_in i len) (d : decode cc pc = .ok (.bastore, 1)) (kk : AW X cs ss (pc + 1) ls st G (upd2 I n i.toNatClampNeg (vp_nar .byte x)) L) : AW X cs ss pc ls (.int x :: .int i :: .ref (w.1 + n) :: st) G I L := by
  obtain ⟨p, l, e, R, s, m, args, below, meth, c, Q, w'⟩ := X
  obtain ⟨hx, hb, -, -, -, -, -, hK, -, -, -, -, -, -, -, rfl⟩ := h
  intro H locs la r1 r2 r3
  have hP := r1.at hs.1
  rw [cellE_int hs (Or.inr (Or.inl rfl))] at hP
  refine W.bast hx hb hP ((hK.2 2 _ rfl).1 len (fun j => .int (I n j))) (fun q => by cases q) (by show ¬ (i < 0 ∨ (arrV _ _ _).slots.size ≤ _); rw [arrV_size]; exact hin) rfl rfl d fun H1 e z oq => ?_
  refine kk H1 _ la (r1.set hs.1 rfl ?_ (fun j hj => cellE_same rfl rfl (by simp [va_up, hj]) rfl) z oq) (r2.put z oq (Nat.le_add_right _ _)) r3
  rw [cellE_int hs (Or.inr (Or.inl rfl))]
  show H1[_]? = some (vp_cell _ _)
  rw [e, vp_cell_i, vp_cell_i, arrV_store]
  congr 2
  funext q
  by_cases hq : q = i.toNatClampNeg
  · subst hq
    simp [updV, va_up, vp_nar]
    try rfl
  · simp [updV, va_up, hq]
theorem aw_zast (h : CX X cc own rt mL F Lo mc ms w) {n len : Nat} {i x : Int32} (hs : SHP G n 103 len) (hin : vp_in i len) (d : decode cc pc = .ok (.bastore, 1)) (kk : AW X cs ss (pc + 1) ls st G (upd2 I n i.toNatClampNeg (vp_nar .boolean x)) L) : AW X cs ss pc ls (.int x :: .int i :: .ref (w.1 + n) :: st) G I L := by
  obtain ⟨p, l, e, R, s, m, args, below, meth, c, Q, w'⟩ := X
  obtain ⟨hx, hb, -, -, -, -, -, hK, -, -, -, -, -, -, -, rfl⟩ := h
  intro H locs la r1 r2 r3
  have hP := r1.at hs.1
  rw [cellE_int hs (Or.inr (Or.inr rfl))] at hP
  refine W.zast hx hb hP ((hK.2 3 _ rfl).1 len (fun j => .int (I n j))) (fun q => by cases q) (by show ¬ (i < 0 ∨ (arrV _ _ _).slots.size ≤ _); rw [arrV_size]; exact hin) rfl rfl d fun H1 e z oq => ?_
  refine kk H1 _ la (r1.set hs.1 rfl ?_ (fun j hj => cellE_same rfl rfl (by simp [va_up, hj]) rfl) z oq) (r2.put z oq (Nat.le_add_right _ _)) r3
  rw [cellE_int hs (Or.inr (Or.inr rfl))]
  show H1[_]? = some (vp_cell _ _)
  rw [e, vp_cell_i, vp_cell_i, arrV_store]
  congr 2
  funext q
  by_cases hq : q = i.toNatClampNeg
  · subst hq
    simp [updV, va_up, vp_nar]
    try rfl
  · simp [updV, va_up, hq]
theorem aw_last (h : CX X cc own rt mL F Lo mc ms w) {n len : Nat} {i : Int32} {x : Int64} (hs : SHP G n 101 len) (hin : vp_in i len) (d : decode cc pc = .ok (.lastore, 1)) (kk : AW X cs ss (pc + 1) ls st G I (upd2 L n i.toNatClampNeg x)) : AW X cs ss pc ls (.long x :: .int i :: .ref (w.1 + n) :: st) G I L := by
  obtain ⟨p, l, e, R, s, m, args, below, meth, c, Q, w'⟩ := X
  obtain ⟨hx, hb, -, -, -, -, -, hK, -, -, -, -, -, -, -, rfl⟩ := h
  intro H locs la r1 r2 r3
  have hP := r1.at hs.1
  rw [cellE_long hs] at hP
  refine W.last hx hb hP ((hK.2 1 _ rfl).1 len (fun j => .long (L n j))) (fun q => by cases q) (by show ¬ (i < 0 ∨ (arrV _ _ _).slots.size ≤ _); rw [arrV_size]; exact hin) rfl rfl d fun H1 e z oq => ?_
  refine kk H1 _ la (r1.set hs.1 rfl ?_ (fun j hj => cellE_same rfl rfl rfl (by simp [va_up, hj])) z oq) (r2.put z oq (Nat.le_add_right _ _)) r3
  rw [cellE_long hs]
  show H1[_]? = some (vp_cell _ _)
  rw [e, vp_cell_l, vp_cell_l, arrV_store]
  congr 2
  funext q
  by_cases hq : q = i.toNatClampNeg
  · subst hq
    simp [updV, va_up]
  · simp [updV, va_up, hq]
theorem aw_iastN (h : CX X cc own rt mL F Lo mc ms w) {n len j : Nat} {x : Int32} (hs : SHP G n 100 len) (hn : len < 2 ^ 31) (hj : j < len) (d : decode cc pc = .ok (.iastore, 1)) (kk : AW X cs ss (pc + 1) ls st G (upd2 I n j x) L) : AW X cs ss pc ls (.int x :: .int (nI j) :: .ref (w.1 + n) :: st) G I L :=
  aw_iast h hs (vin hj hn) d (by rw [nI_clamp (by omega)]; exact kk)
theorem aw_bastN (h : CX X cc own rt mL F Lo mc ms w) {n len j : Nat} {x : Int32} (hs : SHP G n 102 len) (hn : len < 2 ^ 31) (hj : j < len) (d : decode cc pc = .ok (.bastore, 1)) (kk : AW X cs ss (pc + 1) ls st G (upd2 I n j (x.toInt8.toInt32)) L) : AW X cs ss pc ls (.int x :: .int (nI j) :: .ref (w.1 + n) :: st) G I L :=
  aw_bast h hs (vin hj hn) d (by rw [nI_clamp (by omega), vp_nar_byte]; exact kk)
theorem aw_zastN (h : CX X cc own rt mL F Lo mc ms w) {n len j : Nat} {x : Int32} (hs : SHP G n 103 len) (hn : len < 2 ^ 31) (hj : j < len) (hx : x = 0 ∨ x = 1) (d : decode cc pc = .ok (.bastore, 1)) (kk : AW X cs ss (pc + 1) ls st G (upd2 I n j x) L) : AW X cs ss pc ls (.int x :: .int (nI j) :: .ref (w.1 + n) :: st) G I L :=
  aw_zast h hs (vin hj hn) d (by rw [nI_clamp (by omega), show vp_nar .boolean x = x by rcases hx with rfl | rfl <;> decide]; exact kk)
theorem aw_lastN (h : CX X cc own rt mL F Lo mc ms w) {n len j : Nat} {x : Int64} (hs : SHP G n 101 len) (hn : len < 2 ^ 31) (hj : j < len) (d : decode cc pc = .ok (.lastore, 1)) (kk : AW X cs ss (pc + 1) ls st G I (upd2 L n j x)) : AW X cs ss pc ls (.long x :: .int (nI j) :: .ref (w.1 + n) :: st) G I L :=
  aw_last h hs (vin hj hn) d (by rw [nI_clamp (by omega)]; exact kk)
/-- a cell of the run stored in an array of references: into one of its own class's, or of Object -/
theorem aw_aast (h : CX X cc own rt mL F Lo mc ms w) {n k len j v ci lv : Nat} {C E : String} {T : u_T} {N : Nat} (hs : SHP G n k len) (hk : (k, FieldType.object E) ∈ ([(104, .object "OutwardDoors$State"), (105, .object "OutwardDoors$Image"), (106, .object "java/lang/Object")] : List (Nat × FieldType))) (hn : len < 2 ^ 31) (hj : j < len)
    (hv : SHP G v ci lv) (hci : ci < 100) (hc : vwCl[ci]? = some (C, T, N)) (hE : E = C ∨ Cond.castable C E ∈ lw_tbl) (d : decode cc pc = .ok (.aastore, 1)) (kk : AW X cs ss (pc + 1) ls st (G.1, G.2.1, upd2 G.2.2 n j (some v)) I L) : AW X cs ss pc ls (.ref (w.1 + v) :: .int (nI j) :: .ref (w.1 + n) :: st) G I L := by
  obtain ⟨p, l, e, R, s, m, args, below, meth, c, Q, w'⟩ := X
  obtain ⟨hx, hb, -, -, -, -, -, hK, hT, -, -, -, -, -, -, rfl⟩ := h
  intro H locs la r1 r2 r3
  have hk4 : 104 ≤ k := by
    simp only [List.mem_cons, Prod.mk.injEq, List.not_mem_nil, or_false] at hk
    omega
  have hP := r1.at hs.1
  rw [cellE_ref hs hk4] at hP
  obtain ⟨t0, ht⟩ := tys_at (w := w') (k := k) (ty := .object E) (by simp only [List.mem_cons, List.not_mem_nil, or_false] at hk ⊢; rcases hk with h | h | h <;> simp [h])
  obtain ⟨cellV, g1, g2, g3, -⟩ := fld_read (D := w'.2.1) (B := 0) (k := 0) r1 hv hci hc
  have hcls := (hK.1 ci _ hc).2
  obtain ⟨kA, comp, k1, k2, k3, -⟩ := (hK.2 t0 _ ht).2
  obtain ⟨kE, hkE, -⟩ := Vm.findClass_spec k3
  obtain ⟨kC, hkC, -⟩ := hcls.2
  have hasg : s.vm.assignable (w'.2.1.1 ci) comp = true := by
    rcases hE with rfl | hE
    · cases k3.symm.trans hcls.1
      exact va_assign hcls
    · obtain ⟨c0, t1, f1, f2, f3⟩ := Cond.castable_spec (va_Nw.use (A := args) rfl (hT.2.2.1 _ _ hE))
      cases hcls.1.symm.trans f1
      cases k3.symm.trans f2
      exact f3
  have hin := vin hj hn
  have hlt : (nI j).toNatClampNeg < len := by rw [nI_clamp (by omega)]; exact hj
  have h0 : ¬ nI j < 0 := fun q => hin (Or.inl q)
  refine W.aast hx hb hP (fun q h => by cases h) (fun h => by cases h) k1 k2 rfl hkE ⟨h0, by show _ < (arrV _ _ _).slots.size; rw [arrV_size]; exact hlt⟩ g1 (fun q h => by rw [g3] at h; cases h) (by rw [g2]; exact hkC) (by rw [g2]; exact hasg) rfl rfl d fun H1 e z oq => ?_
  refine kk H1 _ la (r1.set hs.1 rfl ?_ (fun j hj => cellE_same rfl (by simp [va_up, hj]) rfl rfl) z oq) (r2.put z oq (Nat.le_add_right _ _)) r3
  rw [cellE_ref (G := (G.1, G.2.1, upd2 G.2.2 n j (some v))) hs hk4]
  show H1[_]? = some (vp_cell _ _)
  rw [e, vp_cell_q, vp_cell_q, arrV_store]
  congr 2
  funext q
  rw [nI_clamp (by omega)]
  by_cases hq : q = j
  · subst hq
    simp [updV, va_up, va_rf]
  · simp [updV, va_up, hq]
theorem aw_alen (h : CX X cc own rt mL F Lo mc ms w) {n k len : Nat} (hs : SHP G n k len) (hk : 100 ≤ k ∧ k ≤ 106) (d : decode cc pc = .ok (.arraylength, 1)) (kk : AW X cs ss (pc + 1) ls (.int (nI len) :: st) G I L) : AW X cs ss pc ls (.ref (w.1 + n) :: st) G I L := by
  obtain ⟨p, l, e, R, s, m, args, below, meth, c, Q, w'⟩ := X
  obtain ⟨hx, hb, -, -, -, -, -, hK, -, -, -, -, -, -, -, rfl⟩ := h
  intro H locs la r1 r2 r3
  have hP := r1.single hs.1
  have hkk : k = 100 ∨ k = 101 ∨ k = 102 ∨ k = 103 ∨ k = 104 ∨ k = 105 ∨ k = 106 := by omega
  rcases hkk with rfl | rfl | rfl | rfl | rfl | rfl | rfl
  · rw [cellE_int hs (by simp)] at hP
    exact va_alen hx hb hK hP 0 0 rfl rfl rfl d (kk H locs la r1 r2 r3)
  · rw [cellE_long hs] at hP
    exact va_alen hx hb hK hP 0 1 rfl rfl rfl d (kk H locs la r1 r2 r3)
  · rw [cellE_int hs (by simp)] at hP
    exact va_alen hx hb hK hP 0 2 rfl rfl rfl d (kk H locs la r1 r2 r3)
  · rw [cellE_int hs (by simp)] at hP
    exact va_alen hx hb hK hP 0 3 rfl rfl rfl d (kk H locs la r1 r2 r3)
  · rw [cellE_ref hs (by omega)] at hP
    exact va_alen hx hb hK hP 0 4 rfl rfl rfl d (kk H locs la r1 r2 r3)
  · rw [cellE_ref hs (by omega)] at hP
    exact va_alen hx hb hK hP 0 5 rfl rfl rfl d (kk H locs la r1 r2 r3)
  · rw [cellE_ref hs (by omega)] at hP
    exact va_alen hx hb hK hP 0 6 rfl rfl rfl d (kk H locs la r1 r2 r3)
/-- the memory with one cell more, of this shape, blank -/
def Gnew (G : Gm) (k len : Nat) : Gm := (G.1 + 1, va_up G.2.1 G.1 (k, len), va_up G.2.2 G.1 (fun _ => none))
abbrev Inew (G : Gm) (I : Im) : Im := va_up I G.1 (fun _ => 0)
abbrev Lnew (G : Gm) (L : Lm) : Lm := va_up L G.1 (fun _ => 0)
theorem SHP.new (G : Gm) (k len : Nat) : SHP (Gnew G k len) G.1 k len := ⟨Nat.lt_succ_self _, by simp [Gnew, va_up]⟩
theorem SHP.old {n k len k' len' : Nat} (h : SHP G n k len) : SHP (Gnew G k' len') n k len := ⟨Nat.lt_succ_of_lt h.1, by have := h.1; simp [Gnew, va_up, show n ≠ G.1 by omega, h.2]⟩
theorem Gnew_P {n k len : Nat} (h : n < G.1) (j : Nat) : (Gnew G k len).2.2 n j = G.2.2 n j := by simp [Gnew, va_up, show n ≠ G.1 by omega]
theorem cellE_new {k len j : Nat} (hj : j < G.1) : cellE w (Gnew G k len) (Inew G I) (Lnew G L) j = cellE w G I L j := by
  have : j ≠ G.1 := by omega
  exact cellE_same (by simp [Gnew, va_up, this]) (by simp [Gnew, va_up, this]) (by simp [va_up, this]) (by simp [va_up, this])
theorem aw_new (h : CX X cc own rt mL F Lo mc ms w) {idx ci : Nat} {C : String} {T : u_T} {N : Nat} {ty : Nat → FieldType} (hc : vwCl[ci]? = some (C, T, N)) (hci : ci < 100) (hN : N = nfld ci) (hin : ∀ z ∈ u_ws C T N, z ∈ lw_all) (hty : ∀ k, k < N → parseFieldDescriptor (T k).2.2.1 = some (ty k)) (hfs : ∀ j, j < N → defaultValue (ty j) = fval 0 (0, fun _ => (0, 0), fun _ _ => none) (fun _ _ => 0) (fun _ _ => 0) 0 j (fcode ci j))
    (q1 : Cond.classLink own idx C ∈ lw_all) (q2 : Cond.instantiable C N ∈ lw_all) (q3 : Cond.initialized C ∈ lw_all) (hcs : cs + 1 ≤ mc) (hss : ss + N ≤ ms) (d : decode cc pc = .ok (.new idx, 3))
    (kk : AW X (cs + 1) (ss + N) (pc + 3) ls (.ref (w.1 + G.1) :: st) (Gnew G ci N) (Inew G I) (Lnew G L)) : AW X cs ss pc ls st G I L := by
  obtain ⟨p, l, e, R, s, m, args, below, meth, c, Q, w'⟩ := X
  obtain ⟨hx, hb, -, -, -, hown, hts, hK, -, -, hB, -, -, hmc, hms, rfl⟩ := h
  intro H locs la r1 r2 r3
  have hKn := hK.1 ci _ hc
  refine W.newcK hx hb hown (hts _ q1) (hts _ q2) (hts _ q3) rfl d (by omega) (by omega) hKn.2.1 r1.2 fun H1 kC hkC e1 z1 o1 => ?_
  refine kk H1 locs la (r1.push rfl ?_ (fun j hj => cellE_new hj) (by rw [z1, r1.2]) (fun q hq => o1 q (by have := r1.2; omega))) ⟨Nat.le_trans r2.1 (by have := r1.2; omega), fun x h1 h2 => (o1 x (by have := r1.2; have := r2.1; omega)).trans (r2.2.1 x h1 h2), r2.2.2⟩ r3
  rw [cellE_obj (SHP.new G ci N) hci]
  refine ⟨_, hc, (u_born ty hts hin hKn hkC e1 hty).to fun j hj => ?_⟩
  rw [vp_fvals (by omega), hfs j hj]
  unfold fval
  split <;> simp [Gnew, va_up, va_rf]
theorem arr_id {cA : ClassId} {k : Nat} {ty : FieldType} {s : State} (hK : va_K w.2.1 vwCl (tysOf w) s) (hk : (k, ty) ∈ ([(100, .int), (101, .long), (102, .byte), (103, .boolean)] : List (Nat × FieldType))) (h : s.vm.findClass ("[" ++ ty.toString) = some cA) : cA = w.2.2.1 k := by
  obtain ⟨t0, ht⟩ := tys_at (w := w) (k := k) (ty := ty) (by simp only [List.mem_cons, List.not_mem_nil, or_false] at hk ⊢; rcases hk with h | h | h | h <;> simp [h])
  have h1 := (hK.2 t0 _ ht).2
  simp only [List.mem_cons, Prod.mk.injEq, List.not_mem_nil, or_false] at hk
  rcases hk with ⟨rfl, rfl⟩ | ⟨rfl, rfl⟩ | ⟨rfl, rfl⟩ | ⟨rfl, rfl⟩ <;> exact Option.some.inj (h.symm.trans h1)
theorem aw_newa (h : CX X cc own rt mL F Lo mc ms w) {atype : ArrayType} {k : Nat} {ty : FieldType} (hty : newarray.typeOf atype = ty) (hk : (k, ty) ∈ ([(100, .int), (101, .long), (102, .byte), (103, .boolean)] : List (Nat × FieldType))) (q1 : Cond.arrayClass ty ∈ lw_all) {N : Nat} (hN : N ≤ 60000000) (hcs : cs + 1 ≤ mc) (hss : ss + N ≤ ms) (d : decode cc pc = .ok (.newarray atype, 2))
    (kk : AW X (cs + 1) (ss + N) (pc + 2) ls (.ref (w.1 + G.1) :: st) (Gnew G k N) (Inew G I) (Lnew G L)) : AW X cs ss pc ls (.int (nI N) :: st) G I L := by
  obtain ⟨p, l, e, R, s, m, args, below, meth, c, Q, w'⟩ := X
  obtain ⟨hx, hb, -, -, -, hown, hts, hK, -, -, hB, -, -, hmc, hms, rfl⟩ := h
  intro H locs la r1 r2 r3
  have hcb : componentBytes ty ≤ 8 := by
    simp only [List.mem_cons, Prod.mk.injEq, List.not_mem_nil, or_false] at hk
    rcases hk with ⟨rfl, rfl⟩ | ⟨rfl, rfl⟩ | ⟨rfl, rfl⟩ | ⟨rfl, rfl⟩ <;> decide
  refine va_newaK hx hb (by rw [hty]; exact hts _ q1) rfl d rfl (nI_pos (by omega)) (nI_clamp (by omega)) (by rw [hty]; exact Nat.le_trans (Nat.mul_le_mul_left N hcb) (by omega)) (by omega) (by omega) r1.2 fun H1 cA e1 z1 o1 hAr hNm => ?_
  rw [hty] at e1 hNm
  have hid := arr_id hK hk hNm
  refine kk H1 locs la (r1.push rfl ?_ (fun j hj => cellE_new hj) (by rw [z1, r1.2]) (fun q hq => o1 q (by have := r1.2; omega))) ⟨Nat.le_trans r2.1 (by have := r1.2; omega), fun x h1 h2 => (o1 x (by have := r1.2; have := r2.1; omega)).trans (r2.2.1 x h1 h2), r2.2.2⟩ r3
  subst hid
  simp only [List.mem_cons, Prod.mk.injEq, List.not_mem_nil, or_false] at hk
  have hs := SHP.new G k N
  rcases hk with ⟨rfl, rfl⟩ | ⟨rfl, rfl⟩ | ⟨rfl, rfl⟩ | ⟨rfl, rfl⟩
  · rw [cellE_int hs (by simp)]
    show H1[_]? = some (vp_cell _ _)
    rw [e1, vp_cell_i]
    simp only [vup_s]
    rfl
  · rw [cellE_long hs]
    show H1[_]? = some (vp_cell _ _)
    rw [e1, vp_cell_l]
    simp only [vup_s]
    rfl
  · rw [cellE_int hs (by simp)]
    show H1[_]? = some (vp_cell _ _)
    rw [e1, vp_cell_i]
    simp only [vup_s]
    rfl
  · rw [cellE_int hs (by simp)]
    show H1[_]? = some (vp_cell _ _)
    rw [e1, vp_cell_i]
    simp only [vup_s]
    rfl
theorem aw_newq (h : CX X cc own rt mL F Lo mc ms w) {k idx : Nat} {C : String} (hk : (k, FieldType.object C) ∈ ([(104, .object "OutwardDoors$State"), (105, .object "OutwardDoors$Image"), (106, .object "java/lang/Object")] : List (Nat × FieldType))) (q1 : Cond.classLink own idx C ∈ lw_all) (q2 : Cond.arrayOver (.object C) ∈ lw_tbl) {N : Nat} (hN : N ≤ 60000000) (hcs : cs + 1 ≤ mc) (hss : ss + N ≤ ms) (d : decode cc pc = .ok (.anewarray idx, 3))
    (kk : AW X (cs + 1) (ss + N) (pc + 3) ls (.ref (w.1 + G.1) :: st) (Gnew G k N) (Inew G I) (Lnew G L)) : AW X cs ss pc ls (.int (nI N) :: st) G I L := by
  obtain ⟨p, l, e, R, s, m, args, below, meth, c, Q, w'⟩ := X
  obtain ⟨hx, hb, -, -, -, hown, hts, hK, hT, -, hB, -, -, hmc, hms, rfl⟩ := h
  intro H locs la r1 r2 r3
  have hcl : (nI N).toNatClampNeg = N := nI_clamp (by omega)
  refine W.anew hx hb hown (hts _ q1) (va_AO.use (hT.2.2.2.2 _ q2)) rfl d rfl (nI_pos (by omega)) (by rw [hcl]; omega) (by omega) (by rw [hcl]; omega) fun cA kA comp f1 f2 f3 f4 => ?_
  rw [hcl]
  generalize hH1 : H.push ({ cls := cA, slots := Array.replicate N .null, vm := .none } : Cell) = H1
  have z1 : H1.size = H.size + 1 := by rw [← hH1, Array.size_push]
  have e1 : H1[H.size]? = some (arrV cA N (fun _ => .null)) := by rw [← hH1, Array.getElem?_push_size, ← arrV_new]
  have o1 : ∀ q : Nat, q < H.size → H1[q]? = H[q]? := fun q hq => by rw [← hH1, Array.getElem?_push, if_neg (Nat.ne_of_lt hq)]
  obtain ⟨t0, ht⟩ := tys_at (w := w') (k := k) (ty := .object C) (by simp only [List.mem_cons, List.not_mem_nil, or_false] at hk ⊢; rcases hk with h | h | h <;> simp [h])
  obtain ⟨kA', comp', k1, k2, k3, k4⟩ := (hK.2 t0 _ ht).2
  have hid : cA = w'.2.2.1 k := Option.some.inj (f1.symm.trans k4)
  have hk4 : 104 ≤ k := by
    simp only [List.mem_cons, Prod.mk.injEq, List.not_mem_nil, or_false] at hk
    omega
  have hst : (Value.ref H.size) = .ref (w'.1 + G.1) := by rw [r1.2]
  rw [hst]
  refine kk H1 locs la (r1.push rfl ?_ (fun j hj => cellE_new hj) z1 o1) ⟨Nat.le_trans r2.1 (by omega), fun x h1 h2 => (o1 x (by have := r2.1; omega)).trans (r2.2.1 x h1 h2), r2.2.2⟩ r3
  subst hid
  rw [cellE_ref (SHP.new G k N) hk4]
  show H1[_]? = some (vp_cell _ _)
  rw [← r1.2, e1, vp_cell_q]
  simp only [Gnew, vup_s]
  rfl
theorem aw_cast (h : CX X cc own rt mL F Lo mc ms w) {idx n ci len : Nat} {C nm : String} {T : u_T} {N : Nat} (hs : SHP G n ci len) (hci : ci < 100) (hc : vwCl[ci]? = some (C, T, N)) (q1 : Cond.classLink own idx nm ∈ lw_all) (hcast : C = nm ∨ Cond.castable C nm ∈ lw_tbl) (d : decode cc pc = .ok (.checkcast idx, 3))
    (kk : AW X cs ss (pc + 3) ls (.ref (w.1 + n) :: st) G I L) : AW X cs ss pc ls (.ref (w.1 + n) :: st) G I L := by
  obtain ⟨p, l, e, R, s, m, args, below, meth, c, Q, w'⟩ := X
  obtain ⟨hx, hb, -, -, -, hown, hts, hK, hT, -, -, -, -, -, -, rfl⟩ := h
  intro H locs la r1 r2 r3
  have hcls := (hK.1 ci _ hc).2
  obtain ⟨cell, g1, g2, g3, -⟩ := fld_read (D := w'.2.1) (B := 0) (k := 0) r1 hs hci hc
  rcases hcast with rfl | hcast
  · exact va_castS (cC := w'.2.1.1 ci) hx hb hown (hts _ q1) hcls ⟨cell, g1, by rw [g3]; rfl, by rw [g2]; exact hcls.1⟩ d (kk H locs la r1 r2 r3)
  · exact va_castY (C := C) hx hb hown (hts _ q1) (hT.2.2.1 _ _ hcast) ⟨cell, g1, by rw [g3]; rfl, by rw [g2]; exact hcls.1⟩ d (kk H locs la r1 r2 r3)
end AW4
