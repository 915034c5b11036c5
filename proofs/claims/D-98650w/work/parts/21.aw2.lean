section AW2
variable {X : Cx} {cc : ByteArray} {own : String} {rt : Option FieldType} {mL F Lo mc ms : Nat} {w : Wd} {cs ss pc : Nat} {ls : List (Option Value)} {st : List Value} {G : Gm} {I : Im} {L : Lm}
theorem lpairs_mem : ∀ (ls : List (Option Value)) (i : Nat) (q : Nat × Value), q ∈ lpairs i ls ↔ ∃ k, ls[k]? = some (some q.2) ∧ q.1 = i + k
  | [], i, q => by simp [lpairs]
  | none :: r, i, q => by
    rw [lpairs, lpairs_mem r (i + 1) q]
    constructor
    · rintro ⟨k, h1, h2⟩; exact ⟨k + 1, by simpa using h1, by omega⟩
    · rintro ⟨k, h1, h2⟩
      cases k with
      | zero => simp at h1
      | succ k => exact ⟨k, by simpa using h1, by omega⟩
  | some v :: r, i, q => by
    rw [lpairs, List.mem_cons, lpairs_mem r (i + 1) q]
    constructor
    · rintro (h | ⟨k, h1, h2⟩)
      · subst h; exact ⟨0, by simp, by simp⟩
      · exact ⟨k + 1, by simpa using h1, by omega⟩
    · rintro ⟨k, h1, h2⟩
      cases k with
      | zero =>
        left
        obtain ⟨a, b⟩ := q
        simp at h1 h2
        simp [h1, h2]
      | succ k => exact Or.inr ⟨k, by simpa using h1, by omega⟩
theorem LV.at {la : Array Slot} {nL : Nat} {ls : List (Option Value)} (h : LV la nL ls) {k : Nat} {v : Value} (hk : ls[k]? = some (some v)) : la[k]? = some (.val v) :=
  h.2.2.2 (k, v) ((lpairs_mem ls 0 _).mpr ⟨k, hk, by simp⟩)
def cat1 : Option Value → Bool
  | some (.long _) => false
  | some (.double _) => false
  | _ => true
theorem cat1_spec {v : Value} (h : cat1 (some v) = true) : ¬ (v.category = 2) := by
  cases v <;> simp [cat1, Value.category] at *
theorem hp_of {ls : List (Option Value)} {i : Nat} {a : Option Value} (ha : ls[i]? = some a) (hp : cat1 a = true) : ∀ j u, j + 1 = i + 1 → ls[j]? = some (some u) → ¬ u.category = 2 := by
  intro j u hj hu
  obtain rfl : j = i := by omega
  rw [ha] at hu
  cases hu
  exact cat1_spec hp
theorem hp_0 {ls : List (Option Value)} : ∀ j u, j + 1 = 0 → ls[j]? = some (some u) → ¬ u.category = 2 := fun j u hj => absurd hj (by omega)
theorem LV.st1 {la la' : Array Slot} {nL : Nat} {ls : List (Option Value)} {i : Nat} {v : Value} (h : LV la nL ls) (hp : ∀ j u, j + 1 = i → ls[j]? = some (some u) → ¬ u.category = 2) (h' : lv_has la' nL ((i, v) :: (lpairs 0 ls).filter (fun q => !(q.1 == i) && !(q.1 + 1 == i && q.2.category == 2)))) : LV la' nL (ls.set i (some v)) := by
  refine ⟨by simpa using h.1, h'.1, h'.2.1, fun q hq => h'.2.2 q ?_⟩
  obtain ⟨k, h1, h2⟩ := (lpairs_mem _ 0 q).mp hq
  by_cases hk : k = i
  · subst hk
    have hl : k < ls.length := by
      have := (List.getElem?_eq_some_iff.mp h1).1
      simpa using this
    rw [List.getElem?_set_self hl] at h1
    obtain ⟨a, b⟩ := q
    simp at h1 h2
    simp [h1, h2]
  · rw [List.getElem?_set_ne (Ne.symm hk)] at h1
    refine List.mem_cons_of_mem _ (List.mem_filter.mpr ⟨(lpairs_mem ls 0 q).mpr ⟨k, h1, h2⟩, ?_⟩)
    have hq1 : q.1 = k := by omega
    simp only [hq1, Bool.and_eq_true, Bool.not_eq_true', beq_eq_false_iff_ne, ne_eq, Bool.and_eq_false_iff]
    refine ⟨hk, ?_⟩
    by_cases hki : k + 1 = i
    · exact Or.inr (by simpa using hp k _ hki h1)
    · exact Or.inl (by simpa using hki)
theorem LV.st2 {la la' : Array Slot} {nL : Nat} {ls : List (Option Value)} {i : Nat} {v : Value} (h : LV la nL ls) (hp : ∀ j u, j + 1 = i → ls[j]? = some (some u) → ¬ u.category = 2) (h' : lv_has la' nL ((i, v) :: (lpairs 0 ls).filter (fun q => !(q.1 == i) && (!(q.1 == i + 1) && !(q.1 + 1 == i && q.2.category == 2))))) : LV la' nL ((ls.set i (some v)).set (i + 1) none) := by
  refine ⟨by simpa using h.1, h'.1, h'.2.1, fun q hq => h'.2.2 q ?_⟩
  obtain ⟨k, h1, h2⟩ := (lpairs_mem _ 0 q).mp hq
  by_cases hk2 : k = i + 1
  · exfalso
    have hl : k < ls.length := by
      have := (List.getElem?_eq_some_iff.mp h1).1
      simpa using this
    rw [← hk2, List.getElem?_set_self (by simpa using hl)] at h1
    cases h1
  rw [List.getElem?_set_ne (Ne.symm hk2)] at h1
  by_cases hk : k = i
  · subst hk
    have hl : k < ls.length := by
      have := (List.getElem?_eq_some_iff.mp h1).1
      simpa using this
    rw [List.getElem?_set_self hl] at h1
    obtain ⟨a, b⟩ := q
    simp at h1 h2
    simp [h1, h2]
  · rw [List.getElem?_set_ne (Ne.symm hk)] at h1
    refine List.mem_cons_of_mem _ (List.mem_filter.mpr ⟨(lpairs_mem ls 0 q).mpr ⟨k, h1, h2⟩, ?_⟩)
    have hq1 : q.1 = k := by omega
    simp only [hq1, Bool.and_eq_true, Bool.not_eq_true', beq_eq_false_iff_ne, ne_eq, Bool.and_eq_false_iff]
    refine ⟨hk, hk2, ?_⟩
    by_cases hki : k + 1 = i
    · exact Or.inr (by simpa using hp k _ hki h1)
    · exact Or.inl (by simpa using hki)
theorem aw_iadd (h : CX X cc own rt mL F Lo mc ms w) {x y : Int32} (d : decode cc pc = .ok (.iadd, 1)) (k : AW X cs ss (pc + 1) ls (.int (x + y) :: st) G I L) : AW X cs ss pc ls (.int y :: .int x :: st) G I L := by
  obtain ⟨p, l, e, R, s, m, args, below, meth, c, Q, w'⟩ := X
  intro H locs la r1 r2 r3
  exact lv_iadd h.1 h.2.1 d (k H locs la r1 r2 r3)
theorem aw_isub (h : CX X cc own rt mL F Lo mc ms w) {x y : Int32} (d : decode cc pc = .ok (.isub, 1)) (k : AW X cs ss (pc + 1) ls (.int (x - y) :: st) G I L) : AW X cs ss pc ls (.int y :: .int x :: st) G I L := by
  obtain ⟨p, l, e, R, s, m, args, below, meth, c, Q, w'⟩ := X
  intro H locs la r1 r2 r3
  exact lv_isub h.1 h.2.1 d (k H locs la r1 r2 r3)
theorem aw_imul (h : CX X cc own rt mL F Lo mc ms w) {x y : Int32} (d : decode cc pc = .ok (.imul, 1)) (k : AW X cs ss (pc + 1) ls (.int (x * y) :: st) G I L) : AW X cs ss pc ls (.int y :: .int x :: st) G I L := by
  obtain ⟨p, l, e, R, s, m, args, below, meth, c, Q, w'⟩ := X
  intro H locs la r1 r2 r3
  exact lv_imul h.1 h.2.1 d (k H locs la r1 r2 r3)
theorem aw_iand (h : CX X cc own rt mL F Lo mc ms w) {x y : Int32} (d : decode cc pc = .ok (.iand, 1)) (k : AW X cs ss (pc + 1) ls (.int (x &&& y) :: st) G I L) : AW X cs ss pc ls (.int y :: .int x :: st) G I L := by
  obtain ⟨p, l, e, R, s, m, args, below, meth, c, Q, w'⟩ := X
  intro H locs la r1 r2 r3
  exact lv_iand h.1 h.2.1 d (k H locs la r1 r2 r3)
theorem aw_ior (h : CX X cc own rt mL F Lo mc ms w) {x y : Int32} (d : decode cc pc = .ok (.ior, 1)) (k : AW X cs ss (pc + 1) ls (.int (x ||| y) :: st) G I L) : AW X cs ss pc ls (.int y :: .int x :: st) G I L := by
  obtain ⟨p, l, e, R, s, m, args, below, meth, c, Q, w'⟩ := X
  intro H locs la r1 r2 r3
  exact lv_ior h.1 h.2.1 d (k H locs la r1 r2 r3)
theorem aw_ixor (h : CX X cc own rt mL F Lo mc ms w) {x y : Int32} (d : decode cc pc = .ok (.ixor, 1)) (k : AW X cs ss (pc + 1) ls (.int (x ^^^ y) :: st) G I L) : AW X cs ss pc ls (.int y :: .int x :: st) G I L := by
  obtain ⟨p, l, e, R, s, m, args, below, meth, c, Q, w'⟩ := X
  intro H locs la r1 r2 r3
  exact lv_ixor h.1 h.2.1 d (k H locs la r1 r2 r3)
theorem aw_ishl (h : CX X cc own rt mL F Lo mc ms w) {x y : Int32} (d : decode cc pc = .ok (.ishl, 1)) (k : AW X cs ss (pc + 1) ls (.int (x <<< (y &&& 31)) :: st) G I L) : AW X cs ss pc ls (.int y :: .int x :: st) G I L := by
  obtain ⟨p, l, e, R, s, m, args, below, meth, c, Q, w'⟩ := X
  intro H locs la r1 r2 r3
  exact lv_ishl h.1 h.2.1 d (k H locs la r1 r2 r3)
theorem aw_ishr (h : CX X cc own rt mL F Lo mc ms w) {x y : Int32} (d : decode cc pc = .ok (.ishr, 1)) (k : AW X cs ss (pc + 1) ls (.int (x >>> (y &&& 31)) :: st) G I L) : AW X cs ss pc ls (.int y :: .int x :: st) G I L := by
  obtain ⟨p, l, e, R, s, m, args, below, meth, c, Q, w'⟩ := X
  intro H locs la r1 r2 r3
  exact lv_ishr h.1 h.2.1 d (k H locs la r1 r2 r3)
theorem aw_idiv (h : CX X cc own rt mL F Lo mc ms w) {x y : Int32} (hne : ¬ y = 0) (d : decode cc pc = .ok (.idiv, 1)) (k : AW X cs ss (pc + 1) ls (.int (x / y) :: st) G I L) : AW X cs ss pc ls (.int y :: .int x :: st) G I L := by
  obtain ⟨p, l, e, R, s, m, args, below, meth, c, Q, w'⟩ := X
  intro H locs la r1 r2 r3
  exact lv_idiv h.1 h.2.1 d hne (k H locs la r1 r2 r3)
theorem aw_irem (h : CX X cc own rt mL F Lo mc ms w) {x y : Int32} (hne : ¬ y = 0) (d : decode cc pc = .ok (.irem, 1)) (k : AW X cs ss (pc + 1) ls (.int (x - x / y * y) :: st) G I L) : AW X cs ss pc ls (.int y :: .int x :: st) G I L := by
  obtain ⟨p, l, e, R, s, m, args, below, meth, c, Q, w'⟩ := X
  intro H locs la r1 r2 r3
  exact lv_irem h.1 h.2.1 d hne (k H locs la r1 r2 r3)
theorem aw_ladd (h : CX X cc own rt mL F Lo mc ms w) {x y : Int64} (d : decode cc pc = .ok (.ladd, 1)) (k : AW X cs ss (pc + 1) ls (.long (x + y) :: st) G I L) : AW X cs ss pc ls (.long y :: .long x :: st) G I L := by
  obtain ⟨p, l, e, R, s, m, args, below, meth, c, Q, w'⟩ := X
  intro H locs la r1 r2 r3
  exact lv_ladd h.1 h.2.1 d (k H locs la r1 r2 r3)
theorem aw_lsub (h : CX X cc own rt mL F Lo mc ms w) {x y : Int64} (d : decode cc pc = .ok (.lsub, 1)) (k : AW X cs ss (pc + 1) ls (.long (x - y) :: st) G I L) : AW X cs ss pc ls (.long y :: .long x :: st) G I L := by
  obtain ⟨p, l, e, R, s, m, args, below, meth, c, Q, w'⟩ := X
  intro H locs la r1 r2 r3
  exact lv_lsub h.1 h.2.1 d (k H locs la r1 r2 r3)
theorem aw_lmul (h : CX X cc own rt mL F Lo mc ms w) {x y : Int64} (d : decode cc pc = .ok (.lmul, 1)) (k : AW X cs ss (pc + 1) ls (.long (x * y) :: st) G I L) : AW X cs ss pc ls (.long y :: .long x :: st) G I L := by
  obtain ⟨p, l, e, R, s, m, args, below, meth, c, Q, w'⟩ := X
  intro H locs la r1 r2 r3
  exact lv_lmul h.1 h.2.1 d (k H locs la r1 r2 r3)
theorem aw_land (h : CX X cc own rt mL F Lo mc ms w) {x y : Int64} (d : decode cc pc = .ok (.land, 1)) (k : AW X cs ss (pc + 1) ls (.long (x &&& y) :: st) G I L) : AW X cs ss pc ls (.long y :: .long x :: st) G I L := by
  obtain ⟨p, l, e, R, s, m, args, below, meth, c, Q, w'⟩ := X
  intro H locs la r1 r2 r3
  exact lv_land h.1 h.2.1 d (k H locs la r1 r2 r3)
theorem aw_lor (h : CX X cc own rt mL F Lo mc ms w) {x y : Int64} (d : decode cc pc = .ok (.lor, 1)) (k : AW X cs ss (pc + 1) ls (.long (x ||| y) :: st) G I L) : AW X cs ss pc ls (.long y :: .long x :: st) G I L := by
  obtain ⟨p, l, e, R, s, m, args, below, meth, c, Q, w'⟩ := X
  intro H locs la r1 r2 r3
  exact lv_lor h.1 h.2.1 d (k H locs la r1 r2 r3)
theorem aw_lxor (h : CX X cc own rt mL F Lo mc ms w) {x y : Int64} (d : decode cc pc = .ok (.lxor, 1)) (k : AW X cs ss (pc + 1) ls (.long (x ^^^ y) :: st) G I L) : AW X cs ss pc ls (.long y :: .long x :: st) G I L := by
  obtain ⟨p, l, e, R, s, m, args, below, meth, c, Q, w'⟩ := X
  intro H locs la r1 r2 r3
  exact lv_lxor h.1 h.2.1 d (k H locs la r1 r2 r3)
theorem aw_ldiv (h : CX X cc own rt mL F Lo mc ms w) {x y : Int64} (hne : ¬ y = 0) (d : decode cc pc = .ok (.ldiv, 1)) (k : AW X cs ss (pc + 1) ls (.long (x / y) :: st) G I L) : AW X cs ss pc ls (.long y :: .long x :: st) G I L := by
  obtain ⟨p, l, e, R, s, m, args, below, meth, c, Q, w'⟩ := X
  intro H locs la r1 r2 r3
  exact lv_ldiv h.1 h.2.1 d hne (k H locs la r1 r2 r3)
theorem aw_lrem (h : CX X cc own rt mL F Lo mc ms w) {x y : Int64} (hne : ¬ y = 0) (d : decode cc pc = .ok (.lrem, 1)) (k : AW X cs ss (pc + 1) ls (.long (x - x / y * y) :: st) G I L) : AW X cs ss pc ls (.long y :: .long x :: st) G I L := by
  obtain ⟨p, l, e, R, s, m, args, below, meth, c, Q, w'⟩ := X
  intro H locs la r1 r2 r3
  exact lv_lrem h.1 h.2.1 d hne (k H locs la r1 r2 r3)
theorem aw_lneg (h : CX X cc own rt mL F Lo mc ms w) {x : Int64} (d : decode cc pc = .ok (.lneg, 1)) (k : AW X cs ss (pc + 1) ls (.long (-x) :: st) G I L) : AW X cs ss pc ls (.long x :: st) G I L := by
  obtain ⟨p, l, e, R, s, m, args, below, meth, c, Q, w'⟩ := X
  intro H locs la r1 r2 r3
  exact lv_lneg h.1 h.2.1 d (k H locs la r1 r2 r3)
theorem aw_ineg (h : CX X cc own rt mL F Lo mc ms w) {x : Int32} (d : decode cc pc = .ok (.ineg, 1)) (k : AW X cs ss (pc + 1) ls (.int (-x) :: st) G I L) : AW X cs ss pc ls (.int x :: st) G I L := by
  obtain ⟨p, l, e, R, s, m, args, below, meth, c, Q, w'⟩ := X
  intro H locs la r1 r2 r3
  exact lv_ineg h.1 h.2.1 d (k H locs la r1 r2 r3)
theorem aw_lshl (h : CX X cc own rt mL F Lo mc ms w) {x : Int64} {y : Int32} (d : decode cc pc = .ok (.lshl, 1)) (k : AW X cs ss (pc + 1) ls (.long (x <<< (y.toInt64 &&& 63)) :: st) G I L) : AW X cs ss pc ls (.int y :: .long x :: st) G I L := by
  obtain ⟨p, l, e, R, s, m, args, below, meth, c, Q, w'⟩ := X
  intro H locs la r1 r2 r3
  exact lv_lshl h.1 h.2.1 d rfl (k H locs la r1 r2 r3)
theorem aw_lshr (h : CX X cc own rt mL F Lo mc ms w) {x : Int64} {y : Int32} (d : decode cc pc = .ok (.lshr, 1)) (k : AW X cs ss (pc + 1) ls (.long (x >>> (y.toInt64 &&& 63)) :: st) G I L) : AW X cs ss pc ls (.int y :: .long x :: st) G I L := by
  obtain ⟨p, l, e, R, s, m, args, below, meth, c, Q, w'⟩ := X
  intro H locs la r1 r2 r3
  exact lv_lshr h.1 h.2.1 d rfl (k H locs la r1 r2 r3)
theorem aw_lushr (h : CX X cc own rt mL F Lo mc ms w) {x : Int64} {y : Int32} (d : decode cc pc = .ok (.lushr, 1)) (k : AW X cs ss (pc + 1) ls (.long ((x.toUInt64 >>> (y.toInt64.toUInt64 &&& Int64.toUInt64 63)).toInt64) :: st) G I L) : AW X cs ss pc ls (.int y :: .long x :: st) G I L := by
  obtain ⟨p, l, e, R, s, m, args, below, meth, c, Q, w'⟩ := X
  intro H locs la r1 r2 r3
  exact lv_lushr h.1 h.2.1 d rfl (k H locs la r1 r2 r3)
theorem aw_i2l (h : CX X cc own rt mL F Lo mc ms w) {x : Int32} (d : decode cc pc = .ok (.i2l, 1)) (k : AW X cs ss (pc + 1) ls (.long (x.toInt64) :: st) G I L) : AW X cs ss pc ls (.int x :: st) G I L := by
  obtain ⟨p, l, e, R, s, m, args, below, meth, c, Q, w'⟩ := X
  intro H locs la r1 r2 r3
  exact lv_i2l h.1 h.2.1 d rfl (k H locs la r1 r2 r3)
theorem aw_l2i (h : CX X cc own rt mL F Lo mc ms w) {x : Int64} (d : decode cc pc = .ok (.l2i, 1)) (k : AW X cs ss (pc + 1) ls (.int (x.toInt32) :: st) G I L) : AW X cs ss pc ls (.long x :: st) G I L := by
  obtain ⟨p, l, e, R, s, m, args, below, meth, c, Q, w'⟩ := X
  intro H locs la r1 r2 r3
  exact lv_l2i h.1 h.2.1 d rfl (k H locs la r1 r2 r3)
theorem aw_i2b (h : CX X cc own rt mL F Lo mc ms w) {x : Int32} (d : decode cc pc = .ok (.i2b, 1)) (k : AW X cs ss (pc + 1) ls (.int (x.toInt8.toInt32) :: st) G I L) : AW X cs ss pc ls (.int x :: st) G I L := by
  obtain ⟨p, l, e, R, s, m, args, below, meth, c, Q, w'⟩ := X
  intro H locs la r1 r2 r3
  exact lv_i2b h.1 h.2.1 d rfl (k H locs la r1 r2 r3)
theorem aw_i2c (h : CX X cc own rt mL F Lo mc ms w) {x : Int32} (d : decode cc pc = .ok (.i2c, 1)) (k : AW X cs ss (pc + 1) ls (.int ((x.toUInt32 % 65536).toInt32) :: st) G I L) : AW X cs ss pc ls (.int x :: st) G I L := by
  obtain ⟨p, l, e, R, s, m, args, below, meth, c, Q, w'⟩ := X
  intro H locs la r1 r2 r3
  exact lv_i2c h.1 h.2.1 d rfl (k H locs la r1 r2 r3)
theorem aw_iaddN (h : CX X cc own rt mL F Lo mc ms w) {a b : Nat} (d : decode cc pc = .ok (.iadd, 1)) (k : AW X cs ss (pc + 1) ls (.int (nI (a + b)) :: st) G I L) : AW X cs ss pc ls (.int (nI b) :: .int (nI a) :: st) G I L := by
  obtain ⟨p, l, e, R, s, m, args, below, meth, c, Q, w'⟩ := X
  intro H locs la r1 r2 r3
  exact lv_iadd h.1 h.2.1 d (by rw [nI_add]; exact (k H locs la r1 r2 r3))
theorem aw_imulN (h : CX X cc own rt mL F Lo mc ms w) {a b : Nat} (d : decode cc pc = .ok (.imul, 1)) (k : AW X cs ss (pc + 1) ls (.int (nI (a * b)) :: st) G I L) : AW X cs ss pc ls (.int (nI b) :: .int (nI a) :: st) G I L := by
  obtain ⟨p, l, e, R, s, m, args, below, meth, c, Q, w'⟩ := X
  intro H locs la r1 r2 r3
  exact lv_imul h.1 h.2.1 d (by rw [pk_mul]; exact (k H locs la r1 r2 r3))
theorem aw_isubN (h : CX X cc own rt mL F Lo mc ms w) {a b : Nat} (hle : b ≤ a) (d : decode cc pc = .ok (.isub, 1)) (k : AW X cs ss (pc + 1) ls (.int (nI (a - b)) :: st) G I L) : AW X cs ss pc ls (.int (nI b) :: .int (nI a) :: st) G I L := by
  obtain ⟨p, l, e, R, s, m, args, below, meth, c, Q, w'⟩ := X
  intro H locs la r1 r2 r3
  exact lv_isub h.1 h.2.1 d (by rw [pk_sub hle]; exact (k H locs la r1 r2 r3))
theorem aw_idivN (h : CX X cc own rt mL F Lo mc ms w) {a b : Nat} (ha : a < 2 ^ 31) (h0 : 0 < b) (hb : b < 2 ^ 31) (d : decode cc pc = .ok (.idiv, 1)) (k : AW X cs ss (pc + 1) ls (.int (nI (a / b)) :: st) G I L) : AW X cs ss pc ls (.int (nI b) :: .int (nI a) :: st) G I L := by
  obtain ⟨p, l, e, R, s, m, args, below, meth, c, Q, w'⟩ := X
  intro H locs la r1 r2 r3
  exact lv_idiv h.1 h.2.1 d (nI_ne0 h0 hb) (by rw [pk_div ha h0 hb]; exact (k H locs la r1 r2 r3))
theorem aw_iremN (h : CX X cc own rt mL F Lo mc ms w) {a b : Nat} (ha : a < 2 ^ 31) (h0 : 0 < b) (hb : b < 2 ^ 31) (d : decode cc pc = .ok (.irem, 1)) (k : AW X cs ss (pc + 1) ls (.int (nI (a % b)) :: st) G I L) : AW X cs ss pc ls (.int (nI b) :: .int (nI a) :: st) G I L := by
  obtain ⟨p, l, e, R, s, m, args, below, meth, c, Q, w'⟩ := X
  intro H locs la r1 r2 r3
  exact lv_irem h.1 h.2.1 d (nI_ne0 h0 hb) (by rw [pk_rem ha h0 hb]; exact (k H locs la r1 r2 r3))
theorem aw_i2lN (h : CX X cc own rt mL F Lo mc ms w) {a : Nat} (ha : a < 2 ^ 31) (d : decode cc pc = .ok (.i2l, 1)) (k : AW X cs ss (pc + 1) ls (.long (lN a) :: st) G I L) : AW X cs ss pc ls (.int (nI a) :: st) G I L := by
  obtain ⟨p, l, e, R, s, m, args, below, meth, c, Q, w'⟩ := X
  intro H locs la r1 r2 r3
  exact lv_i2l h.1 h.2.1 d (nI_l ha) (k H locs la r1 r2 r3)
theorem aw_iconst (h : CX X cc own rt mL F Lo mc ms w) {n : Int} (v : Int32) (hv : Int32.ofInt n = v) (d : decode cc pc = .ok (.iconst n, 1)) (k : AW X cs ss (pc + 1) ls (.int v :: st) G I L) : AW X cs ss pc ls st G I L := by
  obtain ⟨p, l, e, R, s, m, args, below, meth, c, Q, w'⟩ := X
  intro H locs la r1 r2 r3
  exact lv_iconst h.1 h.2.1 d hv (k H locs la r1 r2 r3)
theorem aw_bipush (h : CX X cc own rt mL F Lo mc ms w) {n : Int} (v : Int32) (hv : (Int8.ofInt n).toInt32 = v) (d : decode cc pc = .ok (.bipush n, 2)) (k : AW X cs ss (pc + 2) ls (.int v :: st) G I L) : AW X cs ss pc ls st G I L := by
  obtain ⟨p, l, e, R, s, m, args, below, meth, c, Q, w'⟩ := X
  intro H locs la r1 r2 r3
  exact lv_bipush h.1 h.2.1 d hv (k H locs la r1 r2 r3)
theorem aw_sipush (h : CX X cc own rt mL F Lo mc ms w) {n : Int} (v : Int32) (hv : (Int16.ofInt n).toInt32 = v) (d : decode cc pc = .ok (.sipush n, 3)) (k : AW X cs ss (pc + 3) ls (.int v :: st) G I L) : AW X cs ss pc ls st G I L := by
  obtain ⟨p, l, e, R, s, m, args, below, meth, c, Q, w'⟩ := X
  intro H locs la r1 r2 r3
  exact lv_sipush h.1 h.2.1 d hv (k H locs la r1 r2 r3)
theorem aw_lconst (h : CX X cc own rt mL F Lo mc ms w) {n : Fin 2} (v : Int64) (hv : Int64.ofNat (n : Nat) = v) (d : decode cc pc = .ok (.lconst n, 1)) (k : AW X cs ss (pc + 1) ls (.long v :: st) G I L) : AW X cs ss pc ls st G I L := by
  obtain ⟨p, l, e, R, s, m, args, below, meth, c, Q, w'⟩ := X
  intro H locs la r1 r2 r3
  exact lv_lconst h.1 h.2.1 d hv (k H locs la r1 r2 r3)
theorem aw_ldc (h : CX X cc own rt mL F Lo mc ms w) {i : Nat} {v : Int32} (q : Cond.constant own i v ∈ lw_all) (d : decode cc pc = .ok (.ldc i, 2)) (k : AW X cs ss (pc + 2) ls (.int v :: st) G I L) : AW X cs ss pc ls st G I L := by
  obtain ⟨p, l, e, R, s, m, args, below, meth, c, Q, w'⟩ := X
  intro H locs la r1 r2 r3
  exact lv_ldc h.1 h.2.1 h.2.2.2.2.2.1 (h.2.2.2.2.2.2.1 _ q) d (k H locs la r1 r2 r3)
theorem aw_ldc_w (h : CX X cc own rt mL F Lo mc ms w) {i : Nat} {v : Int32} (q : Cond.constant own i v ∈ lw_all) (d : decode cc pc = .ok (.ldc_w i, 3)) (k : AW X cs ss (pc + 3) ls (.int v :: st) G I L) : AW X cs ss pc ls st G I L := by
  obtain ⟨p, l, e, R, s, m, args, below, meth, c, Q, w'⟩ := X
  intro H locs la r1 r2 r3
  exact lv_ldcw h.1 h.2.1 h.2.2.2.2.2.1 (h.2.2.2.2.2.2.1 _ q) d (k H locs la r1 r2 r3)
theorem aw_ldc2 (h : CX X cc own rt mL F Lo mc ms w) {i : Nat} {v : Int64} (q : Cond.constantLong own i v ∈ lw_all) (d : decode cc pc = .ok (.ldc2_w i, 3)) (k : AW X cs ss (pc + 3) ls (.long v :: st) G I L) : AW X cs ss pc ls st G I L := by
  obtain ⟨p, l, e, R, s, m, args, below, meth, c, Q, w'⟩ := X
  intro H locs la r1 r2 r3
  exact lv_ldc2 h.1 h.2.1 h.2.2.2.2.2.1 (h.2.2.2.2.2.2.1 _ q) d (k H locs la r1 r2 r3)
theorem aw_null (h : CX X cc own rt mL F Lo mc ms w)  (d : decode cc pc = .ok (.aconst_null, 1)) (k : AW X cs ss (pc + 1) ls (.null :: st) G I L) : AW X cs ss pc ls st G I L := by
  obtain ⟨p, l, e, R, s, m, args, below, meth, c, Q, w'⟩ := X
  intro H locs la r1 r2 r3
  exact lv_null h.1 h.2.1 d (k H locs la r1 r2 r3)
theorem aw_dup (h : CX X cc own rt mL F Lo mc ms w) {a : Value} (ha : a.category = 1) (d : decode cc pc = .ok (.dup, 1)) (k : AW X cs ss (pc + 1) ls (a :: a :: st) G I L) : AW X cs ss pc ls (a :: st) G I L := by
  obtain ⟨p, l, e, R, s, m, args, below, meth, c, Q, w'⟩ := X
  intro H locs la r1 r2 r3
  exact lv_dup h.1 h.2.1 d ha (k H locs la r1 r2 r3)
theorem aw_pop (h : CX X cc own rt mL F Lo mc ms w) {a : Value} (ha : a.category = 1) (d : decode cc pc = .ok (.pop, 1)) (k : AW X cs ss (pc + 1) ls st G I L) : AW X cs ss pc ls (a :: st) G I L := by
  obtain ⟨p, l, e, R, s, m, args, below, meth, c, Q, w'⟩ := X
  intro H locs la r1 r2 r3
  exact lv_pop h.1 h.2.1 d ha (k H locs la r1 r2 r3)
theorem aw_dup_x1 (h : CX X cc own rt mL F Lo mc ms w) {a b : Value} (ha : a.category = 1) (hb : b.category = 1) (d : decode cc pc = .ok (.dup_x1, 1)) (k : AW X cs ss (pc + 1) ls (a :: b :: a :: st) G I L) : AW X cs ss pc ls (a :: b :: st) G I L := by
  obtain ⟨p, l, e, R, s, m, args, below, meth, c, Q, w'⟩ := X
  intro H locs la r1 r2 r3
  exact lv_dup_x1 h.1 h.2.1 d ha hb (k H locs la r1 r2 r3)
theorem aw_dup2 (h : CX X cc own rt mL F Lo mc ms w) {a b : Value} (ha : a.category = 1) (hb : b.category = 1) (d : decode cc pc = .ok (.dup2, 1)) (k : AW X cs ss (pc + 1) ls (a :: b :: a :: b :: st) G I L) : AW X cs ss pc ls (a :: b :: st) G I L := by
  obtain ⟨p, l, e, R, s, m, args, below, meth, c, Q, w'⟩ := X
  intro H locs la r1 r2 r3
  exact lv_dup2_11 h.1 h.2.1 d ha hb (k H locs la r1 r2 r3)
theorem aw_iload0 (h : CX X cc own rt mL F Lo mc ms w) {x : Int32} (d : decode cc pc = .ok (.iload_n 0, 1)) (k : AW X cs ss (pc + 1) (some (.int x) :: ls) (.int x :: st) G I L) : AW X cs ss pc (some (.int x) :: ls) st G I L := by
  obtain ⟨p, l, e, R, s, m, args, below, meth, c, Q, w'⟩ := X
  intro H locs la r1 r2 r3
  exact lv_iload_n h.1 h.2.1 d rfl (r3.at (k := 0) rfl) (k H locs la r1 r2 r3)
theorem aw_lload0 (h : CX X cc own rt mL F Lo mc ms w) {x : Int64} (d : decode cc pc = .ok (.lload_n 0, 1)) (k : AW X cs ss (pc + 1) (some (.long x) :: ls) (.long x :: st) G I L) : AW X cs ss pc (some (.long x) :: ls) st G I L := by
  obtain ⟨p, l, e, R, s, m, args, below, meth, c, Q, w'⟩ := X
  intro H locs la r1 r2 r3
  exact lv_lload_n h.1 h.2.1 d rfl (r3.at (k := 0) rfl) (k H locs la r1 r2 r3)
theorem aw_aload0 (h : CX X cc own rt mL F Lo mc ms w) {x : Nat} (d : decode cc pc = .ok (.aload_n 0, 1)) (k : AW X cs ss (pc + 1) (some (.ref x) :: ls) (.ref x :: st) G I L) : AW X cs ss pc (some (.ref x) :: ls) st G I L := by
  obtain ⟨p, l, e, R, s, m, args, below, meth, c, Q, w'⟩ := X
  intro H locs la r1 r2 r3
  exact lv_aload_n h.1 h.2.1 d rfl (r3.at (k := 0) rfl) (k H locs la r1 r2 r3)
theorem aw_aloadN0 (h : CX X cc own rt mL F Lo mc ms w) (d : decode cc pc = .ok (.aload_n 0, 1)) (k : AW X cs ss (pc + 1) (some .null :: ls) (.null :: st) G I L) : AW X cs ss pc (some .null :: ls) st G I L := by
  obtain ⟨p, l, e, R, s, m, args, below, meth, c, Q, w'⟩ := X
  intro H locs la r1 r2 r3
  exact lv_aload_nN h.1 h.2.1 d rfl (r3.at (k := 0) rfl) (k H locs la r1 r2 r3)
theorem aw_istore0 (h : CX X cc own rt mL F Lo mc ms w) {old : Option Value} {x : Int32} (d : decode cc pc = .ok (.istore_n 0, 1)) (k : AW X cs ss (pc + 1) (some (.int x) :: ls) st G I L) : AW X cs ss pc (old :: ls) (.int x :: st) G I L := by
  obtain ⟨p, l, e, R, s, m, args, below, meth, c, Q, w'⟩ := X
  intro H locs la r1 r2 r3
  exact lv_istore_n h.1 h.2.1 d rfl r3.2 (by have := r3.1; simp at this; omega) rfl (fun la' q => k H locs la' r1 r2 (r3.st1 (i := 0) (v := .int x) (hp_0) q))
theorem aw_astore0 (h : CX X cc own rt mL F Lo mc ms w) {old : Option Value} {x : Nat} (d : decode cc pc = .ok (.astore_n 0, 1)) (k : AW X cs ss (pc + 1) (some (.ref x) :: ls) st G I L) : AW X cs ss pc (old :: ls) (.ref x :: st) G I L := by
  obtain ⟨p, l, e, R, s, m, args, below, meth, c, Q, w'⟩ := X
  intro H locs la r1 r2 r3
  exact lv_astore_n h.1 h.2.1 d rfl r3.2 (by have := r3.1; simp at this; omega) rfl (fun la' q => k H locs la' r1 r2 (r3.st1 (i := 0) (v := .ref x) (hp_0) q))
theorem aw_astoreN0 (h : CX X cc own rt mL F Lo mc ms w) {old : Option Value} (d : decode cc pc = .ok (.astore_n 0, 1)) (k : AW X cs ss (pc + 1) (some (.null) :: ls) st G I L) : AW X cs ss pc (old :: ls) (.null :: st) G I L := by
  obtain ⟨p, l, e, R, s, m, args, below, meth, c, Q, w'⟩ := X
  intro H locs la r1 r2 r3
  exact lv_astore_nN h.1 h.2.1 d rfl r3.2 (by have := r3.1; simp at this; omega) rfl (fun la' q => k H locs la' r1 r2 (r3.st1 (i := 0) (v := .null) (hp_0) q))
theorem aw_lstore0 (h : CX X cc own rt mL F Lo mc ms w) {old old2 : Option Value} {x : Int64} (d : decode cc pc = .ok (.lstore_n 0, 1)) (k : AW X cs ss (pc + 1) (some (.long x) :: none :: ls) st G I L) : AW X cs ss pc (old :: old2 :: ls) (.long x :: st) G I L := by
  obtain ⟨p, l, e, R, s, m, args, below, meth, c, Q, w'⟩ := X
  intro H locs la r1 r2 r3
  exact lv_lstore_n h.1 h.2.1 d rfl r3.2 (by have := r3.1; simp at this; omega) rfl (fun la' q => k H locs la' r1 r2 (r3.st2 (i := 0) (v := .long x) (hp_0) q))
theorem aw_iinc0 (h : CX X cc own rt mL F Lo mc ms w) {x y : Int32} {n : Int} (hv : x + Int32.ofInt n = y) (d : decode cc pc = .ok (.iinc 0 n, 3)) (k : AW X cs ss (pc + 3) (some (.int y) :: ls) st G I L) : AW X cs ss pc (some (.int x) :: ls) st G I L := by
  obtain ⟨p, l, e, R, s, m, args, below, meth, c, Q, w'⟩ := X
  intro H locs la r1 r2 r3
  obtain ⟨ix, hix⟩ := List.getElem?_of_mem ((lpairs_mem (some (.int x) :: ls) 0 (0, .int x)).mpr ⟨0, rfl, by simp⟩)
  exact lv_iinc h.1 h.2.1 d r3.2 hix hv (by have := r3.1; simp at this; omega) rfl (fun la' q => k H locs la' r1 r2 (r3.st1 (i := 0) (v := .int y) (hp_0) q))
theorem aw_iincN0 (h : CX X cc own rt mL F Lo mc ms w) {a : Nat} (d : decode cc pc = .ok (.iinc 0 1, 3)) (k : AW X cs ss (pc + 3) (some (.int (nI (a + 1))) :: ls) st G I L) : AW X cs ss pc (some (.int (nI a)) :: ls) st G I L := by
  obtain ⟨p, l, e, R, s, m, args, below, meth, c, Q, w'⟩ := X
  intro H locs la r1 r2 r3
  obtain ⟨ix, hix⟩ := List.getElem?_of_mem ((lpairs_mem (some (.int (nI a)) :: ls) 0 (0, .int (nI a))).mpr ⟨0, rfl, by simp⟩)
  exact lv_iinc h.1 h.2.1 d r3.2 hix (nI_1 a) (by have := r3.1; simp at this; omega) rfl (fun la' q => k H locs la' r1 r2 (r3.st1 (i := 0) (v := .int (nI (a + 1))) (hp_0) q))
theorem aw_iload1 (h : CX X cc own rt mL F Lo mc ms w) {a0 : Option Value} {x : Int32} (d : decode cc pc = .ok (.iload_n 1, 1)) (k : AW X cs ss (pc + 1) (a0 :: some (.int x) :: ls) (.int x :: st) G I L) : AW X cs ss pc (a0 :: some (.int x) :: ls) st G I L := by
  obtain ⟨p, l, e, R, s, m, args, below, meth, c, Q, w'⟩ := X
  intro H locs la r1 r2 r3
  exact lv_iload_n h.1 h.2.1 d rfl (r3.at (k := 1) rfl) (k H locs la r1 r2 r3)
theorem aw_lload1 (h : CX X cc own rt mL F Lo mc ms w) {a0 : Option Value} {x : Int64} (d : decode cc pc = .ok (.lload_n 1, 1)) (k : AW X cs ss (pc + 1) (a0 :: some (.long x) :: ls) (.long x :: st) G I L) : AW X cs ss pc (a0 :: some (.long x) :: ls) st G I L := by
  obtain ⟨p, l, e, R, s, m, args, below, meth, c, Q, w'⟩ := X
  intro H locs la r1 r2 r3
  exact lv_lload_n h.1 h.2.1 d rfl (r3.at (k := 1) rfl) (k H locs la r1 r2 r3)
theorem aw_aload1 (h : CX X cc own rt mL F Lo mc ms w) {a0 : Option Value} {x : Nat} (d : decode cc pc = .ok (.aload_n 1, 1)) (k : AW X cs ss (pc + 1) (a0 :: some (.ref x) :: ls) (.ref x :: st) G I L) : AW X cs ss pc (a0 :: some (.ref x) :: ls) st G I L := by
  obtain ⟨p, l, e, R, s, m, args, below, meth, c, Q, w'⟩ := X
  intro H locs la r1 r2 r3
  exact lv_aload_n h.1 h.2.1 d rfl (r3.at (k := 1) rfl) (k H locs la r1 r2 r3)
theorem aw_aloadN1 (h : CX X cc own rt mL F Lo mc ms w) {a0 : Option Value} (d : decode cc pc = .ok (.aload_n 1, 1)) (k : AW X cs ss (pc + 1) (a0 :: some .null :: ls) (.null :: st) G I L) : AW X cs ss pc (a0 :: some .null :: ls) st G I L := by
  obtain ⟨p, l, e, R, s, m, args, below, meth, c, Q, w'⟩ := X
  intro H locs la r1 r2 r3
  exact lv_aload_nN h.1 h.2.1 d rfl (r3.at (k := 1) rfl) (k H locs la r1 r2 r3)
theorem aw_istore1 (h : CX X cc own rt mL F Lo mc ms w) {a0 : Option Value} {old : Option Value} {x : Int32} (hp : cat1 a0 = true) (d : decode cc pc = .ok (.istore_n 1, 1)) (k : AW X cs ss (pc + 1) (a0 :: some (.int x) :: ls) st G I L) : AW X cs ss pc (a0 :: old :: ls) (.int x :: st) G I L := by
  obtain ⟨p, l, e, R, s, m, args, below, meth, c, Q, w'⟩ := X
  intro H locs la r1 r2 r3
  exact lv_istore_n h.1 h.2.1 d rfl r3.2 (by have := r3.1; simp at this; omega) rfl (fun la' q => k H locs la' r1 r2 (r3.st1 (i := 1) (v := .int x) (hp_of (i := 0) rfl hp) q))
theorem aw_astore1 (h : CX X cc own rt mL F Lo mc ms w) {a0 : Option Value} {old : Option Value} {x : Nat} (hp : cat1 a0 = true) (d : decode cc pc = .ok (.astore_n 1, 1)) (k : AW X cs ss (pc + 1) (a0 :: some (.ref x) :: ls) st G I L) : AW X cs ss pc (a0 :: old :: ls) (.ref x :: st) G I L := by
  obtain ⟨p, l, e, R, s, m, args, below, meth, c, Q, w'⟩ := X
  intro H locs la r1 r2 r3
  exact lv_astore_n h.1 h.2.1 d rfl r3.2 (by have := r3.1; simp at this; omega) rfl (fun la' q => k H locs la' r1 r2 (r3.st1 (i := 1) (v := .ref x) (hp_of (i := 0) rfl hp) q))
theorem aw_astoreN1 (h : CX X cc own rt mL F Lo mc ms w) {a0 : Option Value} {old : Option Value} (hp : cat1 a0 = true) (d : decode cc pc = .ok (.astore_n 1, 1)) (k : AW X cs ss (pc + 1) (a0 :: some (.null) :: ls) st G I L) : AW X cs ss pc (a0 :: old :: ls) (.null :: st) G I L := by
  obtain ⟨p, l, e, R, s, m, args, below, meth, c, Q, w'⟩ := X
  intro H locs la r1 r2 r3
  exact lv_astore_nN h.1 h.2.1 d rfl r3.2 (by have := r3.1; simp at this; omega) rfl (fun la' q => k H locs la' r1 r2 (r3.st1 (i := 1) (v := .null) (hp_of (i := 0) rfl hp) q))
theorem aw_lstore1 (h : CX X cc own rt mL F Lo mc ms w) {a0 : Option Value} {old old2 : Option Value} {x : Int64} (hp : cat1 a0 = true) (d : decode cc pc = .ok (.lstore_n 1, 1)) (k : AW X cs ss (pc + 1) (a0 :: some (.long x) :: none :: ls) st G I L) : AW X cs ss pc (a0 :: old :: old2 :: ls) (.long x :: st) G I L := by
  obtain ⟨p, l, e, R, s, m, args, below, meth, c, Q, w'⟩ := X
  intro H locs la r1 r2 r3
  exact lv_lstore_n h.1 h.2.1 d rfl r3.2 (by have := r3.1; simp at this; omega) rfl (fun la' q => k H locs la' r1 r2 (r3.st2 (i := 1) (v := .long x) (hp_of (i := 0) rfl hp) q))
theorem aw_iinc1 (h : CX X cc own rt mL F Lo mc ms w) {a0 : Option Value} {x y : Int32} {n : Int} (hv : x + Int32.ofInt n = y) (hp : cat1 a0 = true) (d : decode cc pc = .ok (.iinc 1 n, 3)) (k : AW X cs ss (pc + 3) (a0 :: some (.int y) :: ls) st G I L) : AW X cs ss pc (a0 :: some (.int x) :: ls) st G I L := by
  obtain ⟨p, l, e, R, s, m, args, below, meth, c, Q, w'⟩ := X
  intro H locs la r1 r2 r3
  obtain ⟨ix, hix⟩ := List.getElem?_of_mem ((lpairs_mem (a0 :: some (.int x) :: ls) 0 (1, .int x)).mpr ⟨1, rfl, by simp⟩)
  exact lv_iinc h.1 h.2.1 d r3.2 hix hv (by have := r3.1; simp at this; omega) rfl (fun la' q => k H locs la' r1 r2 (r3.st1 (i := 1) (v := .int y) (hp_of (i := 0) rfl hp) q))
theorem aw_iincN1 (h : CX X cc own rt mL F Lo mc ms w) {a0 : Option Value} {a : Nat} (hp : cat1 a0 = true) (d : decode cc pc = .ok (.iinc 1 1, 3)) (k : AW X cs ss (pc + 3) (a0 :: some (.int (nI (a + 1))) :: ls) st G I L) : AW X cs ss pc (a0 :: some (.int (nI a)) :: ls) st G I L := by
  obtain ⟨p, l, e, R, s, m, args, below, meth, c, Q, w'⟩ := X
  intro H locs la r1 r2 r3
  obtain ⟨ix, hix⟩ := List.getElem?_of_mem ((lpairs_mem (a0 :: some (.int (nI a)) :: ls) 0 (1, .int (nI a))).mpr ⟨1, rfl, by simp⟩)
  exact lv_iinc h.1 h.2.1 d r3.2 hix (nI_1 a) (by have := r3.1; simp at this; omega) rfl (fun la' q => k H locs la' r1 r2 (r3.st1 (i := 1) (v := .int (nI (a + 1))) (hp_of (i := 0) rfl hp) q))
theorem aw_iload2 (h : CX X cc own rt mL F Lo mc ms w) {a0 a1 : Option Value} {x : Int32} (d : decode cc pc = .ok (.iload_n 2, 1)) (k : AW X cs ss (pc + 1) (a0 :: a1 :: some (.int x) :: ls) (.int x :: st) G I L) : AW X cs ss pc (a0 :: a1 :: some (.int x) :: ls) st G I L := by
  obtain ⟨p, l, e, R, s, m, args, below, meth, c, Q, w'⟩ := X
  intro H locs la r1 r2 r3
  exact lv_iload_n h.1 h.2.1 d rfl (r3.at (k := 2) rfl) (k H locs la r1 r2 r3)
theorem aw_lload2 (h : CX X cc own rt mL F Lo mc ms w) {a0 a1 : Option Value} {x : Int64} (d : decode cc pc = .ok (.lload_n 2, 1)) (k : AW X cs ss (pc + 1) (a0 :: a1 :: some (.long x) :: ls) (.long x :: st) G I L) : AW X cs ss pc (a0 :: a1 :: some (.long x) :: ls) st G I L := by
  obtain ⟨p, l, e, R, s, m, args, below, meth, c, Q, w'⟩ := X
  intro H locs la r1 r2 r3
  exact lv_lload_n h.1 h.2.1 d rfl (r3.at (k := 2) rfl) (k H locs la r1 r2 r3)
theorem aw_aload2 (h : CX X cc own rt mL F Lo mc ms w) {a0 a1 : Option Value} {x : Nat} (d : decode cc pc = .ok (.aload_n 2, 1)) (k : AW X cs ss (pc + 1) (a0 :: a1 :: some (.ref x) :: ls) (.ref x :: st) G I L) : AW X cs ss pc (a0 :: a1 :: some (.ref x) :: ls) st G I L := by
  obtain ⟨p, l, e, R, s, m, args, below, meth, c, Q, w'⟩ := X
  intro H locs la r1 r2 r3
  exact lv_aload_n h.1 h.2.1 d rfl (r3.at (k := 2) rfl) (k H locs la r1 r2 r3)
theorem aw_aloadN2 (h : CX X cc own rt mL F Lo mc ms w) {a0 a1 : Option Value} (d : decode cc pc = .ok (.aload_n 2, 1)) (k : AW X cs ss (pc + 1) (a0 :: a1 :: some .null :: ls) (.null :: st) G I L) : AW X cs ss pc (a0 :: a1 :: some .null :: ls) st G I L := by
  obtain ⟨p, l, e, R, s, m, args, below, meth, c, Q, w'⟩ := X
  intro H locs la r1 r2 r3
  exact lv_aload_nN h.1 h.2.1 d rfl (r3.at (k := 2) rfl) (k H locs la r1 r2 r3)
theorem aw_istore2 (h : CX X cc own rt mL F Lo mc ms w) {a0 a1 : Option Value} {old : Option Value} {x : Int32} (hp : cat1 a1 = true) (d : decode cc pc = .ok (.istore_n 2, 1)) (k : AW X cs ss (pc + 1) (a0 :: a1 :: some (.int x) :: ls) st G I L) : AW X cs ss pc (a0 :: a1 :: old :: ls) (.int x :: st) G I L := by
  obtain ⟨p, l, e, R, s, m, args, below, meth, c, Q, w'⟩ := X
  intro H locs la r1 r2 r3
  exact lv_istore_n h.1 h.2.1 d rfl r3.2 (by have := r3.1; simp at this; omega) rfl (fun la' q => k H locs la' r1 r2 (r3.st1 (i := 2) (v := .int x) (hp_of (i := 1) rfl hp) q))
theorem aw_astore2 (h : CX X cc own rt mL F Lo mc ms w) {a0 a1 : Option Value} {old : Option Value} {x : Nat} (hp : cat1 a1 = true) (d : decode cc pc = .ok (.astore_n 2, 1)) (k : AW X cs ss (pc + 1) (a0 :: a1 :: some (.ref x) :: ls) st G I L) : AW X cs ss pc (a0 :: a1 :: old :: ls) (.ref x :: st) G I L := by
  obtain ⟨p, l, e, R, s, m, args, below, meth, c, Q, w'⟩ := X
  intro H locs la r1 r2 r3
  exact lv_astore_n h.1 h.2.1 d rfl r3.2 (by have := r3.1; simp at this; omega) rfl (fun la' q => k H locs la' r1 r2 (r3.st1 (i := 2) (v := .ref x) (hp_of (i := 1) rfl hp) q))
theorem aw_astoreN2 (h : CX X cc own rt mL F Lo mc ms w) {a0 a1 : Option Value} {old : Option Value} (hp : cat1 a1 = true) (d : decode cc pc = .ok (.astore_n 2, 1)) (k : AW X cs ss (pc + 1) (a0 :: a1 :: some (.null) :: ls) st G I L) : AW X cs ss pc (a0 :: a1 :: old :: ls) (.null :: st) G I L := by
  obtain ⟨p, l, e, R, s, m, args, below, meth, c, Q, w'⟩ := X
  intro H locs la r1 r2 r3
  exact lv_astore_nN h.1 h.2.1 d rfl r3.2 (by have := r3.1; simp at this; omega) rfl (fun la' q => k H locs la' r1 r2 (r3.st1 (i := 2) (v := .null) (hp_of (i := 1) rfl hp) q))
theorem aw_lstore2 (h : CX X cc own rt mL F Lo mc ms w) {a0 a1 : Option Value} {old old2 : Option Value} {x : Int64} (hp : cat1 a1 = true) (d : decode cc pc = .ok (.lstore_n 2, 1)) (k : AW X cs ss (pc + 1) (a0 :: a1 :: some (.long x) :: none :: ls) st G I L) : AW X cs ss pc (a0 :: a1 :: old :: old2 :: ls) (.long x :: st) G I L := by
  obtain ⟨p, l, e, R, s, m, args, below, meth, c, Q, w'⟩ := X
  intro H locs la r1 r2 r3
  exact lv_lstore_n h.1 h.2.1 d rfl r3.2 (by have := r3.1; simp at this; omega) rfl (fun la' q => k H locs la' r1 r2 (r3.st2 (i := 2) (v := .long x) (hp_of (i := 1) rfl hp) q))
theorem aw_iinc2 (h : CX X cc own rt mL F Lo mc ms w) {a0 a1 : Option Value} {x y : Int32} {n : Int} (hv : x + Int32.ofInt n = y) (hp : cat1 a1 = true) (d : decode cc pc = .ok (.iinc 2 n, 3)) (k : AW X cs ss (pc + 3) (a0 :: a1 :: some (.int y) :: ls) st G I L) : AW X cs ss pc (a0 :: a1 :: some (.int x) :: ls) st G I L := by
  obtain ⟨p, l, e, R, s, m, args, below, meth, c, Q, w'⟩ := X
  intro H locs la r1 r2 r3
  obtain ⟨ix, hix⟩ := List.getElem?_of_mem ((lpairs_mem (a0 :: a1 :: some (.int x) :: ls) 0 (2, .int x)).mpr ⟨2, rfl, by simp⟩)
  exact lv_iinc h.1 h.2.1 d r3.2 hix hv (by have := r3.1; simp at this; omega) rfl (fun la' q => k H locs la' r1 r2 (r3.st1 (i := 2) (v := .int y) (hp_of (i := 1) rfl hp) q))
theorem aw_iincN2 (h : CX X cc own rt mL F Lo mc ms w) {a0 a1 : Option Value} {a : Nat} (hp : cat1 a1 = true) (d : decode cc pc = .ok (.iinc 2 1, 3)) (k : AW X cs ss (pc + 3) (a0 :: a1 :: some (.int (nI (a + 1))) :: ls) st G I L) : AW X cs ss pc (a0 :: a1 :: some (.int (nI a)) :: ls) st G I L := by
  obtain ⟨p, l, e, R, s, m, args, below, meth, c, Q, w'⟩ := X
  intro H locs la r1 r2 r3
  obtain ⟨ix, hix⟩ := List.getElem?_of_mem ((lpairs_mem (a0 :: a1 :: some (.int (nI a)) :: ls) 0 (2, .int (nI a))).mpr ⟨2, rfl, by simp⟩)
  exact lv_iinc h.1 h.2.1 d r3.2 hix (nI_1 a) (by have := r3.1; simp at this; omega) rfl (fun la' q => k H locs la' r1 r2 (r3.st1 (i := 2) (v := .int (nI (a + 1))) (hp_of (i := 1) rfl hp) q))
theorem aw_iload3 (h : CX X cc own rt mL F Lo mc ms w) {a0 a1 a2 : Option Value} {x : Int32} (d : decode cc pc = .ok (.iload_n 3, 1)) (k : AW X cs ss (pc + 1) (a0 :: a1 :: a2 :: some (.int x) :: ls) (.int x :: st) G I L) : AW X cs ss pc (a0 :: a1 :: a2 :: some (.int x) :: ls) st G I L := by
  obtain ⟨p, l, e, R, s, m, args, below, meth, c, Q, w'⟩ := X
  intro H locs la r1 r2 r3
  exact lv_iload_n h.1 h.2.1 d rfl (r3.at (k := 3) rfl) (k H locs la r1 r2 r3)
theorem aw_lload3 (h : CX X cc own rt mL F Lo mc ms w) {a0 a1 a2 : Option Value} {x : Int64} (d : decode cc pc = .ok (.lload_n 3, 1)) (k : AW X cs ss (pc + 1) (a0 :: a1 :: a2 :: some (.long x) :: ls) (.long x :: st) G I L) : AW X cs ss pc (a0 :: a1 :: a2 :: some (.long x) :: ls) st G I L := by
  obtain ⟨p, l, e, R, s, m, args, below, meth, c, Q, w'⟩ := X
  intro H locs la r1 r2 r3
  exact lv_lload_n h.1 h.2.1 d rfl (r3.at (k := 3) rfl) (k H locs la r1 r2 r3)
theorem aw_aload3 (h : CX X cc own rt mL F Lo mc ms w) {a0 a1 a2 : Option Value} {x : Nat} (d : decode cc pc = .ok (.aload_n 3, 1)) (k : AW X cs ss (pc + 1) (a0 :: a1 :: a2 :: some (.ref x) :: ls) (.ref x :: st) G I L) : AW X cs ss pc (a0 :: a1 :: a2 :: some (.ref x) :: ls) st G I L := by
  obtain ⟨p, l, e, R, s, m, args, below, meth, c, Q, w'⟩ := X
  intro H locs la r1 r2 r3
  exact lv_aload_n h.1 h.2.1 d rfl (r3.at (k := 3) rfl) (k H locs la r1 r2 r3)
theorem aw_aloadN3 (h : CX X cc own rt mL F Lo mc ms w) {a0 a1 a2 : Option Value} (d : decode cc pc = .ok (.aload_n 3, 1)) (k : AW X cs ss (pc + 1) (a0 :: a1 :: a2 :: some .null :: ls) (.null :: st) G I L) : AW X cs ss pc (a0 :: a1 :: a2 :: some .null :: ls) st G I L := by
  obtain ⟨p, l, e, R, s, m, args, below, meth, c, Q, w'⟩ := X
  intro H locs la r1 r2 r3
  exact lv_aload_nN h.1 h.2.1 d rfl (r3.at (k := 3) rfl) (k H locs la r1 r2 r3)
theorem aw_istore3 (h : CX X cc own rt mL F Lo mc ms w) {a0 a1 a2 : Option Value} {old : Option Value} {x : Int32} (hp : cat1 a2 = true) (d : decode cc pc = .ok (.istore_n 3, 1)) (k : AW X cs ss (pc + 1) (a0 :: a1 :: a2 :: some (.int x) :: ls) st G I L) : AW X cs ss pc (a0 :: a1 :: a2 :: old :: ls) (.int x :: st) G I L := by
  obtain ⟨p, l, e, R, s, m, args, below, meth, c, Q, w'⟩ := X
  intro H locs la r1 r2 r3
  exact lv_istore_n h.1 h.2.1 d rfl r3.2 (by have := r3.1; simp at this; omega) rfl (fun la' q => k H locs la' r1 r2 (r3.st1 (i := 3) (v := .int x) (hp_of (i := 2) rfl hp) q))
theorem aw_astore3 (h : CX X cc own rt mL F Lo mc ms w) {a0 a1 a2 : Option Value} {old : Option Value} {x : Nat} (hp : cat1 a2 = true) (d : decode cc pc = .ok (.astore_n 3, 1)) (k : AW X cs ss (pc + 1) (a0 :: a1 :: a2 :: some (.ref x) :: ls) st G I L) : AW X cs ss pc (a0 :: a1 :: a2 :: old :: ls) (.ref x :: st) G I L := by
  obtain ⟨p, l, e, R, s, m, args, below, meth, c, Q, w'⟩ := X
  intro H locs la r1 r2 r3
  exact lv_astore_n h.1 h.2.1 d rfl r3.2 (by have := r3.1; simp at this; omega) rfl (fun la' q => k H locs la' r1 r2 (r3.st1 (i := 3) (v := .ref x) (hp_of (i := 2) rfl hp) q))
theorem aw_astoreN3 (h : CX X cc own rt mL F Lo mc ms w) {a0 a1 a2 : Option Value} {old : Option Value} (hp : cat1 a2 = true) (d : decode cc pc = .ok (.astore_n 3, 1)) (k : AW X cs ss (pc + 1) (a0 :: a1 :: a2 :: some (.null) :: ls) st G I L) : AW X cs ss pc (a0 :: a1 :: a2 :: old :: ls) (.null :: st) G I L := by
  obtain ⟨p, l, e, R, s, m, args, below, meth, c, Q, w'⟩ := X
  intro H locs la r1 r2 r3
  exact lv_astore_nN h.1 h.2.1 d rfl r3.2 (by have := r3.1; simp at this; omega) rfl (fun la' q => k H locs la' r1 r2 (r3.st1 (i := 3) (v := .null) (hp_of (i := 2) rfl hp) q))
theorem aw_lstore3 (h : CX X cc own rt mL F Lo mc ms w) {a0 a1 a2 : Option Value} {old old2 : Option Value} {x : Int64} (hp : cat1 a2 = true) (d : decode cc pc = .ok (.lstore_n 3, 1)) (k : AW X cs ss (pc + 1) (a0 :: a1 :: a2 :: some (.long x) :: none :: ls) st G I L) : AW X cs ss pc (a0 :: a1 :: a2 :: old :: old2 :: ls) (.long x :: st) G I L := by
  obtain ⟨p, l, e, R, s, m, args, below, meth, c, Q, w'⟩ := X
  intro H locs la r1 r2 r3
  exact lv_lstore_n h.1 h.2.1 d rfl r3.2 (by have := r3.1; simp at this; omega) rfl (fun la' q => k H locs la' r1 r2 (r3.st2 (i := 3) (v := .long x) (hp_of (i := 2) rfl hp) q))
theorem aw_iinc3 (h : CX X cc own rt mL F Lo mc ms w) {a0 a1 a2 : Option Value} {x y : Int32} {n : Int} (hv : x + Int32.ofInt n = y) (hp : cat1 a2 = true) (d : decode cc pc = .ok (.iinc 3 n, 3)) (k : AW X cs ss (pc + 3) (a0 :: a1 :: a2 :: some (.int y) :: ls) st G I L) : AW X cs ss pc (a0 :: a1 :: a2 :: some (.int x) :: ls) st G I L := by
  obtain ⟨p, l, e, R, s, m, args, below, meth, c, Q, w'⟩ := X
  intro H locs la r1 r2 r3
  obtain ⟨ix, hix⟩ := List.getElem?_of_mem ((lpairs_mem (a0 :: a1 :: a2 :: some (.int x) :: ls) 0 (3, .int x)).mpr ⟨3, rfl, by simp⟩)
  exact lv_iinc h.1 h.2.1 d r3.2 hix hv (by have := r3.1; simp at this; omega) rfl (fun la' q => k H locs la' r1 r2 (r3.st1 (i := 3) (v := .int y) (hp_of (i := 2) rfl hp) q))
theorem aw_iincN3 (h : CX X cc own rt mL F Lo mc ms w) {a0 a1 a2 : Option Value} {a : Nat} (hp : cat1 a2 = true) (d : decode cc pc = .ok (.iinc 3 1, 3)) (k : AW X cs ss (pc + 3) (a0 :: a1 :: a2 :: some (.int (nI (a + 1))) :: ls) st G I L) : AW X cs ss pc (a0 :: a1 :: a2 :: some (.int (nI a)) :: ls) st G I L := by
  obtain ⟨p, l, e, R, s, m, args, below, meth, c, Q, w'⟩ := X
  intro H locs la r1 r2 r3
  obtain ⟨ix, hix⟩ := List.getElem?_of_mem ((lpairs_mem (a0 :: a1 :: a2 :: some (.int (nI a)) :: ls) 0 (3, .int (nI a))).mpr ⟨3, rfl, by simp⟩)
  exact lv_iinc h.1 h.2.1 d r3.2 hix (nI_1 a) (by have := r3.1; simp at this; omega) rfl (fun la' q => k H locs la' r1 r2 (r3.st1 (i := 3) (v := .int (nI (a + 1))) (hp_of (i := 2) rfl hp) q))
theorem aw_iload4 (h : CX X cc own rt mL F Lo mc ms w) {a0 a1 a2 a3 : Option Value} {x : Int32} (d : decode cc pc = .ok (.iload 4, 2)) (k : AW X cs ss (pc + 2) (a0 :: a1 :: a2 :: a3 :: some (.int x) :: ls) (.int x :: st) G I L) : AW X cs ss pc (a0 :: a1 :: a2 :: a3 :: some (.int x) :: ls) st G I L := by
  obtain ⟨p, l, e, R, s, m, args, below, meth, c, Q, w'⟩ := X
  intro H locs la r1 r2 r3
  exact lv_iload h.1 h.2.1 d (r3.at (k := 4) rfl) (k H locs la r1 r2 r3)
theorem aw_lload4 (h : CX X cc own rt mL F Lo mc ms w) {a0 a1 a2 a3 : Option Value} {x : Int64} (d : decode cc pc = .ok (.lload 4, 2)) (k : AW X cs ss (pc + 2) (a0 :: a1 :: a2 :: a3 :: some (.long x) :: ls) (.long x :: st) G I L) : AW X cs ss pc (a0 :: a1 :: a2 :: a3 :: some (.long x) :: ls) st G I L := by
  obtain ⟨p, l, e, R, s, m, args, below, meth, c, Q, w'⟩ := X
  intro H locs la r1 r2 r3
  exact lv_lload h.1 h.2.1 d (r3.at (k := 4) rfl) (k H locs la r1 r2 r3)
theorem aw_aload4 (h : CX X cc own rt mL F Lo mc ms w) {a0 a1 a2 a3 : Option Value} {x : Nat} (d : decode cc pc = .ok (.aload 4, 2)) (k : AW X cs ss (pc + 2) (a0 :: a1 :: a2 :: a3 :: some (.ref x) :: ls) (.ref x :: st) G I L) : AW X cs ss pc (a0 :: a1 :: a2 :: a3 :: some (.ref x) :: ls) st G I L := by
  obtain ⟨p, l, e, R, s, m, args, below, meth, c, Q, w'⟩ := X
  intro H locs la r1 r2 r3
  exact lv_aload h.1 h.2.1 d (r3.at (k := 4) rfl) (k H locs la r1 r2 r3)
theorem aw_aloadN4 (h : CX X cc own rt mL F Lo mc ms w) {a0 a1 a2 a3 : Option Value} (d : decode cc pc = .ok (.aload 4, 2)) (k : AW X cs ss (pc + 2) (a0 :: a1 :: a2 :: a3 :: some .null :: ls) (.null :: st) G I L) : AW X cs ss pc (a0 :: a1 :: a2 :: a3 :: some .null :: ls) st G I L := by
  obtain ⟨p, l, e, R, s, m, args, below, meth, c, Q, w'⟩ := X
  intro H locs la r1 r2 r3
  exact lv_aloadN h.1 h.2.1 d (r3.at (k := 4) rfl) (k H locs la r1 r2 r3)
theorem aw_istore4 (h : CX X cc own rt mL F Lo mc ms w) {a0 a1 a2 a3 : Option Value} {old : Option Value} {x : Int32} (hp : cat1 a3 = true) (d : decode cc pc = .ok (.istore 4, 2)) (k : AW X cs ss (pc + 2) (a0 :: a1 :: a2 :: a3 :: some (.int x) :: ls) st G I L) : AW X cs ss pc (a0 :: a1 :: a2 :: a3 :: old :: ls) (.int x :: st) G I L := by
  obtain ⟨p, l, e, R, s, m, args, below, meth, c, Q, w'⟩ := X
  intro H locs la r1 r2 r3
  exact lv_istore h.1 h.2.1 d r3.2 (by have := r3.1; simp at this; omega) rfl (fun la' q => k H locs la' r1 r2 (r3.st1 (i := 4) (v := .int x) (hp_of (i := 3) rfl hp) q))
theorem aw_astore4 (h : CX X cc own rt mL F Lo mc ms w) {a0 a1 a2 a3 : Option Value} {old : Option Value} {x : Nat} (hp : cat1 a3 = true) (d : decode cc pc = .ok (.astore 4, 2)) (k : AW X cs ss (pc + 2) (a0 :: a1 :: a2 :: a3 :: some (.ref x) :: ls) st G I L) : AW X cs ss pc (a0 :: a1 :: a2 :: a3 :: old :: ls) (.ref x :: st) G I L := by
  obtain ⟨p, l, e, R, s, m, args, below, meth, c, Q, w'⟩ := X
  intro H locs la r1 r2 r3
  exact lv_astore h.1 h.2.1 d r3.2 (by have := r3.1; simp at this; omega) rfl (fun la' q => k H locs la' r1 r2 (r3.st1 (i := 4) (v := .ref x) (hp_of (i := 3) rfl hp) q))
theorem aw_astoreN4 (h : CX X cc own rt mL F Lo mc ms w) {a0 a1 a2 a3 : Option Value} {old : Option Value} (hp : cat1 a3 = true) (d : decode cc pc = .ok (.astore 4, 2)) (k : AW X cs ss (pc + 2) (a0 :: a1 :: a2 :: a3 :: some (.null) :: ls) st G I L) : AW X cs ss pc (a0 :: a1 :: a2 :: a3 :: old :: ls) (.null :: st) G I L := by
  obtain ⟨p, l, e, R, s, m, args, below, meth, c, Q, w'⟩ := X
  intro H locs la r1 r2 r3
  exact lv_astoreN h.1 h.2.1 d r3.2 (by have := r3.1; simp at this; omega) rfl (fun la' q => k H locs la' r1 r2 (r3.st1 (i := 4) (v := .null) (hp_of (i := 3) rfl hp) q))
theorem aw_lstore4 (h : CX X cc own rt mL F Lo mc ms w) {a0 a1 a2 a3 : Option Value} {old old2 : Option Value} {x : Int64} (hp : cat1 a3 = true) (d : decode cc pc = .ok (.lstore 4, 2)) (k : AW X cs ss (pc + 2) (a0 :: a1 :: a2 :: a3 :: some (.long x) :: none :: ls) st G I L) : AW X cs ss pc (a0 :: a1 :: a2 :: a3 :: old :: old2 :: ls) (.long x :: st) G I L := by
  obtain ⟨p, l, e, R, s, m, args, below, meth, c, Q, w'⟩ := X
  intro H locs la r1 r2 r3
  exact lv_lstore h.1 h.2.1 d r3.2 (by have := r3.1; simp at this; omega) rfl (fun la' q => k H locs la' r1 r2 (r3.st2 (i := 4) (v := .long x) (hp_of (i := 3) rfl hp) q))
theorem aw_iinc4 (h : CX X cc own rt mL F Lo mc ms w) {a0 a1 a2 a3 : Option Value} {x y : Int32} {n : Int} (hv : x + Int32.ofInt n = y) (hp : cat1 a3 = true) (d : decode cc pc = .ok (.iinc 4 n, 3)) (k : AW X cs ss (pc + 3) (a0 :: a1 :: a2 :: a3 :: some (.int y) :: ls) st G I L) : AW X cs ss pc (a0 :: a1 :: a2 :: a3 :: some (.int x) :: ls) st G I L := by
  obtain ⟨p, l, e, R, s, m, args, below, meth, c, Q, w'⟩ := X
  intro H locs la r1 r2 r3
  obtain ⟨ix, hix⟩ := List.getElem?_of_mem ((lpairs_mem (a0 :: a1 :: a2 :: a3 :: some (.int x) :: ls) 0 (4, .int x)).mpr ⟨4, rfl, by simp⟩)
  exact lv_iinc h.1 h.2.1 d r3.2 hix hv (by have := r3.1; simp at this; omega) rfl (fun la' q => k H locs la' r1 r2 (r3.st1 (i := 4) (v := .int y) (hp_of (i := 3) rfl hp) q))
theorem aw_iincN4 (h : CX X cc own rt mL F Lo mc ms w) {a0 a1 a2 a3 : Option Value} {a : Nat} (hp : cat1 a3 = true) (d : decode cc pc = .ok (.iinc 4 1, 3)) (k : AW X cs ss (pc + 3) (a0 :: a1 :: a2 :: a3 :: some (.int (nI (a + 1))) :: ls) st G I L) : AW X cs ss pc (a0 :: a1 :: a2 :: a3 :: some (.int (nI a)) :: ls) st G I L := by
  obtain ⟨p, l, e, R, s, m, args, below, meth, c, Q, w'⟩ := X
  intro H locs la r1 r2 r3
  obtain ⟨ix, hix⟩ := List.getElem?_of_mem ((lpairs_mem (a0 :: a1 :: a2 :: a3 :: some (.int (nI a)) :: ls) 0 (4, .int (nI a))).mpr ⟨4, rfl, by simp⟩)
  exact lv_iinc h.1 h.2.1 d r3.2 hix (nI_1 a) (by have := r3.1; simp at this; omega) rfl (fun la' q => k H locs la' r1 r2 (r3.st1 (i := 4) (v := .int (nI (a + 1))) (hp_of (i := 3) rfl hp) q))
theorem aw_iload5 (h : CX X cc own rt mL F Lo mc ms w) {a0 a1 a2 a3 a4 : Option Value} {x : Int32} (d : decode cc pc = .ok (.iload 5, 2)) (k : AW X cs ss (pc + 2) (a0 :: a1 :: a2 :: a3 :: a4 :: some (.int x) :: ls) (.int x :: st) G I L) : AW X cs ss pc (a0 :: a1 :: a2 :: a3 :: a4 :: some (.int x) :: ls) st G I L := by
  obtain ⟨p, l, e, R, s, m, args, below, meth, c, Q, w'⟩ := X
  intro H locs la r1 r2 r3
  exact lv_iload h.1 h.2.1 d (r3.at (k := 5) rfl) (k H locs la r1 r2 r3)
theorem aw_lload5 (h : CX X cc own rt mL F Lo mc ms w) {a0 a1 a2 a3 a4 : Option Value} {x : Int64} (d : decode cc pc = .ok (.lload 5, 2)) (k : AW X cs ss (pc + 2) (a0 :: a1 :: a2 :: a3 :: a4 :: some (.long x) :: ls) (.long x :: st) G I L) : AW X cs ss pc (a0 :: a1 :: a2 :: a3 :: a4 :: some (.long x) :: ls) st G I L := by
  obtain ⟨p, l, e, R, s, m, args, below, meth, c, Q, w'⟩ := X
  intro H locs la r1 r2 r3
  exact lv_lload h.1 h.2.1 d (r3.at (k := 5) rfl) (k H locs la r1 r2 r3)
theorem aw_aload5 (h : CX X cc own rt mL F Lo mc ms w) {a0 a1 a2 a3 a4 : Option Value} {x : Nat} (d : decode cc pc = .ok (.aload 5, 2)) (k : AW X cs ss (pc + 2) (a0 :: a1 :: a2 :: a3 :: a4 :: some (.ref x) :: ls) (.ref x :: st) G I L) : AW X cs ss pc (a0 :: a1 :: a2 :: a3 :: a4 :: some (.ref x) :: ls) st G I L := by
  obtain ⟨p, l, e, R, s, m, args, below, meth, c, Q, w'⟩ := X
  intro H locs la r1 r2 r3
  exact lv_aload h.1 h.2.1 d (r3.at (k := 5) rfl) (k H locs la r1 r2 r3)
theorem aw_aloadN5 (h : CX X cc own rt mL F Lo mc ms w) {a0 a1 a2 a3 a4 : Option Value} (d : decode cc pc = .ok (.aload 5, 2)) (k : AW X cs ss (pc + 2) (a0 :: a1 :: a2 :: a3 :: a4 :: some .null :: ls) (.null :: st) G I L) : AW X cs ss pc (a0 :: a1 :: a2 :: a3 :: a4 :: some .null :: ls) st G I L := by
  obtain ⟨p, l, e, R, s, m, args, below, meth, c, Q, w'⟩ := X
  intro H locs la r1 r2 r3
  exact lv_aloadN h.1 h.2.1 d (r3.at (k := 5) rfl) (k H locs la r1 r2 r3)
theorem aw_istore5 (h : CX X cc own rt mL F Lo mc ms w) {a0 a1 a2 a3 a4 : Option Value} {old : Option Value} {x : Int32} (hp : cat1 a4 = true) (d : decode cc pc = .ok (.istore 5, 2)) (k : AW X cs ss (pc + 2) (a0 :: a1 :: a2 :: a3 :: a4 :: some (.int x) :: ls) st G I L) : AW X cs ss pc (a0 :: a1 :: a2 :: a3 :: a4 :: old :: ls) (.int x :: st) G I L := by
  obtain ⟨p, l, e, R, s, m, args, below, meth, c, Q, w'⟩ := X
  intro H locs la r1 r2 r3
  exact lv_istore h.1 h.2.1 d r3.2 (by have := r3.1; simp at this; omega) rfl (fun la' q => k H locs la' r1 r2 (r3.st1 (i := 5) (v := .int x) (hp_of (i := 4) rfl hp) q))
theorem aw_astore5 (h : CX X cc own rt mL F Lo mc ms w) {a0 a1 a2 a3 a4 : Option Value} {old : Option Value} {x : Nat} (hp : cat1 a4 = true) (d : decode cc pc = .ok (.astore 5, 2)) (k : AW X cs ss (pc + 2) (a0 :: a1 :: a2 :: a3 :: a4 :: some (.ref x) :: ls) st G I L) : AW X cs ss pc (a0 :: a1 :: a2 :: a3 :: a4 :: old :: ls) (.ref x :: st) G I L := by
  obtain ⟨p, l, e, R, s, m, args, below, meth, c, Q, w'⟩ := X
  intro H locs la r1 r2 r3
  exact lv_astore h.1 h.2.1 d r3.2 (by have := r3.1; simp at this; omega) rfl (fun la' q => k H locs la' r1 r2 (r3.st1 (i := 5) (v := .ref x) (hp_of (i := 4) rfl hp) q))
theorem aw_astoreN5 (h : CX X cc own rt mL F Lo mc ms w) {a0 a1 a2 a3 a4 : Option Value} {old : Option Value} (hp : cat1 a4 = true) (d : decode cc pc = .ok (.astore 5, 2)) (k : AW X cs ss (pc + 2) (a0 :: a1 :: a2 :: a3 :: a4 :: some (.null) :: ls) st G I L) : AW X cs ss pc (a0 :: a1 :: a2 :: a3 :: a4 :: old :: ls) (.null :: st) G I L := by
  obtain ⟨p, l, e, R, s, m, args, below, meth, c, Q, w'⟩ := X
  intro H locs la r1 r2 r3
  exact lv_astoreN h.1 h.2.1 d r3.2 (by have := r3.1; simp at this; omega) rfl (fun la' q => k H locs la' r1 r2 (r3.st1 (i := 5) (v := .null) (hp_of (i := 4) rfl hp) q))
theorem aw_lstore5 (h : CX X cc own rt mL F Lo mc ms w) {a0 a1 a2 a3 a4 : Option Value} {old old2 : Option Value} {x : Int64} (hp : cat1 a4 = true) (d : decode cc pc = .ok (.lstore 5, 2)) (k : AW X cs ss (pc + 2) (a0 :: a1 :: a2 :: a3 :: a4 :: some (.long x) :: none :: ls) st G I L) : AW X cs ss pc (a0 :: a1 :: a2 :: a3 :: a4 :: old :: old2 :: ls) (.long x :: st) G I L := by
  obtain ⟨p, l, e, R, s, m, args, below, meth, c, Q, w'⟩ := X
  intro H locs la r1 r2 r3
  exact lv_lstore h.1 h.2.1 d r3.2 (by have := r3.1; simp at this; omega) rfl (fun la' q => k H locs la' r1 r2 (r3.st2 (i := 5) (v := .long x) (hp_of (i := 4) rfl hp) q))
theorem aw_iinc5 (h : CX X cc own rt mL F Lo mc ms w) {a0 a1 a2 a3 a4 : Option Value} {x y : Int32} {n : Int} (hv : x + Int32.ofInt n = y) (hp : cat1 a4 = true) (d : decode cc pc = .ok (.iinc 5 n, 3)) (k : AW X cs ss (pc + 3) (a0 :: a1 :: a2 :: a3 :: a4 :: some (.int y) :: ls) st G I L) : AW X cs ss pc (a0 :: a1 :: a2 :: a3 :: a4 :: some (.int x) :: ls) st G I L := by
  obtain ⟨p, l, e, R, s, m, args, below, meth, c, Q, w'⟩ := X
  intro H locs la r1 r2 r3
  obtain ⟨ix, hix⟩ := List.getElem?_of_mem ((lpairs_mem (a0 :: a1 :: a2 :: a3 :: a4 :: some (.int x) :: ls) 0 (5, .int x)).mpr ⟨5, rfl, by simp⟩)
  exact lv_iinc h.1 h.2.1 d r3.2 hix hv (by have := r3.1; simp at this; omega) rfl (fun la' q => k H locs la' r1 r2 (r3.st1 (i := 5) (v := .int y) (hp_of (i := 4) rfl hp) q))
theorem aw_iincN5 (h : CX X cc own rt mL F Lo mc ms w) {a0 a1 a2 a3 a4 : Option Value} {a : Nat} (hp : cat1 a4 = true) (d : decode cc pc = .ok (.iinc 5 1, 3)) (k : AW X cs ss (pc + 3) (a0 :: a1 :: a2 :: a3 :: a4 :: some (.int (nI (a + 1))) :: ls) st G I L) : AW X cs ss pc (a0 :: a1 :: a2 :: a3 :: a4 :: some (.int (nI a)) :: ls) st G I L := by
  obtain ⟨p, l, e, R, s, m, args, below, meth, c, Q, w'⟩ := X
  intro H locs la r1 r2 r3
  obtain ⟨ix, hix⟩ := List.getElem?_of_mem ((lpairs_mem (a0 :: a1 :: a2 :: a3 :: a4 :: some (.int (nI a)) :: ls) 0 (5, .int (nI a))).mpr ⟨5, rfl, by simp⟩)
  exact lv_iinc h.1 h.2.1 d r3.2 hix (nI_1 a) (by have := r3.1; simp at this; omega) rfl (fun la' q => k H locs la' r1 r2 (r3.st1 (i := 5) (v := .int (nI (a + 1))) (hp_of (i := 4) rfl hp) q))
theorem aw_iload6 (h : CX X cc own rt mL F Lo mc ms w) {a0 a1 a2 a3 a4 a5 : Option Value} {x : Int32} (d : decode cc pc = .ok (.iload 6, 2)) (k : AW X cs ss (pc + 2) (a0 :: a1 :: a2 :: a3 :: a4 :: a5 :: some (.int x) :: ls) (.int x :: st) G I L) : AW X cs ss pc (a0 :: a1 :: a2 :: a3 :: a4 :: a5 :: some (.int x) :: ls) st G I L := by
  obtain ⟨p, l, e, R, s, m, args, below, meth, c, Q, w'⟩ := X
  intro H locs la r1 r2 r3
  exact lv_iload h.1 h.2.1 d (r3.at (k := 6) rfl) (k H locs la r1 r2 r3)
theorem aw_lload6 (h : CX X cc own rt mL F Lo mc ms w) {a0 a1 a2 a3 a4 a5 : Option Value} {x : Int64} (d : decode cc pc = .ok (.lload 6, 2)) (k : AW X cs ss (pc + 2) (a0 :: a1 :: a2 :: a3 :: a4 :: a5 :: some (.long x) :: ls) (.long x :: st) G I L) : AW X cs ss pc (a0 :: a1 :: a2 :: a3 :: a4 :: a5 :: some (.long x) :: ls) st G I L := by
  obtain ⟨p, l, e, R, s, m, args, below, meth, c, Q, w'⟩ := X
  intro H locs la r1 r2 r3
  exact lv_lload h.1 h.2.1 d (r3.at (k := 6) rfl) (k H locs la r1 r2 r3)
theorem aw_aload6 (h : CX X cc own rt mL F Lo mc ms w) {a0 a1 a2 a3 a4 a5 : Option Value} {x : Nat} (d : decode cc pc = .ok (.aload 6, 2)) (k : AW X cs ss (pc + 2) (a0 :: a1 :: a2 :: a3 :: a4 :: a5 :: some (.ref x) :: ls) (.ref x :: st) G I L) : AW X cs ss pc (a0 :: a1 :: a2 :: a3 :: a4 :: a5 :: some (.ref x) :: ls) st G I L := by
  obtain ⟨p, l, e, R, s, m, args, below, meth, c, Q, w'⟩ := X
  intro H locs la r1 r2 r3
  exact lv_aload h.1 h.2.1 d (r3.at (k := 6) rfl) (k H locs la r1 r2 r3)
theorem aw_aloadN6 (h : CX X cc own rt mL F Lo mc ms w) {a0 a1 a2 a3 a4 a5 : Option Value} (d : decode cc pc = .ok (.aload 6, 2)) (k : AW X cs ss (pc + 2) (a0 :: a1 :: a2 :: a3 :: a4 :: a5 :: some .null :: ls) (.null :: st) G I L) : AW X cs ss pc (a0 :: a1 :: a2 :: a3 :: a4 :: a5 :: some .null :: ls) st G I L := by
  obtain ⟨p, l, e, R, s, m, args, below, meth, c, Q, w'⟩ := X
  intro H locs la r1 r2 r3
  exact lv_aloadN h.1 h.2.1 d (r3.at (k := 6) rfl) (k H locs la r1 r2 r3)
theorem aw_istore6 (h : CX X cc own rt mL F Lo mc ms w) {a0 a1 a2 a3 a4 a5 : Option Value} {old : Option Value} {x : Int32} (hp : cat1 a5 = true) (d : decode cc pc = .ok (.istore 6, 2)) (k : AW X cs ss (pc + 2) (a0 :: a1 :: a2 :: a3 :: a4 :: a5 :: some (.int x) :: ls) st G I L) : AW X cs ss pc (a0 :: a1 :: a2 :: a3 :: a4 :: a5 :: old :: ls) (.int x :: st) G I L := by
  obtain ⟨p, l, e, R, s, m, args, below, meth, c, Q, w'⟩ := X
  intro H locs la r1 r2 r3
  exact lv_istore h.1 h.2.1 d r3.2 (by have := r3.1; simp at this; omega) rfl (fun la' q => k H locs la' r1 r2 (r3.st1 (i := 6) (v := .int x) (hp_of (i := 5) rfl hp) q))
theorem aw_astore6 (h : CX X cc own rt mL F Lo mc ms w) {a0 a1 a2 a3 a4 a5 : Option Value} {old : Option Value} {x : Nat} (hp : cat1 a5 = true) (d : decode cc pc = .ok (.astore 6, 2)) (k : AW X cs ss (pc + 2) (a0 :: a1 :: a2 :: a3 :: a4 :: a5 :: some (.ref x) :: ls) st G I L) : AW X cs ss pc (a0 :: a1 :: a2 :: a3 :: a4 :: a5 :: old :: ls) (.ref x :: st) G I L := by
  obtain ⟨p, l, e, R, s, m, args, below, meth, c, Q, w'⟩ := X
  intro H locs la r1 r2 r3
  exact lv_astore h.1 h.2.1 d r3.2 (by have := r3.1; simp at this; omega) rfl (fun la' q => k H locs la' r1 r2 (r3.st1 (i := 6) (v := .ref x) (hp_of (i := 5) rfl hp) q))
theorem aw_astoreN6 (h : CX X cc own rt mL F Lo mc ms w) {a0 a1 a2 a3 a4 a5 : Option Value} {old : Option Value} (hp : cat1 a5 = true) (d : decode cc pc = .ok (.astore 6, 2)) (k : AW X cs ss (pc + 2) (a0 :: a1 :: a2 :: a3 :: a4 :: a5 :: some (.null) :: ls) st G I L) : AW X cs ss pc (a0 :: a1 :: a2 :: a3 :: a4 :: a5 :: old :: ls) (.null :: st) G I L := by
  obtain ⟨p, l, e, R, s, m, args, below, meth, c, Q, w'⟩ := X
  intro H locs la r1 r2 r3
  exact lv_astoreN h.1 h.2.1 d r3.2 (by have := r3.1; simp at this; omega) rfl (fun la' q => k H locs la' r1 r2 (r3.st1 (i := 6) (v := .null) (hp_of (i := 5) rfl hp) q))
theorem aw_lstore6 (h : CX X cc own rt mL F Lo mc ms w) {a0 a1 a2 a3 a4 a5 : Option Value} {old old2 : Option Value} {x : Int64} (hp : cat1 a5 = true) (d : decode cc pc = .ok (.lstore 6, 2)) (k : AW X cs ss (pc + 2) (a0 :: a1 :: a2 :: a3 :: a4 :: a5 :: some (.long x) :: none :: ls) st G I L) : AW X cs ss pc (a0 :: a1 :: a2 :: a3 :: a4 :: a5 :: old :: old2 :: ls) (.long x :: st) G I L := by
  obtain ⟨p, l, e, R, s, m, args, below, meth, c, Q, w'⟩ := X
  intro H locs la r1 r2 r3
  exact lv_lstore h.1 h.2.1 d r3.2 (by have := r3.1; simp at this; omega) rfl (fun la' q => k H locs la' r1 r2 (r3.st2 (i := 6) (v := .long x) (hp_of (i := 5) rfl hp) q))
theorem aw_iinc6 (h : CX X cc own rt mL F Lo mc ms w) {a0 a1 a2 a3 a4 a5 : Option Value} {x y : Int32} {n : Int} (hv : x + Int32.ofInt n = y) (hp : cat1 a5 = true) (d : decode cc pc = .ok (.iinc 6 n, 3)) (k : AW X cs ss (pc + 3) (a0 :: a1 :: a2 :: a3 :: a4 :: a5 :: some (.int y) :: ls) st G I L) : AW X cs ss pc (a0 :: a1 :: a2 :: a3 :: a4 :: a5 :: some (.int x) :: ls) st G I L := by
  obtain ⟨p, l, e, R, s, m, args, below, meth, c, Q, w'⟩ := X
  intro H locs la r1 r2 r3
  obtain ⟨ix, hix⟩ := List.getElem?_of_mem ((lpairs_mem (a0 :: a1 :: a2 :: a3 :: a4 :: a5 :: some (.int x) :: ls) 0 (6, .int x)).mpr ⟨6, rfl, by simp⟩)
  exact lv_iinc h.1 h.2.1 d r3.2 hix hv (by have := r3.1; simp at this; omega) rfl (fun la' q => k H locs la' r1 r2 (r3.st1 (i := 6) (v := .int y) (hp_of (i := 5) rfl hp) q))
theorem aw_iincN6 (h : CX X cc own rt mL F Lo mc ms w) {a0 a1 a2 a3 a4 a5 : Option Value} {a : Nat} (hp : cat1 a5 = true) (d : decode cc pc = .ok (.iinc 6 1, 3)) (k : AW X cs ss (pc + 3) (a0 :: a1 :: a2 :: a3 :: a4 :: a5 :: some (.int (nI (a + 1))) :: ls) st G I L) : AW X cs ss pc (a0 :: a1 :: a2 :: a3 :: a4 :: a5 :: some (.int (nI a)) :: ls) st G I L := by
  obtain ⟨p, l, e, R, s, m, args, below, meth, c, Q, w'⟩ := X
  intro H locs la r1 r2 r3
  obtain ⟨ix, hix⟩ := List.getElem?_of_mem ((lpairs_mem (a0 :: a1 :: a2 :: a3 :: a4 :: a5 :: some (.int (nI a)) :: ls) 0 (6, .int (nI a))).mpr ⟨6, rfl, by simp⟩)
  exact lv_iinc h.1 h.2.1 d r3.2 hix (nI_1 a) (by have := r3.1; simp at this; omega) rfl (fun la' q => k H locs la' r1 r2 (r3.st1 (i := 6) (v := .int (nI (a + 1))) (hp_of (i := 5) rfl hp) q))
theorem aw_iload7 (h : CX X cc own rt mL F Lo mc ms w) {a0 a1 a2 a3 a4 a5 a6 : Option Value} {x : Int32} (d : decode cc pc = .ok (.iload 7, 2)) (k : AW X cs ss (pc + 2) (a0 :: a1 :: a2 :: a3 :: a4 :: a5 :: a6 :: some (.int x) :: ls) (.int x :: st) G I L) : AW X cs ss pc (a0 :: a1 :: a2 :: a3 :: a4 :: a5 :: a6 :: some (.int x) :: ls) st G I L := by
  obtain ⟨p, l, e, R, s, m, args, below, meth, c, Q, w'⟩ := X
  intro H locs la r1 r2 r3
  exact lv_iload h.1 h.2.1 d (r3.at (k := 7) rfl) (k H locs la r1 r2 r3)
theorem aw_lload7 (h : CX X cc own rt mL F Lo mc ms w) {a0 a1 a2 a3 a4 a5 a6 : Option Value} {x : Int64} (d : decode cc pc = .ok (.lload 7, 2)) (k : AW X cs ss (pc + 2) (a0 :: a1 :: a2 :: a3 :: a4 :: a5 :: a6 :: some (.long x) :: ls) (.long x :: st) G I L) : AW X cs ss pc (a0 :: a1 :: a2 :: a3 :: a4 :: a5 :: a6 :: some (.long x) :: ls) st G I L := by
  obtain ⟨p, l, e, R, s, m, args, below, meth, c, Q, w'⟩ := X
  intro H locs la r1 r2 r3
  exact lv_lload h.1 h.2.1 d (r3.at (k := 7) rfl) (k H locs la r1 r2 r3)
theorem aw_aload7 (h : CX X cc own rt mL F Lo mc ms w) {a0 a1 a2 a3 a4 a5 a6 : Option Value} {x : Nat} (d : decode cc pc = .ok (.aload 7, 2)) (k : AW X cs ss (pc + 2) (a0 :: a1 :: a2 :: a3 :: a4 :: a5 :: a6 :: some (.ref x) :: ls) (.ref x :: st) G I L) : AW X cs ss pc (a0 :: a1 :: a2 :: a3 :: a4 :: a5 :: a6 :: some (.ref x) :: ls) st G I L := by
  obtain ⟨p, l, e, R, s, m, args, below, meth, c, Q, w'⟩ := X
  intro H locs la r1 r2 r3
  exact lv_aload h.1 h.2.1 d (r3.at (k := 7) rfl) (k H locs la r1 r2 r3)
theorem aw_aloadN7 (h : CX X cc own rt mL F Lo mc ms w) {a0 a1 a2 a3 a4 a5 a6 : Option Value} (d : decode cc pc = .ok (.aload 7, 2)) (k : AW X cs ss (pc + 2) (a0 :: a1 :: a2 :: a3 :: a4 :: a5 :: a6 :: some .null :: ls) (.null :: st) G I L) : AW X cs ss pc (a0 :: a1 :: a2 :: a3 :: a4 :: a5 :: a6 :: some .null :: ls) st G I L := by
  obtain ⟨p, l, e, R, s, m, args, below, meth, c, Q, w'⟩ := X
  intro H locs la r1 r2 r3
  exact lv_aloadN h.1 h.2.1 d (r3.at (k := 7) rfl) (k H locs la r1 r2 r3)
theorem aw_istore7 (h : CX X cc own rt mL F Lo mc ms w) {a0 a1 a2 a3 a4 a5 a6 : Option Value} {old : Option Value} {x : Int32} (hp : cat1 a6 = true) (d : decode cc pc = .ok (.istore 7, 2)) (k : AW X cs ss (pc + 2) (a0 :: a1 :: a2 :: a3 :: a4 :: a5 :: a6 :: some (.int x) :: ls) st G I L) : AW X cs ss pc (a0 :: a1 :: a2 :: a3 :: a4 :: a5 :: a6 :: old :: ls) (.int x :: st) G I L := by
  obtain ⟨p, l, e, R, s, m, args, below, meth, c, Q, w'⟩ := X
  intro H locs la r1 r2 r3
  exact lv_istore h.1 h.2.1 d r3.2 (by have := r3.1; simp at this; omega) rfl (fun la' q => k H locs la' r1 r2 (r3.st1 (i := 7) (v := .int x) (hp_of (i := 6) rfl hp) q))
theorem aw_astore7 (h : CX X cc own rt mL F Lo mc ms w) {a0 a1 a2 a3 a4 a5 a6 : Option Value} {old : Option Value} {x : Nat} (hp : cat1 a6 = true) (d : decode cc pc = .ok (.astore 7, 2)) (k : AW X cs ss (pc + 2) (a0 :: a1 :: a2 :: a3 :: a4 :: a5 :: a6 :: some (.ref x) :: ls) st G I L) : AW X cs ss pc (a0 :: a1 :: a2 :: a3 :: a4 :: a5 :: a6 :: old :: ls) (.ref x :: st) G I L := by
  obtain ⟨p, l, e, R, s, m, args, below, meth, c, Q, w'⟩ := X
  intro H locs la r1 r2 r3
  exact lv_astore h.1 h.2.1 d r3.2 (by have := r3.1; simp at this; omega) rfl (fun la' q => k H locs la' r1 r2 (r3.st1 (i := 7) (v := .ref x) (hp_of (i := 6) rfl hp) q))
theorem aw_astoreN7 (h : CX X cc own rt mL F Lo mc ms w) {a0 a1 a2 a3 a4 a5 a6 : Option Value} {old : Option Value} (hp : cat1 a6 = true) (d : decode cc pc = .ok (.astore 7, 2)) (k : AW X cs ss (pc + 2) (a0 :: a1 :: a2 :: a3 :: a4 :: a5 :: a6 :: some (.null) :: ls) st G I L) : AW X cs ss pc (a0 :: a1 :: a2 :: a3 :: a4 :: a5 :: a6 :: old :: ls) (.null :: st) G I L := by
  obtain ⟨p, l, e, R, s, m, args, below, meth, c, Q, w'⟩ := X
  intro H locs la r1 r2 r3
  exact lv_astoreN h.1 h.2.1 d r3.2 (by have := r3.1; simp at this; omega) rfl (fun la' q => k H locs la' r1 r2 (r3.st1 (i := 7) (v := .null) (hp_of (i := 6) rfl hp) q))
theorem aw_lstore7 (h : CX X cc own rt mL F Lo mc ms w) {a0 a1 a2 a3 a4 a5 a6 : Option Value} {old old2 : Option Value} {x : Int64} (hp : cat1 a6 = true) (d : decode cc pc = .ok (.lstore 7, 2)) (k : AW X cs ss (pc + 2) (a0 :: a1 :: a2 :: a3 :: a4 :: a5 :: a6 :: some (.long x) :: none :: ls) st G I L) : AW X cs ss pc (a0 :: a1 :: a2 :: a3 :: a4 :: a5 :: a6 :: old :: old2 :: ls) (.long x :: st) G I L := by
  obtain ⟨p, l, e, R, s, m, args, below, meth, c, Q, w'⟩ := X
  intro H locs la r1 r2 r3
  exact lv_lstore h.1 h.2.1 d r3.2 (by have := r3.1; simp at this; omega) rfl (fun la' q => k H locs la' r1 r2 (r3.st2 (i := 7) (v := .long x) (hp_of (i := 6) rfl hp) q))
theorem aw_iinc7 (h : CX X cc own rt mL F Lo mc ms w) {a0 a1 a2 a3 a4 a5 a6 : Option Value} {x y : Int32} {n : Int} (hv : x + Int32.ofInt n = y) (hp : cat1 a6 = true) (d : decode cc pc = .ok (.iinc 7 n, 3)) (k : AW X cs ss (pc + 3) (a0 :: a1 :: a2 :: a3 :: a4 :: a5 :: a6 :: some (.int y) :: ls) st G I L) : AW X cs ss pc (a0 :: a1 :: a2 :: a3 :: a4 :: a5 :: a6 :: some (.int x) :: ls) st G I L := by
  obtain ⟨p, l, e, R, s, m, args, below, meth, c, Q, w'⟩ := X
  intro H locs la r1 r2 r3
  obtain ⟨ix, hix⟩ := List.getElem?_of_mem ((lpairs_mem (a0 :: a1 :: a2 :: a3 :: a4 :: a5 :: a6 :: some (.int x) :: ls) 0 (7, .int x)).mpr ⟨7, rfl, by simp⟩)
  exact lv_iinc h.1 h.2.1 d r3.2 hix hv (by have := r3.1; simp at this; omega) rfl (fun la' q => k H locs la' r1 r2 (r3.st1 (i := 7) (v := .int y) (hp_of (i := 6) rfl hp) q))
theorem aw_iincN7 (h : CX X cc own rt mL F Lo mc ms w) {a0 a1 a2 a3 a4 a5 a6 : Option Value} {a : Nat} (hp : cat1 a6 = true) (d : decode cc pc = .ok (.iinc 7 1, 3)) (k : AW X cs ss (pc + 3) (a0 :: a1 :: a2 :: a3 :: a4 :: a5 :: a6 :: some (.int (nI (a + 1))) :: ls) st G I L) : AW X cs ss pc (a0 :: a1 :: a2 :: a3 :: a4 :: a5 :: a6 :: some (.int (nI a)) :: ls) st G I L := by
  obtain ⟨p, l, e, R, s, m, args, below, meth, c, Q, w'⟩ := X
  intro H locs la r1 r2 r3
  obtain ⟨ix, hix⟩ := List.getElem?_of_mem ((lpairs_mem (a0 :: a1 :: a2 :: a3 :: a4 :: a5 :: a6 :: some (.int (nI a)) :: ls) 0 (7, .int (nI a))).mpr ⟨7, rfl, by simp⟩)
  exact lv_iinc h.1 h.2.1 d r3.2 hix (nI_1 a) (by have := r3.1; simp at this; omega) rfl (fun la' q => k H locs la' r1 r2 (r3.st1 (i := 7) (v := .int (nI (a + 1))) (hp_of (i := 6) rfl hp) q))
theorem aw_iload8 (h : CX X cc own rt mL F Lo mc ms w) {a0 a1 a2 a3 a4 a5 a6 a7 : Option Value} {x : Int32} (d : decode cc pc = .ok (.iload 8, 2)) (k : AW X cs ss (pc + 2) (a0 :: a1 :: a2 :: a3 :: a4 :: a5 :: a6 :: a7 :: some (.int x) :: ls) (.int x :: st) G I L) : AW X cs ss pc (a0 :: a1 :: a2 :: a3 :: a4 :: a5 :: a6 :: a7 :: some (.int x) :: ls) st G I L := by
  obtain ⟨p, l, e, R, s, m, args, below, meth, c, Q, w'⟩ := X
  intro H locs la r1 r2 r3
  exact lv_iload h.1 h.2.1 d (r3.at (k := 8) rfl) (k H locs la r1 r2 r3)
theorem aw_lload8 (h : CX X cc own rt mL F Lo mc ms w) {a0 a1 a2 a3 a4 a5 a6 a7 : Option Value} {x : Int64} (d : decode cc pc = .ok (.lload 8, 2)) (k : AW X cs ss (pc + 2) (a0 :: a1 :: a2 :: a3 :: a4 :: a5 :: a6 :: a7 :: some (.long x) :: ls) (.long x :: st) G I L) : AW X cs ss pc (a0 :: a1 :: a2 :: a3 :: a4 :: a5 :: a6 :: a7 :: some (.long x) :: ls) st G I L := by
  obtain ⟨p, l, e, R, s, m, args, below, meth, c, Q, w'⟩ := X
  intro H locs la r1 r2 r3
  exact lv_lload h.1 h.2.1 d (r3.at (k := 8) rfl) (k H locs la r1 r2 r3)
theorem aw_aload8 (h : CX X cc own rt mL F Lo mc ms w) {a0 a1 a2 a3 a4 a5 a6 a7 : Option Value} {x : Nat} (d : decode cc pc = .ok (.aload 8, 2)) (k : AW X cs ss (pc + 2) (a0 :: a1 :: a2 :: a3 :: a4 :: a5 :: a6 :: a7 :: some (.ref x) :: ls) (.ref x :: st) G I L) : AW X cs ss pc (a0 :: a1 :: a2 :: a3 :: a4 :: a5 :: a6 :: a7 :: some (.ref x) :: ls) st G I L := by
  obtain ⟨p, l, e, R, s, m, args, below, meth, c, Q, w'⟩ := X
  intro H locs la r1 r2 r3
  exact lv_aload h.1 h.2.1 d (r3.at (k := 8) rfl) (k H locs la r1 r2 r3)
theorem aw_aloadN8 (h : CX X cc own rt mL F Lo mc ms w) {a0 a1 a2 a3 a4 a5 a6 a7 : Option Value} (d : decode cc pc = .ok (.aload 8, 2)) (k : AW X cs ss (pc + 2) (a0 :: a1 :: a2 :: a3 :: a4 :: a5 :: a6 :: a7 :: some .null :: ls) (.null :: st) G I L) : AW X cs ss pc (a0 :: a1 :: a2 :: a3 :: a4 :: a5 :: a6 :: a7 :: some .null :: ls) st G I L := by
  obtain ⟨p, l, e, R, s, m, args, below, meth, c, Q, w'⟩ := X
  intro H locs la r1 r2 r3
  exact lv_aloadN h.1 h.2.1 d (r3.at (k := 8) rfl) (k H locs la r1 r2 r3)
theorem aw_istore8 (h : CX X cc own rt mL F Lo mc ms w) {a0 a1 a2 a3 a4 a5 a6 a7 : Option Value} {old : Option Value} {x : Int32} (hp : cat1 a7 = true) (d : decode cc pc = .ok (.istore 8, 2)) (k : AW X cs ss (pc + 2) (a0 :: a1 :: a2 :: a3 :: a4 :: a5 :: a6 :: a7 :: some (.int x) :: ls) st G I L) : AW X cs ss pc (a0 :: a1 :: a2 :: a3 :: a4 :: a5 :: a6 :: a7 :: old :: ls) (.int x :: st) G I L := by
  obtain ⟨p, l, e, R, s, m, args, below, meth, c, Q, w'⟩ := X
  intro H locs la r1 r2 r3
  exact lv_istore h.1 h.2.1 d r3.2 (by have := r3.1; simp at this; omega) rfl (fun la' q => k H locs la' r1 r2 (r3.st1 (i := 8) (v := .int x) (hp_of (i := 7) rfl hp) q))
theorem aw_astore8 (h : CX X cc own rt mL F Lo mc ms w) {a0 a1 a2 a3 a4 a5 a6 a7 : Option Value} {old : Option Value} {x : Nat} (hp : cat1 a7 = true) (d : decode cc pc = .ok (.astore 8, 2)) (k : AW X cs ss (pc + 2) (a0 :: a1 :: a2 :: a3 :: a4 :: a5 :: a6 :: a7 :: some (.ref x) :: ls) st G I L) : AW X cs ss pc (a0 :: a1 :: a2 :: a3 :: a4 :: a5 :: a6 :: a7 :: old :: ls) (.ref x :: st) G I L := by
  obtain ⟨p, l, e, R, s, m, args, below, meth, c, Q, w'⟩ := X
  intro H locs la r1 r2 r3
  exact lv_astore h.1 h.2.1 d r3.2 (by have := r3.1; simp at this; omega) rfl (fun la' q => k H locs la' r1 r2 (r3.st1 (i := 8) (v := .ref x) (hp_of (i := 7) rfl hp) q))
theorem aw_astoreN8 (h : CX X cc own rt mL F Lo mc ms w) {a0 a1 a2 a3 a4 a5 a6 a7 : Option Value} {old : Option Value} (hp : cat1 a7 = true) (d : decode cc pc = .ok (.astore 8, 2)) (k : AW X cs ss (pc + 2) (a0 :: a1 :: a2 :: a3 :: a4 :: a5 :: a6 :: a7 :: some (.null) :: ls) st G I L) : AW X cs ss pc (a0 :: a1 :: a2 :: a3 :: a4 :: a5 :: a6 :: a7 :: old :: ls) (.null :: st) G I L := by
  obtain ⟨p, l, e, R, s, m, args, below, meth, c, Q, w'⟩ := X
  intro H locs la r1 r2 r3
  exact lv_astoreN h.1 h.2.1 d r3.2 (by have := r3.1; simp at this; omega) rfl (fun la' q => k H locs la' r1 r2 (r3.st1 (i := 8) (v := .null) (hp_of (i := 7) rfl hp) q))
theorem aw_lstore8 (h : CX X cc own rt mL F Lo mc ms w) {a0 a1 a2 a3 a4 a5 a6 a7 : Option Value} {old old2 : Option Value} {x : Int64} (hp : cat1 a7 = true) (d : decode cc pc = .ok (.lstore 8, 2)) (k : AW X cs ss (pc + 2) (a0 :: a1 :: a2 :: a3 :: a4 :: a5 :: a6 :: a7 :: some (.long x) :: none :: ls) st G I L) : AW X cs ss pc (a0 :: a1 :: a2 :: a3 :: a4 :: a5 :: a6 :: a7 :: old :: old2 :: ls) (.long x :: st) G I L := by
  obtain ⟨p, l, e, R, s, m, args, below, meth, c, Q, w'⟩ := X
  intro H locs la r1 r2 r3
  exact lv_lstore h.1 h.2.1 d r3.2 (by have := r3.1; simp at this; omega) rfl (fun la' q => k H locs la' r1 r2 (r3.st2 (i := 8) (v := .long x) (hp_of (i := 7) rfl hp) q))
theorem aw_iinc8 (h : CX X cc own rt mL F Lo mc ms w) {a0 a1 a2 a3 a4 a5 a6 a7 : Option Value} {x y : Int32} {n : Int} (hv : x + Int32.ofInt n = y) (hp : cat1 a7 = true) (d : decode cc pc = .ok (.iinc 8 n, 3)) (k : AW X cs ss (pc + 3) (a0 :: a1 :: a2 :: a3 :: a4 :: a5 :: a6 :: a7 :: some (.int y) :: ls) st G I L) : AW X cs ss pc (a0 :: a1 :: a2 :: a3 :: a4 :: a5 :: a6 :: a7 :: some (.int x) :: ls) st G I L := by
  obtain ⟨p, l, e, R, s, m, args, below, meth, c, Q, w'⟩ := X
  intro H locs la r1 r2 r3
  obtain ⟨ix, hix⟩ := List.getElem?_of_mem ((lpairs_mem (a0 :: a1 :: a2 :: a3 :: a4 :: a5 :: a6 :: a7 :: some (.int x) :: ls) 0 (8, .int x)).mpr ⟨8, rfl, by simp⟩)
  exact lv_iinc h.1 h.2.1 d r3.2 hix hv (by have := r3.1; simp at this; omega) rfl (fun la' q => k H locs la' r1 r2 (r3.st1 (i := 8) (v := .int y) (hp_of (i := 7) rfl hp) q))
theorem aw_iincN8 (h : CX X cc own rt mL F Lo mc ms w) {a0 a1 a2 a3 a4 a5 a6 a7 : Option Value} {a : Nat} (hp : cat1 a7 = true) (d : decode cc pc = .ok (.iinc 8 1, 3)) (k : AW X cs ss (pc + 3) (a0 :: a1 :: a2 :: a3 :: a4 :: a5 :: a6 :: a7 :: some (.int (nI (a + 1))) :: ls) st G I L) : AW X cs ss pc (a0 :: a1 :: a2 :: a3 :: a4 :: a5 :: a6 :: a7 :: some (.int (nI a)) :: ls) st G I L := by
  obtain ⟨p, l, e, R, s, m, args, below, meth, c, Q, w'⟩ := X
  intro H locs la r1 r2 r3
  obtain ⟨ix, hix⟩ := List.getElem?_of_mem ((lpairs_mem (a0 :: a1 :: a2 :: a3 :: a4 :: a5 :: a6 :: a7 :: some (.int (nI a)) :: ls) 0 (8, .int (nI a))).mpr ⟨8, rfl, by simp⟩)
  exact lv_iinc h.1 h.2.1 d r3.2 hix (nI_1 a) (by have := r3.1; simp at this; omega) rfl (fun la' q => k H locs la' r1 r2 (r3.st1 (i := 8) (v := .int (nI (a + 1))) (hp_of (i := 7) rfl hp) q))
theorem aw_iload9 (h : CX X cc own rt mL F Lo mc ms w) {a0 a1 a2 a3 a4 a5 a6 a7 a8 : Option Value} {x : Int32} (d : decode cc pc = .ok (.iload 9, 2)) (k : AW X cs ss (pc + 2) (a0 :: a1 :: a2 :: a3 :: a4 :: a5 :: a6 :: a7 :: a8 :: some (.int x) :: ls) (.int x :: st) G I L) : AW X cs ss pc (a0 :: a1 :: a2 :: a3 :: a4 :: a5 :: a6 :: a7 :: a8 :: some (.int x) :: ls) st G I L := by
  obtain ⟨p, l, e, R, s, m, args, below, meth, c, Q, w'⟩ := X
  intro H locs la r1 r2 r3
  exact lv_iload h.1 h.2.1 d (r3.at (k := 9) rfl) (k H locs la r1 r2 r3)
theorem aw_lload9 (h : CX X cc own rt mL F Lo mc ms w) {a0 a1 a2 a3 a4 a5 a6 a7 a8 : Option Value} {x : Int64} (d : decode cc pc = .ok (.lload 9, 2)) (k : AW X cs ss (pc + 2) (a0 :: a1 :: a2 :: a3 :: a4 :: a5 :: a6 :: a7 :: a8 :: some (.long x) :: ls) (.long x :: st) G I L) : AW X cs ss pc (a0 :: a1 :: a2 :: a3 :: a4 :: a5 :: a6 :: a7 :: a8 :: some (.long x) :: ls) st G I L := by
  obtain ⟨p, l, e, R, s, m, args, below, meth, c, Q, w'⟩ := X
  intro H locs la r1 r2 r3
  exact lv_lload h.1 h.2.1 d (r3.at (k := 9) rfl) (k H locs la r1 r2 r3)
theorem aw_aload9 (h : CX X cc own rt mL F Lo mc ms w) {a0 a1 a2 a3 a4 a5 a6 a7 a8 : Option Value} {x : Nat} (d : decode cc pc = .ok (.aload 9, 2)) (k : AW X cs ss (pc + 2) (a0 :: a1 :: a2 :: a3 :: a4 :: a5 :: a6 :: a7 :: a8 :: some (.ref x) :: ls) (.ref x :: st) G I L) : AW X cs ss pc (a0 :: a1 :: a2 :: a3 :: a4 :: a5 :: a6 :: a7 :: a8 :: some (.ref x) :: ls) st G I L := by
  obtain ⟨p, l, e, R, s, m, args, below, meth, c, Q, w'⟩ := X
  intro H locs la r1 r2 r3
  exact lv_aload h.1 h.2.1 d (r3.at (k := 9) rfl) (k H locs la r1 r2 r3)
theorem aw_aloadN9 (h : CX X cc own rt mL F Lo mc ms w) {a0 a1 a2 a3 a4 a5 a6 a7 a8 : Option Value} (d : decode cc pc = .ok (.aload 9, 2)) (k : AW X cs ss (pc + 2) (a0 :: a1 :: a2 :: a3 :: a4 :: a5 :: a6 :: a7 :: a8 :: some .null :: ls) (.null :: st) G I L) : AW X cs ss pc (a0 :: a1 :: a2 :: a3 :: a4 :: a5 :: a6 :: a7 :: a8 :: some .null :: ls) st G I L := by
  obtain ⟨p, l, e, R, s, m, args, below, meth, c, Q, w'⟩ := X
  intro H locs la r1 r2 r3
  exact lv_aloadN h.1 h.2.1 d (r3.at (k := 9) rfl) (k H locs la r1 r2 r3)
theorem aw_istore9 (h : CX X cc own rt mL F Lo mc ms w) {a0 a1 a2 a3 a4 a5 a6 a7 a8 : Option Value} {old : Option Value} {x : Int32} (hp : cat1 a8 = true) (d : decode cc pc = .ok (.istore 9, 2)) (k : AW X cs ss (pc + 2) (a0 :: a1 :: a2 :: a3 :: a4 :: a5 :: a6 :: a7 :: a8 :: some (.int x) :: ls) st G I L) : AW X cs ss pc (a0 :: a1 :: a2 :: a3 :: a4 :: a5 :: a6 :: a7 :: a8 :: old :: ls) (.int x :: st) G I L := by
  obtain ⟨p, l, e, R, s, m, args, below, meth, c, Q, w'⟩ := X
  intro H locs la r1 r2 r3
  exact lv_istore h.1 h.2.1 d r3.2 (by have := r3.1; simp at this; omega) rfl (fun la' q => k H locs la' r1 r2 (r3.st1 (i := 9) (v := .int x) (hp_of (i := 8) rfl hp) q))
theorem aw_astore9 (h : CX X cc own rt mL F Lo mc ms w) {a0 a1 a2 a3 a4 a5 a6 a7 a8 : Option Value} {old : Option Value} {x : Nat} (hp : cat1 a8 = true) (d : decode cc pc = .ok (.astore 9, 2)) (k : AW X cs ss (pc + 2) (a0 :: a1 :: a2 :: a3 :: a4 :: a5 :: a6 :: a7 :: a8 :: some (.ref x) :: ls) st G I L) : AW X cs ss pc (a0 :: a1 :: a2 :: a3 :: a4 :: a5 :: a6 :: a7 :: a8 :: old :: ls) (.ref x :: st) G I L := by
  obtain ⟨p, l, e, R, s, m, args, below, meth, c, Q, w'⟩ := X
  intro H locs la r1 r2 r3
  exact lv_astore h.1 h.2.1 d r3.2 (by have := r3.1; simp at this; omega) rfl (fun la' q => k H locs la' r1 r2 (r3.st1 (i := 9) (v := .ref x) (hp_of (i := 8) rfl hp) q))
theorem aw_astoreN9 (h : CX X cc own rt mL F Lo mc ms w) {a0 a1 a2 a3 a4 a5 a6 a7 a8 : Option Value} {old : Option Value} (hp : cat1 a8 = true) (d : decode cc pc = .ok (.astore 9, 2)) (k : AW X cs ss (pc + 2) (a0 :: a1 :: a2 :: a3 :: a4 :: a5 :: a6 :: a7 :: a8 :: some (.null) :: ls) st G I L) : AW X cs ss pc (a0 :: a1 :: a2 :: a3 :: a4 :: a5 :: a6 :: a7 :: a8 :: old :: ls) (.null :: st) G I L := by
  obtain ⟨p, l, e, R, s, m, args, below, meth, c, Q, w'⟩ := X
  intro H locs la r1 r2 r3
  exact lv_astoreN h.1 h.2.1 d r3.2 (by have := r3.1; simp at this; omega) rfl (fun la' q => k H locs la' r1 r2 (r3.st1 (i := 9) (v := .null) (hp_of (i := 8) rfl hp) q))
theorem aw_lstore9 (h : CX X cc own rt mL F Lo mc ms w) {a0 a1 a2 a3 a4 a5 a6 a7 a8 : Option Value} {old old2 : Option Value} {x : Int64} (hp : cat1 a8 = true) (d : decode cc pc = .ok (.lstore 9, 2)) (k : AW X cs ss (pc + 2) (a0 :: a1 :: a2 :: a3 :: a4 :: a5 :: a6 :: a7 :: a8 :: some (.long x) :: none :: ls) st G I L) : AW X cs ss pc (a0 :: a1 :: a2 :: a3 :: a4 :: a5 :: a6 :: a7 :: a8 :: old :: old2 :: ls) (.long x :: st) G I L := by
  obtain ⟨p, l, e, R, s, m, args, below, meth, c, Q, w'⟩ := X
  intro H locs la r1 r2 r3
  exact lv_lstore h.1 h.2.1 d r3.2 (by have := r3.1; simp at this; omega) rfl (fun la' q => k H locs la' r1 r2 (r3.st2 (i := 9) (v := .long x) (hp_of (i := 8) rfl hp) q))
theorem aw_iinc9 (h : CX X cc own rt mL F Lo mc ms w) {a0 a1 a2 a3 a4 a5 a6 a7 a8 : Option Value} {x y : Int32} {n : Int} (hv : x + Int32.ofInt n = y) (hp : cat1 a8 = true) (d : decode cc pc = .ok (.iinc 9 n, 3)) (k : AW X cs ss (pc + 3) (a0 :: a1 :: a2 :: a3 :: a4 :: a5 :: a6 :: a7 :: a8 :: some (.int y) :: ls) st G I L) : AW X cs ss pc (a0 :: a1 :: a2 :: a3 :: a4 :: a5 :: a6 :: a7 :: a8 :: some (.int x) :: ls) st G I L := by
  obtain ⟨p, l, e, R, s, m, args, below, meth, c, Q, w'⟩ := X
  intro H locs la r1 r2 r3
  obtain ⟨ix, hix⟩ := List.getElem?_of_mem ((lpairs_mem (a0 :: a1 :: a2 :: a3 :: a4 :: a5 :: a6 :: a7 :: a8 :: some (.int x) :: ls) 0 (9, .int x)).mpr ⟨9, rfl, by simp⟩)
  exact lv_iinc h.1 h.2.1 d r3.2 hix hv (by have := r3.1; simp at this; omega) rfl (fun la' q => k H locs la' r1 r2 (r3.st1 (i := 9) (v := .int y) (hp_of (i := 8) rfl hp) q))
theorem aw_iincN9 (h : CX X cc own rt mL F Lo mc ms w) {a0 a1 a2 a3 a4 a5 a6 a7 a8 : Option Value} {a : Nat} (hp : cat1 a8 = true) (d : decode cc pc = .ok (.iinc 9 1, 3)) (k : AW X cs ss (pc + 3) (a0 :: a1 :: a2 :: a3 :: a4 :: a5 :: a6 :: a7 :: a8 :: some (.int (nI (a + 1))) :: ls) st G I L) : AW X cs ss pc (a0 :: a1 :: a2 :: a3 :: a4 :: a5 :: a6 :: a7 :: a8 :: some (.int (nI a)) :: ls) st G I L := by
  obtain ⟨p, l, e, R, s, m, args, below, meth, c, Q, w'⟩ := X
  intro H locs la r1 r2 r3
  obtain ⟨ix, hix⟩ := List.getElem?_of_mem ((lpairs_mem (a0 :: a1 :: a2 :: a3 :: a4 :: a5 :: a6 :: a7 :: a8 :: some (.int (nI a)) :: ls) 0 (9, .int (nI a))).mpr ⟨9, rfl, by simp⟩)
  exact lv_iinc h.1 h.2.1 d r3.2 hix (nI_1 a) (by have := r3.1; simp at this; omega) rfl (fun la' q => k H locs la' r1 r2 (r3.st1 (i := 9) (v := .int (nI (a + 1))) (hp_of (i := 8) rfl hp) q))
theorem aw_iload10 (h : CX X cc own rt mL F Lo mc ms w) {a0 a1 a2 a3 a4 a5 a6 a7 a8 a9 : Option Value} {x : Int32} (d : decode cc pc = .ok (.iload 10, 2)) (k : AW X cs ss (pc + 2) (a0 :: a1 :: a2 :: a3 :: a4 :: a5 :: a6 :: a7 :: a8 :: a9 :: some (.int x) :: ls) (.int x :: st) G I L) : AW X cs ss pc (a0 :: a1 :: a2 :: a3 :: a4 :: a5 :: a6 :: a7 :: a8 :: a9 :: some (.int x) :: ls) st G I L := by
  obtain ⟨p, l, e, R, s, m, args, below, meth, c, Q, w'⟩ := X
  intro H locs la r1 r2 r3
  exact lv_iload h.1 h.2.1 d (r3.at (k := 10) rfl) (k H locs la r1 r2 r3)
theorem aw_lload10 (h : CX X cc own rt mL F Lo mc ms w) {a0 a1 a2 a3 a4 a5 a6 a7 a8 a9 : Option Value} {x : Int64} (d : decode cc pc = .ok (.lload 10, 2)) (k : AW X cs ss (pc + 2) (a0 :: a1 :: a2 :: a3 :: a4 :: a5 :: a6 :: a7 :: a8 :: a9 :: some (.long x) :: ls) (.long x :: st) G I L) : AW X cs ss pc (a0 :: a1 :: a2 :: a3 :: a4 :: a5 :: a6 :: a7 :: a8 :: a9 :: some (.long x) :: ls) st G I L := by
  obtain ⟨p, l, e, R, s, m, args, below, meth, c, Q, w'⟩ := X
  intro H locs la r1 r2 r3
  exact lv_lload h.1 h.2.1 d (r3.at (k := 10) rfl) (k H locs la r1 r2 r3)
theorem aw_aload10 (h : CX X cc own rt mL F Lo mc ms w) {a0 a1 a2 a3 a4 a5 a6 a7 a8 a9 : Option Value} {x : Nat} (d : decode cc pc = .ok (.aload 10, 2)) (k : AW X cs ss (pc + 2) (a0 :: a1 :: a2 :: a3 :: a4 :: a5 :: a6 :: a7 :: a8 :: a9 :: some (.ref x) :: ls) (.ref x :: st) G I L) : AW X cs ss pc (a0 :: a1 :: a2 :: a3 :: a4 :: a5 :: a6 :: a7 :: a8 :: a9 :: some (.ref x) :: ls) st G I L := by
  obtain ⟨p, l, e, R, s, m, args, below, meth, c, Q, w'⟩ := X
  intro H locs la r1 r2 r3
  exact lv_aload h.1 h.2.1 d (r3.at (k := 10) rfl) (k H locs la r1 r2 r3)
theorem aw_aloadN10 (h : CX X cc own rt mL F Lo mc ms w) {a0 a1 a2 a3 a4 a5 a6 a7 a8 a9 : Option Value} (d : decode cc pc = .ok (.aload 10, 2)) (k : AW X cs ss (pc + 2) (a0 :: a1 :: a2 :: a3 :: a4 :: a5 :: a6 :: a7 :: a8 :: a9 :: some .null :: ls) (.null :: st) G I L) : AW X cs ss pc (a0 :: a1 :: a2 :: a3 :: a4 :: a5 :: a6 :: a7 :: a8 :: a9 :: some .null :: ls) st G I L := by
  obtain ⟨p, l, e, R, s, m, args, below, meth, c, Q, w'⟩ := X
  intro H locs la r1 r2 r3
  exact lv_aloadN h.1 h.2.1 d (r3.at (k := 10) rfl) (k H locs la r1 r2 r3)
theorem aw_istore10 (h : CX X cc own rt mL F Lo mc ms w) {a0 a1 a2 a3 a4 a5 a6 a7 a8 a9 : Option Value} {old : Option Value} {x : Int32} (hp : cat1 a9 = true) (d : decode cc pc = .ok (.istore 10, 2)) (k : AW X cs ss (pc + 2) (a0 :: a1 :: a2 :: a3 :: a4 :: a5 :: a6 :: a7 :: a8 :: a9 :: some (.int x) :: ls) st G I L) : AW X cs ss pc (a0 :: a1 :: a2 :: a3 :: a4 :: a5 :: a6 :: a7 :: a8 :: a9 :: old :: ls) (.int x :: st) G I L := by
  obtain ⟨p, l, e, R, s, m, args, below, meth, c, Q, w'⟩ := X
  intro H locs la r1 r2 r3
  exact lv_istore h.1 h.2.1 d r3.2 (by have := r3.1; simp at this; omega) rfl (fun la' q => k H locs la' r1 r2 (r3.st1 (i := 10) (v := .int x) (hp_of (i := 9) rfl hp) q))
theorem aw_astore10 (h : CX X cc own rt mL F Lo mc ms w) {a0 a1 a2 a3 a4 a5 a6 a7 a8 a9 : Option Value} {old : Option Value} {x : Nat} (hp : cat1 a9 = true) (d : decode cc pc = .ok (.astore 10, 2)) (k : AW X cs ss (pc + 2) (a0 :: a1 :: a2 :: a3 :: a4 :: a5 :: a6 :: a7 :: a8 :: a9 :: some (.ref x) :: ls) st G I L) : AW X cs ss pc (a0 :: a1 :: a2 :: a3 :: a4 :: a5 :: a6 :: a7 :: a8 :: a9 :: old :: ls) (.ref x :: st) G I L := by
  obtain ⟨p, l, e, R, s, m, args, below, meth, c, Q, w'⟩ := X
  intro H locs la r1 r2 r3
  exact lv_astore h.1 h.2.1 d r3.2 (by have := r3.1; simp at this; omega) rfl (fun la' q => k H locs la' r1 r2 (r3.st1 (i := 10) (v := .ref x) (hp_of (i := 9) rfl hp) q))
theorem aw_astoreN10 (h : CX X cc own rt mL F Lo mc ms w) {a0 a1 a2 a3 a4 a5 a6 a7 a8 a9 : Option Value} {old : Option Value} (hp : cat1 a9 = true) (d : decode cc pc = .ok (.astore 10, 2)) (k : AW X cs ss (pc + 2) (a0 :: a1 :: a2 :: a3 :: a4 :: a5 :: a6 :: a7 :: a8 :: a9 :: some (.null) :: ls) st G I L) : AW X cs ss pc (a0 :: a1 :: a2 :: a3 :: a4 :: a5 :: a6 :: a7 :: a8 :: a9 :: old :: ls) (.null :: st) G I L := by
  obtain ⟨p, l, e, R, s, m, args, below, meth, c, Q, w'⟩ := X
  intro H locs la r1 r2 r3
  exact lv_astoreN h.1 h.2.1 d r3.2 (by have := r3.1; simp at this; omega) rfl (fun la' q => k H locs la' r1 r2 (r3.st1 (i := 10) (v := .null) (hp_of (i := 9) rfl hp) q))
theorem aw_lstore10 (h : CX X cc own rt mL F Lo mc ms w) {a0 a1 a2 a3 a4 a5 a6 a7 a8 a9 : Option Value} {old old2 : Option Value} {x : Int64} (hp : cat1 a9 = true) (d : decode cc pc = .ok (.lstore 10, 2)) (k : AW X cs ss (pc + 2) (a0 :: a1 :: a2 :: a3 :: a4 :: a5 :: a6 :: a7 :: a8 :: a9 :: some (.long x) :: none :: ls) st G I L) : AW X cs ss pc (a0 :: a1 :: a2 :: a3 :: a4 :: a5 :: a6 :: a7 :: a8 :: a9 :: old :: old2 :: ls) (.long x :: st) G I L := by
  obtain ⟨p, l, e, R, s, m, args, below, meth, c, Q, w'⟩ := X
  intro H locs la r1 r2 r3
  exact lv_lstore h.1 h.2.1 d r3.2 (by have := r3.1; simp at this; omega) rfl (fun la' q => k H locs la' r1 r2 (r3.st2 (i := 10) (v := .long x) (hp_of (i := 9) rfl hp) q))
theorem aw_iinc10 (h : CX X cc own rt mL F Lo mc ms w) {a0 a1 a2 a3 a4 a5 a6 a7 a8 a9 : Option Value} {x y : Int32} {n : Int} (hv : x + Int32.ofInt n = y) (hp : cat1 a9 = true) (d : decode cc pc = .ok (.iinc 10 n, 3)) (k : AW X cs ss (pc + 3) (a0 :: a1 :: a2 :: a3 :: a4 :: a5 :: a6 :: a7 :: a8 :: a9 :: some (.int y) :: ls) st G I L) : AW X cs ss pc (a0 :: a1 :: a2 :: a3 :: a4 :: a5 :: a6 :: a7 :: a8 :: a9 :: some (.int x) :: ls) st G I L := by
  obtain ⟨p, l, e, R, s, m, args, below, meth, c, Q, w'⟩ := X
  intro H locs la r1 r2 r3
  obtain ⟨ix, hix⟩ := List.getElem?_of_mem ((lpairs_mem (a0 :: a1 :: a2 :: a3 :: a4 :: a5 :: a6 :: a7 :: a8 :: a9 :: some (.int x) :: ls) 0 (10, .int x)).mpr ⟨10, rfl, by simp⟩)
  exact lv_iinc h.1 h.2.1 d r3.2 hix hv (by have := r3.1; simp at this; omega) rfl (fun la' q => k H locs la' r1 r2 (r3.st1 (i := 10) (v := .int y) (hp_of (i := 9) rfl hp) q))
theorem aw_iincN10 (h : CX X cc own rt mL F Lo mc ms w) {a0 a1 a2 a3 a4 a5 a6 a7 a8 a9 : Option Value} {a : Nat} (hp : cat1 a9 = true) (d : decode cc pc = .ok (.iinc 10 1, 3)) (k : AW X cs ss (pc + 3) (a0 :: a1 :: a2 :: a3 :: a4 :: a5 :: a6 :: a7 :: a8 :: a9 :: some (.int (nI (a + 1))) :: ls) st G I L) : AW X cs ss pc (a0 :: a1 :: a2 :: a3 :: a4 :: a5 :: a6 :: a7 :: a8 :: a9 :: some (.int (nI a)) :: ls) st G I L := by
  obtain ⟨p, l, e, R, s, m, args, below, meth, c, Q, w'⟩ := X
  intro H locs la r1 r2 r3
  obtain ⟨ix, hix⟩ := List.getElem?_of_mem ((lpairs_mem (a0 :: a1 :: a2 :: a3 :: a4 :: a5 :: a6 :: a7 :: a8 :: a9 :: some (.int (nI a)) :: ls) 0 (10, .int (nI a))).mpr ⟨10, rfl, by simp⟩)
  exact lv_iinc h.1 h.2.1 d r3.2 hix (nI_1 a) (by have := r3.1; simp at this; omega) rfl (fun la' q => k H locs la' r1 r2 (r3.st1 (i := 10) (v := .int (nI (a + 1))) (hp_of (i := 9) rfl hp) q))
theorem aw_iload11 (h : CX X cc own rt mL F Lo mc ms w) {a0 a1 a2 a3 a4 a5 a6 a7 a8 a9 a10 : Option Value} {x : Int32} (d : decode cc pc = .ok (.iload 11, 2)) (k : AW X cs ss (pc + 2) (a0 :: a1 :: a2 :: a3 :: a4 :: a5 :: a6 :: a7 :: a8 :: a9 :: a10 :: some (.int x) :: ls) (.int x :: st) G I L) : AW X cs ss pc (a0 :: a1 :: a2 :: a3 :: a4 :: a5 :: a6 :: a7 :: a8 :: a9 :: a10 :: some (.int x) :: ls) st G I L := by
  obtain ⟨p, l, e, R, s, m, args, below, meth, c, Q, w'⟩ := X
  intro H locs la r1 r2 r3
  exact lv_iload h.1 h.2.1 d (r3.at (k := 11) rfl) (k H locs la r1 r2 r3)
theorem aw_lload11 (h : CX X cc own rt mL F Lo mc ms w) {a0 a1 a2 a3 a4 a5 a6 a7 a8 a9 a10 : Option Value} {x : Int64} (d : decode cc pc = .ok (.lload 11, 2)) (k : AW X cs ss (pc + 2) (a0 :: a1 :: a2 :: a3 :: a4 :: a5 :: a6 :: a7 :: a8 :: a9 :: a10 :: some (.long x) :: ls) (.long x :: st) G I L) : AW X cs ss pc (a0 :: a1 :: a2 :: a3 :: a4 :: a5 :: a6 :: a7 :: a8 :: a9 :: a10 :: some (.long x) :: ls) st G I L := by
  obtain ⟨p, l, e, R, s, m, args, below, meth, c, Q, w'⟩ := X
  intro H locs la r1 r2 r3
  exact lv_lload h.1 h.2.1 d (r3.at (k := 11) rfl) (k H locs la r1 r2 r3)
theorem aw_aload11 (h : CX X cc own rt mL F Lo mc ms w) {a0 a1 a2 a3 a4 a5 a6 a7 a8 a9 a10 : Option Value} {x : Nat} (d : decode cc pc = .ok (.aload 11, 2)) (k : AW X cs ss (pc + 2) (a0 :: a1 :: a2 :: a3 :: a4 :: a5 :: a6 :: a7 :: a8 :: a9 :: a10 :: some (.ref x) :: ls) (.ref x :: st) G I L) : AW X cs ss pc (a0 :: a1 :: a2 :: a3 :: a4 :: a5 :: a6 :: a7 :: a8 :: a9 :: a10 :: some (.ref x) :: ls) st G I L := by
  obtain ⟨p, l, e, R, s, m, args, below, meth, c, Q, w'⟩ := X
  intro H locs la r1 r2 r3
  exact lv_aload h.1 h.2.1 d (r3.at (k := 11) rfl) (k H locs la r1 r2 r3)
theorem aw_aloadN11 (h : CX X cc own rt mL F Lo mc ms w) {a0 a1 a2 a3 a4 a5 a6 a7 a8 a9 a10 : Option Value} (d : decode cc pc = .ok (.aload 11, 2)) (k : AW X cs ss (pc + 2) (a0 :: a1 :: a2 :: a3 :: a4 :: a5 :: a6 :: a7 :: a8 :: a9 :: a10 :: some .null :: ls) (.null :: st) G I L) : AW X cs ss pc (a0 :: a1 :: a2 :: a3 :: a4 :: a5 :: a6 :: a7 :: a8 :: a9 :: a10 :: some .null :: ls) st G I L := by
  obtain ⟨p, l, e, R, s, m, args, below, meth, c, Q, w'⟩ := X
  intro H locs la r1 r2 r3
  exact lv_aloadN h.1 h.2.1 d (r3.at (k := 11) rfl) (k H locs la r1 r2 r3)
theorem aw_istore11 (h : CX X cc own rt mL F Lo mc ms w) {a0 a1 a2 a3 a4 a5 a6 a7 a8 a9 a10 : Option Value} {old : Option Value} {x : Int32} (hp : cat1 a10 = true) (d : decode cc pc = .ok (.istore 11, 2)) (k : AW X cs ss (pc + 2) (a0 :: a1 :: a2 :: a3 :: a4 :: a5 :: a6 :: a7 :: a8 :: a9 :: a10 :: some (.int x) :: ls) st G I L) : AW X cs ss pc (a0 :: a1 :: a2 :: a3 :: a4 :: a5 :: a6 :: a7 :: a8 :: a9 :: a10 :: old :: ls) (.int x :: st) G I L := by
  obtain ⟨p, l, e, R, s, m, args, below, meth, c, Q, w'⟩ := X
  intro H locs la r1 r2 r3
  exact lv_istore h.1 h.2.1 d r3.2 (by have := r3.1; simp at this; omega) rfl (fun la' q => k H locs la' r1 r2 (r3.st1 (i := 11) (v := .int x) (hp_of (i := 10) rfl hp) q))
theorem aw_astore11 (h : CX X cc own rt mL F Lo mc ms w) {a0 a1 a2 a3 a4 a5 a6 a7 a8 a9 a10 : Option Value} {old : Option Value} {x : Nat} (hp : cat1 a10 = true) (d : decode cc pc = .ok (.astore 11, 2)) (k : AW X cs ss (pc + 2) (a0 :: a1 :: a2 :: a3 :: a4 :: a5 :: a6 :: a7 :: a8 :: a9 :: a10 :: some (.ref x) :: ls) st G I L) : AW X cs ss pc (a0 :: a1 :: a2 :: a3 :: a4 :: a5 :: a6 :: a7 :: a8 :: a9 :: a10 :: old :: ls) (.ref x :: st) G I L := by
  obtain ⟨p, l, e, R, s, m, args, below, meth, c, Q, w'⟩ := X
  intro H locs la r1 r2 r3
  exact lv_astore h.1 h.2.1 d r3.2 (by have := r3.1; simp at this; omega) rfl (fun la' q => k H locs la' r1 r2 (r3.st1 (i := 11) (v := .ref x) (hp_of (i := 10) rfl hp) q))
theorem aw_astoreN11 (h : CX X cc own rt mL F Lo mc ms w) {a0 a1 a2 a3 a4 a5 a6 a7 a8 a9 a10 : Option Value} {old : Option Value} (hp : cat1 a10 = true) (d : decode cc pc = .ok (.astore 11, 2)) (k : AW X cs ss (pc + 2) (a0 :: a1 :: a2 :: a3 :: a4 :: a5 :: a6 :: a7 :: a8 :: a9 :: a10 :: some (.null) :: ls) st G I L) : AW X cs ss pc (a0 :: a1 :: a2 :: a3 :: a4 :: a5 :: a6 :: a7 :: a8 :: a9 :: a10 :: old :: ls) (.null :: st) G I L := by
  obtain ⟨p, l, e, R, s, m, args, below, meth, c, Q, w'⟩ := X
  intro H locs la r1 r2 r3
  exact lv_astoreN h.1 h.2.1 d r3.2 (by have := r3.1; simp at this; omega) rfl (fun la' q => k H locs la' r1 r2 (r3.st1 (i := 11) (v := .null) (hp_of (i := 10) rfl hp) q))
theorem aw_lstore11 (h : CX X cc own rt mL F Lo mc ms w) {a0 a1 a2 a3 a4 a5 a6 a7 a8 a9 a10 : Option Value} {old old2 : Option Value} {x : Int64} (hp : cat1 a10 = true) (d : decode cc pc = .ok (.lstore 11, 2)) (k : AW X cs ss (pc + 2) (a0 :: a1 :: a2 :: a3 :: a4 :: a5 :: a6 :: a7 :: a8 :: a9 :: a10 :: some (.long x) :: none :: ls) st G I L) : AW X cs ss pc (a0 :: a1 :: a2 :: a3 :: a4 :: a5 :: a6 :: a7 :: a8 :: a9 :: a10 :: old :: old2 :: ls) (.long x :: st) G I L := by
  obtain ⟨p, l, e, R, s, m, args, below, meth, c, Q, w'⟩ := X
  intro H locs la r1 r2 r3
  exact lv_lstore h.1 h.2.1 d r3.2 (by have := r3.1; simp at this; omega) rfl (fun la' q => k H locs la' r1 r2 (r3.st2 (i := 11) (v := .long x) (hp_of (i := 10) rfl hp) q))
theorem aw_iinc11 (h : CX X cc own rt mL F Lo mc ms w) {a0 a1 a2 a3 a4 a5 a6 a7 a8 a9 a10 : Option Value} {x y : Int32} {n : Int} (hv : x + Int32.ofInt n = y) (hp : cat1 a10 = true) (d : decode cc pc = .ok (.iinc 11 n, 3)) (k : AW X cs ss (pc + 3) (a0 :: a1 :: a2 :: a3 :: a4 :: a5 :: a6 :: a7 :: a8 :: a9 :: a10 :: some (.int y) :: ls) st G I L) : AW X cs ss pc (a0 :: a1 :: a2 :: a3 :: a4 :: a5 :: a6 :: a7 :: a8 :: a9 :: a10 :: some (.int x) :: ls) st G I L := by
  obtain ⟨p, l, e, R, s, m, args, below, meth, c, Q, w'⟩ := X
  intro H locs la r1 r2 r3
  obtain ⟨ix, hix⟩ := List.getElem?_of_mem ((lpairs_mem (a0 :: a1 :: a2 :: a3 :: a4 :: a5 :: a6 :: a7 :: a8 :: a9 :: a10 :: some (.int x) :: ls) 0 (11, .int x)).mpr ⟨11, rfl, by simp⟩)
  exact lv_iinc h.1 h.2.1 d r3.2 hix hv (by have := r3.1; simp at this; omega) rfl (fun la' q => k H locs la' r1 r2 (r3.st1 (i := 11) (v := .int y) (hp_of (i := 10) rfl hp) q))
theorem aw_iincN11 (h : CX X cc own rt mL F Lo mc ms w) {a0 a1 a2 a3 a4 a5 a6 a7 a8 a9 a10 : Option Value} {a : Nat} (hp : cat1 a10 = true) (d : decode cc pc = .ok (.iinc 11 1, 3)) (k : AW X cs ss (pc + 3) (a0 :: a1 :: a2 :: a3 :: a4 :: a5 :: a6 :: a7 :: a8 :: a9 :: a10 :: some (.int (nI (a + 1))) :: ls) st G I L) : AW X cs ss pc (a0 :: a1 :: a2 :: a3 :: a4 :: a5 :: a6 :: a7 :: a8 :: a9 :: a10 :: some (.int (nI a)) :: ls) st G I L := by
  obtain ⟨p, l, e, R, s, m, args, below, meth, c, Q, w'⟩ := X
  intro H locs la r1 r2 r3
  obtain ⟨ix, hix⟩ := List.getElem?_of_mem ((lpairs_mem (a0 :: a1 :: a2 :: a3 :: a4 :: a5 :: a6 :: a7 :: a8 :: a9 :: a10 :: some (.int (nI a)) :: ls) 0 (11, .int (nI a))).mpr ⟨11, rfl, by simp⟩)
  exact lv_iinc h.1 h.2.1 d r3.2 hix (nI_1 a) (by have := r3.1; simp at this; omega) rfl (fun la' q => k H locs la' r1 r2 (r3.st1 (i := 11) (v := .int (nI (a + 1))) (hp_of (i := 10) rfl hp) q))
theorem aw_iload12 (h : CX X cc own rt mL F Lo mc ms w) {a0 a1 a2 a3 a4 a5 a6 a7 a8 a9 a10 a11 : Option Value} {x : Int32} (d : decode cc pc = .ok (.iload 12, 2)) (k : AW X cs ss (pc + 2) (a0 :: a1 :: a2 :: a3 :: a4 :: a5 :: a6 :: a7 :: a8 :: a9 :: a10 :: a11 :: some (.int x) :: ls) (.int x :: st) G I L) : AW X cs ss pc (a0 :: a1 :: a2 :: a3 :: a4 :: a5 :: a6 :: a7 :: a8 :: a9 :: a10 :: a11 :: some (.int x) :: ls) st G I L := by
  obtain ⟨p, l, e, R, s, m, args, below, meth, c, Q, w'⟩ := X
  intro H locs la r1 r2 r3
  exact lv_iload h.1 h.2.1 d (r3.at (k := 12) rfl) (k H locs la r1 r2 r3)
theorem aw_lload12 (h : CX X cc own rt mL F Lo mc ms w) {a0 a1 a2 a3 a4 a5 a6 a7 a8 a9 a10 a11 : Option Value} {x : Int64} (d : decode cc pc = .ok (.lload 12, 2)) (k : AW X cs ss (pc + 2) (a0 :: a1 :: a2 :: a3 :: a4 :: a5 :: a6 :: a7 :: a8 :: a9 :: a10 :: a11 :: some (.long x) :: ls) (.long x :: st) G I L) : AW X cs ss pc (a0 :: a1 :: a2 :: a3 :: a4 :: a5 :: a6 :: a7 :: a8 :: a9 :: a10 :: a11 :: some (.long x) :: ls) st G I L := by
  obtain ⟨p, l, e, R, s, m, args, below, meth, c, Q, w'⟩ := X
  intro H locs la r1 r2 r3
  exact lv_lload h.1 h.2.1 d (r3.at (k := 12) rfl) (k H locs la r1 r2 r3)
theorem aw_aload12 (h : CX X cc own rt mL F Lo mc ms w) {a0 a1 a2 a3 a4 a5 a6 a7 a8 a9 a10 a11 : Option Value} {x : Nat} (d : decode cc pc = .ok (.aload 12, 2)) (k : AW X cs ss (pc + 2) (a0 :: a1 :: a2 :: a3 :: a4 :: a5 :: a6 :: a7 :: a8 :: a9 :: a10 :: a11 :: some (.ref x) :: ls) (.ref x :: st) G I L) : AW X cs ss pc (a0 :: a1 :: a2 :: a3 :: a4 :: a5 :: a6 :: a7 :: a8 :: a9 :: a10 :: a11 :: some (.ref x) :: ls) st G I L := by
  obtain ⟨p, l, e, R, s, m, args, below, meth, c, Q, w'⟩ := X
  intro H locs la r1 r2 r3
  exact lv_aload h.1 h.2.1 d (r3.at (k := 12) rfl) (k H locs la r1 r2 r3)
theorem aw_aloadN12 (h : CX X cc own rt mL F Lo mc ms w) {a0 a1 a2 a3 a4 a5 a6 a7 a8 a9 a10 a11 : Option Value} (d : decode cc pc = .ok (.aload 12, 2)) (k : AW X cs ss (pc + 2) (a0 :: a1 :: a2 :: a3 :: a4 :: a5 :: a6 :: a7 :: a8 :: a9 :: a10 :: a11 :: some .null :: ls) (.null :: st) G I L) : AW X cs ss pc (a0 :: a1 :: a2 :: a3 :: a4 :: a5 :: a6 :: a7 :: a8 :: a9 :: a10 :: a11 :: some .null :: ls) st G I L := by
  obtain ⟨p, l, e, R, s, m, args, below, meth, c, Q, w'⟩ := X
  intro H locs la r1 r2 r3
  exact lv_aloadN h.1 h.2.1 d (r3.at (k := 12) rfl) (k H locs la r1 r2 r3)
theorem aw_istore12 (h : CX X cc own rt mL F Lo mc ms w) {a0 a1 a2 a3 a4 a5 a6 a7 a8 a9 a10 a11 : Option Value} {old : Option Value} {x : Int32} (hp : cat1 a11 = true) (d : decode cc pc = .ok (.istore 12, 2)) (k : AW X cs ss (pc + 2) (a0 :: a1 :: a2 :: a3 :: a4 :: a5 :: a6 :: a7 :: a8 :: a9 :: a10 :: a11 :: some (.int x) :: ls) st G I L) : AW X cs ss pc (a0 :: a1 :: a2 :: a3 :: a4 :: a5 :: a6 :: a7 :: a8 :: a9 :: a10 :: a11 :: old :: ls) (.int x :: st) G I L := by
  obtain ⟨p, l, e, R, s, m, args, below, meth, c, Q, w'⟩ := X
  intro H locs la r1 r2 r3
  exact lv_istore h.1 h.2.1 d r3.2 (by have := r3.1; simp at this; omega) rfl (fun la' q => k H locs la' r1 r2 (r3.st1 (i := 12) (v := .int x) (hp_of (i := 11) rfl hp) q))
theorem aw_astore12 (h : CX X cc own rt mL F Lo mc ms w) {a0 a1 a2 a3 a4 a5 a6 a7 a8 a9 a10 a11 : Option Value} {old : Option Value} {x : Nat} (hp : cat1 a11 = true) (d : decode cc pc = .ok (.astore 12, 2)) (k : AW X cs ss (pc + 2) (a0 :: a1 :: a2 :: a3 :: a4 :: a5 :: a6 :: a7 :: a8 :: a9 :: a10 :: a11 :: some (.ref x) :: ls) st G I L) : AW X cs ss pc (a0 :: a1 :: a2 :: a3 :: a4 :: a5 :: a6 :: a7 :: a8 :: a9 :: a10 :: a11 :: old :: ls) (.ref x :: st) G I L := by
  obtain ⟨p, l, e, R, s, m, args, below, meth, c, Q, w'⟩ := X
  intro H locs la r1 r2 r3
  exact lv_astore h.1 h.2.1 d r3.2 (by have := r3.1; simp at this; omega) rfl (fun la' q => k H locs la' r1 r2 (r3.st1 (i := 12) (v := .ref x) (hp_of (i := 11) rfl hp) q))
theorem aw_astoreN12 (h : CX X cc own rt mL F Lo mc ms w) {a0 a1 a2 a3 a4 a5 a6 a7 a8 a9 a10 a11 : Option Value} {old : Option Value} (hp : cat1 a11 = true) (d : decode cc pc = .ok (.astore 12, 2)) (k : AW X cs ss (pc + 2) (a0 :: a1 :: a2 :: a3 :: a4 :: a5 :: a6 :: a7 :: a8 :: a9 :: a10 :: a11 :: some (.null) :: ls) st G I L) : AW X cs ss pc (a0 :: a1 :: a2 :: a3 :: a4 :: a5 :: a6 :: a7 :: a8 :: a9 :: a10 :: a11 :: old :: ls) (.null :: st) G I L := by
  obtain ⟨p, l, e, R, s, m, args, below, meth, c, Q, w'⟩ := X
  intro H locs la r1 r2 r3
  exact lv_astoreN h.1 h.2.1 d r3.2 (by have := r3.1; simp at this; omega) rfl (fun la' q => k H locs la' r1 r2 (r3.st1 (i := 12) (v := .null) (hp_of (i := 11) rfl hp) q))
theorem aw_lstore12 (h : CX X cc own rt mL F Lo mc ms w) {a0 a1 a2 a3 a4 a5 a6 a7 a8 a9 a10 a11 : Option Value} {old old2 : Option Value} {x : Int64} (hp : cat1 a11 = true) (d : decode cc pc = .ok (.lstore 12, 2)) (k : AW X cs ss (pc + 2) (a0 :: a1 :: a2 :: a3 :: a4 :: a5 :: a6 :: a7 :: a8 :: a9 :: a10 :: a11 :: some (.long x) :: none :: ls) st G I L) : AW X cs ss pc (a0 :: a1 :: a2 :: a3 :: a4 :: a5 :: a6 :: a7 :: a8 :: a9 :: a10 :: a11 :: old :: old2 :: ls) (.long x :: st) G I L := by
  obtain ⟨p, l, e, R, s, m, args, below, meth, c, Q, w'⟩ := X
  intro H locs la r1 r2 r3
  exact lv_lstore h.1 h.2.1 d r3.2 (by have := r3.1; simp at this; omega) rfl (fun la' q => k H locs la' r1 r2 (r3.st2 (i := 12) (v := .long x) (hp_of (i := 11) rfl hp) q))
theorem aw_iinc12 (h : CX X cc own rt mL F Lo mc ms w) {a0 a1 a2 a3 a4 a5 a6 a7 a8 a9 a10 a11 : Option Value} {x y : Int32} {n : Int} (hv : x + Int32.ofInt n = y) (hp : cat1 a11 = true) (d : decode cc pc = .ok (.iinc 12 n, 3)) (k : AW X cs ss (pc + 3) (a0 :: a1 :: a2 :: a3 :: a4 :: a5 :: a6 :: a7 :: a8 :: a9 :: a10 :: a11 :: some (.int y) :: ls) st G I L) : AW X cs ss pc (a0 :: a1 :: a2 :: a3 :: a4 :: a5 :: a6 :: a7 :: a8 :: a9 :: a10 :: a11 :: some (.int x) :: ls) st G I L := by
  obtain ⟨p, l, e, R, s, m, args, below, meth, c, Q, w'⟩ := X
  intro H locs la r1 r2 r3
  obtain ⟨ix, hix⟩ := List.getElem?_of_mem ((lpairs_mem (a0 :: a1 :: a2 :: a3 :: a4 :: a5 :: a6 :: a7 :: a8 :: a9 :: a10 :: a11 :: some (.int x) :: ls) 0 (12, .int x)).mpr ⟨12, rfl, by simp⟩)
  exact lv_iinc h.1 h.2.1 d r3.2 hix hv (by have := r3.1; simp at this; omega) rfl (fun la' q => k H locs la' r1 r2 (r3.st1 (i := 12) (v := .int y) (hp_of (i := 11) rfl hp) q))
theorem aw_iincN12 (h : CX X cc own rt mL F Lo mc ms w) {a0 a1 a2 a3 a4 a5 a6 a7 a8 a9 a10 a11 : Option Value} {a : Nat} (hp : cat1 a11 = true) (d : decode cc pc = .ok (.iinc 12 1, 3)) (k : AW X cs ss (pc + 3) (a0 :: a1 :: a2 :: a3 :: a4 :: a5 :: a6 :: a7 :: a8 :: a9 :: a10 :: a11 :: some (.int (nI (a + 1))) :: ls) st G I L) : AW X cs ss pc (a0 :: a1 :: a2 :: a3 :: a4 :: a5 :: a6 :: a7 :: a8 :: a9 :: a10 :: a11 :: some (.int (nI a)) :: ls) st G I L := by
  obtain ⟨p, l, e, R, s, m, args, below, meth, c, Q, w'⟩ := X
  intro H locs la r1 r2 r3
  obtain ⟨ix, hix⟩ := List.getElem?_of_mem ((lpairs_mem (a0 :: a1 :: a2 :: a3 :: a4 :: a5 :: a6 :: a7 :: a8 :: a9 :: a10 :: a11 :: some (.int (nI a)) :: ls) 0 (12, .int (nI a))).mpr ⟨12, rfl, by simp⟩)
  exact lv_iinc h.1 h.2.1 d r3.2 hix (nI_1 a) (by have := r3.1; simp at this; omega) rfl (fun la' q => k H locs la' r1 r2 (r3.st1 (i := 12) (v := .int (nI (a + 1))) (hp_of (i := 11) rfl hp) q))
theorem aw_iload13 (h : CX X cc own rt mL F Lo mc ms w) {a0 a1 a2 a3 a4 a5 a6 a7 a8 a9 a10 a11 a12 : Option Value} {x : Int32} (d : decode cc pc = .ok (.iload 13, 2)) (k : AW X cs ss (pc + 2) (a0 :: a1 :: a2 :: a3 :: a4 :: a5 :: a6 :: a7 :: a8 :: a9 :: a10 :: a11 :: a12 :: some (.int x) :: ls) (.int x :: st) G I L) : AW X cs ss pc (a0 :: a1 :: a2 :: a3 :: a4 :: a5 :: a6 :: a7 :: a8 :: a9 :: a10 :: a11 :: a12 :: some (.int x) :: ls) st G I L := by
  obtain ⟨p, l, e, R, s, m, args, below, meth, c, Q, w'⟩ := X
  intro H locs la r1 r2 r3
  exact lv_iload h.1 h.2.1 d (r3.at (k := 13) rfl) (k H locs la r1 r2 r3)
theorem aw_lload13 (h : CX X cc own rt mL F Lo mc ms w) {a0 a1 a2 a3 a4 a5 a6 a7 a8 a9 a10 a11 a12 : Option Value} {x : Int64} (d : decode cc pc = .ok (.lload 13, 2)) (k : AW X cs ss (pc + 2) (a0 :: a1 :: a2 :: a3 :: a4 :: a5 :: a6 :: a7 :: a8 :: a9 :: a10 :: a11 :: a12 :: some (.long x) :: ls) (.long x :: st) G I L) : AW X cs ss pc (a0 :: a1 :: a2 :: a3 :: a4 :: a5 :: a6 :: a7 :: a8 :: a9 :: a10 :: a11 :: a12 :: some (.long x) :: ls) st G I L := by
  obtain ⟨p, l, e, R, s, m, args, below, meth, c, Q, w'⟩ := X
  intro H locs la r1 r2 r3
  exact lv_lload h.1 h.2.1 d (r3.at (k := 13) rfl) (k H locs la r1 r2 r3)
theorem aw_aload13 (h : CX X cc own rt mL F Lo mc ms w) {a0 a1 a2 a3 a4 a5 a6 a7 a8 a9 a10 a11 a12 : Option Value} {x : Nat} (d : decode cc pc = .ok (.aload 13, 2)) (k : AW X cs ss (pc + 2) (a0 :: a1 :: a2 :: a3 :: a4 :: a5 :: a6 :: a7 :: a8 :: a9 :: a10 :: a11 :: a12 :: some (.ref x) :: ls) (.ref x :: st) G I L) : AW X cs ss pc (a0 :: a1 :: a2 :: a3 :: a4 :: a5 :: a6 :: a7 :: a8 :: a9 :: a10 :: a11 :: a12 :: some (.ref x) :: ls) st G I L := by
  obtain ⟨p, l, e, R, s, m, args, below, meth, c, Q, w'⟩ := X
  intro H locs la r1 r2 r3
  exact lv_aload h.1 h.2.1 d (r3.at (k := 13) rfl) (k H locs la r1 r2 r3)
theorem aw_aloadN13 (h : CX X cc own rt mL F Lo mc ms w) {a0 a1 a2 a3 a4 a5 a6 a7 a8 a9 a10 a11 a12 : Option Value} (d : decode cc pc = .ok (.aload 13, 2)) (k : AW X cs ss (pc + 2) (a0 :: a1 :: a2 :: a3 :: a4 :: a5 :: a6 :: a7 :: a8 :: a9 :: a10 :: a11 :: a12 :: some .null :: ls) (.null :: st) G I L) : AW X cs ss pc (a0 :: a1 :: a2 :: a3 :: a4 :: a5 :: a6 :: a7 :: a8 :: a9 :: a10 :: a11 :: a12 :: some .null :: ls) st G I L := by
  obtain ⟨p, l, e, R, s, m, args, below, meth, c, Q, w'⟩ := X
  intro H locs la r1 r2 r3
  exact lv_aloadN h.1 h.2.1 d (r3.at (k := 13) rfl) (k H locs la r1 r2 r3)
theorem aw_istore13 (h : CX X cc own rt mL F Lo mc ms w) {a0 a1 a2 a3 a4 a5 a6 a7 a8 a9 a10 a11 a12 : Option Value} {old : Option Value} {x : Int32} (hp : cat1 a12 = true) (d : decode cc pc = .ok (.istore 13, 2)) (k : AW X cs ss (pc + 2) (a0 :: a1 :: a2 :: a3 :: a4 :: a5 :: a6 :: a7 :: a8 :: a9 :: a10 :: a11 :: a12 :: some (.int x) :: ls) st G I L) : AW X cs ss pc (a0 :: a1 :: a2 :: a3 :: a4 :: a5 :: a6 :: a7 :: a8 :: a9 :: a10 :: a11 :: a12 :: old :: ls) (.int x :: st) G I L := by
  obtain ⟨p, l, e, R, s, m, args, below, meth, c, Q, w'⟩ := X
  intro H locs la r1 r2 r3
  exact lv_istore h.1 h.2.1 d r3.2 (by have := r3.1; simp at this; omega) rfl (fun la' q => k H locs la' r1 r2 (r3.st1 (i := 13) (v := .int x) (hp_of (i := 12) rfl hp) q))
theorem aw_astore13 (h : CX X cc own rt mL F Lo mc ms w) {a0 a1 a2 a3 a4 a5 a6 a7 a8 a9 a10 a11 a12 : Option Value} {old : Option Value} {x : Nat} (hp : cat1 a12 = true) (d : decode cc pc = .ok (.astore 13, 2)) (k : AW X cs ss (pc + 2) (a0 :: a1 :: a2 :: a3 :: a4 :: a5 :: a6 :: a7 :: a8 :: a9 :: a10 :: a11 :: a12 :: some (.ref x) :: ls) st G I L) : AW X cs ss pc (a0 :: a1 :: a2 :: a3 :: a4 :: a5 :: a6 :: a7 :: a8 :: a9 :: a10 :: a11 :: a12 :: old :: ls) (.ref x :: st) G I L := by
  obtain ⟨p, l, e, R, s, m, args, below, meth, c, Q, w'⟩ := X
  intro H locs la r1 r2 r3
  exact lv_astore h.1 h.2.1 d r3.2 (by have := r3.1; simp at this; omega) rfl (fun la' q => k H locs la' r1 r2 (r3.st1 (i := 13) (v := .ref x) (hp_of (i := 12) rfl hp) q))
theorem aw_astoreN13 (h : CX X cc own rt mL F Lo mc ms w) {a0 a1 a2 a3 a4 a5 a6 a7 a8 a9 a10 a11 a12 : Option Value} {old : Option Value} (hp : cat1 a12 = true) (d : decode cc pc = .ok (.astore 13, 2)) (k : AW X cs ss (pc + 2) (a0 :: a1 :: a2 :: a3 :: a4 :: a5 :: a6 :: a7 :: a8 :: a9 :: a10 :: a11 :: a12 :: some (.null) :: ls) st G I L) : AW X cs ss pc (a0 :: a1 :: a2 :: a3 :: a4 :: a5 :: a6 :: a7 :: a8 :: a9 :: a10 :: a11 :: a12 :: old :: ls) (.null :: st) G I L := by
  obtain ⟨p, l, e, R, s, m, args, below, meth, c, Q, w'⟩ := X
  intro H locs la r1 r2 r3
  exact lv_astoreN h.1 h.2.1 d r3.2 (by have := r3.1; simp at this; omega) rfl (fun la' q => k H locs la' r1 r2 (r3.st1 (i := 13) (v := .null) (hp_of (i := 12) rfl hp) q))
theorem aw_lstore13 (h : CX X cc own rt mL F Lo mc ms w) {a0 a1 a2 a3 a4 a5 a6 a7 a8 a9 a10 a11 a12 : Option Value} {old old2 : Option Value} {x : Int64} (hp : cat1 a12 = true) (d : decode cc pc = .ok (.lstore 13, 2)) (k : AW X cs ss (pc + 2) (a0 :: a1 :: a2 :: a3 :: a4 :: a5 :: a6 :: a7 :: a8 :: a9 :: a10 :: a11 :: a12 :: some (.long x) :: none :: ls) st G I L) : AW X cs ss pc (a0 :: a1 :: a2 :: a3 :: a4 :: a5 :: a6 :: a7 :: a8 :: a9 :: a10 :: a11 :: a12 :: old :: old2 :: ls) (.long x :: st) G I L := by
  obtain ⟨p, l, e, R, s, m, args, below, meth, c, Q, w'⟩ := X
  intro H locs la r1 r2 r3
  exact lv_lstore h.1 h.2.1 d r3.2 (by have := r3.1; simp at this; omega) rfl (fun la' q => k H locs la' r1 r2 (r3.st2 (i := 13) (v := .long x) (hp_of (i := 12) rfl hp) q))
theorem aw_iinc13 (h : CX X cc own rt mL F Lo mc ms w) {a0 a1 a2 a3 a4 a5 a6 a7 a8 a9 a10 a11 a12 : Option Value} {x y : Int32} {n : Int} (hv : x + Int32.ofInt n = y) (hp : cat1 a12 = true) (d : decode cc pc = .ok (.iinc 13 n, 3)) (k : AW X cs ss (pc + 3) (a0 :: a1 :: a2 :: a3 :: a4 :: a5 :: a6 :: a7 :: a8 :: a9 :: a10 :: a11 :: a12 :: some (.int y) :: ls) st G I L) : AW X cs ss pc (a0 :: a1 :: a2 :: a3 :: a4 :: a5 :: a6 :: a7 :: a8 :: a9 :: a10 :: a11 :: a12 :: some (.int x) :: ls) st G I L := by
  obtain ⟨p, l, e, R, s, m, args, below, meth, c, Q, w'⟩ := X
  intro H locs la r1 r2 r3
  obtain ⟨ix, hix⟩ := List.getElem?_of_mem ((lpairs_mem (a0 :: a1 :: a2 :: a3 :: a4 :: a5 :: a6 :: a7 :: a8 :: a9 :: a10 :: a11 :: a12 :: some (.int x) :: ls) 0 (13, .int x)).mpr ⟨13, rfl, by simp⟩)
  exact lv_iinc h.1 h.2.1 d r3.2 hix hv (by have := r3.1; simp at this; omega) rfl (fun la' q => k H locs la' r1 r2 (r3.st1 (i := 13) (v := .int y) (hp_of (i := 12) rfl hp) q))
theorem aw_iincN13 (h : CX X cc own rt mL F Lo mc ms w) {a0 a1 a2 a3 a4 a5 a6 a7 a8 a9 a10 a11 a12 : Option Value} {a : Nat} (hp : cat1 a12 = true) (d : decode cc pc = .ok (.iinc 13 1, 3)) (k : AW X cs ss (pc + 3) (a0 :: a1 :: a2 :: a3 :: a4 :: a5 :: a6 :: a7 :: a8 :: a9 :: a10 :: a11 :: a12 :: some (.int (nI (a + 1))) :: ls) st G I L) : AW X cs ss pc (a0 :: a1 :: a2 :: a3 :: a4 :: a5 :: a6 :: a7 :: a8 :: a9 :: a10 :: a11 :: a12 :: some (.int (nI a)) :: ls) st G I L := by
  obtain ⟨p, l, e, R, s, m, args, below, meth, c, Q, w'⟩ := X
  intro H locs la r1 r2 r3
  obtain ⟨ix, hix⟩ := List.getElem?_of_mem ((lpairs_mem (a0 :: a1 :: a2 :: a3 :: a4 :: a5 :: a6 :: a7 :: a8 :: a9 :: a10 :: a11 :: a12 :: some (.int (nI a)) :: ls) 0 (13, .int (nI a))).mpr ⟨13, rfl, by simp⟩)
  exact lv_iinc h.1 h.2.1 d r3.2 hix (nI_1 a) (by have := r3.1; simp at this; omega) rfl (fun la' q => k H locs la' r1 r2 (r3.st1 (i := 13) (v := .int (nI (a + 1))) (hp_of (i := 12) rfl hp) q))
theorem aw_iload14 (h : CX X cc own rt mL F Lo mc ms w) {a0 a1 a2 a3 a4 a5 a6 a7 a8 a9 a10 a11 a12 a13 : Option Value} {x : Int32} (d : decode cc pc = .ok (.iload 14, 2)) (k : AW X cs ss (pc + 2) (a0 :: a1 :: a2 :: a3 :: a4 :: a5 :: a6 :: a7 :: a8 :: a9 :: a10 :: a11 :: a12 :: a13 :: some (.int x) :: ls) (.int x :: st) G I L) : AW X cs ss pc (a0 :: a1 :: a2 :: a3 :: a4 :: a5 :: a6 :: a7 :: a8 :: a9 :: a10 :: a11 :: a12 :: a13 :: some (.int x) :: ls) st G I L := by
  obtain ⟨p, l, e, R, s, m, args, below, meth, c, Q, w'⟩ := X
  intro H locs la r1 r2 r3
  exact lv_iload h.1 h.2.1 d (r3.at (k := 14) rfl) (k H locs la r1 r2 r3)
theorem aw_lload14 (h : CX X cc own rt mL F Lo mc ms w) {a0 a1 a2 a3 a4 a5 a6 a7 a8 a9 a10 a11 a12 a13 : Option Value} {x : Int64} (d : decode cc pc = .ok (.lload 14, 2)) (k : AW X cs ss (pc + 2) (a0 :: a1 :: a2 :: a3 :: a4 :: a5 :: a6 :: a7 :: a8 :: a9 :: a10 :: a11 :: a12 :: a13 :: some (.long x) :: ls) (.long x :: st) G I L) : AW X cs ss pc (a0 :: a1 :: a2 :: a3 :: a4 :: a5 :: a6 :: a7 :: a8 :: a9 :: a10 :: a11 :: a12 :: a13 :: some (.long x) :: ls) st G I L := by
  obtain ⟨p, l, e, R, s, m, args, below, meth, c, Q, w'⟩ := X
  intro H locs la r1 r2 r3
  exact lv_lload h.1 h.2.1 d (r3.at (k := 14) rfl) (k H locs la r1 r2 r3)
theorem aw_aload14 (h : CX X cc own rt mL F Lo mc ms w) {a0 a1 a2 a3 a4 a5 a6 a7 a8 a9 a10 a11 a12 a13 : Option Value} {x : Nat} (d : decode cc pc = .ok (.aload 14, 2)) (k : AW X cs ss (pc + 2) (a0 :: a1 :: a2 :: a3 :: a4 :: a5 :: a6 :: a7 :: a8 :: a9 :: a10 :: a11 :: a12 :: a13 :: some (.ref x) :: ls) (.ref x :: st) G I L) : AW X cs ss pc (a0 :: a1 :: a2 :: a3 :: a4 :: a5 :: a6 :: a7 :: a8 :: a9 :: a10 :: a11 :: a12 :: a13 :: some (.ref x) :: ls) st G I L := by
  obtain ⟨p, l, e, R, s, m, args, below, meth, c, Q, w'⟩ := X
  intro H locs la r1 r2 r3
  exact lv_aload h.1 h.2.1 d (r3.at (k := 14) rfl) (k H locs la r1 r2 r3)
theorem aw_aloadN14 (h : CX X cc own rt mL F Lo mc ms w) {a0 a1 a2 a3 a4 a5 a6 a7 a8 a9 a10 a11 a12 a13 : Option Value} (d : decode cc pc = .ok (.aload 14, 2)) (k : AW X cs ss (pc + 2) (a0 :: a1 :: a2 :: a3 :: a4 :: a5 :: a6 :: a7 :: a8 :: a9 :: a10 :: a11 :: a12 :: a13 :: some .null :: ls) (.null :: st) G I L) : AW X cs ss pc (a0 :: a1 :: a2 :: a3 :: a4 :: a5 :: a6 :: a7 :: a8 :: a9 :: a10 :: a11 :: a12 :: a13 :: some .null :: ls) st G I L := by
  obtain ⟨p, l, e, R, s, m, args, below, meth, c, Q, w'⟩ := X
  intro H locs la r1 r2 r3
  exact lv_aloadN h.1 h.2.1 d (r3.at (k := 14) rfl) (k H locs la r1 r2 r3)
theorem aw_istore14 (h : CX X cc own rt mL F Lo mc ms w) {a0 a1 a2 a3 a4 a5 a6 a7 a8 a9 a10 a11 a12 a13 : Option Value} {old : Option Value} {x : Int32} (hp : cat1 a13 = true) (d : decode cc pc = .ok (.istore 14, 2)) (k : AW X cs ss (pc + 2) (a0 :: a1 :: a2 :: a3 :: a4 :: a5 :: a6 :: a7 :: a8 :: a9 :: a10 :: a11 :: a12 :: a13 :: some (.int x) :: ls) st G I L) : AW X cs ss pc (a0 :: a1 :: a2 :: a3 :: a4 :: a5 :: a6 :: a7 :: a8 :: a9 :: a10 :: a11 :: a12 :: a13 :: old :: ls) (.int x :: st) G I L := by
  obtain ⟨p, l, e, R, s, m, args, below, meth, c, Q, w'⟩ := X
  intro H locs la r1 r2 r3
  exact lv_istore h.1 h.2.1 d r3.2 (by have := r3.1; simp at this; omega) rfl (fun la' q => k H locs la' r1 r2 (r3.st1 (i := 14) (v := .int x) (hp_of (i := 13) rfl hp) q))
theorem aw_astore14 (h : CX X cc own rt mL F Lo mc ms w) {a0 a1 a2 a3 a4 a5 a6 a7 a8 a9 a10 a11 a12 a13 : Option Value} {old : Option Value} {x : Nat} (hp : cat1 a13 = true) (d : decode cc pc = .ok (.astore 14, 2)) (k : AW X cs ss (pc + 2) (a0 :: a1 :: a2 :: a3 :: a4 :: a5 :: a6 :: a7 :: a8 :: a9 :: a10 :: a11 :: a12 :: a13 :: some (.ref x) :: ls) st G I L) : AW X cs ss pc (a0 :: a1 :: a2 :: a3 :: a4 :: a5 :: a6 :: a7 :: a8 :: a9 :: a10 :: a11 :: a12 :: a13 :: old :: ls) (.ref x :: st) G I L := by
  obtain ⟨p, l, e, R, s, m, args, below, meth, c, Q, w'⟩ := X
  intro H locs la r1 r2 r3
  exact lv_astore h.1 h.2.1 d r3.2 (by have := r3.1; simp at this; omega) rfl (fun la' q => k H locs la' r1 r2 (r3.st1 (i := 14) (v := .ref x) (hp_of (i := 13) rfl hp) q))
theorem aw_astoreN14 (h : CX X cc own rt mL F Lo mc ms w) {a0 a1 a2 a3 a4 a5 a6 a7 a8 a9 a10 a11 a12 a13 : Option Value} {old : Option Value} (hp : cat1 a13 = true) (d : decode cc pc = .ok (.astore 14, 2)) (k : AW X cs ss (pc + 2) (a0 :: a1 :: a2 :: a3 :: a4 :: a5 :: a6 :: a7 :: a8 :: a9 :: a10 :: a11 :: a12 :: a13 :: some (.null) :: ls) st G I L) : AW X cs ss pc (a0 :: a1 :: a2 :: a3 :: a4 :: a5 :: a6 :: a7 :: a8 :: a9 :: a10 :: a11 :: a12 :: a13 :: old :: ls) (.null :: st) G I L := by
  obtain ⟨p, l, e, R, s, m, args, below, meth, c, Q, w'⟩ := X
  intro H locs la r1 r2 r3
  exact lv_astoreN h.1 h.2.1 d r3.2 (by have := r3.1; simp at this; omega) rfl (fun la' q => k H locs la' r1 r2 (r3.st1 (i := 14) (v := .null) (hp_of (i := 13) rfl hp) q))
theorem aw_lstore14 (h : CX X cc own rt mL F Lo mc ms w) {a0 a1 a2 a3 a4 a5 a6 a7 a8 a9 a10 a11 a12 a13 : Option Value} {old old2 : Option Value} {x : Int64} (hp : cat1 a13 = true) (d : decode cc pc = .ok (.lstore 14, 2)) (k : AW X cs ss (pc + 2) (a0 :: a1 :: a2 :: a3 :: a4 :: a5 :: a6 :: a7 :: a8 :: a9 :: a10 :: a11 :: a12 :: a13 :: some (.long x) :: none :: ls) st G I L) : AW X cs ss pc (a0 :: a1 :: a2 :: a3 :: a4 :: a5 :: a6 :: a7 :: a8 :: a9 :: a10 :: a11 :: a12 :: a13 :: old :: old2 :: ls) (.long x :: st) G I L := by
  obtain ⟨p, l, e, R, s, m, args, below, meth, c, Q, w'⟩ := X
  intro H locs la r1 r2 r3
  exact lv_lstore h.1 h.2.1 d r3.2 (by have := r3.1; simp at this; omega) rfl (fun la' q => k H locs la' r1 r2 (r3.st2 (i := 14) (v := .long x) (hp_of (i := 13) rfl hp) q))
theorem aw_iinc14 (h : CX X cc own rt mL F Lo mc ms w) {a0 a1 a2 a3 a4 a5 a6 a7 a8 a9 a10 a11 a12 a13 : Option Value} {x y : Int32} {n : Int} (hv : x + Int32.ofInt n = y) (hp : cat1 a13 = true) (d : decode cc pc = .ok (.iinc 14 n, 3)) (k : AW X cs ss (pc + 3) (a0 :: a1 :: a2 :: a3 :: a4 :: a5 :: a6 :: a7 :: a8 :: a9 :: a10 :: a11 :: a12 :: a13 :: some (.int y) :: ls) st G I L) : AW X cs ss pc (a0 :: a1 :: a2 :: a3 :: a4 :: a5 :: a6 :: a7 :: a8 :: a9 :: a10 :: a11 :: a12 :: a13 :: some (.int x) :: ls) st G I L := by
  obtain ⟨p, l, e, R, s, m, args, below, meth, c, Q, w'⟩ := X
  intro H locs la r1 r2 r3
  obtain ⟨ix, hix⟩ := List.getElem?_of_mem ((lpairs_mem (a0 :: a1 :: a2 :: a3 :: a4 :: a5 :: a6 :: a7 :: a8 :: a9 :: a10 :: a11 :: a12 :: a13 :: some (.int x) :: ls) 0 (14, .int x)).mpr ⟨14, rfl, by simp⟩)
  exact lv_iinc h.1 h.2.1 d r3.2 hix hv (by have := r3.1; simp at this; omega) rfl (fun la' q => k H locs la' r1 r2 (r3.st1 (i := 14) (v := .int y) (hp_of (i := 13) rfl hp) q))
theorem aw_iincN14 (h : CX X cc own rt mL F Lo mc ms w) {a0 a1 a2 a3 a4 a5 a6 a7 a8 a9 a10 a11 a12 a13 : Option Value} {a : Nat} (hp : cat1 a13 = true) (d : decode cc pc = .ok (.iinc 14 1, 3)) (k : AW X cs ss (pc + 3) (a0 :: a1 :: a2 :: a3 :: a4 :: a5 :: a6 :: a7 :: a8 :: a9 :: a10 :: a11 :: a12 :: a13 :: some (.int (nI (a + 1))) :: ls) st G I L) : AW X cs ss pc (a0 :: a1 :: a2 :: a3 :: a4 :: a5 :: a6 :: a7 :: a8 :: a9 :: a10 :: a11 :: a12 :: a13 :: some (.int (nI a)) :: ls) st G I L := by
  obtain ⟨p, l, e, R, s, m, args, below, meth, c, Q, w'⟩ := X
  intro H locs la r1 r2 r3
  obtain ⟨ix, hix⟩ := List.getElem?_of_mem ((lpairs_mem (a0 :: a1 :: a2 :: a3 :: a4 :: a5 :: a6 :: a7 :: a8 :: a9 :: a10 :: a11 :: a12 :: a13 :: some (.int (nI a)) :: ls) 0 (14, .int (nI a))).mpr ⟨14, rfl, by simp⟩)
  exact lv_iinc h.1 h.2.1 d r3.2 hix (nI_1 a) (by have := r3.1; simp at this; omega) rfl (fun la' q => k H locs la' r1 r2 (r3.st1 (i := 14) (v := .int (nI (a + 1))) (hp_of (i := 13) rfl hp) q))
theorem aw_iload15 (h : CX X cc own rt mL F Lo mc ms w) {a0 a1 a2 a3 a4 a5 a6 a7 a8 a9 a10 a11 a12 a13 a14 : Option Value} {x : Int32} (d : decode cc pc = .ok (.iload 15, 2)) (k : AW X cs ss (pc + 2) (a0 :: a1 :: a2 :: a3 :: a4 :: a5 :: a6 :: a7 :: a8 :: a9 :: a10 :: a11 :: a12 :: a13 :: a14 :: some (.int x) :: ls) (.int x :: st) G I L) : AW X cs ss pc (a0 :: a1 :: a2 :: a3 :: a4 :: a5 :: a6 :: a7 :: a8 :: a9 :: a10 :: a11 :: a12 :: a13 :: a14 :: some (.int x) :: ls) st G I L := by
  obtain ⟨p, l, e, R, s, m, args, below, meth, c, Q, w'⟩ := X
  intro H locs la r1 r2 r3
  exact lv_iload h.1 h.2.1 d (r3.at (k := 15) rfl) (k H locs la r1 r2 r3)
theorem aw_lload15 (h : CX X cc own rt mL F Lo mc ms w) {a0 a1 a2 a3 a4 a5 a6 a7 a8 a9 a10 a11 a12 a13 a14 : Option Value} {x : Int64} (d : decode cc pc = .ok (.lload 15, 2)) (k : AW X cs ss (pc + 2) (a0 :: a1 :: a2 :: a3 :: a4 :: a5 :: a6 :: a7 :: a8 :: a9 :: a10 :: a11 :: a12 :: a13 :: a14 :: some (.long x) :: ls) (.long x :: st) G I L) : AW X cs ss pc (a0 :: a1 :: a2 :: a3 :: a4 :: a5 :: a6 :: a7 :: a8 :: a9 :: a10 :: a11 :: a12 :: a13 :: a14 :: some (.long x) :: ls) st G I L := by
  obtain ⟨p, l, e, R, s, m, args, below, meth, c, Q, w'⟩ := X
  intro H locs la r1 r2 r3
  exact lv_lload h.1 h.2.1 d (r3.at (k := 15) rfl) (k H locs la r1 r2 r3)
theorem aw_aload15 (h : CX X cc own rt mL F Lo mc ms w) {a0 a1 a2 a3 a4 a5 a6 a7 a8 a9 a10 a11 a12 a13 a14 : Option Value} {x : Nat} (d : decode cc pc = .ok (.aload 15, 2)) (k : AW X cs ss (pc + 2) (a0 :: a1 :: a2 :: a3 :: a4 :: a5 :: a6 :: a7 :: a8 :: a9 :: a10 :: a11 :: a12 :: a13 :: a14 :: some (.ref x) :: ls) (.ref x :: st) G I L) : AW X cs ss pc (a0 :: a1 :: a2 :: a3 :: a4 :: a5 :: a6 :: a7 :: a8 :: a9 :: a10 :: a11 :: a12 :: a13 :: a14 :: some (.ref x) :: ls) st G I L := by
  obtain ⟨p, l, e, R, s, m, args, below, meth, c, Q, w'⟩ := X
  intro H locs la r1 r2 r3
  exact lv_aload h.1 h.2.1 d (r3.at (k := 15) rfl) (k H locs la r1 r2 r3)
theorem aw_aloadN15 (h : CX X cc own rt mL F Lo mc ms w) {a0 a1 a2 a3 a4 a5 a6 a7 a8 a9 a10 a11 a12 a13 a14 : Option Value} (d : decode cc pc = .ok (.aload 15, 2)) (k : AW X cs ss (pc + 2) (a0 :: a1 :: a2 :: a3 :: a4 :: a5 :: a6 :: a7 :: a8 :: a9 :: a10 :: a11 :: a12 :: a13 :: a14 :: some .null :: ls) (.null :: st) G I L) : AW X cs ss pc (a0 :: a1 :: a2 :: a3 :: a4 :: a5 :: a6 :: a7 :: a8 :: a9 :: a10 :: a11 :: a12 :: a13 :: a14 :: some .null :: ls) st G I L := by
  obtain ⟨p, l, e, R, s, m, args, below, meth, c, Q, w'⟩ := X
  intro H locs la r1 r2 r3
  exact lv_aloadN h.1 h.2.1 d (r3.at (k := 15) rfl) (k H locs la r1 r2 r3)
theorem aw_istore15 (h : CX X cc own rt mL F Lo mc ms w) {a0 a1 a2 a3 a4 a5 a6 a7 a8 a9 a10 a11 a12 a13 a14 : Option Value} {old : Option Value} {x : Int32} (hp : cat1 a14 = true) (d : decode cc pc = .ok (.istore 15, 2)) (k : AW X cs ss (pc + 2) (a0 :: a1 :: a2 :: a3 :: a4 :: a5 :: a6 :: a7 :: a8 :: a9 :: a10 :: a11 :: a12 :: a13 :: a14 :: some (.int x) :: ls) st G I L) : AW X cs ss pc (a0 :: a1 :: a2 :: a3 :: a4 :: a5 :: a6 :: a7 :: a8 :: a9 :: a10 :: a11 :: a12 :: a13 :: a14 :: old :: ls) (.int x :: st) G I L := by
  obtain ⟨p, l, e, R, s, m, args, below, meth, c, Q, w'⟩ := X
  intro H locs la r1 r2 r3
  exact lv_istore h.1 h.2.1 d r3.2 (by have := r3.1; simp at this; omega) rfl (fun la' q => k H locs la' r1 r2 (r3.st1 (i := 15) (v := .int x) (hp_of (i := 14) rfl hp) q))
theorem aw_astore15 (h : CX X cc own rt mL F Lo mc ms w) {a0 a1 a2 a3 a4 a5 a6 a7 a8 a9 a10 a11 a12 a13 a14 : Option Value} {old : Option Value} {x : Nat} (hp : cat1 a14 = true) (d : decode cc pc = .ok (.astore 15, 2)) (k : AW X cs ss (pc + 2) (a0 :: a1 :: a2 :: a3 :: a4 :: a5 :: a6 :: a7 :: a8 :: a9 :: a10 :: a11 :: a12 :: a13 :: a14 :: some (.ref x) :: ls) st G I L) : AW X cs ss pc (a0 :: a1 :: a2 :: a3 :: a4 :: a5 :: a6 :: a7 :: a8 :: a9 :: a10 :: a11 :: a12 :: a13 :: a14 :: old :: ls) (.ref x :: st) G I L := by
  obtain ⟨p, l, e, R, s, m, args, below, meth, c, Q, w'⟩ := X
  intro H locs la r1 r2 r3
  exact lv_astore h.1 h.2.1 d r3.2 (by have := r3.1; simp at this; omega) rfl (fun la' q => k H locs la' r1 r2 (r3.st1 (i := 15) (v := .ref x) (hp_of (i := 14) rfl hp) q))
theorem aw_astoreN15 (h : CX X cc own rt mL F Lo mc ms w) {a0 a1 a2 a3 a4 a5 a6 a7 a8 a9 a10 a11 a12 a13 a14 : Option Value} {old : Option Value} (hp : cat1 a14 = true) (d : decode cc pc = .ok (.astore 15, 2)) (k : AW X cs ss (pc + 2) (a0 :: a1 :: a2 :: a3 :: a4 :: a5 :: a6 :: a7 :: a8 :: a9 :: a10 :: a11 :: a12 :: a13 :: a14 :: some (.null) :: ls) st G I L) : AW X cs ss pc (a0 :: a1 :: a2 :: a3 :: a4 :: a5 :: a6 :: a7 :: a8 :: a9 :: a10 :: a11 :: a12 :: a13 :: a14 :: old :: ls) (.null :: st) G I L := by
  obtain ⟨p, l, e, R, s, m, args, below, meth, c, Q, w'⟩ := X
  intro H locs la r1 r2 r3
  exact lv_astoreN h.1 h.2.1 d r3.2 (by have := r3.1; simp at this; omega) rfl (fun la' q => k H locs la' r1 r2 (r3.st1 (i := 15) (v := .null) (hp_of (i := 14) rfl hp) q))
theorem aw_iinc15 (h : CX X cc own rt mL F Lo mc ms w) {a0 a1 a2 a3 a4 a5 a6 a7 a8 a9 a10 a11 a12 a13 a14 : Option Value} {x y : Int32} {n : Int} (hv : x + Int32.ofInt n = y) (hp : cat1 a14 = true) (d : decode cc pc = .ok (.iinc 15 n, 3)) (k : AW X cs ss (pc + 3) (a0 :: a1 :: a2 :: a3 :: a4 :: a5 :: a6 :: a7 :: a8 :: a9 :: a10 :: a11 :: a12 :: a13 :: a14 :: some (.int y) :: ls) st G I L) : AW X cs ss pc (a0 :: a1 :: a2 :: a3 :: a4 :: a5 :: a6 :: a7 :: a8 :: a9 :: a10 :: a11 :: a12 :: a13 :: a14 :: some (.int x) :: ls) st G I L := by
  obtain ⟨p, l, e, R, s, m, args, below, meth, c, Q, w'⟩ := X
  intro H locs la r1 r2 r3
  obtain ⟨ix, hix⟩ := List.getElem?_of_mem ((lpairs_mem (a0 :: a1 :: a2 :: a3 :: a4 :: a5 :: a6 :: a7 :: a8 :: a9 :: a10 :: a11 :: a12 :: a13 :: a14 :: some (.int x) :: ls) 0 (15, .int x)).mpr ⟨15, rfl, by simp⟩)
  exact lv_iinc h.1 h.2.1 d r3.2 hix hv (by have := r3.1; simp at this; omega) rfl (fun la' q => k H locs la' r1 r2 (r3.st1 (i := 15) (v := .int y) (hp_of (i := 14) rfl hp) q))
theorem aw_iincN15 (h : CX X cc own rt mL F Lo mc ms w) {a0 a1 a2 a3 a4 a5 a6 a7 a8 a9 a10 a11 a12 a13 a14 : Option Value} {a : Nat} (hp : cat1 a14 = true) (d : decode cc pc = .ok (.iinc 15 1, 3)) (k : AW X cs ss (pc + 3) (a0 :: a1 :: a2 :: a3 :: a4 :: a5 :: a6 :: a7 :: a8 :: a9 :: a10 :: a11 :: a12 :: a13 :: a14 :: some (.int (nI (a + 1))) :: ls) st G I L) : AW X cs ss pc (a0 :: a1 :: a2 :: a3 :: a4 :: a5 :: a6 :: a7 :: a8 :: a9 :: a10 :: a11 :: a12 :: a13 :: a14 :: some (.int (nI a)) :: ls) st G I L := by
  obtain ⟨p, l, e, R, s, m, args, below, meth, c, Q, w'⟩ := X
  intro H locs la r1 r2 r3
  obtain ⟨ix, hix⟩ := List.getElem?_of_mem ((lpairs_mem (a0 :: a1 :: a2 :: a3 :: a4 :: a5 :: a6 :: a7 :: a8 :: a9 :: a10 :: a11 :: a12 :: a13 :: a14 :: some (.int (nI a)) :: ls) 0 (15, .int (nI a))).mpr ⟨15, rfl, by simp⟩)
  exact lv_iinc h.1 h.2.1 d r3.2 hix (nI_1 a) (by have := r3.1; simp at this; omega) rfl (fun la' q => k H locs la' r1 r2 (r3.st1 (i := 15) (v := .int (nI (a + 1))) (hp_of (i := 14) rfl hp) q))
theorem aw_if_eq (h : CX X cc own rt mL F Lo mc ms w) {x : Int32} {off : Int} {tgt : Nat} (d : decode cc pc = .ok (.ifCond .eq off, 3)) (ht : (pc : Int) + off = (tgt : Int)) (kt : x = 0 → AW X cs ss tgt ls st G I L) (kf : ¬ (x = 0) → AW X cs ss (pc + 3) ls st G I L) : AW X cs ss pc ls (.int x :: st) G I L := by
  obtain ⟨p, l, e, R, s, m, args, below, meth, c, Q, w'⟩ := X
  intro H locs la r1 r2 r3
  exact lv_if_eq h.1 h.2.1 d ht (fun q => kt q H locs la r1 r2 r3) (fun q => kf q H locs la r1 r2 r3)
theorem aw_icmp_eq (h : CX X cc own rt mL F Lo mc ms w) {x y : Int32} {off : Int} {tgt : Nat} (d : decode cc pc = .ok (.if_icmp .eq off, 3)) (ht : (pc : Int) + off = (tgt : Int)) (kt : x = y → AW X cs ss tgt ls st G I L) (kf : ¬ (x = y) → AW X cs ss (pc + 3) ls st G I L) : AW X cs ss pc ls (.int y :: .int x :: st) G I L := by
  obtain ⟨p, l, e, R, s, m, args, below, meth, c, Q, w'⟩ := X
  intro H locs la r1 r2 r3
  exact lv_icmp_eq h.1 h.2.1 d ht (fun q => kt q H locs la r1 r2 r3) (fun q => kf q H locs la r1 r2 r3)
theorem aw_if_ne (h : CX X cc own rt mL F Lo mc ms w) {x : Int32} {off : Int} {tgt : Nat} (d : decode cc pc = .ok (.ifCond .ne off, 3)) (ht : (pc : Int) + off = (tgt : Int)) (kt : ¬ x = 0 → AW X cs ss tgt ls st G I L) (kf : x = 0 → AW X cs ss (pc + 3) ls st G I L) : AW X cs ss pc ls (.int x :: st) G I L := by
  obtain ⟨p, l, e, R, s, m, args, below, meth, c, Q, w'⟩ := X
  intro H locs la r1 r2 r3
  exact lv_if_ne h.1 h.2.1 d ht (fun q => kt q H locs la r1 r2 r3) (fun q => kf q H locs la r1 r2 r3)
theorem aw_icmp_ne (h : CX X cc own rt mL F Lo mc ms w) {x y : Int32} {off : Int} {tgt : Nat} (d : decode cc pc = .ok (.if_icmp .ne off, 3)) (ht : (pc : Int) + off = (tgt : Int)) (kt : ¬ x = y → AW X cs ss tgt ls st G I L) (kf : x = y → AW X cs ss (pc + 3) ls st G I L) : AW X cs ss pc ls (.int y :: .int x :: st) G I L := by
  obtain ⟨p, l, e, R, s, m, args, below, meth, c, Q, w'⟩ := X
  intro H locs la r1 r2 r3
  exact lv_icmp_ne h.1 h.2.1 d ht (fun q => kt q H locs la r1 r2 r3) (fun q => kf q H locs la r1 r2 r3)
theorem aw_if_lt (h : CX X cc own rt mL F Lo mc ms w) {x : Int32} {off : Int} {tgt : Nat} (d : decode cc pc = .ok (.ifCond .lt off, 3)) (ht : (pc : Int) + off = (tgt : Int)) (kt : x < 0 → AW X cs ss tgt ls st G I L) (kf : ¬ (x < 0) → AW X cs ss (pc + 3) ls st G I L) : AW X cs ss pc ls (.int x :: st) G I L := by
  obtain ⟨p, l, e, R, s, m, args, below, meth, c, Q, w'⟩ := X
  intro H locs la r1 r2 r3
  exact lv_if_lt h.1 h.2.1 d ht (fun q => kt q H locs la r1 r2 r3) (fun q => kf q H locs la r1 r2 r3)
theorem aw_icmp_lt (h : CX X cc own rt mL F Lo mc ms w) {x y : Int32} {off : Int} {tgt : Nat} (d : decode cc pc = .ok (.if_icmp .lt off, 3)) (ht : (pc : Int) + off = (tgt : Int)) (kt : x < y → AW X cs ss tgt ls st G I L) (kf : ¬ (x < y) → AW X cs ss (pc + 3) ls st G I L) : AW X cs ss pc ls (.int y :: .int x :: st) G I L := by
  obtain ⟨p, l, e, R, s, m, args, below, meth, c, Q, w'⟩ := X
  intro H locs la r1 r2 r3
  exact lv_icmp_lt h.1 h.2.1 d ht (fun q => kt q H locs la r1 r2 r3) (fun q => kf q H locs la r1 r2 r3)
theorem aw_if_ge (h : CX X cc own rt mL F Lo mc ms w) {x : Int32} {off : Int} {tgt : Nat} (d : decode cc pc = .ok (.ifCond .ge off, 3)) (ht : (pc : Int) + off = (tgt : Int)) (kt : 0 ≤ x → AW X cs ss tgt ls st G I L) (kf : ¬ (0 ≤ x) → AW X cs ss (pc + 3) ls st G I L) : AW X cs ss pc ls (.int x :: st) G I L := by
  obtain ⟨p, l, e, R, s, m, args, below, meth, c, Q, w'⟩ := X
  intro H locs la r1 r2 r3
  exact lv_if_ge h.1 h.2.1 d ht (fun q => kt q H locs la r1 r2 r3) (fun q => kf q H locs la r1 r2 r3)
theorem aw_icmp_ge (h : CX X cc own rt mL F Lo mc ms w) {x y : Int32} {off : Int} {tgt : Nat} (d : decode cc pc = .ok (.if_icmp .ge off, 3)) (ht : (pc : Int) + off = (tgt : Int)) (kt : y ≤ x → AW X cs ss tgt ls st G I L) (kf : ¬ (y ≤ x) → AW X cs ss (pc + 3) ls st G I L) : AW X cs ss pc ls (.int y :: .int x :: st) G I L := by
  obtain ⟨p, l, e, R, s, m, args, below, meth, c, Q, w'⟩ := X
  intro H locs la r1 r2 r3
  exact lv_icmp_ge h.1 h.2.1 d ht (fun q => kt q H locs la r1 r2 r3) (fun q => kf q H locs la r1 r2 r3)
theorem aw_if_gt (h : CX X cc own rt mL F Lo mc ms w) {x : Int32} {off : Int} {tgt : Nat} (d : decode cc pc = .ok (.ifCond .gt off, 3)) (ht : (pc : Int) + off = (tgt : Int)) (kt : 0 < x → AW X cs ss tgt ls st G I L) (kf : ¬ (0 < x) → AW X cs ss (pc + 3) ls st G I L) : AW X cs ss pc ls (.int x :: st) G I L := by
  obtain ⟨p, l, e, R, s, m, args, below, meth, c, Q, w'⟩ := X
  intro H locs la r1 r2 r3
  exact lv_if_gt h.1 h.2.1 d ht (fun q => kt q H locs la r1 r2 r3) (fun q => kf q H locs la r1 r2 r3)
theorem aw_icmp_gt (h : CX X cc own rt mL F Lo mc ms w) {x y : Int32} {off : Int} {tgt : Nat} (d : decode cc pc = .ok (.if_icmp .gt off, 3)) (ht : (pc : Int) + off = (tgt : Int)) (kt : y < x → AW X cs ss tgt ls st G I L) (kf : ¬ (y < x) → AW X cs ss (pc + 3) ls st G I L) : AW X cs ss pc ls (.int y :: .int x :: st) G I L := by
  obtain ⟨p, l, e, R, s, m, args, below, meth, c, Q, w'⟩ := X
  intro H locs la r1 r2 r3
  exact lv_icmp_gt h.1 h.2.1 d ht (fun q => kt q H locs la r1 r2 r3) (fun q => kf q H locs la r1 r2 r3)
theorem aw_if_le (h : CX X cc own rt mL F Lo mc ms w) {x : Int32} {off : Int} {tgt : Nat} (d : decode cc pc = .ok (.ifCond .le off, 3)) (ht : (pc : Int) + off = (tgt : Int)) (kt : x ≤ 0 → AW X cs ss tgt ls st G I L) (kf : ¬ (x ≤ 0) → AW X cs ss (pc + 3) ls st G I L) : AW X cs ss pc ls (.int x :: st) G I L := by
  obtain ⟨p, l, e, R, s, m, args, below, meth, c, Q, w'⟩ := X
  intro H locs la r1 r2 r3
  exact lv_if_le h.1 h.2.1 d ht (fun q => kt q H locs la r1 r2 r3) (fun q => kf q H locs la r1 r2 r3)
theorem aw_icmp_le (h : CX X cc own rt mL F Lo mc ms w) {x y : Int32} {off : Int} {tgt : Nat} (d : decode cc pc = .ok (.if_icmp .le off, 3)) (ht : (pc : Int) + off = (tgt : Int)) (kt : x ≤ y → AW X cs ss tgt ls st G I L) (kf : ¬ (x ≤ y) → AW X cs ss (pc + 3) ls st G I L) : AW X cs ss pc ls (.int y :: .int x :: st) G I L := by
  obtain ⟨p, l, e, R, s, m, args, below, meth, c, Q, w'⟩ := X
  intro H locs la r1 r2 r3
  exact lv_icmp_le h.1 h.2.1 d ht (fun q => kt q H locs la r1 r2 r3) (fun q => kf q H locs la r1 r2 r3)
theorem aw_goto (h : CX X cc own rt mL F Lo mc ms w) {off : Int} {tgt : Nat} (d : decode cc pc = .ok (.goto off, 3)) (ht : (pc : Int) + off = (tgt : Int)) (k : AW X cs ss tgt ls st G I L) : AW X cs ss pc ls st G I L := by
  obtain ⟨p, l, e, R, s, m, args, below, meth, c, Q, w'⟩ := X
  intro H locs la r1 r2 r3
  exact lv_goto h.1 h.2.1 d ht (k H locs la r1 r2 r3)
end AW2
