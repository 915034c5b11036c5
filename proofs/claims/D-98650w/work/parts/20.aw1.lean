/-! The layer AW: memory by numbers of cells, one lemma an instruction -/
set_option maxRecDepth 100000
abbrev Gm : Type := Nat × (Nat → Nat × Nat) × (Nat → Nat → Option Nat)
abbrev Im : Type := Nat → Nat → Int32
abbrev Lm : Type := Nat → Nat → Int64
/-- the run's constants: base address; classes; array classes; Strings' cells, their values; NAMES; the class object of Object[] -/
abbrev Wd : Type := Nat × va_G × (Nat → ClassId) × (Nat → Nat) × (Nat → Nat) × Nat × Nat
abbrev vwCl : List vw_C := [(RX0, TX0, 32), (RX1, TX1, 6), (RX2, TX2, 6), (RX3, TX3, 7), (RX4, TX4, 44), (RX5, TX5, 7), (RX6, TX6, 3), (RX7, TX7, 3), (RX8, TX8, 1), (RX8, TX8, 1), (RX10, TX10, 1), (RX11, TX11, 1), (RX12, TX12, 3), (RX13, TX13, 2), (RX8, TX8, 1), (RX15, TX15, 1), (RX16, TX16, 4), (RX17, TX17, 3), (RX18, TX18, 9), (RJ2, TJ2, 3)]
/-- by class, by field: 0 int, 1 long, 2 a cell of the run, 3 another cell -/
def ftab : Nat → List Nat
  | 0 => [2, 2, 2, 2, 0, 2, 2, 0, 2, 2, 2, 0, 0, 2, 2, 2, 2, 2, 2, 2, 0, 0, 2, 2, 2, 2, 0, 0, 2, 2, 2, 2]
  | 1 => [2, 2, 2, 0, 0, 0]
  | 2 => [2, 2, 2, 2, 2, 0]
  | 3 => [2, 3, 3, 2, 2, 0, 0]
  | 4 => [2, 0, 0, 2, 2, 2, 2, 2, 0, 0, 0, 0, 0, 0, 0, 2, 0, 2, 0, 2, 2, 0, 0, 2, 2, 2, 2, 0, 2, 2, 2, 0, 0, 0, 0, 0, 2, 2, 2, 1, 2, 2, 2, 2]
  | 5 => [3, 0, 0, 0, 0, 0, 2]
  | 6 => [0, 0, 0]
  | 7 => [0, 0, 0]
  | 8 => [2]
  | 10 => [0]
  | 11 => [0]
  | 12 => [2, 2, 0]
  | 13 => [2, 2]
  | 15 => [2]
  | 16 => [2, 2, 0, 0]
  | 17 => [2, 2, 0]
  | 18 => [2, 2, 2, 2, 2, 0, 0, 0, 2]
  | 19 => [0, 2, 0]
  | _ => []
def fcode (k j : Nat) : Nat := (ftab k).getD j 0
def nfld (k : Nat) : Nat := (ftab k).length
def fval (B : Nat) (G : Gm) (I : Im) (L : Lm) (n j : Nat) : Nat → Value
  | 0 => .int (I n j)
  | 1 => .long (L n j)
  | 2 => va_rf ((G.2.2 n j).map (fun q => B + q))
  | _ => va_rf (G.2.2 n j)
def fvals (B : Nat) (G : Gm) (I : Im) (L : Lm) (n k : Nat) : List Value := (List.range (nfld k)).map (fun j => fval B G I L n j (fcode k j))
def cellE (w : Wd) (G : Gm) (I : Im) (L : Lm) (n : Nat) : va_E :=
  if (G.2.1 n).1 < 100 then .inr ((G.2.1 n).1, fvals w.1 G I L n (G.2.1 n).1)
  else if (G.2.1 n).1 = 101 then .inl (w.2.2.1 (G.2.1 n).1, (G.2.1 n).2, .inr (.inl (L n)))
  else if (G.2.1 n).1 < 104 then .inl (w.2.2.1 (G.2.1 n).1, (G.2.1 n).2, .inl (I n))
  else .inl (w.2.2.1 (G.2.1 n).1, (G.2.1 n).2, .inr (.inr (.inr (.inr (fun j => (G.2.2 n j).map (fun q => w.1 + q))))))
abbrev tysOf (w : Wd) : List (ClassId × FieldType) := [(w.2.2.1 100, .int), (w.2.2.1 101, .long), (w.2.2.1 102, .byte), (w.2.2.1 103, .boolean), (w.2.2.1 104, .object "OutwardDoors$State"), (w.2.2.1 105, .object "OutwardDoors$Image"), (w.2.2.1 106, .object "java/lang/Object")]
def wsOf (w : Wd) (G : Gm) (I : Im) (L : Lm) : va_W := (List.range G.1).map (fun n => (w.1 + n, cellE w G I L n))
def Rel (w : Wd) (G : Gm) (I : Im) (L : Lm) (H : Heap) : Prop := va_P w.2.1 vwCl (wsOf w G I L) H ∧ H.size = w.1 + G.1
theorem wsOf_at {w : Wd} {G : Gm} {I : Im} {L : Lm} {n : Nat} (h : n < G.1) : (wsOf w G I L)[n]? = some (w.1 + n, cellE w G I L n) := by
  simp [wsOf, h]
theorem Rel.at {w : Wd} {G : Gm} {I : Im} {L : Lm} {H : Heap} (h : Rel w G I L H) {n : Nat} (hn : n < G.1) : va_at w.2.1 vwCl (w.1 + n, cellE w G I L n) H := h.1 n _ (wsOf_at hn)
theorem Rel.of {w : Wd} {G : Gm} {I : Im} {L : Lm} {H : Heap} (h : ∀ n, n < G.1 → va_at w.2.1 vwCl (w.1 + n, cellE w G I L n) H) (hz : H.size = w.1 + G.1) : Rel w G I L H := by
  refine ⟨fun k q hk => ?_, hz⟩
  have hl : k < G.1 := by
    have := (List.getElem?_eq_some_iff.mp hk).1
    simpa [wsOf] using this
  rw [wsOf_at hl] at hk
  cases hk
  exact h k hl
/-- one cell changed -/
theorem Rel.set {w : Wd} {G G' : Gm} {I I' : Im} {L L' : Lm} {H H1 : Heap} {n : Nat} (h : Rel w G I L H) (hn : n < G.1) (hN : G'.1 = G.1) (he : va_at w.2.1 vwCl (w.1 + n, cellE w G' I' L' n) H1) (ho : ∀ j, j ≠ n → cellE w G' I' L' j = cellE w G I L j) (hz : H1.size = H.size) (oq : ∀ q : Nat, q ≠ w.1 + n → H1[q]? = H[q]?) : Rel w G' I' L' H1 := by
  refine Rel.of (fun j hj => ?_) (by rw [hz, h.2, hN])
  by_cases hjn : j = n
  · subst hjn; exact he
  · rw [ho j hjn]
    exact (h.at (by omega)).kept (oq _ (by show w.1 + j ≠ _; omega))
/-- one cell more -/
theorem Rel.push {w : Wd} {G G' : Gm} {I I' : Im} {L L' : Lm} {H H1 : Heap} (h : Rel w G I L H) (hN : G'.1 = G.1 + 1) (he : va_at w.2.1 vwCl (w.1 + G.1, cellE w G' I' L' G.1) H1) (ho : ∀ j, j < G.1 → cellE w G' I' L' j = cellE w G I L j) (hz : H1.size = H.size + 1) (oq : ∀ q : Nat, q < H.size → H1[q]? = H[q]?) : Rel w G' I' L' H1 := by
  refine Rel.of (fun j hj => ?_) (by rw [hz, h.2, hN]; omega)
  by_cases hjn : j = G.1
  · subst hjn; exact he
  · have hl : j < G.1 := by omega
    rw [ho j hl]
    exact (h.at hl).kept (oq _ (by have := h.2; show w.1 + j < _; omega))
/-- the shape of a cell -/
def SHP (G : Gm) (n k len : Nat) : Prop := n < G.1 ∧ G.2.1 n = (k, len)
theorem cellE_obj {w : Wd} {G : Gm} {I : Im} {L : Lm} {n k len : Nat} (h : SHP G n k len) (hk : k < 100) : cellE w G I L n = .inr (k, fvals w.1 G I L n k) := by
  unfold cellE; rw [h.2]; rw [if_pos hk]
theorem cellE_int {w : Wd} {G : Gm} {I : Im} {L : Lm} {n k len : Nat} (h : SHP G n k len) (hk : k = 100 ∨ k = 102 ∨ k = 103) : cellE w G I L n = .inl (w.2.2.1 k, len, .inl (I n)) := by
  unfold cellE; rw [h.2]; dsimp only
  rcases hk with rfl | rfl | rfl <;> rfl
theorem cellE_long {w : Wd} {G : Gm} {I : Im} {L : Lm} {n len : Nat} (h : SHP G n 101 len) : cellE w G I L n = .inl (w.2.2.1 101, len, .inr (.inl (L n))) := by
  unfold cellE; rw [h.2]; rfl
theorem cellE_ref {w : Wd} {G : Gm} {I : Im} {L : Lm} {n k len : Nat} (h : SHP G n k len) (hk : 104 ≤ k) : cellE w G I L n = .inl (w.2.2.1 k, len, .inr (.inr (.inr (.inr (fun j => (G.2.2 n j).map (fun q => w.1 + q)))))) := by
  unfold cellE; rw [h.2]; dsimp only
  rw [if_neg (by omega), if_neg (by omega), if_neg (by omega)]
theorem fvals_at {B : Nat} {G : Gm} {I : Im} {L : Lm} {n k j : Nat} (h : j < nfld k) : (fvals B G I L n k)[j]? = some (fval B G I L n j (fcode k j)) := by
  simp [fvals, h]
/-- cells whose contents are the same are the same -/
theorem cellE_same {w : Wd} {G G' : Gm} {I I' : Im} {L L' : Lm} {j : Nat} (hs : G'.2.1 j = G.2.1 j) (hp : G'.2.2 j = G.2.2 j) (hi : I' j = I j) (hl : L' j = L j) : cellE w G' I' L' j = cellE w G I L j := by
  unfold cellE fvals
  rw [hs, hi, hl, hp]
  have : ∀ i c, fval w.1 G' I' L' j i c = fval w.1 G I L j i c := by
    intro i c
    unfold fval
    rw [hp, hi, hl]
  simp only [this]
theorem vup_s {α : Type} (f : Nat → α) (k : Nat) (v : α) : va_up f k v k = v := by simp [va_up]
theorem vup_n {α : Type} (f : Nat → α) {k j : Nat} (v : α) (h : j ≠ k) : va_up f k v j = f j := by simp [va_up, h]
theorem vup_vup {α : Type} (f : Nat → α) (k : Nat) (v w : α) : va_up (va_up f k v) k w = va_up f k w := by
  funext j; by_cases h : j = k <;> simp [va_up, h]
theorem vup_id {α : Type} (f : Nat → α) (k : Nat) : va_up f k (f k) = f := by
  funext j; by_cases h : j = k <;> simp [va_up, h]
abbrev upd2 {α : Type} (I : Nat → Nat → α) (n i : Nat) (x : α) : Nat → Nat → α := va_up I n (va_up (I n) i x)
/-- words of the tables that don't ride in the lists -/
def TW (U : State) : Prop := (∀ a i b n d h, Cond.fieldLinkNest a i b n d h ∈ lw_tbl → va_Nw (.fieldLinkNest a i b n d h) U) ∧ (∀ a i x h, Cond.methodLinkNest a i x h ∈ lw_tbl → va_Nw (.methodLinkNest a i x h) U) ∧ (∀ a b, Cond.castable a b ∈ lw_tbl → va_Nw (.castable a b) U) ∧ (∀ x, Cond.declares x ∈ lw_tbl → va_Nw (.declares x) U) ∧ (∀ C, Cond.arrayOver (.object C) ∈ lw_tbl → va_AO C U)
theorem TW.of {A : Array Value} {U : State} (h : ∀ w ∈ lw_tbl, w.before A U = true) : TW U :=
  ⟨fun _ _ _ _ _ _ q => va_Nw.of rfl (h _ q), fun _ _ _ _ q => va_Nw.of rfl (h _ q), fun _ _ q => va_Nw.of rfl (h _ q), fun _ q => va_Nw.of rfl (h _ q), fun _ q => va_AO.of (h _ q)⟩
theorem TW.warm {s U : State} (hW : s.WarmedH U.vm) (h : TW s) : TW U :=
  ⟨fun _ _ _ _ _ _ q => va_Nw.warmF hW (h.1 _ _ _ _ _ _ q), fun _ _ _ _ q => va_Nw.warmM hW (h.2.1 _ _ _ _ q), fun _ _ q => va_Nw.warmC hW (h.2.2.1 _ _ q), fun _ q => va_Nw.warmD hW (h.2.2.2.1 _ q), fun _ q => va_AO.moved hW.alike (h.2.2.2.2 _ q)⟩
theorem TW.same {u U : State} (hv : u.vm = U.vm) (h : TW u) : TW U :=
  ⟨fun _ _ _ _ _ _ q => va_Nw.same rfl hv (h.1 _ _ _ _ _ _ q), fun _ _ _ _ q => va_Nw.same rfl hv (h.2.1 _ _ _ _ q), fun _ _ q => va_Nw.same rfl hv (h.2.2.1 _ _ q), fun _ q => va_Nw.same rfl hv (h.2.2.2.1 _ q), fun _ q => va_AO.moved (by rw [hv]; exact Vm.Alike.refl _) (h.2.2.2.2 _ q)⟩
/-- the Strings of the run: place, owner, entry, text -/
def strTab : List (Nat × String × Nat × String) := [(0, "OutwardDoors", 427, "person"), (1, "OutwardDoors", 429, "room"), (2, "OutwardDoors", 430, "far"), (3, "OutwardDoors", 431, "goal"), (4, "OutwardDoors", 432, "left"), (5, "OutwardDoors", 433, "pay"), (6, "OutwardDoors", 434, "moment"), (7, "OutwardDoors", 435, "night"), (8, "OutwardDoors", 437, "here"), (9, "OutwardDoors", 439, "in"), (10, "OutwardDoors", 440, "out"), (11, "OutwardDoors", 442, "asked"),
  (12, "OutwardDoors$Parser", 195, "castle"), (2, "OutwardDoors$Parser", 201, "far"), (13, "OutwardDoors$Parser", 206, "door"), (14, "OutwardDoors$Parser", 211, "window"), (7, "OutwardDoors$Parser", 213, "night"), (0, "OutwardDoors$Parser", 218, "person"), (15, "OutwardDoors$Parser", 225, "go"), (16, "OutwardDoors$Parser", 234, "if"), (17, "OutwardDoors$Parser", 107, "not"), (18, "OutwardDoors$Parser", 132, "and"), (19, "OutwardDoors$Parser", 145, "or")]
def strBytes : List (List Int32) := [[112, 101, 114, 115, 111, 110], [114, 111, 111, 109], [102, 97, 114], [103, 111, 97, 108], [108, 101, 102, 116], [112, 97, 121], [109, 111, 109, 101, 110, 116], [110, 105, 103, 104, 116], [104, 101, 114, 101], [105, 110], [111, 117, 116], [97, 115, 107, 101, 100],
  [99, 97, 115, 116, 108, 101], [100, 111, 111, 114], [119, 105, 110, 100, 111, 119], [103, 111], [105, 102], [110, 111, 116], [97, 110, 100], [111, 114]]
def strLens : List Nat := strBytes.map List.length
/-- statics and Strings, all in cells below the run's own -/
def SF (w : Wd) (U : State) : Prop :=
  va_Z "OutwardDoors" "NAMES" "[Ljava/lang/String;" (.ref w.2.2.2.2.2.1) (fun q => w.1 ≤ q) U U.heap ∧ va_Z "java/lang/String" "COMPACT_STRINGS" "Z" (.int 1) (fun q => w.1 ≤ q) U U.heap ∧
  va_T (.object "java/lang/String") w.2.2.2.2.2.1 12 (fun j => .ref (w.2.2.2.1 j)) (fun q => w.1 ≤ q) U U.heap ∧ vk_S 20 strLens strBytes w.2.2.2.1 w.2.2.2.2.1 (fun q => w.1 ≤ q) U U.heap ∧
  (∀ i own k tx, (i, own, k, tx) ∈ strTab → vk_R own k tx (w.2.2.2.1 i) U) ∧ va_Mi "[Ljava/lang/Object;" w.2.2.2.2.2.2 U ∧
  vx_Zq Bundle.tN "UNASSIGNED_STACK" Bundle.steD (fun q => w.1 ≤ q) U U.heap ∧ vx_Zq Bundle.tN "SUPPRESSED_SENTINEL" Bundle.listD (fun q => w.1 ≤ q) U U.heap
theorem SF.moved {w : Wd} {s U : State} (hW : s.WarmedH U.vm) (hq : ∀ a : Nat, a < s.heap.size → ¬ w.1 ≤ a → U.heap[a]? = s.heap[a]?) (h : SF w s) : SF w U :=
  ⟨(h.1.moved hW.alike).kept hq, (h.2.1.moved hW.alike).kept hq, (h.2.2.1.moved hW.alike).kept hq, (h.2.2.2.1.moved hW.alike).kept hq, fun i own k tx q => vk_R.warm hW (h.2.2.2.2.1 i own k tx q), h.2.2.2.2.2.1.moved hW.alike, (h.2.2.2.2.2.2.1.moved hW.alike).kept hq, (h.2.2.2.2.2.2.2.moved hW.alike).kept hq⟩
theorem SF.same {w : Wd} {s U : State} (hv : U.vm = s.vm) (hq : U.heap = s.heap) (h : SF w s) : SF w U := by
  have ha : s.vm.Alike U.vm := by rw [hv]; exact Vm.Alike.refl _
  have hk : ∀ a : Nat, a < s.heap.size → ¬ w.1 ≤ a → U.heap[a]? = s.heap[a]? := fun a _ _ => by rw [hq]
  exact ⟨(h.1.moved ha).kept hk, (h.2.1.moved ha).kept hk, (h.2.2.1.moved ha).kept hk, (h.2.2.2.1.moved ha).kept hk, fun i own k tx q => vk_R.same hv (h.2.2.2.2.1 i own k tx q), h.2.2.2.2.2.1.moved ha, (h.2.2.2.2.2.2.1.moved ha).kept hk, (h.2.2.2.2.2.2.2.moved ha).kept hk⟩
/-- what holds at a contract's start -/
def PS (w : Wd) (G : Gm) (I : Im) (L : Lm) (U : State) : Prop := Rel w G I L U.heap ∧ va_K w.2.1 vwCl (tysOf w) U ∧ TW U ∧ SF w U
abbrev Post : Type := Option Value → Gm → Im → Lm → Prop
def QA (w : Wd) (post : Post) : Array Value → State → Outcome → State → Prop := fun _ st oc t => (∃ (v : Option Value) (G : Gm) (I : Im) (L : Lm), oc = .returned v ∧ post v G I L ∧ Rel w G I L t.heap) ∧ va_F (fun q => w.1 ≤ q) st t
/-- the locals, by their places; a long's second place is none -/
def lpairs : Nat → List (Option Value) → List (Nat × Value)
  | _, [] => []
  | i, none :: r => lpairs (i + 1) r
  | i, some v :: r => (i, v) :: lpairs (i + 1) r
def LV (la : Array Slot) (nL : Nat) (ls : List (Option Value)) : Prop := ls.length = nL ∧ lv_has la nL (lpairs 0 ls)
abbrev Cx : Type := Program × Launch × Env × Room × State × MethodId × Array Value × List Frame × Method × Code × (State → Prop) × Wd
def AW (X : Cx) (cs ss pc : Nat) (ls : List (Option Value)) (st : List Value) (G : Gm) (I : Im) (L : Lm) : Prop :=
  match X with
  | (p, l, e, R, s, m, args, below, meth, c, Q, w) => ∀ (H : Heap) (locs : List Loc) (la : Array Slot), Rel w G I L H → va_S (fun q => w.1 ≤ q) s.heap H locs → LV la c.maxLocals ls → W p l e R s m args below meth c H locs cs ss Q (F0 m pc la st)
/-- the facts of a method's body: its code, class, answer's type; frames and locals' room at least F, Lo; cells and slots mc, ms -/
def CX (X : Cx) (cc : ByteArray) (own : String) (rt : Option FieldType) (mL F Lo mc ms : Nat) (w : Wd) : Prop :=
  match X with
  | (p, _, _, R, s, m, args, _, meth, c, _, w') => p.tables.exec = Jvm.exec ∧ c.code = cc ∧ meth.sig.returnType = rt ∧ meth.locks = false ∧ c.maxLocals = mL ∧ s.vm.findClass own = some m.cls ∧ (∀ z ∈ lw_all, z.before args s = true) ∧ va_K w.2.1 vwCl (tysOf w) s ∧ TW s ∧ SF w s ∧ w.1 ≤ s.heap.size ∧ F ≤ R.frames ∧ Lo ≤ R.locals ∧ R.cells = mc ∧ R.slots = ms ∧ w' = w
