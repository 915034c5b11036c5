/-! AW: calls, ends, starts -/
section AW5
variable {X : Cx} {cc : ByteArray} {own : String} {rt : Option FieldType} {mL F Lo mc ms : Nat} {w : Wd} {cs ss pc : Nat} {ls : List (Option Value)} {st : List Value} {G : Gm} {I : Im} {L : Lm}
/-- the contract, for any launch without stack traces -/
def AMet (w : Wd) (y : MethodName) (cd : ByteArray) (mL : Nat) (rt : Option FieldType) (F Lo mc ms : Nat) (av : List Value) (G : Gm) (I : Im) (L : Lm) (post : Post) : Prop :=
  ∀ l : Launch, l.flags = flags0 → Met l y (ws_ y cd mL rt) ({ frames := F, cells := mc, slots := ms, locals := Lo }) (va_Pc av (PS w G I L)) (QA w post) mc ms (fun q => w.1 ≤ q)
/-- the launch of a body has no stack traces -/
def LX (X : Cx) : Prop := match X with | (_, l, _, _, _, _, _, _, _, _, _, _) => l.flags = flags0
theorem PS.blind {av : List Value} : FrameBlind (va_Pc av (PS w G I L)) := by
  intro a U g mk q
  obtain ⟨q0, q1, q2, q3, q4⟩ := q
  exact ⟨q0, q1, va_K.moved (u := U) (U := U.calling g mk a) (Vm.Alike.refl U.vm) q2, TW.same (u := U) (U := U.calling g mk a) rfl q3, SF.same (s := U) (U := U.calling g mk a) rfl rfl q4⟩
theorem PS.after {s U : State} {H : Heap} {locs : List Loc} (hR : Rel w G I L H) (hS : va_S (fun q => w.1 ≤ q) s.heap H locs) (hK : va_K w.2.1 vwCl (tysOf w) s) (hT : TW s) (hF : SF w s) (hU : U.heap = H) (hW : s.WarmedH U.vm) : PS w G I L U :=
  ⟨by rw [hU]; exact hR, va_K.moved hW.alike hK, TW.warm hW hT, SF.moved hW (fun a h1 h2 => by rw [hU]; exact hS.2.1 a h1 h2) hF⟩
/-- what a call site's words say, with the callee's code and number of arguments -/
def CLV (own : String) (idx : Nat) (C : String) (y : MethodName) (cd : ByteArray) (mL : Nat) (rt : Option FieldType) (n : Nat) : Prop :=
  GoodIn lw_all (wsV own idx C y (ws_ y cd mL rt)) ∧ (y.cls = C ∧ y.cls ≠ "java/lang/invoke/MethodHandle" ∧ y.cls ≠ "java/lang/invoke/VarHandle" ∧ (parseMethodDescriptor y.desc).map (fun d => d.parameters.length) = some n)
def CLS (own : String) (idx : Nat) (y : MethodName) (cd : ByteArray) (mL : Nat) (rt : Option FieldType) (n : Nat) : Prop :=
  GoodIn lw_all (va_wsS own idx y (ws_ y cd mL rt)) ∧ (y.cls ≠ "java/lang/invoke/MethodHandle" ∧ y.cls ≠ "java/lang/invoke/VarHandle" ∧ (parseMethodDescriptor y.desc).map (fun d => d.parameters.length) = some n)
theorem aw_run {X0 : Cx} {H : Heap} {locs : List Loc} {la : Array Slot} {rest : List Value} {a : Array Value} {mc' ms' : Nat} {post : Post} (h : CX X cc own rt mL F Lo mc ms w) (hr : match X with | (p, l, e, R, s, m, args, below, meth, c, Q, w') => va_Run p l e R s m args below meth c H locs cs ss mc' ms' (F0 m pc la st) rest (QA w post a) (fun q => w.1 ≤ q))
    (r2 : match X with | (p, l, e, R, s, m, args, below, meth, c, Q, w') => va_S (fun q => w.1 ≤ q) s.heap H locs) (r3 : match X with | (p, l, e, R, s, m, args, below, meth, c, Q, w') => LV la c.maxLocals ls)
    (kk : ∀ (v : Option Value) (G' : Gm) (I' : Im) (L' : Lm), post v G' I' L' → AW X (cs + mc') (ss + ms') (pc + 3) ls (v.toList ++ rest) G' I' L') :
    match X with | (p, l, e, R, s, m, args, below, meth, c, Q, w') => W p l e R s m args below meth c H locs cs ss Q (F0 m pc la st) := by
  obtain ⟨p, l, e, R, s, m, args, below, meth, c, Q, w'⟩ := X
  obtain ⟨-, -, -, -, -, -, -, -, -, -, -, -, -, -, -, rfl⟩ := h
  intro T hT X
  obtain ⟨v, st₀, t, T', LL, h0, X', hL, e1, e2, ⟨⟨v', G', I', L', hv, hp, hb⟩, hz, hk⟩, sg⟩ := hr T hT X
  cases hv
  rw [h0] at hz hk
  have r2 : va_S (fun q => w'.1 ≤ q) s.heap H locs := r2
  obtain ⟨t2, a1, b1⟩ := kk v G' I' L' hp T'.heap (locs ++ LL) la (by rw [e1]; exact hb)
    ⟨Nat.le_trans r2.1 (by rw [e1]; exact hz), fun q h1 h2 => by rw [e1, hk q (Nat.lt_of_lt_of_le h1 r2.1) h2]; exact r2.2.1 q h1 h2, fun q hq => by
      rcases List.mem_append.mp hq with h | h
      · exact r2.2.2 q h
      · exact hL q h⟩ r3 T' rfl X'
  exact ⟨t2, sg t2 a1, b1⟩
theorem aw_callV (h : CX X cc own rt mL F Lo mc ms w) (hl : LX X) {idx n ci len : Nat} {C : String} {T : u_T} {N : Nat} {y : MethodName} {cd : ByteArray} {mL' : Nat} {rt' : Option FieldType} {na F' Lo' mc' ms' : Nat} {As rest : List Value} {post : Post} (f : CLV own idx C y cd mL' rt' na) (hM : AMet w y cd mL' rt' F' Lo' mc' ms' (.ref (w.1 + n) :: As) G I L post)
    (hs : SHP G n ci len) (hci : ci < 100) (hc : vwCl[ci]? = some (C, T, N)) (d : decode cc pc = .ok (.invokevirtual idx, 3)) (hn : As.length = na) (hst : st = As.reverse ++ .ref (w.1 + n) :: rest) (hcat : (rest.map fun v => v.category).sum ≤ 8) (hF : F' + 1 ≤ F) (hLo : 8 + (mL' + 11) + Lo' ≤ Lo) (hcs : cs + mc' ≤ mc) (hss : ss + ms' ≤ ms)
    (kk : ∀ (v : Option Value) (G' : Gm) (I' : Im) (L' : Lm), post v G' I' L' → AW X (cs + mc') (ss + ms') (pc + 3) ls (v.toList ++ rest) G' I' L') : AW X cs ss pc ls st G I L := by
  have h0 := h
  obtain ⟨p, l, e, R, s, m, args, below, meth, c, Q, w'⟩ := X
  obtain ⟨hx, hb, -, -, hml, hown, hts, hK, hT, hSF, hB, hFR, hLR, hmc, hms, rfl⟩ := h
  intro H locs la r1 r2 r3
  obtain ⟨cell, g1, g2, g3, -⟩ := fld_read (D := w'.2.1) (B := 0) (k := 0) r1 hs hci hc
  refine aw_run (X := (p, l, e, R, s, m, args, below, meth, c, Q, w')) (X0 := (p, l, e, R, s, m, args, below, meth, c, Q, w')) h0 (va_runV (As := As) (rest := rest) ⟨hx, hb, hml, hown, hts⟩ (hM l hl) (cwV na hts f.1 rfl rfl rfl f.2 ⟨Nat.le_trans hF hFR, Nat.le_trans hLo hLR⟩) ⟨PS.blind, ⟨cell, g1, by rw [g3]; rfl, by rw [g2]; exact (hK.1 ci _ hc).2.1⟩, fun U hU hW => ⟨rfl, PS.after r1 r2 hK hT hSF hU hW⟩⟩ rfl hn (by rw [← hml]; exact r3.2.1) hst (lv_room hcat) d ⟨by omega, by omega⟩) r2 r3 kk
theorem aw_callS (h : CX X cc own rt mL F Lo mc ms w) (hl : LX X) {idx : Nat} {y : MethodName} {cd : ByteArray} {mL' : Nat} {rt' : Option FieldType} {na F' Lo' mc' ms' : Nat} {As rest : List Value} {post : Post} (f : CLS own idx y cd mL' rt' na) (hM : AMet w y cd mL' rt' F' Lo' mc' ms' As G I L post)
    (d : decode cc pc = .ok (.invokestatic idx, 3)) (hn : As.length = na) (hst : st = As.reverse ++ rest) (hcat : (rest.map fun v => v.category).sum ≤ 8) (hF : F' + 1 ≤ F) (hLo : 8 + (mL' + 11) + Lo' ≤ Lo) (hcs : cs + mc' ≤ mc) (hss : ss + ms' ≤ ms)
    (kk : ∀ (v : Option Value) (G' : Gm) (I' : Im) (L' : Lm), post v G' I' L' → AW X (cs + mc') (ss + ms') (pc + 3) ls (v.toList ++ rest) G' I' L') : AW X cs ss pc ls st G I L := by
  have h0 := h
  obtain ⟨p, l, e, R, s, m, args, below, meth, c, Q, w'⟩ := X
  obtain ⟨hx, hb, -, -, hml, hown, hts, hK, hT, hSF, hB, hFR, hLR, hmc, hms, rfl⟩ := h
  intro H locs la r1 r2 r3
  refine aw_run (X := (p, l, e, R, s, m, args, below, meth, c, Q, w')) (X0 := (p, l, e, R, s, m, args, below, meth, c, Q, w')) h0 (va_runS (As := As) (rest := rest) ⟨hx, hb, hml, hown, hts⟩ (hM l hl) (va_cwS na hts f.1 rfl rfl rfl f.2 ⟨Nat.le_trans hF hFR, Nat.le_trans hLo hLR⟩) ⟨PS.blind, fun U hU hW => ⟨rfl, PS.after r1 r2 hK hT hSF hU hW⟩⟩ rfl hn (by rw [← hml]; exact r3.2.1) hst (lv_room hcat) d ⟨by omega, by omega⟩) r2 r3 kk
/-- the end that a body is to come to: Q is what its contract asks -/
def RX (X : Cx) (post : Post) : Prop := match X with
  | (p, l, e, R, s, m, args, below, meth, c, Q, w) => ∀ (H : Heap) (locs : List Loc) (g : JFrame), W p l e R s m args below meth c H locs R.cells R.slots (MQ below (QA w post) args s R.cells R.slots (fun q => w.1 ≤ q)) g → W p l e R s m args below meth c H locs R.cells R.slots Q g
theorem aw_end (h : CX X cc own rt mL F Lo mc ms w) {post : Post} {v : Option Value} (hq : post v G I L) : match X with
  | (p, l, e, R, s, m, args, below, meth, c, Q, w') => ∀ (H : Heap) (locs : List Loc), Rel w G I L H → va_S (fun q => w.1 ≤ q) s.heap H locs → ∀ t : State, t.heap = H → s.WarmedH t.vm → QA w post args s (.returned v) t := by
  obtain ⟨p, l, e, R, s, m, args, below, meth, c, Q, w'⟩ := X
  intro H locs r1 r2 t ht hW
  exact ⟨⟨v, G, I, L, rfl, hq, by rw [ht]; exact r1⟩, r2.F ht⟩
theorem aw_iret (h : CX X cc own (some .int) mL F Lo mc ms w) {post : Post} (hr : RX X post) {x : Int32} (d : decode cc pc = .ok (.ireturn, 1)) (hq : post (some (.int x)) G I L) (hcs : cs ≤ mc) (hss : ss ≤ ms) : AW X cs ss pc ls [.int x] G I L := by
  obtain ⟨p, l, e, R, s, m, args, below, meth, c, Q, w'⟩ := X
  obtain ⟨hx, hb, hret, hlk, -, -, -, -, -, -, -, -, -, hmc, hms, rfl⟩ := h
  intro H locs la r1 r2 r3
  refine W.widen (k := R.cells) (n := R.slots) (by omega) (by omega) (hr H locs _ ?_)
  exact W.iret (v := x) hx hb hret (fun t ht hW => ⟨⟨_, G, I, L, rfl, hq, by rw [ht]; exact r1⟩, r2.F ht⟩) r2.2.2 d hlk
theorem aw_zret (h : CX X cc own (some .boolean) mL F Lo mc ms w) {post : Post} (hr : RX X post) {x : Int32} (d : decode cc pc = .ok (.ireturn, 1)) (hx01 : x = 0 ∨ x = 1) (hq : post (some (.int x)) G I L) (hcs : cs ≤ mc) (hss : ss ≤ ms) : AW X cs ss pc ls [.int x] G I L := by
  obtain ⟨p, l, e, R, s, m, args, below, meth, c, Q, w'⟩ := X
  obtain ⟨hx, hb, hret, hlk, -, -, -, -, -, -, -, -, -, hmc, hms, rfl⟩ := h
  intro H locs la r1 r2 r3
  refine W.widen (k := R.cells) (n := R.slots) (by omega) (by omega) (hr H locs _ ?_)
  exact W.zret (v := x) hx hb hret (by rcases hx01 with rfl | rfl <;> decide) (fun t ht hW => ⟨⟨_, G, I, L, rfl, hq, by rw [ht]; exact r1⟩, r2.F ht⟩) r2.2.2 d hlk
theorem aw_lret (h : CX X cc own (some .long) mL F Lo mc ms w) {post : Post} (hr : RX X post) {x : Int64} (d : decode cc pc = .ok (.lreturn, 1)) (hq : post (some (.long x)) G I L) (hcs : cs ≤ mc) (hss : ss ≤ ms) : AW X cs ss pc ls [.long x] G I L := by
  obtain ⟨p, l, e, R, s, m, args, below, meth, c, Q, w'⟩ := X
  obtain ⟨hx, hb, hret, hlk, -, -, -, -, -, -, -, -, -, hmc, hms, rfl⟩ := h
  intro H locs la r1 r2 r3
  refine W.widen (k := R.cells) (n := R.slots) (by omega) (by omega) (hr H locs _ ?_)
  exact W.lret (v := x) hx hb hret (fun t ht hW => ⟨⟨_, G, I, L, rfl, hq, by rw [ht]; exact r1⟩, r2.F ht⟩) r2.2.2 d hlk
theorem aw_vret (h : CX X cc own none mL F Lo mc ms w) {post : Post} (hr : RX X post) (d : decode cc pc = .ok (.return_, 1)) (hq : post none G I L) (hcs : cs ≤ mc) (hss : ss ≤ ms) : AW X cs ss pc ls [] G I L := by
  obtain ⟨p, l, e, R, s, m, args, below, meth, c, Q, w'⟩ := X
  obtain ⟨hx, hb, hret, hlk, -, -, -, -, -, -, -, -, -, hmc, hms, rfl⟩ := h
  intro H locs la r1 r2 r3
  refine W.widen (k := R.cells) (n := R.slots) (by omega) (by omega) (hr H locs _ ?_)
  exact W.vret hx hb hret (fun t ht hW => ⟨⟨_, G, I, L, rfl, hq, by rw [ht]; exact r1⟩, r2.F ht⟩) r2.2.2 d hlk
theorem aw_aret (h : CX X cc own rt mL F Lo mc ms w) {ty : FieldType} (hty : rt = some ty) (hre : (∃ n, ty = .object n) ∨ ∃ t, ty = .array t) {post : Post} (hr : RX X post) {q : Nat} (d : decode cc pc = .ok (.areturn, 1)) (hq : post (some (.ref q)) G I L) (hcs : cs ≤ mc) (hss : ss ≤ ms) : AW X cs ss pc ls [.ref q] G I L := by
  obtain ⟨p, l, e, R, s, m, args, below, meth, c, Q, w'⟩ := X
  obtain ⟨hx, hb, hret, hlk, -, -, -, -, -, -, -, -, -, hmc, hms, rfl⟩ := h
  intro H locs la r1 r2 r3
  refine W.widen (k := R.cells) (n := R.slots) (by omega) (by omega) (hr H locs _ ?_)
  exact W.aret (v := .ref q) hx hb (hret.trans hty) hre (Or.inr ⟨_, rfl⟩) (fun t ht hW => ⟨⟨_, G, I, L, rfl, hq, by rw [ht]; exact r1⟩, r2.F ht⟩) r2.2.2 d hlk
/-- a contract out of its body's walk -/
theorem AMet.of {y : MethodName} {cd : ByteArray} {av : List Value} {post : Post} {ls0 : List (Option Value)} (hy : plainName y.cls = true) (hml : (lg_sl av).length ≤ mL) (hlen : ls0.length = mL) (hls : ∀ q ∈ lpairs 0 ls0, q ∈ lv_args 0 av)
    (body : ∀ X : Cx, CX X cd y.cls rt mL F Lo mc ms w → LX X → RX X post → (y.name = "<init>" → INI X) → AW X 0 0 0 ls0 [] G I L) : AMet w y cd mL rt F Lo mc ms av G I L post := by
  intro l hl
  refine Met.ofW (cc := cd) (maxL := mL) (ret := rt) hy rfl ?_
  intro p e s m args below meth c s₁ B hml2 hv
  obtain ⟨rfl, hR, hK, hT, hF⟩ := hv
  have hts := atoms_spec (ws := ws_ y cd mL rt) B.pre
  have hts : ∀ z ∈ lw_all, z.before _ s = true := fun z h => hts z (List.mem_cons_of_mem _ h)
  have hown : s.vm.findClass y.cls = some m.cls := findClass_of_methodNamed B.named
  have hin : meth.name = y.name := (name_of_methodNamed B.named B.method).1
  have b := body (p, l, e, (headSpec (ws_ y cd mL rt) ({ frames := F, cells := mc, slots := ms, locals := Lo })).room, s, m, av.toArray, below, meth, c, MQ below (QA w post) av.toArray s mc ms (fun q => w.1 ≤ q), w)
    ⟨B.exec, B.bytes, B.returns, B.notSynchronized, hml2, hown, hts, hK, hT, hF, by have := hR.2; omega, Nat.le_refl _, Nat.le_refl _, rfl, rfl, rfl⟩ hl (fun H locs g k => k) (fun h => hin.trans h)
  have hlv := lv_entry av (n := mL) hml
  rw [lg_entry_eq]
  refine b s.heap [] _ hR va_S.rf ⟨by rw [hml2]; exact hlen, ?_⟩
  rw [hml2]
  exact ⟨hlv.1, hlv.2.1, fun q hq => hlv.2.2 q (hls q hq)⟩
/-- posts that say all -/
def Exact (v : Option Value) (G : Gm) (I : Im) (L : Lm) : Post := fun v' G' I' L' => v' = v ∧ G' = G ∧ I' = I ∧ L' = L
/-- posts that say the answer, and of the memory a relation -/
def Ans (v : Option Value) (P : Gm → Im → Lm → Prop) : Post := fun v' G' I' L' => v' = v ∧ P G' I' L'
/-- room enough, said in one -/
def RM (F' Lo' mL' F Lo : Nat) : Bool := decide (F' + 1 ≤ F) && decide (8 + (mL' + 11) + Lo' ≤ Lo)
theorem RM.f {F' Lo' mL' F Lo : Nat} (h : RM F' Lo' mL' F Lo = true) : F' + 1 ≤ F ∧ 8 + (mL' + 11) + Lo' ≤ Lo := by
  simpa [RM] using h
end AW5
