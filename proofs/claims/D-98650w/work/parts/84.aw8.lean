/-! AW: references compared, null, class objects, arrays of references copied -/
set_option maxRecDepth 100000
section AW8
variable {X : Cx} {cc : ByteArray} {own : String} {rt : Option FieldType} {mL F Lo mc ms : Nat} {w : Wd} {cs ss pc : Nat} {ls : List (Option Value)} {st rest : List Value} {G : Gm} {I : Im} {L : Lm}
theorem aw_acmp_eq (h : CX X cc own rt mL F Lo mc ms w) {x y : Nat} {off : Int} {tgt : Nat} (d : decode cc pc = .ok (.if_acmp .eq off, 3)) (ht : (pc : Int) + off = (tgt : Int)) (kt : x = y → AW X cs ss tgt ls st G I L) (kf : ¬ x = y → AW X cs ss (pc + 3) ls st G I L) : AW X cs ss pc ls (.ref y :: .ref x :: st) G I L := by
  obtain ⟨p, l, e, R, s, m, args, below, meth, c, Q, w'⟩ := X
  obtain ⟨hx, hb, -⟩ := h
  intro H locs la r1 r2 r3
  exact lv_acmp_eq (rx := some x) (ry := some y) hx hb d ht (fun q => kt (Option.some.inj q) H locs la r1 r2 r3) (fun q => kf (fun z => q (by rw [z])) H locs la r1 r2 r3)
theorem aw_acmp_ne (h : CX X cc own rt mL F Lo mc ms w) {x y : Nat} {off : Int} {tgt : Nat} (d : decode cc pc = .ok (.if_acmp .ne off, 3)) (ht : (pc : Int) + off = (tgt : Int)) (kt : ¬ x = y → AW X cs ss tgt ls st G I L) (kf : x = y → AW X cs ss (pc + 3) ls st G I L) : AW X cs ss pc ls (.ref y :: .ref x :: st) G I L := by
  obtain ⟨p, l, e, R, s, m, args, below, meth, c, Q, w'⟩ := X
  obtain ⟨hx, hb, -⟩ := h
  intro H locs la r1 r2 r3
  exact lv_acmp_ne (rx := some x) (ry := some y) hx hb d ht (fun q => kt (fun z => q (by rw [z])) H locs la r1 r2 r3) (fun q => kf (Option.some.inj q) H locs la r1 r2 r3)
theorem aw_ifnull (h : CX X cc own rt mL F Lo mc ms w) {x : Nat} {off : Int} (d : decode cc pc = .ok (.ifnull off, 3)) (k : AW X cs ss (pc + 3) ls st G I L) : AW X cs ss pc ls (.ref x :: st) G I L := by
  obtain ⟨p, l, e, R, s, m, args, below, meth, c, Q, w'⟩ := X
  obtain ⟨hx, hb, -⟩ := h
  intro H locs la r1 r2 r3
  exact lv_ifnull hx hb d (k H locs la r1 r2 r3)
theorem aw_ifnullN (h : CX X cc own rt mL F Lo mc ms w) {off : Int} {tgt : Nat} (d : decode cc pc = .ok (.ifnull off, 3)) (ht : (pc : Int) + off = (tgt : Int)) (k : AW X cs ss tgt ls st G I L) : AW X cs ss pc ls (.null :: st) G I L := by
  obtain ⟨p, l, e, R, s, m, args, below, meth, c, Q, w'⟩ := X
  obtain ⟨hx, hb, -⟩ := h
  intro H locs la r1 r2 r3
  exact lv_ifnullN hx hb d ht (k H locs la r1 r2 r3)
theorem aw_ifnonnull (h : CX X cc own rt mL F Lo mc ms w) {x : Nat} {off : Int} {tgt : Nat} (d : decode cc pc = .ok (.ifnonnull off, 3)) (ht : (pc : Int) + off = (tgt : Int)) (k : AW X cs ss tgt ls st G I L) : AW X cs ss pc ls (.ref x :: st) G I L := by
  obtain ⟨p, l, e, R, s, m, args, below, meth, c, Q, w'⟩ := X
  obtain ⟨hx, hb, -⟩ := h
  intro H locs la r1 r2 r3
  exact lv_ifnonnull hx hb d ht (k H locs la r1 r2 r3)
theorem aw_ifnonnullN (h : CX X cc own rt mL F Lo mc ms w) {off : Int} (d : decode cc pc = .ok (.ifnonnull off, 3)) (k : AW X cs ss (pc + 3) ls st G I L) : AW X cs ss pc ls (.null :: st) G I L := by
  obtain ⟨p, l, e, R, s, m, args, below, meth, c, Q, w'⟩ := X
  obtain ⟨hx, hb, -⟩ := h
  intro H locs la r1 r2 r3
  exact lv_ifnonnullN hx hb d (k H locs la r1 r2 r3)
/-- the class constant Object[].class -/
theorem aw_ldcM (h : CX X cc own rt mL F Lo mc ms w) {idx : Nat} (q1 : Cond.classLink own idx "[Ljava/lang/Object;" ∈ lw_all) (d : decode cc pc = .ok (.ldc idx, 2)) (k : AW X cs ss (pc + 2) ls (.ref w.2.2.2.2.2.2 :: st) G I L) : AW X cs ss pc ls st G I L := by
  obtain ⟨p, l, e, R, s, m, args, below, meth, c, Q, w'⟩ := X
  obtain ⟨hx, hb, -, -, hml, hown, hts, hK, hT, hSF, hB, hFR, hLR, hmc, hms, rfl⟩ := h
  intro H locs la r1 r2 r3
  exact va_ldcM hx hb hown (hts _ q1) hSF.2.2.2.2.2.1 d (k H locs la r1 r2 r3)
/-- an array of references: its cell, as the machine has it -/
theorem arr_cell {H : Heap} {n k len : Nat} {s : State} (hR : Rel w G I L H) (hs : SHP G n k len) (hk4 : 104 ≤ k) {nm : String} (hf : s.vm.findClass nm = some (w.2.2.1 k)) : ∃ cell : Cell, H[w.1 + n]? = some cell ∧ cell.vm.isStatics = false ∧ s.vm.findClass nm = some cell.cls := by
  have hP := hR.at hs.1
  rw [cellE_ref hs hk4] at hP
  have hP : H[w.1 + n]? = some (vp_cell (w.2.2.1 k) (len, .inr (.inr (.inr (.inr (fun j => (G.2.2 n j).map (fun q => w.1 + q))))))) := hP
  exact ⟨_, hP, rfl, hf⟩
/-- getClass() of an Object[] -/
theorem aw_getC (h : CX X cc own rt mL F Lo mc ms w) {idx n len : Nat} (hs : SHP G n 106 len) (q1 : Cond.methodLink own idx ⟨"java/lang/Object", "getClass", "()Ljava/lang/Class;"⟩ ∈ lw_all) (d : decode cc pc = .ok (.invokevirtual idx, 3)) (hcat : (rest.map fun v => v.category).sum ≤ 8) (hR : decide (1 ≤ F) && decide (30 ≤ Lo) = true)
    (kk : AW X cs ss (pc + 3) ls (.ref w.2.2.2.2.2.2 :: rest) G I L) : AW X cs ss pc ls (.ref (w.1 + n) :: rest) G I L := by
  obtain ⟨p, l, e, R, s, m, args, below, meth, c, Q, w'⟩ := X
  obtain ⟨hx, hb, -, -, hml, hown, hts, hK, hT, hSF, hB, hFR, hLR, hmc, hms, rfl⟩ := h
  intro H locs la r1 r2 r3
  simp only [Bool.and_eq_true, decide_eq_true_eq] at hR
  obtain ⟨t0, ht⟩ := tys_at (w := w') (k := 106) (ty := .object "java/lang/Object") (by simp)
  obtain ⟨kA, comp, k1, k2, k3, k4⟩ := (hK.2 t0 _ ht).2
  have hf : s.vm.findClass "[Ljava/lang/Object;" = some (w'.2.2.1 106) := k4
  exact va_getC hx hb r3.2.1.symm hown (hts _ q1) (va_Nw.use rfl (hT.2.2.2.1 _ q2025)) (hts _ q2024) (hts _ q699) (hts _ q719) hSF.2.2.2.2.2.1 (arr_cell r1 hs (by decide) hf) (by omega) (by omega) d (kk H locs la r1 r2 r3)
/-- the first cells of an array of references copied to another's -/
theorem aw_copyq (h : CX X cc own rt mL F Lo mc ms w) {idx n n1 len len1 k ci : Nat} {C : String} {T : u_T} {N : Nat} (hs : SHP G n 106 len) (hs1 : SHP G n1 106 len1) (hci : ci < 100) (hc : vwCl[ci]? = some (C, T, N)) (hcast : Cond.castable C "java/lang/Object" ∈ lw_tbl) (hk0 : k ≤ len) (hk1 : k ≤ len1) (hk : k < 2 ^ 31) (hel : ∀ i, i < k → ∀ y, G.2.2 n i = some y → ∃ lv, SHP G y ci lv)
    (q1 : Cond.methodLink own idx arraycopyName ∈ lw_all) (d : decode cc pc = .ok (.invokestatic idx, 3)) (hcat : (rest.map fun v => v.category).sum ≤ 8) (hR : decide (1 ≤ F) && decide (60 ≤ Lo) = true)
    (kk : AW X cs ss (pc + 3) ls rest (G.1, G.2.1, va_up G.2.2 n1 (va_cpy (G.2.2 n) (G.2.2 n1) 0 0 k)) I L) : AW X cs ss pc ls (.int (nI k) :: .int (nI 0) :: .ref (w.1 + n1) :: .int (nI 0) :: .ref (w.1 + n) :: rest) G I L := by
  obtain ⟨p, l, e, R, s, m, args, below, meth, c, Q, w'⟩ := X
  obtain ⟨hx, hb, -, -, hml, hown, hts, hK, hT, hSF, hB, hFR, hLR, hmc, hms, rfl⟩ := h
  intro H locs la r1 r2 r3
  simp only [Bool.and_eq_true, decide_eq_true_eq] at hR
  have hP0 := r1.at hs.1
  have hP1 := r1.at hs1.1
  rw [cellE_ref hs (by decide)] at hP0
  rw [cellE_ref hs1 (by decide)] at hP1
  obtain ⟨t0, ht⟩ := tys_at (w := w') (k := 106) (ty := .object "java/lang/Object") (by simp)
  have hk' : (nI k).toNatClampNeg = k := nI_clamp hk
  have h0' : (nI 0).toNatClampNeg = 0 := by decide
  have hcls := (hK.1 ci _ hc).2
  have hnw : nativeFrameWords "java/lang/System" "arraycopy" 5 + 11 ≤ 40 := by decide
  obtain ⟨kA, comp, k1, k2, k3, k4⟩ := (hK.2 t0 _ ht).2
  have hd0 : ¬ (nI 0 : Int32) < 0 := by decide
  have hz0 : (nI 0 : Int32).toInt = 0 := by decide
  have hkn : ¬ nI k < 0 := nI_pos hk
  have hkz : (nI k).toInt = (k : Int) := nI_toInt hk
  obtain ⟨c0, f1, f2, f3⟩ := (show ∃ c0, s.vm.findClass C = some c0 ∧ True ∧ s.vm.assignable c0 comp = true by
    obtain ⟨c0, t1, g1, g2, g3⟩ := Cond.castable_spec (va_Nw.use (A := args) rfl (hT.2.2.1 _ _ hcast))
    cases k3.symm.trans g2
    exact ⟨c0, g1, trivial, g3⟩)
  have hc0 : c0 = w'.2.1.1 ci := Option.some.inj (f1.symm.trans hcls.1)
  subst hc0
  intro T hTh X
  obtain ⟨vm', X', step⟩ := X.arraycopy hx hown (hts _ q1) (hts _ q730) (hts _ q729) (hts _ q171) (src := w'.1 + n) (dst := w'.1 + n1) (cs := vp_cell (w'.2.2.1 106) (len, .inr (.inr (.inr (.inr (fun j => (G.2.2 n j).map (fun q => w'.1 + q))))))) (cd := vp_cell (w'.2.2.1 106) (len1, .inr (.inr (.inr (.inr (fun j => (G.2.2 n1 j).map (fun q => w'.1 + q))))))) (srcPos := nI 0) (destPos := nI 0) (n := nI k) (by rw [hTh]; exact hP0) (by rw [hTh]; exact hP1)
    (fun _ h => by cases h) (fun _ h => by cases h) (fun h => by cases h) (fun h => by cases h) k1 k1 k2 k2 rfl hd0 hd0 hkn
    (by rw [hz0, hkz, vp_cell_q, arrV_size]; omega) (by rw [hz0, hkz, vp_cell_q, arrV_size]; omega)
    (fun vm₁ hal i hi => by
      rw [hk'] at hi
      have e2 : (vp_cell (w'.2.2.1 106) (len, .inr (.inr (.inr (.inr (fun j => (G.2.2 n j).map (fun q => w'.1 + q))))))).slots.getD ((nI 0).toNatClampNeg + i) .null = va_rf ((G.2.2 n i).map (fun q => w'.1 + q)) := by
        rw [h0', Nat.zero_add, vp_cell_q, Array.getD_eq_getD_getElem?, arrV_read _ _ (by omega)]
        rfl
      rw [e2]
      cases hy : G.2.2 n i with
      | none => exact ⟨rfl, trivial⟩
      | some y =>
        obtain ⟨lv, hsy⟩ := hel i hi y hy
        obtain ⟨cellV, g1, g2, g3, -⟩ := fld_read (D := w'.2.1) (B := 0) (k := 0) r1 hsy hci hc
        obtain ⟨kC, hkC, -⟩ := Vm.findClass_spec hcls.1
        obtain ⟨kE, hkE, -⟩ := Vm.findClass_spec k3
        obtain ⟨kC', hkC', -⟩ := hal.2.2 _ _ hkC
        obtain ⟨kE', hkE', -⟩ := hal.2.2 _ _ hkE
        refine ⟨rfl, cellV, (show T.heap[w'.1 + y]? = some cellV by rw [hTh]; exact g1), (fun q h => by rw [g3] at h; cases h), ⟨kC', by rw [g2]; exact hkC'⟩, ⟨kE', hkE'⟩, ?_⟩
        show vm₁.assignable _ _ = true
        rw [hal.assignable, g2]
        exact f3)
    (g := F0 m pc la (.int (nI k) :: .int (nI 0) :: .ref (w'.1 + n1) :: .int (nI 0) :: .ref (w'.1 + n) :: rest)) rfl r3.2.1 (rest := rest) rfl (by rw [hb]; exact d) (by omega) (by show 2 * 0 + _ + _ ≤ _; omega)
  have e1 : copied (vp_cell (w'.2.2.1 106) (len, .inr (.inr (.inr (.inr (fun j => (G.2.2 n j).map (fun q => w'.1 + q))))))) (vp_cell (w'.2.2.1 106) (len1, .inr (.inr (.inr (.inr (fun j => (G.2.2 n1 j).map (fun q => w'.1 + q))))))) (nI 0) (nI 0) (nI k) = vp_cell (w'.2.2.1 106) (len1, .inr (.inr (.inr (.inr (va_cpy (fun j => (G.2.2 n j).map (fun q => w'.1 + q)) (fun j => (G.2.2 n1 j).map (fun q => w'.1 + q)) 0 0 k))))) := by
    have e3 := va_copied (sp := 0) (dp := 0) (n := k) (n1 := len1) (fun z => va_rf z) (w'.2.2.1 106) (w'.2.2.1 106) (fun j => (G.2.2 n j).map (fun q => w'.1 + q)) (fun j => (G.2.2 n1 j).map (fun q => w'.1 + q)) (n0 := len) (by omega)
    rw [vp_cell_q, vp_cell_q, vp_cell_q]
    unfold copied
    rw [h0', hk']
    exact e3
  rw [e1] at X' step
  have hP1' : H[w'.1 + n1]? = some (vp_cell (w'.2.2.1 106) (len1, .inr (.inr (.inr (.inr (fun j => (G.2.2 n1 j).map (fun q => w'.1 + q))))))) := hP1
  have hlt : w'.1 + n1 < H.size := (Array.getElem?_eq_some_iff.mp hP1').1
  generalize hcl : vp_cell (w'.2.2.1 106) (len1, .inr (.inr (.inr (.inr (va_cpy (fun j => (G.2.2 n j).map (fun q => w'.1 + q)) (fun j => (G.2.2 n1 j).map (fun q => w'.1 + q)) 0 0 k))))) = cell1 at X' step
  have hheap : ((T.setVm vm').setCell (w'.1 + n1) cell1).heap = H.setIfInBounds (w'.1 + n1) cell1 := by rw [← hTh]; rfl
  have oq : ∀ q : Nat, q ≠ w'.1 + n1 → (H.setIfInBounds (w'.1 + n1) cell1)[q]? = H[q]? := fun q hq => by simp [Array.getElem?_setIfInBounds, Ne.symm hq]
  have z1 : (H.setIfInBounds (w'.1 + n1) cell1).size = H.size := by simp
  have hat : (H.setIfInBounds (w'.1 + n1) cell1)[w'.1 + n1]? = some cell1 := by simp [Array.getElem?_setIfInBounds, hlt]
  have hRel : Rel w' (G.1, G.2.1, va_up G.2.2 n1 (va_cpy (G.2.2 n) (G.2.2 n1) 0 0 k)) I L (H.setIfInBounds (w'.1 + n1) cell1) := by
    refine r1.set hs1.1 rfl ?_ (fun j hj => cellE_same rfl (by simp [va_up, hj]) rfl rfl) z1 oq
    rw [cellE_ref (G := (G.1, G.2.1, va_up G.2.2 n1 (va_cpy (G.2.2 n) (G.2.2 n1) 0 0 k))) (n := n1) (k := 106) (len := len1) hs1 (by decide)]
    show (H.setIfInBounds (w'.1 + n1) cell1)[_]? = some (vp_cell _ _)
    rw [hat, ← hcl]
    congr 7
    funext j
    show va_cpy _ _ 0 0 k j = (va_up G.2.2 n1 (va_cpy (G.2.2 n) (G.2.2 n1) 0 0 k) n1 j).map _
    rw [vup_s]
    unfold va_cpy
    split <;> rfl
  obtain ⟨t, a1, b1⟩ := kk _ _ la hRel (⟨by rw [z1]; exact r2.1, fun q g1 g2 => by
      rw [oq q (fun e => g2 (by rw [e]; exact Nat.le_add_right _ _))]
      exact r2.2.1 q g1 g2, fun q hq => by
      rcases List.mem_append.mp hq with h | h
      · exact r2.2.2 q h
      · obtain ⟨z, -, hz⟩ := List.mem_map.mp h
        rw [← hz]
        exact Nat.le_add_right _ _⟩ : va_S (fun q => w'.1 ≤ q) s.heap (H.setIfInBounds (w'.1 + n1) cell1) _) r3 _ hheap X'
  exact ⟨t, step t a1, b1⟩
end AW8
