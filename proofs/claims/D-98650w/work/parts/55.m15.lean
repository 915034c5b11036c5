/-! The reference's answer price -/
set_option maxRecDepth 100000
def XR (X : Nat → Nat) (M : Nat) (I : Im) : Prop := ∀ c, c < M → I 179 c = qI (X c)
def PK (I : Im) (L : Lm) (I1 : Im) (L1 : Lm) : Prop := L = L1 ∧ ∀ n, n ≠ 179 → I1 n = I n
theorem PK.rf {I : Im} {L : Lm} : PK I L I L := ⟨rfl, fun _ _ => rfl⟩
theorem PK.trans {I I1 I2 : Im} {L L1 L2 : Lm} (h : PK I L I1 L1) (h2 : PK I1 L1 I2 L2) : PK I L I2 L2 := ⟨h.1.trans h2.1, fun n a => (h2.2 n a).trans (h.2 n a)⟩
theorem PK.S {I I1 : Im} {L L1 : Lm} {S : Nat → Int32} (h : PK I L I1 L1) (hE : I 171 = S) : I1 171 = S := (h.2 171 (by decide)).trans hE
theorem PK.up {I : Im} {L : Lm} {u : Nat} {x : Int32} : PK I L (upd2 I 179 u x) L := ⟨rfl, fun n a => vup_n _ _ a⟩
theorem PK.mc {I I1 : Im} {L L1 : Lm} (h : PK I L I1 L1) : MC [] [] I L I1 L1 := by
  refine ⟨fun n h1 _ => h.2 n (fun e => h1 (by simp [scrL, e])), fun j _ _ => by rw [h.2 161 (by decide)], fun n _ => by rw [h.1]⟩
theorem qI_lt {x : Nat} (hx : x < 2 ^ 31) : qI x < 0 ↔ x = 0 := by
  unfold qI
  split
  · rename_i e; exact ⟨fun _ => e, fun _ => by decide⟩
  · rename_i e
    exact ⟨fun q => absurd q (Int32.not_lt.mpr (nI_pos' (by omega))), fun q => absurd q e⟩
theorem qI_p {x : Nat} (hx : x ≠ 0) : qI x = nI (x - 1) := by unfold qI; rw [if_neg hx]
theorem XR.up {X : Nat → Nat} {M u n : Nat} {I : Im} (h : XR X M I) (hu : u < M) : XR (va_up X u (n + 1)) M (upd2 I 179 u (nI n)) := by
  intro c hc
  show va_up (I 179) u (nI n) c = _
  by_cases e : c = u
  · subst e; rw [vup_s, vup_s, ← qI_s]
  · rw [vup_n _ _ e, vup_n _ _ e]; exact h c hc
/-- at work on c: what is less by now, or all of D is no more -/
def PB (S : Nat → Int32) (a : Nat) (src : Nat → Prop) (M : Nat) (X : Nat → Nat) (c : Nat) (b : Bool) (D : Nat → Nat → Prop) (I : Im) : Prop := ∃ X1, XR X1 M I ∧ PI S a src M X1 ∧ X1 c = X c ∧ (b = false → X1 = X ∧ ∀ u w, D u w → X u ≠ 0 ∧ X u ≤ X c + w) ∧ (b = true → muP M X1 < muP M X)
theorem PB.mono {S : Nat → Int32} {a M c : Nat} {src : Nat → Prop} {X : Nat → Nat} {b : Bool} {D D2 : Nat → Nat → Prop} {I : Im} (h : PB S a src M X c b D I) (hd : ∀ u w, D2 u w → D u w) : PB S a src M X c b D2 I := by
  obtain ⟨X1, h1, h2, h3, h4, h5⟩ := h
  exact ⟨X1, h1, h2, h3, fun e => ⟨(h4 e).1, fun u w q => (h4 e).2 u w (hd u w q)⟩, h5⟩
def PYP (S : Nat → Int32) (a : Nat) (src : Nat → Prop) (M : Nat) (X : Nat → Nat) (c : Nat) (G : Gm) (I : Im) (L : Lm) : Post := fun v G1 I1 L1 => ∃ b, v = some (.int (bI b)) ∧ G = G1 ∧ PK I L I1 L1 ∧ PB S a src M X c b (fun u w => EW S a c u w) I1
noncomputable def priceV (S : Nat → Int32) (a : Nat) : Int32 := leastV (WB S a (goalC S (np S) (2 ^ a)) (codeV S))
noncomputable def priceA (S : Nat → Int32) (p : Int32) : Int32 := if (decide (0 ≤ p) && decide (p < nI (np S))) = true then n2 (priceV S p.toNatClampNeg) else -1
theorem met_m_paysBack {w : Wd} {G : Gm} {I : Im} {L : Lm} (hG : GM G) {S : Nat → Int32} (hE : I 171 = S) (hS : InvS S) (h0 : 0 < nr S) (hPay : PayS S) {a c : Nat} {src : Nat → Prop} {Y : Nat → Nat} (ha : a < np S) (hX : XR Y (pw (nr S) (np S)) I) (hPX : PI S a src (pw (nr S) (np S)) Y) (hc : c < pw (nr S) (np S)) (hx0 : Y c ≠ 0) : AMet w yX4_paysBack cX4_paysBack 10 (some .boolean) 4 108 0 0 [.ref (w.1 + 161), .int (nI c), .int (nI a)] G I L (PYP S a src (pw (nr S) (np S)) Y c G I L) := by
  refine AMet.of (ls0 := [some (.ref (w.1 + 161)), some (.int (nI c)), some (.int (nI a)), none, none, none, none, none, none, none]) rfl (Nat.le_of_ble_eq_true rfl) rfl (fun q hq => hq) (fun X h hl hr hi => ?_)
  have b0 := iv0b hS
  have b1 := iv1b hS
  have b2 := iv2b hS
  have hp4 := pw_np hS
  have keyd : ∀ (fd d : Nat) (b : Bool) (I1 : Im) (L1 : Lm) (o5 : Option Value) (o6 : Option Value) (o7 : Option Value) (o8 : Option Value) (o9 : Option Value), d ≤ nd S → nd S < d + fd → PK I L I1 L1 → PB S a src (pw (nr S) (np S)) Y c b (fun u w => ∃ d2 p2, d2 < d ∧ p2 < np S ∧ ewp S c d2 p2 u ∧ w = wP S a p2) I1 → AW X 0 0 5 [some (.ref (w.1 + 161)), some (.int (nI c)), some (.int (nI a)), some (.int (bI b)), some (.int (nI d)), o5, o6, o7, o8, o9] [] G I1 L1 := by
    intro fd
    induction fd with
    | zero => intro d b I1 L1 o5 o6 o7 o8 o9 hle1 hlt1; exact absurd hlt1 (by omega)
    | succ fd ihd =>
      intro d b I1 L1 o5 o6 o7 o8 o9 hle1 hlt1 hK hR
      have hE1 : I1 171 = S := hK.S hE
      refine aw_iload4 h dX4_paysBack_5 ?_
      refine aw_aload0 h dX4_paysBack_7 ?_
      refine aw_getr h fl_X4_39 (gmt hG) dX4_paysBack_8 rfl (gmp20 hG) ?_
      refine aw_iconst h _ ci_1 dX4_paysBack_11 ?_
      refine aw_ialdV h (gms171 hG) (by decide) (by omega) dX4_paysBack_12 (iv1e hE1 hS) ?_
      refine aw_icmp_geN h (tgt := 224) (by omega) (by omega) dX4_paysBack_13 (by decide) (fun c13 => ?_) (fun c13 => ?_)
      · refine aw_iload3 h dX4_paysBack_224 ?_
        exact aw_zret h hr dX4_paysBack_225 (by first | exact z01_0 | exact z01_1 | exact z01_b _) (⟨b, rfl, rfl, hK, hR.mono (fun u w hu => by obtain ⟨d2, p2, h1, h2, h3, h4⟩ := hu; exact ⟨d2, p2, by omega, h2, h3, h4⟩)⟩) (Nat.zero_le _) (Nat.zero_le _)
      · have hd : d < nd S := by omega
        have keyp : ∀ (fp p : Nat) (b : Bool) (I1 : Im) (L1 : Lm) (o6 : Option Value) (o7 : Option Value) (o8 : Option Value) (o9 : Option Value), p ≤ np S → np S < p + fp → PK I L I1 L1 → PB S a src (pw (nr S) (np S)) Y c b (fun u w => (∃ d2 p2, d2 < d ∧ p2 < np S ∧ ewp S c d2 p2 u ∧ w = wP S a p2) ∨ ∃ p2, p2 < p ∧ ewp S c d p2 u ∧ w = wP S a p2) I1 → AW X 0 0 19 [some (.ref (w.1 + 161)), some (.int (nI c)), some (.int (nI a)), some (.int (bI b)), some (.int (nI d)), some (.int (nI p)), o6, o7, o8, o9] [] G I1 L1 := by
          intro fp
          induction fp with
          | zero => intro p b I1 L1 o6 o7 o8 o9 hle2 hlt2; exact absurd hlt2 (by omega)
          | succ fp ihp =>
            intro p b I1 L1 o6 o7 o8 o9 hle2 hlt2 hK hR
            have hE1 : I1 171 = S := hK.S hE
            have nextp : p < np S → ∀ (b : Bool) (I1 : Im) (L1 : Lm) (o6 o7 o8 o9 : Option Value), PK I L I1 L1 → PB S a src (pw (nr S) (np S)) Y c b (fun u w => (∃ d2 p2, d2 < d ∧ p2 < np S ∧ ewp S c d2 p2 u ∧ w = wP S a p2) ∨ ∃ p2, p2 < p + 1 ∧ ewp S c d p2 u ∧ w = wP S a p2) I1 → AW X 0 0 212 [some (.ref (w.1 + 161)), some (.int (nI c)), some (.int (nI a)), some (.int (bI b)), some (.int (nI d)), some (.int (nI p)), o6, o7, o8, o9] [] G I1 L1 := by
              intro hp b I1 L1 o6 o7 o8 o9 hK hR
              refine aw_iincN5 h rfl dX4_paysBack_212 ?_
              refine aw_goto h (tgt := 19) dX4_paysBack_215 (by decide) ?_
              exact ihp (p + 1) b I1 L1 _ _ _ _ (by omega) (by omega) hK hR
            refine aw_iload5 h dX4_paysBack_19 ?_
            refine aw_aload0 h dX4_paysBack_21 ?_
            refine aw_getr h fl_X4_39 (gmt hG) dX4_paysBack_22 rfl (gmp20 hG) ?_
            refine aw_iconst h _ ci_2 dX4_paysBack_25 ?_
            refine aw_ialdV h (gms171 hG) (by decide) (by omega) dX4_paysBack_26 (iv2e hE1 hS) ?_
            refine aw_icmp_geN h (tgt := 218) (by omega) (by omega) dX4_paysBack_27 (by decide) (fun c27 => ?_) (fun c27 => ?_)
            · refine aw_iincN4 h rfl dX4_paysBack_218 ?_
              refine aw_goto h (tgt := 5) dX4_paysBack_221 (by decide) ?_
              exact ihd (d + 1) b I1 L1 _ _ _ _ _ (by omega) (by omega) hK (hR.mono (fun u w hu => by
                obtain ⟨d2, p2, h1, h2, h3, h4⟩ := hu
                by_cases e : d2 = d
                · subst e; exact Or.inr ⟨p2, by omega, h3, h4⟩
                · exact Or.inl ⟨d2, p2, by omega, h2, h3, h4⟩))
            · have hp : p < np S := by omega
              refine aw_aload0 h dX4_paysBack_30 ?_
              refine aw_iload4 h dX4_paysBack_31 ?_
              refine aw_callVE1 h hl cl_X4_310 (met_m_isOpen hG hE1 hS hd) (gmt hG) rfl dX4_paysBack_33 (Nat.le_of_ble_eq_true rfl) rfl (Nat.zero_le _) (Nat.zero_le _) ?_
              refine aw_if_eqB h (tgt := 218) dX4_paysBack_36 (by decide) (fun c36 => ?_) (fun c36 => ?_)
              · refine aw_iincN4 h rfl dX4_paysBack_218 ?_
                refine aw_goto h (tgt := 5) dX4_paysBack_221 (by decide) ?_
                exact ihd (d + 1) b I1 L1 _ _ _ _ _ (by omega) (by omega) hK (hR.mono (fun u w hu => by
                  obtain ⟨d2, p2, h1, h2, h3, h4⟩ := hu
                  by_cases e : d2 = d
                  · subst e; exact absurd h3.1 (by rw [c36]; exact Bool.false_ne_true)
                  · exact Or.inl ⟨d2, p2, by omega, h2, h3, h4⟩))
              · have ho : openB S d = true := c36
                refine aw_aload0 h dX4_paysBack_39 ?_
                refine aw_iload1 h dX4_paysBack_40 ?_
                refine aw_iload5 h dX4_paysBack_41 ?_
                refine aw_callVE2 h hl cl_X4_409 (met_m_roomIn hG hE1 hS h0 (by omega) (by omega)) (gmt hG) rfl dX4_paysBack_43 (Nat.le_of_ble_eq_true rfl) rfl (Nat.zero_le _) (Nat.zero_le _) ?_
                refine aw_aload0 h dX4_paysBack_46 ?_
                refine aw_iload4 h dX4_paysBack_47 ?_
                refine aw_callVE1 h hl cl_X4_304 (met_m_farOf hG hE1 hS hd) (gmt hG) rfl dX4_paysBack_49 (Nat.le_of_ble_eq_true rfl) rfl (Nat.zero_le _) (Nat.zero_le _) ?_
                refine aw_icmp_eqN h (tgt := 58) (by have := dg_lt h0 c p; omega) (by have := (ivd hS hd).2.2.2; omega) dX4_paysBack_52 (by decide) (fun c52 => ?_) (fun c52 => ?_)
                · have hpf : dg (nr S) c p = farr S d := c52
                  have hcv1 : I1 179 c = nI (Y c - 1) := by
                    obtain ⟨X1, hX1, -, hc1, -⟩ := hR
                    rw [hX1 c hc, hc1, qI_p hx0]
                  have hxc : Y c ≤ 204801 := hPX.le (by omega) hc
                  have nextp := nextp hp
                  refine aw_aload0 h dX4_paysBack_58 ?_
                  refine aw_getr h fl_X4_69 (gmt hG) dX4_paysBack_59 rfl (gmp36 hG) ?_
                  refine aw_iload1 h dX4_paysBack_62 ?_
                  refine aw_ialdV h (gms179 hG) (by decide) (by omega) dX4_paysBack_63 (hcv1) ?_
                  refine aw_iload5 h dX4_paysBack_64 ?_
                  refine aw_iload2 h dX4_paysBack_66 ?_
                  refine aw_icmp_neN h (tgt := 74) (by omega) (by omega) dX4_paysBack_67 (by decide) (fun c67 => ?_) (fun c67 => ?_)
                  · refine aw_aload0 h dX4_paysBack_74 ?_
                    refine aw_iload5 h dX4_paysBack_75 ?_
                    refine aw_iconst h _ ci_2 dX4_paysBack_77 ?_
                    refine aw_callVE2 h hl cl_X4_279 (met_m_personOf hG hE1 (by omega)) (gmt hG) rfl dX4_paysBack_78 (Nat.le_of_ble_eq_true rfl) rfl (Nat.zero_le _) (Nat.zero_le _) ?_
                    rw [show pv S p 2 = nI (wP S a p) by
                      obtain ⟨w, h1, h2⟩ := hPay p hp
                      unfold wP
                      rw [if_neg c67, h2, nI_clamp (by omega)]]
                    refine aw_iaddN h dX4_paysBack_81 ?_
                    refine aw_istore6 h rfl dX4_paysBack_82 ?_
                    have hone : mv (nr S) c p (near S d) < (pw (nr S) (np S)) := mv_lt h0 hc hp (ivd hS hd).2.1
                    have key168 : ∀ (u : Nat) (x8 : Int32) (o9 : Option Value) (D : Nat → Nat → Prop) (b : Bool) (I1 : Im) (L1 : Lm), u < (pw (nr S) (np S)) → ewp S c d p u → PK I L I1 L1 → PB S a src (pw (nr S) (np S)) Y c b D I1 → (∀ (b : Bool) (I1 : Im) (L1 : Lm) (o9 : Option Value), PK I L I1 L1 → PB S a src (pw (nr S) (np S)) Y c b (fun u2 w => D u2 w ∨ (u2 = u ∧ w = wP S a p)) I1 → AW X 0 0 206 [some (.ref (w.1 + 161)), some (.int (nI c)), some (.int (nI a)), some (.int (bI b)), some (.int (nI d)), some (.int (nI p)), some (.int (nI (Y c - 1 + wP S a p))), some (.int (nI (mv (nr S) c p (near S d)))), some (.int (x8)), o9] [] G I1 L1) → AW X 0 0 168 [some (.ref (w.1 + 161)), some (.int (nI c)), some (.int (nI a)), some (.int (bI b)), some (.int (nI d)), some (.int (nI p)), some (.int (nI (Y c - 1 + wP S a p))), some (.int (nI (mv (nr S) c p (near S d)))), some (.int (x8)), o9] [.int (nI u)] G I1 L1 := by
                      intro u x8 o9 D b I1 L1 hu hw hK hR hk
                      have hE1 : I1 171 = S := hK.S hE
                      obtain ⟨X1, hX1, hP1, hc1, hb0, hb1⟩ := hR
                      have hx1 := hP1.le (by omega) hu
                      have hxc := hP1.le (by omega) hc
                      have hEW : EW S a c u (wP S a p) := ⟨d, p, hd, hp, hw, rfl⟩
                      have hrel : X1 u = 0 ∨ X1 c + wP S a p < X1 u → PB S a src (pw (nr S) (np S)) Y c true (fun u2 w => D u2 w ∨ (u2 = u ∧ w = wP S a p)) (upd2 I1 179 u (nI (Y c - 1 + wP S a p))) := by
                        intro hlt
                        have h9 := hP1.relax (by omega) hc hu (by omega) hEW (wP_le hPay hp) hlt
                        refine ⟨_, ?_, h9.1, ?_, fun e => (by cases e), fun _ => ?_⟩
                        · have h8 := hX1.up (n := Y c - 1 + wP S a p) hu
                          rw [show Y c - 1 + wP S a p + 1 = X1 c + wP S a p by omega] at h8
                          exact h8
                        · rw [vup_n _ _ (fun e => by rw [← e] at hlt; omega)]; exact hc1
                        · cases b with
                          | false => rw [← (hb0 rfl).1]; exact h9.2
                          | true => have := hb1 rfl; omega
                      refine aw_istore9 h rfl dX4_paysBack_168 ?_
                      refine aw_aload0 h dX4_paysBack_170 ?_
                      refine aw_getr h fl_X4_69 (gmt hG) dX4_paysBack_171 rfl (gmp36 hG) ?_
                      refine aw_iload9 h dX4_paysBack_174 ?_
                      refine aw_ialdV h (gms179 hG) (by decide) (by omega) dX4_paysBack_176 (hX1 _ hu) ?_
                      refine aw_if_lt h (tgt := 195) dX4_paysBack_177 (by decide) (fun c177 => ?_) (fun c177 => ?_)
                      · refine aw_aload0 h dX4_paysBack_195 ?_
                        refine aw_getr h fl_X4_69 (gmt hG) dX4_paysBack_196 rfl (gmp36 hG) ?_
                        refine aw_iload9 h dX4_paysBack_199 ?_
                        refine aw_iload6 h dX4_paysBack_201 ?_
                        refine aw_iastN h (gms179 hG) (by decide) (by omega) dX4_paysBack_203 ?_
                        refine aw_iconst h _ ci_1 dX4_paysBack_204 ?_
                        refine aw_istore3 h rfl dX4_paysBack_205 ?_
                        exact hk true _ _ _ (hK.trans PK.up) (hrel (Or.inl ((qI_lt (by omega)).mp c177)))
                      · refine aw_aload0 h dX4_paysBack_180 ?_
                        refine aw_getr h fl_X4_69 (gmt hG) dX4_paysBack_181 rfl (gmp36 hG) ?_
                        refine aw_iload9 h dX4_paysBack_184 ?_
                        refine aw_ialdV h (gms179 hG) (by decide) (by omega) dX4_paysBack_186 (hX1 _ hu) ?_
                        refine aw_iload6 h dX4_paysBack_187 ?_
                        refine aw_icmp_gt h (tgt := 195) dX4_paysBack_189 (by decide) (fun c189 => ?_) (fun c189 => ?_)
                        · refine aw_aload0 h dX4_paysBack_195 ?_
                          refine aw_getr h fl_X4_69 (gmt hG) dX4_paysBack_196 rfl (gmp36 hG) ?_
                          refine aw_iload9 h dX4_paysBack_199 ?_
                          refine aw_iload6 h dX4_paysBack_201 ?_
                          refine aw_iastN h (gms179 hG) (by decide) (by omega) dX4_paysBack_203 ?_
                          refine aw_iconst h _ ci_1 dX4_paysBack_204 ?_
                          refine aw_istore3 h rfl dX4_paysBack_205 ?_
                          exact hk true _ _ _ (hK.trans PK.up) (hrel (Or.inr (by
                            have h4 : X1 u ≠ 0 := fun e => c177 ((qI_lt (by omega)).mpr e)
                            have h5 := c189
                            rw [qI_p h4] at h5
                            have h6 := (nI_ltI (by have := wP_le (but := a) hPay hp; omega) (by omega)).mp h5
                            omega)))
                        · refine aw_goto h (tgt := 206) dX4_paysBack_192 (by decide) ?_
                          exact hk b _ _ _ hK ⟨X1, hX1, hP1, hc1, fun e => ⟨(hb0 e).1, fun u2 w hD => hD.elim ((hb0 e).2 u2 w) (fun q => by
                            obtain ⟨rfl, rfl⟩ := q
                            have h3 := (hb0 e).1
                            have h4 : X1 u2 ≠ 0 := fun e => c177 ((qI_lt (by omega)).mpr e)
                            have h5 := c189
                            rw [qI_p h4] at h5
                            have h6 : ¬ Y c - 1 + wP S a p < X1 u2 - 1 := fun q => h5 ((nI_ltI (by have := wP_le (but := a) hPay hp; omega) (by omega)).mpr q)
                            rw [← h3]
                            exact ⟨h4, by omega⟩)⟩, hb1⟩
                    have keyq : ∀ (fq q : Nat) (b : Bool) (I1 : Im) (L1 : Lm) (o9 : Option Value), q ≤ np S → np S < q + fq → PK I L I1 L1 → PB S a src (pw (nr S) (np S)) Y c b (fun u w => ((∃ d2 p2, d2 < d ∧ p2 < np S ∧ ewp S c d2 p2 u ∧ w = wP S a p2) ∨ ∃ p2, p2 < p ∧ ewp S c d p2 u ∧ w = wP S a p2) ∨ ((u = mv (nr S) c p (near S d) ∨ ∃ q2, q2 < q ∧ q2 ≠ p ∧ dg (nr S) c q2 = near S d ∧ u = mv (nr S) (mv (nr S) c p (near S d)) q2 (farr S d)) ∧ w = wP S a p)) I1 → AW X 0 0 102 [some (.ref (w.1 + 161)), some (.int (nI c)), some (.int (nI a)), some (.int (bI b)), some (.int (nI d)), some (.int (nI p)), some (.int (nI (Y c - 1 + wP S a p))), some (.int (nI (mv (nr S) c p (near S d)))), some (.int (nI q)), o9] [] G I1 L1 := by
                      intro fq
                      induction fq with
                      | zero => intro q b I1 L1 o9 hle3 hlt3; exact absurd hlt3 (by omega)
                      | succ fq ih =>
                        intro q b I1 L1 o9 hle3 hlt3 hK hR
                        have hE1 : I1 171 = S := hK.S hE
                        refine aw_iload8 h dX4_paysBack_102 ?_
                        refine aw_aload0 h dX4_paysBack_104 ?_
                        refine aw_getr h fl_X4_39 (gmt hG) dX4_paysBack_105 rfl (gmp20 hG) ?_
                        refine aw_iconst h _ ci_2 dX4_paysBack_108 ?_
                        refine aw_ialdV h (gms171 hG) (by decide) (by omega) dX4_paysBack_109 (iv2e hE1 hS) ?_
                        refine aw_icmp_geN h (tgt := 212) (by omega) (by omega) dX4_paysBack_110 (by decide) (fun c110 => ?_) (fun c110 => ?_)
                        · exact nextp b I1 L1 _ _ _ _ hK (hR.mono (fun u w hu => by
                            rcases hu with hu | ⟨p2, h1, h2, h3⟩
                            · exact Or.inl (Or.inl hu)
                            · by_cases e : p2 = p
                              · subst e
                                refine Or.inr ⟨?_, h3⟩
                                rcases h2.2.2 with h4 | ⟨q2, h4, h5, h6, h7⟩
                                · exact Or.inl h4
                                · exact Or.inr ⟨q2, by omega, h5, h6, h7⟩
                              · exact Or.inl (Or.inr ⟨p2, by omega, h2, h3⟩)))
                        · refine aw_iload8 h dX4_paysBack_113 ?_
                          refine aw_if_ltN h (tgt := 144) (by omega) dX4_paysBack_115 (by decide) (fun c115 => ?_) (fun c115 => ?_)
                          · exact absurd c115 (by omega)
                          · refine aw_iload8 h dX4_paysBack_118 ?_
                            refine aw_iload5 h dX4_paysBack_120 ?_
                            refine aw_icmp_eqN h (tgt := 206) (by omega) (by omega) dX4_paysBack_122 (by decide) (fun c122 => ?_) (fun c122 => ?_)
                            · refine aw_iincN8 h rfl dX4_paysBack_206 ?_
                              refine aw_goto h (tgt := 102) dX4_paysBack_209 (by decide) ?_
                              exact ih (q + 1) b I1 L1 _ (by omega) (by omega) hK (hR.mono (fun u w hu => by
                                rcases hu with hu | ⟨hu, h3⟩
                                · exact Or.inl hu
                                · rcases hu with hu | ⟨q2, h4, h5, h6, h7⟩
                                  · exact Or.inr ⟨Or.inl hu, h3⟩
                                  · by_cases e : q2 = q
                                    · subst e; exact absurd c122 h5
                                    · exact Or.inr ⟨Or.inr ⟨q2, by omega, h5, h6, h7⟩, h3⟩))
                            · refine aw_aload0 h dX4_paysBack_125 ?_
                              refine aw_iload1 h dX4_paysBack_126 ?_
                              refine aw_iload8 h dX4_paysBack_127 ?_
                              refine aw_callVE2 h hl cl_X4_409 (met_m_roomIn hG hE1 hS h0 (by omega) (by omega)) (gmt hG) rfl dX4_paysBack_129 (Nat.le_of_ble_eq_true rfl) rfl (Nat.zero_le _) (Nat.zero_le _) ?_
                              refine aw_aload0 h dX4_paysBack_132 ?_
                              refine aw_iload4 h dX4_paysBack_133 ?_
                              refine aw_callVE1 h hl cl_X4_301 (met_m_nearOf hG hE1 hS hd) (gmt hG) rfl dX4_paysBack_135 (Nat.le_of_ble_eq_true rfl) rfl (Nat.zero_le _) (Nat.zero_le _) ?_
                              refine aw_icmp_eqN h (tgt := 144) (by have := dg_lt h0 c q; omega) (by have := (ivd hS hd).2.1; omega) dX4_paysBack_138 (by decide) (fun c138 => ?_) (fun c138 => ?_)
                              · refine aw_iload8 h dX4_paysBack_144 ?_
                                refine aw_if_geN h (tgt := 154) (by omega) dX4_paysBack_146 (by decide) (fun c146 => ?_) (fun c146 => ?_)
                                · refine aw_aload0 h dX4_paysBack_154 ?_
                                  refine aw_iload7 h dX4_paysBack_155 ?_
                                  refine aw_iload8 h dX4_paysBack_157 ?_
                                  refine aw_aload0 h dX4_paysBack_159 ?_
                                  refine aw_iload4 h dX4_paysBack_160 ?_
                                  refine aw_callVE1 h hl cl_X4_304 (met_m_farOf hG hE1 hS hd) (gmt hG) rfl dX4_paysBack_162 (Nat.le_of_ble_eq_true rfl) rfl (Nat.zero_le _) (Nat.zero_le _) ?_
                                  refine aw_callVE3 h hl cl_X4_418 (met_m_moved hG hE1 hS h0 (by omega) (by omega)) (gmt hG) rfl dX4_paysBack_165 (Nat.le_of_ble_eq_true rfl) rfl (Nat.zero_le _) (Nat.zero_le _) ?_
                                  refine key168 _ _ _ _ b I1 L1 (mv_lt h0 hone (by omega) (ivd hS hd).2.2.2) ⟨ho, hpf, Or.inr ⟨q, by omega, c122, c138, rfl⟩⟩ hK hR (fun b I2 L2 o9 hK2 hR2 => ?_)
                                  refine aw_iincN8 h rfl dX4_paysBack_206 ?_
                                  refine aw_goto h (tgt := 102) dX4_paysBack_209 (by decide) ?_
                                  exact ih (q + 1) b I2 L2 _ (by omega) (by omega) hK2 (hR2.mono (fun u w hu => by
                                    rcases hu with hu | ⟨hu, h3⟩
                                    · exact Or.inl (Or.inl hu)
                                    · rcases hu with hu | ⟨q2, h4, h5, h6, h7⟩
                                      · exact Or.inl (Or.inr ⟨Or.inl hu, h3⟩)
                                      · by_cases e : q2 = q
                                        · subst e; exact Or.inr ⟨h7, h3⟩
                                        · exact Or.inl (Or.inr ⟨Or.inr ⟨q2, by omega, h5, h6, h7⟩, h3⟩)))
                                · exact absurd c146 (by omega)
                              · refine aw_goto h (tgt := 206) dX4_paysBack_141 (by decide) ?_
                                refine aw_iincN8 h rfl dX4_paysBack_206 ?_
                                refine aw_goto h (tgt := 102) dX4_paysBack_209 (by decide) ?_
                                exact ih (q + 1) b I1 L1 _ (by omega) (by omega) hK (hR.mono (fun u w hu => by
                                  rcases hu with hu | ⟨hu, h3⟩
                                  · exact Or.inl hu
                                  · rcases hu with hu | ⟨q2, h4, h5, h6, h7⟩
                                    · exact Or.inr ⟨Or.inl hu, h3⟩
                                    · by_cases e : q2 = q
                                      · subst e; exact absurd h6 c138
                                      · exact Or.inr ⟨Or.inr ⟨q2, by omega, h5, h6, h7⟩, h3⟩))
                    refine aw_aload0 h dX4_paysBack_84 ?_
                    refine aw_iload1 h dX4_paysBack_85 ?_
                    refine aw_iload5 h dX4_paysBack_86 ?_
                    refine aw_aload0 h dX4_paysBack_88 ?_
                    refine aw_iload4 h dX4_paysBack_89 ?_
                    refine aw_callVE1 h hl cl_X4_301 (met_m_nearOf hG hE1 hS hd) (gmt hG) rfl dX4_paysBack_91 (Nat.le_of_ble_eq_true rfl) rfl (Nat.zero_le _) (Nat.zero_le _) ?_
                    refine aw_callVE3 h hl cl_X4_418 (met_m_moved hG hE1 hS h0 (by omega) (by omega)) (gmt hG) rfl dX4_paysBack_94 (Nat.le_of_ble_eq_true rfl) rfl (Nat.zero_le _) (Nat.zero_le _) ?_
                    refine aw_istore7 h rfl dX4_paysBack_97 ?_
                    refine aw_iconst h _ ci_m1 dX4_paysBack_99 ?_
                    refine aw_istore8 h rfl dX4_paysBack_100 ?_
                    refine aw_iload8 h dX4_paysBack_102 ?_
                    refine aw_aload0 h dX4_paysBack_104 ?_
                    refine aw_getr h fl_X4_39 (gmt hG) dX4_paysBack_105 rfl (gmp20 hG) ?_
                    refine aw_iconst h _ ci_2 dX4_paysBack_108 ?_
                    refine aw_ialdV h (gms171 hG) (by decide) (by omega) dX4_paysBack_109 (iv2e hE1 hS) ?_
                    refine aw_icmp_ge h (tgt := 212) dX4_paysBack_110 (by decide) (fun c110 => ?_) (fun c110 => ?_)
                    · exact absurd c110 (Int32.not_le.mpr (Int32.lt_of_lt_of_le (show (-1 : Int32) < 0 by decide) (nI_pos' (by omega))))
                    · refine aw_iload8 h dX4_paysBack_113 ?_
                      refine aw_if_lt h (tgt := 144) dX4_paysBack_115 (by decide) (fun c115 => ?_) (fun c115 => ?_)
                      · refine aw_iload8 h dX4_paysBack_144 ?_
                        refine aw_if_ge h (tgt := 154) dX4_paysBack_146 (by decide) (fun c146 => ?_) (fun c146 => ?_)
                        · exact absurd c146 (by decide)
                        · refine aw_iload7 h dX4_paysBack_149 ?_
                          refine aw_goto h (tgt := 168) dX4_paysBack_151 (by decide) ?_
                          refine key168 _ _ _ _ b I1 L1 hone ⟨ho, hpf, Or.inl rfl⟩ hK hR (fun b I2 L2 o9 hK2 hR2 => ?_)
                          refine aw_iinc8 h rfl rfl dX4_paysBack_206 ?_
                          refine aw_goto h (tgt := 102) dX4_paysBack_209 (by decide) ?_
                          exact keyq (np S + 1) 0 b I2 L2 _ (Nat.zero_le _) (by omega) hK2 (hR2.mono (fun u w hu => by
                            rcases hu with hu | ⟨hu, h3⟩
                            · exact Or.inl hu
                            · rcases hu with hu | ⟨q2, h4, h5, h6, h7⟩
                              · exact Or.inr ⟨hu, h3⟩
                              · omega))
                      · exact absurd (show (-1 : Int32) < 0 by decide) c115
                  · refine aw_iconst h _ ci_0 dX4_paysBack_70 ?_
                    refine aw_goto h (tgt := 81) dX4_paysBack_71 (by decide) ?_
                    refine aw_iaddN h dX4_paysBack_81 ?_
                    refine aw_istore6 h rfl dX4_paysBack_82 ?_
                    rw [show Y c - 1 + 0 = Y c - 1 + wP S a p by unfold wP; rw [if_pos c67]]
                    have hone : mv (nr S) c p (near S d) < (pw (nr S) (np S)) := mv_lt h0 hc hp (ivd hS hd).2.1
                    have key168 : ∀ (u : Nat) (x8 : Int32) (o9 : Option Value) (D : Nat → Nat → Prop) (b : Bool) (I1 : Im) (L1 : Lm), u < (pw (nr S) (np S)) → ewp S c d p u → PK I L I1 L1 → PB S a src (pw (nr S) (np S)) Y c b D I1 → (∀ (b : Bool) (I1 : Im) (L1 : Lm) (o9 : Option Value), PK I L I1 L1 → PB S a src (pw (nr S) (np S)) Y c b (fun u2 w => D u2 w ∨ (u2 = u ∧ w = wP S a p)) I1 → AW X 0 0 206 [some (.ref (w.1 + 161)), some (.int (nI c)), some (.int (nI a)), some (.int (bI b)), some (.int (nI d)), some (.int (nI p)), some (.int (nI (Y c - 1 + wP S a p))), some (.int (nI (mv (nr S) c p (near S d)))), some (.int (x8)), o9] [] G I1 L1) → AW X 0 0 168 [some (.ref (w.1 + 161)), some (.int (nI c)), some (.int (nI a)), some (.int (bI b)), some (.int (nI d)), some (.int (nI p)), some (.int (nI (Y c - 1 + wP S a p))), some (.int (nI (mv (nr S) c p (near S d)))), some (.int (x8)), o9] [.int (nI u)] G I1 L1 := by
                      intro u x8 o9 D b I1 L1 hu hw hK hR hk
                      have hE1 : I1 171 = S := hK.S hE
                      obtain ⟨X1, hX1, hP1, hc1, hb0, hb1⟩ := hR
                      have hx1 := hP1.le (by omega) hu
                      have hxc := hP1.le (by omega) hc
                      have hEW : EW S a c u (wP S a p) := ⟨d, p, hd, hp, hw, rfl⟩
                      have hrel : X1 u = 0 ∨ X1 c + wP S a p < X1 u → PB S a src (pw (nr S) (np S)) Y c true (fun u2 w => D u2 w ∨ (u2 = u ∧ w = wP S a p)) (upd2 I1 179 u (nI (Y c - 1 + wP S a p))) := by
                        intro hlt
                        have h9 := hP1.relax (by omega) hc hu (by omega) hEW (wP_le hPay hp) hlt
                        refine ⟨_, ?_, h9.1, ?_, fun e => (by cases e), fun _ => ?_⟩
                        · have h8 := hX1.up (n := Y c - 1 + wP S a p) hu
                          rw [show Y c - 1 + wP S a p + 1 = X1 c + wP S a p by omega] at h8
                          exact h8
                        · rw [vup_n _ _ (fun e => by rw [← e] at hlt; omega)]; exact hc1
                        · cases b with
                          | false => rw [← (hb0 rfl).1]; exact h9.2
                          | true => have := hb1 rfl; omega
                      refine aw_istore9 h rfl dX4_paysBack_168 ?_
                      refine aw_aload0 h dX4_paysBack_170 ?_
                      refine aw_getr h fl_X4_69 (gmt hG) dX4_paysBack_171 rfl (gmp36 hG) ?_
                      refine aw_iload9 h dX4_paysBack_174 ?_
                      refine aw_ialdV h (gms179 hG) (by decide) (by omega) dX4_paysBack_176 (hX1 _ hu) ?_
                      refine aw_if_lt h (tgt := 195) dX4_paysBack_177 (by decide) (fun c177 => ?_) (fun c177 => ?_)
                      · refine aw_aload0 h dX4_paysBack_195 ?_
                        refine aw_getr h fl_X4_69 (gmt hG) dX4_paysBack_196 rfl (gmp36 hG) ?_
                        refine aw_iload9 h dX4_paysBack_199 ?_
                        refine aw_iload6 h dX4_paysBack_201 ?_
                        refine aw_iastN h (gms179 hG) (by decide) (by omega) dX4_paysBack_203 ?_
                        refine aw_iconst h _ ci_1 dX4_paysBack_204 ?_
                        refine aw_istore3 h rfl dX4_paysBack_205 ?_
                        exact hk true _ _ _ (hK.trans PK.up) (hrel (Or.inl ((qI_lt (by omega)).mp c177)))
                      · refine aw_aload0 h dX4_paysBack_180 ?_
                        refine aw_getr h fl_X4_69 (gmt hG) dX4_paysBack_181 rfl (gmp36 hG) ?_
                        refine aw_iload9 h dX4_paysBack_184 ?_
                        refine aw_ialdV h (gms179 hG) (by decide) (by omega) dX4_paysBack_186 (hX1 _ hu) ?_
                        refine aw_iload6 h dX4_paysBack_187 ?_
                        refine aw_icmp_gt h (tgt := 195) dX4_paysBack_189 (by decide) (fun c189 => ?_) (fun c189 => ?_)
                        · refine aw_aload0 h dX4_paysBack_195 ?_
                          refine aw_getr h fl_X4_69 (gmt hG) dX4_paysBack_196 rfl (gmp36 hG) ?_
                          refine aw_iload9 h dX4_paysBack_199 ?_
                          refine aw_iload6 h dX4_paysBack_201 ?_
                          refine aw_iastN h (gms179 hG) (by decide) (by omega) dX4_paysBack_203 ?_
                          refine aw_iconst h _ ci_1 dX4_paysBack_204 ?_
                          refine aw_istore3 h rfl dX4_paysBack_205 ?_
                          exact hk true _ _ _ (hK.trans PK.up) (hrel (Or.inr (by
                            have h4 : X1 u ≠ 0 := fun e => c177 ((qI_lt (by omega)).mpr e)
                            have h5 := c189
                            rw [qI_p h4] at h5
                            have h6 := (nI_ltI (by have := wP_le (but := a) hPay hp; omega) (by omega)).mp h5
                            omega)))
                        · refine aw_goto h (tgt := 206) dX4_paysBack_192 (by decide) ?_
                          exact hk b _ _ _ hK ⟨X1, hX1, hP1, hc1, fun e => ⟨(hb0 e).1, fun u2 w hD => hD.elim ((hb0 e).2 u2 w) (fun q => by
                            obtain ⟨rfl, rfl⟩ := q
                            have h3 := (hb0 e).1
                            have h4 : X1 u2 ≠ 0 := fun e => c177 ((qI_lt (by omega)).mpr e)
                            have h5 := c189
                            rw [qI_p h4] at h5
                            have h6 : ¬ Y c - 1 + wP S a p < X1 u2 - 1 := fun q => h5 ((nI_ltI (by have := wP_le (but := a) hPay hp; omega) (by omega)).mpr q)
                            rw [← h3]
                            exact ⟨h4, by omega⟩)⟩, hb1⟩
                    have keyq : ∀ (fq q : Nat) (b : Bool) (I1 : Im) (L1 : Lm) (o9 : Option Value), q ≤ np S → np S < q + fq → PK I L I1 L1 → PB S a src (pw (nr S) (np S)) Y c b (fun u w => ((∃ d2 p2, d2 < d ∧ p2 < np S ∧ ewp S c d2 p2 u ∧ w = wP S a p2) ∨ ∃ p2, p2 < p ∧ ewp S c d p2 u ∧ w = wP S a p2) ∨ ((u = mv (nr S) c p (near S d) ∨ ∃ q2, q2 < q ∧ q2 ≠ p ∧ dg (nr S) c q2 = near S d ∧ u = mv (nr S) (mv (nr S) c p (near S d)) q2 (farr S d)) ∧ w = wP S a p)) I1 → AW X 0 0 102 [some (.ref (w.1 + 161)), some (.int (nI c)), some (.int (nI a)), some (.int (bI b)), some (.int (nI d)), some (.int (nI p)), some (.int (nI (Y c - 1 + wP S a p))), some (.int (nI (mv (nr S) c p (near S d)))), some (.int (nI q)), o9] [] G I1 L1 := by
                      intro fq
                      induction fq with
                      | zero => intro q b I1 L1 o9 hle3 hlt3; exact absurd hlt3 (by omega)
                      | succ fq ih =>
                        intro q b I1 L1 o9 hle3 hlt3 hK hR
                        have hE1 : I1 171 = S := hK.S hE
                        refine aw_iload8 h dX4_paysBack_102 ?_
                        refine aw_aload0 h dX4_paysBack_104 ?_
                        refine aw_getr h fl_X4_39 (gmt hG) dX4_paysBack_105 rfl (gmp20 hG) ?_
                        refine aw_iconst h _ ci_2 dX4_paysBack_108 ?_
                        refine aw_ialdV h (gms171 hG) (by decide) (by omega) dX4_paysBack_109 (iv2e hE1 hS) ?_
                        refine aw_icmp_geN h (tgt := 212) (by omega) (by omega) dX4_paysBack_110 (by decide) (fun c110 => ?_) (fun c110 => ?_)
                        · exact nextp b I1 L1 _ _ _ _ hK (hR.mono (fun u w hu => by
                            rcases hu with hu | ⟨p2, h1, h2, h3⟩
                            · exact Or.inl (Or.inl hu)
                            · by_cases e : p2 = p
                              · subst e
                                refine Or.inr ⟨?_, h3⟩
                                rcases h2.2.2 with h4 | ⟨q2, h4, h5, h6, h7⟩
                                · exact Or.inl h4
                                · exact Or.inr ⟨q2, by omega, h5, h6, h7⟩
                              · exact Or.inl (Or.inr ⟨p2, by omega, h2, h3⟩)))
                        · refine aw_iload8 h dX4_paysBack_113 ?_
                          refine aw_if_ltN h (tgt := 144) (by omega) dX4_paysBack_115 (by decide) (fun c115 => ?_) (fun c115 => ?_)
                          · exact absurd c115 (by omega)
                          · refine aw_iload8 h dX4_paysBack_118 ?_
                            refine aw_iload5 h dX4_paysBack_120 ?_
                            refine aw_icmp_eqN h (tgt := 206) (by omega) (by omega) dX4_paysBack_122 (by decide) (fun c122 => ?_) (fun c122 => ?_)
                            · refine aw_iincN8 h rfl dX4_paysBack_206 ?_
                              refine aw_goto h (tgt := 102) dX4_paysBack_209 (by decide) ?_
                              exact ih (q + 1) b I1 L1 _ (by omega) (by omega) hK (hR.mono (fun u w hu => by
                                rcases hu with hu | ⟨hu, h3⟩
                                · exact Or.inl hu
                                · rcases hu with hu | ⟨q2, h4, h5, h6, h7⟩
                                  · exact Or.inr ⟨Or.inl hu, h3⟩
                                  · by_cases e : q2 = q
                                    · subst e; exact absurd c122 h5
                                    · exact Or.inr ⟨Or.inr ⟨q2, by omega, h5, h6, h7⟩, h3⟩))
                            · refine aw_aload0 h dX4_paysBack_125 ?_
                              refine aw_iload1 h dX4_paysBack_126 ?_
                              refine aw_iload8 h dX4_paysBack_127 ?_
                              refine aw_callVE2 h hl cl_X4_409 (met_m_roomIn hG hE1 hS h0 (by omega) (by omega)) (gmt hG) rfl dX4_paysBack_129 (Nat.le_of_ble_eq_true rfl) rfl (Nat.zero_le _) (Nat.zero_le _) ?_
                              refine aw_aload0 h dX4_paysBack_132 ?_
                              refine aw_iload4 h dX4_paysBack_133 ?_
                              refine aw_callVE1 h hl cl_X4_301 (met_m_nearOf hG hE1 hS hd) (gmt hG) rfl dX4_paysBack_135 (Nat.le_of_ble_eq_true rfl) rfl (Nat.zero_le _) (Nat.zero_le _) ?_
                              refine aw_icmp_eqN h (tgt := 144) (by have := dg_lt h0 c q; omega) (by have := (ivd hS hd).2.1; omega) dX4_paysBack_138 (by decide) (fun c138 => ?_) (fun c138 => ?_)
                              · refine aw_iload8 h dX4_paysBack_144 ?_
                                refine aw_if_geN h (tgt := 154) (by omega) dX4_paysBack_146 (by decide) (fun c146 => ?_) (fun c146 => ?_)
                                · refine aw_aload0 h dX4_paysBack_154 ?_
                                  refine aw_iload7 h dX4_paysBack_155 ?_
                                  refine aw_iload8 h dX4_paysBack_157 ?_
                                  refine aw_aload0 h dX4_paysBack_159 ?_
                                  refine aw_iload4 h dX4_paysBack_160 ?_
                                  refine aw_callVE1 h hl cl_X4_304 (met_m_farOf hG hE1 hS hd) (gmt hG) rfl dX4_paysBack_162 (Nat.le_of_ble_eq_true rfl) rfl (Nat.zero_le _) (Nat.zero_le _) ?_
                                  refine aw_callVE3 h hl cl_X4_418 (met_m_moved hG hE1 hS h0 (by omega) (by omega)) (gmt hG) rfl dX4_paysBack_165 (Nat.le_of_ble_eq_true rfl) rfl (Nat.zero_le _) (Nat.zero_le _) ?_
                                  refine key168 _ _ _ _ b I1 L1 (mv_lt h0 hone (by omega) (ivd hS hd).2.2.2) ⟨ho, hpf, Or.inr ⟨q, by omega, c122, c138, rfl⟩⟩ hK hR (fun b I2 L2 o9 hK2 hR2 => ?_)
                                  refine aw_iincN8 h rfl dX4_paysBack_206 ?_
                                  refine aw_goto h (tgt := 102) dX4_paysBack_209 (by decide) ?_
                                  exact ih (q + 1) b I2 L2 _ (by omega) (by omega) hK2 (hR2.mono (fun u w hu => by
                                    rcases hu with hu | ⟨hu, h3⟩
                                    · exact Or.inl (Or.inl hu)
                                    · rcases hu with hu | ⟨q2, h4, h5, h6, h7⟩
                                      · exact Or.inl (Or.inr ⟨Or.inl hu, h3⟩)
                                      · by_cases e : q2 = q
                                        · subst e; exact Or.inr ⟨h7, h3⟩
                                        · exact Or.inl (Or.inr ⟨Or.inr ⟨q2, by omega, h5, h6, h7⟩, h3⟩)))
                                · exact absurd c146 (by omega)
                              · refine aw_goto h (tgt := 206) dX4_paysBack_141 (by decide) ?_
                                refine aw_iincN8 h rfl dX4_paysBack_206 ?_
                                refine aw_goto h (tgt := 102) dX4_paysBack_209 (by decide) ?_
                                exact ih (q + 1) b I1 L1 _ (by omega) (by omega) hK (hR.mono (fun u w hu => by
                                  rcases hu with hu | ⟨hu, h3⟩
                                  · exact Or.inl hu
                                  · rcases hu with hu | ⟨q2, h4, h5, h6, h7⟩
                                    · exact Or.inr ⟨Or.inl hu, h3⟩
                                    · by_cases e : q2 = q
                                      · subst e; exact absurd h6 c138
                                      · exact Or.inr ⟨Or.inr ⟨q2, by omega, h5, h6, h7⟩, h3⟩))
                    refine aw_aload0 h dX4_paysBack_84 ?_
                    refine aw_iload1 h dX4_paysBack_85 ?_
                    refine aw_iload5 h dX4_paysBack_86 ?_
                    refine aw_aload0 h dX4_paysBack_88 ?_
                    refine aw_iload4 h dX4_paysBack_89 ?_
                    refine aw_callVE1 h hl cl_X4_301 (met_m_nearOf hG hE1 hS hd) (gmt hG) rfl dX4_paysBack_91 (Nat.le_of_ble_eq_true rfl) rfl (Nat.zero_le _) (Nat.zero_le _) ?_
                    refine aw_callVE3 h hl cl_X4_418 (met_m_moved hG hE1 hS h0 (by omega) (by omega)) (gmt hG) rfl dX4_paysBack_94 (Nat.le_of_ble_eq_true rfl) rfl (Nat.zero_le _) (Nat.zero_le _) ?_
                    refine aw_istore7 h rfl dX4_paysBack_97 ?_
                    refine aw_iconst h _ ci_m1 dX4_paysBack_99 ?_
                    refine aw_istore8 h rfl dX4_paysBack_100 ?_
                    refine aw_iload8 h dX4_paysBack_102 ?_
                    refine aw_aload0 h dX4_paysBack_104 ?_
                    refine aw_getr h fl_X4_39 (gmt hG) dX4_paysBack_105 rfl (gmp20 hG) ?_
                    refine aw_iconst h _ ci_2 dX4_paysBack_108 ?_
                    refine aw_ialdV h (gms171 hG) (by decide) (by omega) dX4_paysBack_109 (iv2e hE1 hS) ?_
                    refine aw_icmp_ge h (tgt := 212) dX4_paysBack_110 (by decide) (fun c110 => ?_) (fun c110 => ?_)
                    · exact absurd c110 (Int32.not_le.mpr (Int32.lt_of_lt_of_le (show (-1 : Int32) < 0 by decide) (nI_pos' (by omega))))
                    · refine aw_iload8 h dX4_paysBack_113 ?_
                      refine aw_if_lt h (tgt := 144) dX4_paysBack_115 (by decide) (fun c115 => ?_) (fun c115 => ?_)
                      · refine aw_iload8 h dX4_paysBack_144 ?_
                        refine aw_if_ge h (tgt := 154) dX4_paysBack_146 (by decide) (fun c146 => ?_) (fun c146 => ?_)
                        · exact absurd c146 (by decide)
                        · refine aw_iload7 h dX4_paysBack_149 ?_
                          refine aw_goto h (tgt := 168) dX4_paysBack_151 (by decide) ?_
                          refine key168 _ _ _ _ b I1 L1 hone ⟨ho, hpf, Or.inl rfl⟩ hK hR (fun b I2 L2 o9 hK2 hR2 => ?_)
                          refine aw_iinc8 h rfl rfl dX4_paysBack_206 ?_
                          refine aw_goto h (tgt := 102) dX4_paysBack_209 (by decide) ?_
                          exact keyq (np S + 1) 0 b I2 L2 _ (Nat.zero_le _) (by omega) hK2 (hR2.mono (fun u w hu => by
                            rcases hu with hu | ⟨hu, h3⟩
                            · exact Or.inl hu
                            · rcases hu with hu | ⟨q2, h4, h5, h6, h7⟩
                              · exact Or.inr ⟨hu, h3⟩
                              · omega))
                      · exact absurd (show (-1 : Int32) < 0 by decide) c115
                · refine aw_goto h (tgt := 212) dX4_paysBack_55 (by decide) ?_
                  exact nextp hp b I1 L1 _ _ _ _ hK (hR.mono (fun u w hu => by
                    rcases hu with hu | ⟨p2, h1, h2, h3⟩
                    · exact Or.inl hu
                    · by_cases e : p2 = p
                      · subst e; exact absurd h2.2.1 c52
                      · exact Or.inr ⟨p2, by omega, h2, h3⟩))
        refine aw_iconst h _ ci_0 dX4_paysBack_16 ?_
        refine aw_istore5 h rfl dX4_paysBack_17 ?_
        exact keyp (np S + 1) 0 b I1 L1 _ _ _ _ (Nat.zero_le _) (by omega) hK (hR.mono (fun u w hu => by
          rcases hu with hu | ⟨p2, h1, h2⟩
          · exact hu
          · omega))
  refine aw_iconst h _ ci_0 dX4_paysBack_0 ?_
  refine aw_istore3 h rfl dX4_paysBack_1 ?_
  refine aw_iconst h _ ci_0 dX4_paysBack_2 ?_
  refine aw_istore4 h rfl dX4_paysBack_3 ?_
  exact keyd (nd S + 1) 0 false I L _ _ _ _ _ (Nat.zero_le _) (by omega) PK.rf ⟨Y, hX, hPX, rfl, fun _ => ⟨rfl, fun u w hu => by obtain ⟨d2, p2, h1, h2⟩ := hu; omega⟩, fun e => by cases e⟩
def FixAll (S : Nat → Int32) (a : Nat) (X : Nat → Nat) (k : Nat) : Prop := ∀ c, c < k → FixW S a X c
theorem PI.init {S : Nat → Int32} {a : Nat} {X : Nat → Nat} (hX : ∀ c, c < pw (nr S) (np S) → X c = if atB S (2 ^ a) c = true then 1 else 0) (hX2 : ∀ s, goalC S (np S) (2 ^ a) s → X s = 1) : PI S a (goalC S (np S) (2 ^ a)) (pw (nr S) (np S)) X := by
  refine ⟨fun c y hc hy => ?_, fun c hc => ?_, hX2⟩
  · rw [hX c hc] at hy
    split at hy
    · rename_i e
      have : y = 0 := by omega
      subst this
      exact ⟨0, c, ⟨hc, e⟩, rfl, rfl⟩
    · omega
  · rw [hX c hc]; split <;> omega
theorem met_m_price {w : Wd} {G : Gm} {I : Im} {L : Lm} (hG : GM G) {S : Nat → Int32} (hE : I 171 = S) (hS : InvS S) (hPay : PayS S) {p : Int32} : AMet w yX4_price cX4_price 5 (some .int) 5 137 0 0 [.ref (w.1 + 161), .int p] G I L (Ans (some (.int (priceA S p))) (PQ G I L)) := by
  refine AMet.of (ls0 := [some (.ref (w.1 + 161)), some (.int p), none, none, none]) rfl (Nat.le_of_ble_eq_true rfl) rfl (fun q hq => hq) (fun X h hl hr hi => ?_)
  refine aw_aload0 h dX4_price_0 ?_
  refine aw_iload1 h dX4_price_1 ?_
  refine aw_callVE1 h hl cl_X4_328 (met_m_isPerson hG hE hS) (gmt hG) rfl dX4_price_2 (Nat.le_of_ble_eq_true rfl) rfl (Nat.zero_le _) (Nat.zero_le _) ?_
  refine aw_if_neB h (tgt := 10) dX4_price_5 (by decide) (fun c5 => ?_) (fun c5 => ?_)
  · obtain ⟨a, ha, rfl⟩ := of_rng c5 (by have := iv2b hS; omega)
    have h0 : 0 < nr S := by have := (ivp hS ha).2.1; omega
    have hans : priceA S (nI a) = n2 (priceV S a) := by unfold priceA; rw [c5, nI_clamp (by have := iv2b hS; omega)]; rfl
    have b0 := iv0b hS
    have b2 := iv2b hS
    have hp4 := pw_np hS
    have hcv := codeV_lt hS
    have hsrc : ∀ s, goalC S (np S) (2 ^ a) s → s < (pw (nr S) (np S)) := fun s h => h.1
    have h2p : 2 ^ a ≤ 2 ^ 4 := Nat.pow_le_pow_right (by decide) (by omega)
    have keyE : ∀ (b : Bool) (I1 : Im) (L1 : Lm) (Y1 : Nat → Nat) (o4 : Option Value), PK I L I1 L1 → XR Y1 (pw (nr S) (np S)) I1 → PI S a (goalC S (np S) (2 ^ a)) (pw (nr S) (np S)) Y1 → b = false → FixAll S a Y1 (pw (nr S) (np S)) → AW X 0 0 58 [some (.ref (w.1 + 161)), some (.int (nI a)), some (.int (nI (pw (nr S) (np S)))), some (.int (bI b)), o4] [] G I1 L1 := by
      intro b I1 L1 Y1 o4 hK hX hP hb hfx
      subst hb
      have hE1 : I1 171 = S := hK.S hE
      have hpr : I1 179 (codeV S) = priceV S a := (hX _ hcv).trans (hP.done hS h0 hsrc hfx _ hcv)
      refine aw_iload3 h dX4_price_58 ?_
      refine aw_if_eqB h (tgt := 104) dX4_price_59 (by decide) (fun c59 => ?_) (fun c59 => ?_)
      · refine aw_aload0 h dX4_price_104 ?_
        refine aw_getr h fl_X4_69 (gmt hG) dX4_price_105 rfl (gmp36 hG) ?_
        refine aw_aload0 h dX4_price_108 ?_
        refine aw_callVE0 h hl cl_X4_443 (met_m_codeNow hG hE1 hS) (gmt hG) rfl dX4_price_109 (Nat.le_of_ble_eq_true rfl) rfl (Nat.zero_le _) (Nat.zero_le _) ?_
        refine aw_ialdV h (gms179 hG) (by decide) (show codeV S < 4096 by omega) dX4_price_112 (hpr) ?_
        refine aw_if_ge h (tgt := 121) dX4_price_113 (by decide) (fun c113 => ?_) (fun c113 => ?_)
        · refine aw_aload0 h dX4_price_121 ?_
          refine aw_getr h fl_X4_69 (gmt hG) dX4_price_122 rfl (gmp36 hG) ?_
          refine aw_aload0 h dX4_price_125 ?_
          refine aw_callVE0 h hl cl_X4_443 (met_m_codeNow hG hE1 hS) (gmt hG) rfl dX4_price_126 (Nat.le_of_ble_eq_true rfl) rfl (Nat.zero_le _) (Nat.zero_le _) ?_
          refine aw_ialdV h (gms179 hG) (by decide) (show codeV S < 4096 by omega) dX4_price_129 (hpr) ?_
          exact aw_iret h hr dX4_price_130 (⟨by rw [hans]; unfold n2; rw [if_neg (Int32.not_lt.mpr c113)], rfl, hK.mc⟩) (Nat.zero_le _) (Nat.zero_le _)
        · refine aw_bipush h _ cb_m2 dX4_price_116 ?_
          refine aw_goto h (tgt := 130) dX4_price_118 (by decide) ?_
          exact aw_iret h hr dX4_price_130 (⟨by rw [hans]; unfold n2; rw [if_pos (Int32.not_le.mp c113)], rfl, hK.mc⟩) (Nat.zero_le _) (Nat.zero_le _)
      · cases c59
    have keyM : ∀ (mm : Nat) (I0 : Im) (L0 : Lm) (Y0 : Nat → Nat) (o4 : Option Value), PK I L I0 L0 → XR Y0 (pw (nr S) (np S)) I0 → PI S a (goalC S (np S) (2 ^ a)) (pw (nr S) (np S)) Y0 → muP (pw (nr S) (np S)) Y0 < mm → AW X 0 0 58 [some (.ref (w.1 + 161)), some (.int (nI a)), some (.int (nI (pw (nr S) (np S)))), some (.int (bI true)), o4] [] G I0 L0 := by
      intro mm
      induction mm with
      | zero => intro I0 L0 Y0 o4 _ _ _ h; exact absurd h (by omega)
      | succ mm ihm =>
        intro I0 L0 Y0 o4 hK0 hX0 hP0 hmu
        have hE0 : I0 171 = S := hK0.S hE
        refine aw_iload3 h dX4_price_58 ?_
        refine aw_if_eqB h (tgt := 104) dX4_price_59 (by decide) (fun c59 => ?_) (fun c59 => ?_)
        · cases c59
        · have hout : ∀ (b : Bool) (I1 : Im) (L1 : Lm) (Y1 : Nat → Nat) (o4 : Option Value), PK I L I1 L1 → XR Y1 (pw (nr S) (np S)) I1 → PI S a (goalC S (np S) (2 ^ a)) (pw (nr S) (np S)) Y1 → (b = false → FixAll S a Y1 (pw (nr S) (np S))) → (b = true → muP (pw (nr S) (np S)) Y1 < muP (pw (nr S) (np S)) Y0) → AW X 0 0 58 [some (.ref (w.1 + 161)), some (.int (nI a)), some (.int (nI (pw (nr S) (np S)))), some (.int (bI b)), o4] [] G I1 L1 := by
            intro b I1 L1 Y1 o4 h1 h2 h3 h4 h5
            cases b with
            | false => exact keyE false I1 L1 Y1 _ h1 h2 h3 rfl (h4 rfl)
            | true => exact ihm I1 L1 Y1 _ h1 h2 h3 (by have := h5 rfl; omega)
          have key90 : ∀ (b b2 : Bool) (c : Nat) (Y1 Y2 : Nat → Nat) (I2 : Im) (L2 : Lm), PK I L I2 L2 → c < (pw (nr S) (np S)) → XR Y2 (pw (nr S) (np S)) I2 → PI S a (goalC S (np S) (2 ^ a)) (pw (nr S) (np S)) Y2 → (b = false → Y1 = Y0 ∧ FixAll S a Y0 c) → (b = true → muP (pw (nr S) (np S)) Y1 < muP (pw (nr S) (np S)) Y0) → (b2 = false → Y2 = Y1 ∧ FixW S a Y1 c) → (b2 = true → muP (pw (nr S) (np S)) Y2 < muP (pw (nr S) (np S)) Y1) →
              (∀ (b3 : Bool) (I3 : Im) (L3 : Lm) (Y3 : Nat → Nat), PK I L I3 L3 → XR Y3 (pw (nr S) (np S)) I3 → PI S a (goalC S (np S) (2 ^ a)) (pw (nr S) (np S)) Y3 → (b3 = false → Y3 = Y0 ∧ FixAll S a Y0 (c + 1)) → (b3 = true → muP (pw (nr S) (np S)) Y3 < muP (pw (nr S) (np S)) Y0) → AW X 0 0 67 [some (.ref (w.1 + 161)), some (.int (nI a)), some (.int (nI (pw (nr S) (np S)))), some (.int (bI b3)), some (.int (nI (c + 1)))] [] G I3 L3) →
              AW X 0 0 90 [some (.ref (w.1 + 161)), some (.int (nI a)), some (.int (nI (pw (nr S) (np S)))), some (.int (bI b)), some (.int (nI c))] [.int (bI b2)] G I2 L2 := by
            intro b b2 c Y1 Y2 I2 L2 hK hc hX hP hf ht hf2 ht2 hk
            have hfx : b2 = false → b = false → Y2 = Y0 ∧ FixAll S a Y0 (c + 1) := fun e2 e => ⟨(hf2 e2).1.trans (hf e).1, fun c2 hc2 => by
              by_cases e3 : c2 = c
              · subst e3; exact (hf e).1 ▸ (hf2 e2).2
              · exact (hf e).2 c2 (by omega)⟩
            have htx : b2 = false → b = true → muP (pw (nr S) (np S)) Y2 < muP (pw (nr S) (np S)) Y0 := fun e2 e => by rw [(hf2 e2).1]; exact ht e
            have hty : b2 = true → muP (pw (nr S) (np S)) Y2 < muP (pw (nr S) (np S)) Y0 := fun e2 => by
              have h1 := ht2 e2
              cases b with
              | false => rw [← (hf rfl).1]; exact h1
              | true => have := ht rfl; omega
            refine aw_if_eqB h (tgt := 95) dX4_price_90 (by decide) (fun c90 => ?_) (fun c90 => ?_)
            · refine aw_iincN4 h rfl dX4_price_95 ?_
              refine aw_goto h (tgt := 67) dX4_price_98 (by decide) ?_
              exact hk b I2 L2 Y2 hK hX hP (hfx c90) (htx c90)
            · refine aw_iconst h _ ci_1 dX4_price_93 ?_
              refine aw_istore3 h rfl dX4_price_94 ?_
              refine aw_iincN4 h rfl dX4_price_95 ?_
              refine aw_goto h (tgt := 67) dX4_price_98 (by decide) ?_
              exact hk true I2 L2 Y2 hK hX hP (fun e => by cases e) (fun _ => hty c90)
          have keyc : ∀ (fc c : Nat) (b : Bool) (I1 : Im) (L1 : Lm) (Y1 : Nat → Nat), c ≤ (pw (nr S) (np S)) → (pw (nr S) (np S)) < c + fc → PK I L I1 L1 → XR Y1 (pw (nr S) (np S)) I1 → PI S a (goalC S (np S) (2 ^ a)) (pw (nr S) (np S)) Y1 → (b = false → Y1 = Y0 ∧ FixAll S a Y0 c) → (b = true → muP (pw (nr S) (np S)) Y1 < muP (pw (nr S) (np S)) Y0) → AW X 0 0 67 [some (.ref (w.1 + 161)), some (.int (nI a)), some (.int (nI (pw (nr S) (np S)))), some (.int (bI b)), some (.int (nI c))] [] G I1 L1 := by
            intro fc
            induction fc with
            | zero => intro c b I1 L1 Y1 hle hlt; exact absurd hlt (by omega)
            | succ fc ih =>
              intro c b I1 L1 Y1 hle hlt hK hX hP1 hf ht
              have hE1 : I1 171 = S := hK.S hE
              refine aw_iload4 h dX4_price_67 ?_
              refine aw_iload2 h dX4_price_69 ?_
              refine aw_icmp_geN h (tgt := 101) (by omega) (by omega) dX4_price_70 (by decide) (fun c70 => ?_) (fun c70 => ?_)
              · refine aw_goto h (tgt := 58) dX4_price_101 (by decide) ?_
                exact hout b I1 L1 Y1 _ hK hX hP1 (fun e c2 hc2 => (hf e).1 ▸ (hf e).2 c2 (by omega)) ht
              · refine aw_aload0 h dX4_price_73 ?_
                refine aw_getr h fl_X4_69 (gmt hG) dX4_price_74 rfl (gmp36 hG) ?_
                refine aw_iload4 h dX4_price_77 ?_
                refine aw_ialdV h (gms179 hG) (by decide) (by omega) dX4_price_79 (hX c (by omega)) ?_
                refine aw_if_lt h (tgt := 95) dX4_price_80 (by decide) (fun c80 => ?_) (fun c80 => ?_)
                · refine aw_iincN4 h rfl dX4_price_95 ?_
                  refine aw_goto h (tgt := 67) dX4_price_98 (by decide) ?_
                  exact ih (c + 1) b I1 L1 Y1 (by omega) (by omega) hK hX hP1 (fun e => ⟨(hf e).1, fun c2 hc2 => by
                    by_cases e2 : c2 = c
                    · subst e2
                      intro hx
                      rw [← (hf e).1] at hx
                      exact absurd ((qI_lt (by have := hP1.le (by omega) (show c2 < pw (nr S) (np S) by omega); omega)).mp c80) hx
                    · exact (hf e).2 c2 (by omega)⟩) ht
                · have hx0 : Y1 c ≠ 0 := fun e => c80 ((qI_lt (by have := hP1.le (by omega) (show c < pw (nr S) (np S) by omega); omega)).mpr e)
                  refine aw_aload0 h dX4_price_83 ?_
                  refine aw_iload4 h dX4_price_84 ?_
                  refine aw_iload1 h dX4_price_86 ?_
                  refine aw_callVR2 h hl cl_X4_458 (met_m_paysBack (c := c) hG hE1 hS h0 hPay ha hX hP1 (by omega) hx0) (gmt hG) rfl dX4_price_87 (Nat.le_of_ble_eq_true rfl) rfl (Nat.zero_le _) (Nat.zero_le _) (fun v G1 I2 L2 hp => ?_)
                  obtain ⟨b2, rfl, rfl, hK2, Y2, hX2, hP2, -, hf2, ht2⟩ := hp
                  refine key90 b b2 c Y1 Y2 I2 L2 (hK.trans hK2) (by omega) hX2 hP2 hf ht (fun e => ⟨(hf2 e).1, fun hx u w hE => (hf2 e).2 u w hE⟩) ht2 (fun b3 I3 L3 h3 h4 h5 h6 h7 h8 => ih (c + 1) b3 I3 L3 h3 (by omega) (by omega) h4 h5 h6 h7 h8)
          refine aw_iconst h _ ci_0 dX4_price_62 ?_
          refine aw_istore3 h rfl dX4_price_63 ?_
          refine aw_iconst h _ ci_0 dX4_price_64 ?_
          refine aw_istore4 h rfl dX4_price_65 ?_
          exact keyc ((pw (nr S) (np S)) + 1) 0 false I0 L0 Y0 (Nat.zero_le _) (by omega) hK0 hX0 hP0 (fun _ => ⟨rfl, fun c2 hc2 => by omega⟩) (fun e => by cases e)
    have keyi : ∀ (fu c : Nat) (f : Nat → Int32), c ≤ (pw (nr S) (np S)) → (pw (nr S) (np S)) < c + fu → (∀ j, j < c → f j = qI (if atB S (2 ^ a) j = true then 1 else 0)) → AW X 0 0 23 [some (.ref (w.1 + 161)), some (.int (nI a)), some (.int (nI (pw (nr S) (np S)))), some (.int (nI c)), none] [] G (va_up I 179 f) L := by
      intro fu
      induction fu with
      | zero => intro c f hle hlt; exact absurd hlt (by omega)
      | succ fu ih =>
        intro c f hle hlt hf
        have hE2 : va_up I 179 f 171 = S := hE
        refine aw_iload3 h dX4_price_23 ?_
        refine aw_iload2 h dX4_price_24 ?_
        refine aw_icmp_geN h (tgt := 56) (by omega) (by omega) dX4_price_25 (by decide) (fun c25 => ?_) (fun c25 => ?_)
        · have hX0 : XR (fun c => if atB S (2 ^ a) c = true then 1 else 0) (pw (nr S) (np S)) (va_up I 179 f) := fun j hj => by
            rw [vup_s]
            exact hf j (by omega)
          refine aw_iconst h _ ci_1 dX4_price_56 ?_
          refine aw_istore3 h rfl dX4_price_57 ?_
          exact keyM (muP (pw (nr S) (np S)) (fun c => if atB S (2 ^ a) c = true then 1 else 0) + 1) _ _ _ _ ⟨rfl, fun n h => vup_n _ _ h⟩ hX0 (PI.init (fun c _ => rfl) (fun s hs => if_pos hs.2)) (by omega)
        · refine aw_aload0 h dX4_price_28 ?_
          refine aw_getr h fl_X4_69 (gmt hG) dX4_price_29 rfl (gmp36 hG) ?_
          refine aw_iload3 h dX4_price_32 ?_
          refine aw_aload0 h dX4_price_33 ?_
          refine aw_iload3 h dX4_price_34 ?_
          refine aw_iconst h _ ci_1 dX4_price_35 ?_
          refine aw_iload1 h dX4_price_36 ?_
          refine aw_ishl h dX4_price_37 ?_
          rw [bs_shl1 (by omega)]
          refine aw_callVE2 h hl cl_X4_431 (met_m_areAtGoals hG hE2 hS h0 (by omega) (by omega)) (gmt hG) rfl dX4_price_38 (Nat.le_of_ble_eq_true rfl) rfl (Nat.zero_le _) (Nat.zero_le _) ?_
          refine aw_if_eqB h (tgt := 48) dX4_price_41 (by decide) (fun c41 => ?_) (fun c41 => ?_)
          · refine aw_iconst h _ ci_m1 dX4_price_48 ?_
            refine aw_iastN h (gms179 hG) (by decide) (by omega) dX4_price_49 ?_
            rw [upd2_vup]
            refine aw_iincN3 h rfl dX4_price_50 ?_
            refine aw_goto h (tgt := 23) dX4_price_53 (by decide) ?_
            refine ih (c + 1) _ (by omega) (by omega) (fun j hj => ?_)
            by_cases e : j = c
            · subst e; rw [vup_s, if_neg (by rw [c41]; exact Bool.false_ne_true)]; rfl
            · rw [vup_n _ _ e]; exact hf j (by omega)
          · refine aw_iconst h _ ci_0 dX4_price_44 ?_
            refine aw_goto h (tgt := 49) dX4_price_45 (by decide) ?_
            refine aw_iastN h (gms179 hG) (by decide) (by omega) dX4_price_49 ?_
            rw [upd2_vup]
            refine aw_iincN3 h rfl dX4_price_50 ?_
            refine aw_goto h (tgt := 23) dX4_price_53 (by decide) ?_
            refine ih (c + 1) _ (by omega) (by omega) (fun j hj => ?_)
            by_cases e : j = c
            · subst e; rw [vup_s, if_pos c41]; rfl
            · rw [vup_n _ _ e]; exact hf j (by omega)
    refine aw_aload0 h dX4_price_10 ?_
    refine aw_aload0 h dX4_price_11 ?_
    refine aw_getr h fl_X4_39 (gmt hG) dX4_price_12 rfl (gmp20 hG) ?_
    refine aw_iconst h _ ci_2 dX4_price_15 ?_
    refine aw_ialdV h (gms171 hG) (by decide) (by omega) dX4_price_16 (iv2e hE hS) ?_
    refine aw_callVE1 h hl cl_X4_406 (met_m_power hG hE hS (by omega)) (gmt hG) rfl dX4_price_17 (Nat.le_of_ble_eq_true rfl) rfl (Nat.zero_le _) (Nat.zero_le _) ?_
    refine aw_istore2 h rfl dX4_price_20 ?_
    refine aw_iconst h _ ci_0 dX4_price_21 ?_
    refine aw_istore3 h rfl dX4_price_22 ?_
    have h9 := keyi ((pw (nr S) (np S)) + 1) 0 (I 179) (Nat.zero_le _) (by omega) (fun j hj => absurd hj (by omega))
    rw [show va_up I 179 (I 179) = I from vup_id I 179] at h9
    exact h9
  · refine aw_iconst h _ ci_m1 dX4_price_8 ?_
    exact aw_iret h hr dX4_price_9 (⟨by unfold priceA; rw [c5]; rfl, rfl, MC.rf⟩) (Nat.zero_le _) (Nat.zero_le _)
