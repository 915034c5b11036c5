/-! The reference: back from the ends, through all that leads there -/
set_option maxRecDepth 100000
theorem RB.re {E : Nat → Nat → Prop} {src : Nat → Prop} {n M c k x cnt u : Nat} {qv lv : Nat → Nat} {D : Nat → Prop} {G G1 : Gm} {I I1 : Im} {L L1 : Lm} (hb : BFI E src M cnt k qv lv) (hk : k < cnt) (hq : qv k = c) (hl : lv c = x) (hD : ∀ u, D u → seenB cnt qv u)
    (hE : E c u) (hu : u < M) (h : RE n M cnt u (x + 1) qv lv G I L G1 I1 L1) : RB E src n M c k x (fun v => D v ∨ v = u) I1 := by
  rcases h.2.2 with ⟨h1, h2⟩ | ⟨h1, h2⟩
  · exact ⟨cnt, qv, lv, h2, hb, hk, hq, hl, fun v hv => hv.elim (hD v) (fun e => e ▸ h1)⟩
  · have hb2 := hb.add hk hu (by rw [hq]; exact hE) h1
    rw [hq, hl] at hb2
    have hne : c ≠ u := fun e => h1 ⟨k, hk, hq.trans e⟩
    exact ⟨cnt + 1, _, _, h2, hb2, by omega, by rw [vup_n _ _ (by omega)]; exact hq, by rw [vup_n _ _ hne]; exact hl, fun v hv => seen_up.mpr (hv.imp (hD v) id)⟩
theorem ST.re {src : Nat → Prop} {n M c cnt : Nat} {qv lv : Nat → Nat} {G G1 : Gm} {I I1 : Im} {L L1 : Lm} (hb : ∀ j, j < cnt → qv j < c ∧ src (qv j) ∧ lv (qv j) = 0) (hd : ∀ s, s < c → src s → seenB cnt qv s)
    (hs : src c) (h : RE n M cnt c 0 qv lv G I L G1 I1 L1) : ST src n M (c + 1) I1 := by
  have hn : ¬ seenB cnt qv c := fun ⟨j, h1, h2⟩ => by have := (hb j h1).1; omega
  rcases h.2.2 with ⟨h1, h2⟩ | ⟨h1, h2⟩
  · exact absurd h1 hn
  · refine ⟨cnt + 1, _, _, h2, fun j hj => ?_, fun s h3 h4 => seen_up.mpr ?_⟩
    · by_cases e : j = cnt
      · subst e; rw [vup_s, vup_s]; exact ⟨by omega, hs, rfl⟩
      · have := hb j (by omega)
        rw [vup_n _ _ e, vup_n _ _ (by omega)]; exact ⟨by omega, this.2⟩
    · by_cases e : s = c
      · exact Or.inr e
      · exact Or.inl (hd s (by omega) h4)
def EPp (S : Nat → Int32) (n c d p u : Nat) : Prop := dg (nr S) c p = farr S d ∧ (u = mv (nr S) c p (near S d) ∨ ∃ q, q < n ∧ q ≠ p ∧ dg (nr S) c q = near S d ∧ u = mv (nr S) (mv (nr S) c p (near S d)) q (farr S d))
def EIq (S : Nat → Int32) (c d q u : Nat) : Prop := dg (nr S) c q = near S d ∧ u = mv (nr S) c q (farr S d)
def EBd (S : Nat → Int32) (n : Nat) (inw : Int32) (c d u : Nat) : Prop := openB S d = true ∧ ((∃ p, p < n ∧ EPp S n c d p u) ∨ (nI d = inw ∧ ∃ q, q < n ∧ EIq S c d q u))
theorem EB_d {S : Nat → Int32} {n c u : Nat} {inw : Int32} : EB S n inw c u ↔ ∃ d, d < nd S ∧ EBd S n inw c d u := Iff.rfl
/-- all from which a passing leads to c are reached -/
def BP (S : Nat → Int32) (src : Nat → Prop) (n c k x : Nat) (inw : Int32) (G : Gm) (I : Im) (L : Lm) : Gm → Im → Lm → Prop := fun G1 I1 L1 => G = G1 ∧ QK I L I1 L1 ∧ RB (EB S n inw) src n (pw (nr S) n) c k x (fun u => EB S n inw c u) I1
def FP (S : Nat → Int32) (src : Nat → Prop) (n : Nat) (inw : Int32) (G : Gm) (I : Im) (L : Lm) : Gm → Im → Lm → Prop := fun G1 I1 L1 => G = G1 ∧ QK I L I1 L1 ∧ ∀ c, c < pw (nr S) n → I1 177 c = distE (EB S n inw) src c ∧ DistP (EB S n inw) src (pw (nr S) n) c (I1 177 c)
theorem met_m_reachesBack {w : Wd} {G : Gm} {I : Im} {L : Lm} (hG : GM G) {S : Nat → Int32} (hE : I 171 = S) (hS : InvS S) (h0 : 0 < nr S) {src : Nat → Prop} {n c k x : Nat} {inw : Int32} (hn : n ≤ 5) (hMM : pw (nr S) n ≤ 32768) (hR : RB (EB S n inw) src n (pw (nr S) n) c k x (fun _ => False) I) : AMet w yX4_reachesBack cX4_reachesBack 8 none 4 108 0 0 [.ref (w.1 + 161), .int (nI c), .int inw] G I L (Ans none (BP S src n c k x inw G I L)) := by
  refine AMet.of (ls0 := [some (.ref (w.1 + 161)), some (.int (nI c)), some (.int inw), none, none, none, none, none]) rfl (Nat.le_of_ble_eq_true rfl) rfl (fun q hq => hq) (fun X h hl hr hi => ?_)
  have b0 := iv0b hS
  have b1 := iv1b hS
  have hv := hR.val
  have hK : QK I L I L := QK.rf
  have keyd : ∀ (fu d : Nat) (I1 : Im) (L1 : Lm) (o5 : Option Value) (o6 : Option Value) (o7 : Option Value), d ≤ nd S → nd S < d + fu → QK I L I1 L1 → RB (EB S n inw) src n (pw (nr S) n) c k x (fun u => ∃ d2, d2 < d ∧ EBd S n inw c d2 u) I1 → AW X 0 0 12 [some (.ref (w.1 + 161)), some (.int (nI c)), some (.int (inw)), some (.int (nI (x + 1))), some (.int (nI d)), o5, o6, o7] [] G I1 L1 := by
    intro fu
    induction fu with
    | zero => intro d I1 L1 o5 o6 o7 hle hlt; exact absurd hlt (by omega)
    | succ fu ihd =>
      intro d I1 L1 o5 o6 o7 hle hlt hK hR
      have hE1 : I1 171 = S := hK.S hE
      have hv := hR.val
      refine aw_iload4 h dX4_reachesBack_12 ?_
      refine aw_aload0 h dX4_reachesBack_14 ?_
      refine aw_getr h fl_X4_39 (gmt hG) dX4_reachesBack_15 rfl (gmp20 hG) ?_
      refine aw_iconst h _ ci_1 dX4_reachesBack_18 ?_
      refine aw_ialdV h (gms171 hG) (by decide) (by omega) dX4_reachesBack_19 (iv1e hE1 hS) ?_
      refine aw_icmp_geN h (tgt := 218) (by omega) (by omega) dX4_reachesBack_20 (by decide) (fun c20 => ?_) (fun c20 => ?_)
      · exact aw_vret h hr dX4_reachesBack_218 (⟨rfl, rfl, hK, hR.mono (fun u hu => by obtain ⟨d2, h1, h2⟩ := hu; exact ⟨d2, by omega, h2⟩)⟩) (Nat.zero_le _) (Nat.zero_le _)
      · have hd : d < nd S := by omega
        refine aw_aload0 h dX4_reachesBack_23 ?_
        refine aw_iload4 h dX4_reachesBack_24 ?_
        refine aw_callVE1 h hl cl_X4_310 (met_m_isOpen hG hE1 hS (by omega)) (gmt hG) rfl dX4_reachesBack_26 (Nat.le_of_ble_eq_true rfl) rfl (Nat.zero_le _) (Nat.zero_le _) ?_
        refine aw_if_neB h (tgt := 35) dX4_reachesBack_29 (by decide) (fun c29 => ?_) (fun c29 => ?_)
        · have ho : openB S d = true := c29
          have hend : ∀ (I1 : Im) (L1 : Lm) (o5 o6 o7 : Option Value), QK I L I1 L1 → RB (EB S n inw) src n (pw (nr S) n) c k x (fun u => (∃ d2, d2 < d ∧ EBd S n inw c d2 u) ∨ EBd S n inw c d u) I1 → AW X 0 0 212 [some (.ref (w.1 + 161)), some (.int (nI c)), some (.int (inw)), some (.int (nI (x + 1))), some (.int (nI d)), o5, o6, o7] [] G I1 L1 := by
            intro I1 L1 o5 o6 o7 hK hR
            refine aw_iincN4 h rfl dX4_reachesBack_212 ?_
            refine aw_goto h (tgt := 12) dX4_reachesBack_215 (by decide) ?_
            exact ihd (d + 1) I1 L1 _ _ _ (by omega) (by omega) hK (hR.mono (fun u hu => by
              obtain ⟨d2, h1, h2⟩ := hu
              by_cases e : d2 = d
              · subst e; exact Or.inr h2
              · exact Or.inl ⟨d2, by omega, h2⟩))
          have key4 : ∀ (fu p : Nat) (I1 : Im) (L1 : Lm) (o6 : Option Value) (o7 : Option Value), p ≤ n → n < p + fu → QK I L I1 L1 → RB (EB S n inw) src n (pw (nr S) n) c k x (fun u => ((∃ d2, d2 < d ∧ EBd S n inw c d2 u) ∨ ∃ p2, p2 < n ∧ EPp S n c d p2 u) ∨ ∃ p2, p2 < p ∧ EIq S c d p2 u) I1 → AW X 0 0 157 [some (.ref (w.1 + 161)), some (.int (nI c)), some (.int (inw)), some (.int (nI (x + 1))), some (.int (nI d)), some (.int (nI p)), o6, o7] [] G I1 L1 := by
            intro fu
            induction fu with
            | zero => intro p I1 L1 o6 o7 hle hlt; exact absurd hlt (by omega)
            | succ fu ih =>
              intro p I1 L1 o6 o7 hle hlt hK hR
              have hE1 : I1 171 = S := hK.S hE
              have hv := hR.val
              refine aw_iload5 h dX4_reachesBack_157 ?_
              refine aw_aload0 h dX4_reachesBack_159 ?_
              refine aw_getiV h fl_X4_415 (gmt hG) dX4_reachesBack_160 rfl (hv.2.2.2) ?_
              refine aw_icmp_geN h (tgt := 212) (by omega) (by omega) dX4_reachesBack_163 (by decide) (fun c163 => ?_) (fun c163 => ?_)
              · exact hend I1 L1 _ _ _ hK (hR.mono (fun u hu => by
                  rcases hu with hu | ⟨-, hu | ⟨h1, q2, h2, h3⟩⟩
                  · exact Or.inl (Or.inl hu)
                  · exact Or.inl (Or.inr hu)
                  · exact Or.inr ⟨q2, by omega, h3⟩))
              · refine aw_iload4 h dX4_reachesBack_166 ?_
                refine aw_iload2 h dX4_reachesBack_168 ?_
                refine aw_icmp_ne h (tgt := 212) dX4_reachesBack_169 (by decide) (fun c169 => ?_) (fun c169 => ?_)
                · exact hend I1 L1 _ _ _ hK (hR.mono (fun u hu => by
                    rcases hu with hu | ⟨-, hu | ⟨h1, q2, h2, h3⟩⟩
                    · exact Or.inl (Or.inl hu)
                    · exact Or.inl (Or.inr hu)
                    · exact absurd h1 c169))
                · refine aw_aload0 h dX4_reachesBack_172 ?_
                  refine aw_iload1 h dX4_reachesBack_173 ?_
                  refine aw_iload5 h dX4_reachesBack_174 ?_
                  refine aw_callVE2 h hl cl_X4_409 (met_m_roomIn hG hE1 hS h0 (by omega) (by omega)) (gmt hG) rfl dX4_reachesBack_176 (Nat.le_of_ble_eq_true rfl) rfl (Nat.zero_le _) (Nat.zero_le _) ?_
                  refine aw_aload0 h dX4_reachesBack_179 ?_
                  refine aw_iload4 h dX4_reachesBack_180 ?_
                  refine aw_callVE1 h hl cl_X4_301 (met_m_nearOf hG hE1 hS hd) (gmt hG) rfl dX4_reachesBack_182 (Nat.le_of_ble_eq_true rfl) rfl (Nat.zero_le _) (Nat.zero_le _) ?_
                  refine aw_icmp_neN h (tgt := 206) (by have := dg_lt h0 c p; omega) (by have := (ivd hS hd).2.1; omega) dX4_reachesBack_185 (by decide) (fun c185 => ?_) (fun c185 => ?_)
                  · refine aw_iincN5 h rfl dX4_reachesBack_206 ?_
                    refine aw_goto h (tgt := 157) dX4_reachesBack_209 (by decide) ?_
                    exact ih (p + 1) I1 L1 _ _ (by omega) (by omega) hK (hR.mono (fun u hu => by
                      rcases hu with hu | ⟨q2, h1, h3⟩
                      · exact Or.inl hu
                      · by_cases e : q2 = p
                        · subst e; exact absurd h3.1 c185
                        · exact Or.inr ⟨q2, by omega, h3⟩))
                  · refine aw_aload0 h dX4_reachesBack_188 ?_
                    refine aw_aload0 h dX4_reachesBack_189 ?_
                    refine aw_iload1 h dX4_reachesBack_190 ?_
                    refine aw_iload5 h dX4_reachesBack_191 ?_
                    refine aw_aload0 h dX4_reachesBack_193 ?_
                    refine aw_iload4 h dX4_reachesBack_194 ?_
                    refine aw_callVE1 h hl cl_X4_304 (met_m_farOf hG hE1 hS hd) (gmt hG) rfl dX4_reachesBack_196 (Nat.le_of_ble_eq_true rfl) rfl (Nat.zero_le _) (Nat.zero_le _) ?_
                    refine aw_callVE3 h hl cl_X4_418 (met_m_moved hG hE1 hS h0 (by omega) (by omega)) (gmt hG) rfl dX4_reachesBack_199 (Nat.le_of_ble_eq_true rfl) rfl (Nat.zero_le _) (Nat.zero_le _) ?_
                    obtain ⟨cnt, qv, lv, hQ, hB, hk, hqk, hlv, hD⟩ := hR
                    refine aw_iload3 h dX4_reachesBack_202 ?_
                    refine aw_callVN2 h hl cl_X4_422 (met_m_reaches (c := mv (nr S) c p (farr S d)) (x := x + 1) hG hQ hMM (mv_lt h0 hv.2.1 (by omega) (ivd hS hd).2.2.2) (by have := hQ.2.2.2.2.2.2 _ hk; rw [hqk, hlv] at this; omega)) (gmt hG) rfl dX4_reachesBack_203 (Nat.le_of_ble_eq_true rfl) rfl (Nat.zero_le _) (Nat.zero_le _) (fun G1 I2 L2 hp => ?_)
                    have hR2 := RB.re hB hk hqk hlv hD (⟨d, hd, ho, Or.inr ⟨c169, p, by omega, c185, rfl⟩⟩) (mv_lt h0 hv.2.1 (by omega) (ivd hS hd).2.2.2) hp
                    have hK2 := hK.trans hp.2.1
                    obtain rfl := hp.1
                    refine aw_iincN5 h rfl dX4_reachesBack_206 ?_
                    refine aw_goto h (tgt := 157) dX4_reachesBack_209 (by decide) ?_
                    exact ih (p + 1) I2 L2 _ _ (by omega) (by omega) hK2 (hR2.mono (fun u hu => by
                      rcases hu with hu | ⟨q2, h1, h3⟩
                      · exact Or.inl (Or.inl hu)
                      · by_cases e : q2 = p
                        · subst e; exact Or.inr h3.2
                        · exact Or.inl (Or.inr ⟨q2, by omega, h3⟩)))
          have keyp : ∀ (fu p : Nat) (I1 : Im) (L1 : Lm) (o6 : Option Value) (o7 : Option Value), p ≤ n → n < p + fu → QK I L I1 L1 → RB (EB S n inw) src n (pw (nr S) n) c k x (fun u => (∃ d2, d2 < d ∧ EBd S n inw c d2 u) ∨ ∃ p2, p2 < p ∧ EPp S n c d p2 u) I1 → AW X 0 0 38 [some (.ref (w.1 + 161)), some (.int (nI c)), some (.int (inw)), some (.int (nI (x + 1))), some (.int (nI d)), some (.int (nI p)), o6, o7] [] G I1 L1 := by
            intro fu
            induction fu with
            | zero => intro p I1 L1 o6 o7 hle hlt; exact absurd hlt (by omega)
            | succ fu ihp =>
              intro p I1 L1 o6 o7 hle hlt hK hR
              have hE1 : I1 171 = S := hK.S hE
              have hv := hR.val
              refine aw_iload5 h dX4_reachesBack_38 ?_
              refine aw_aload0 h dX4_reachesBack_40 ?_
              refine aw_getiV h fl_X4_415 (gmt hG) dX4_reachesBack_41 rfl (hv.2.2.2) ?_
              refine aw_icmp_geN h (tgt := 154) (by omega) (by omega) dX4_reachesBack_44 (by decide) (fun c44 => ?_) (fun c44 => ?_)
              · refine aw_iconst h _ ci_0 dX4_reachesBack_154 ?_
                refine aw_istore5 h rfl dX4_reachesBack_155 ?_
                exact key4 (n + 1) 0 _ _ _ _ (Nat.zero_le _) (by omega) hK (hR.mono (fun u hu => by
                  rcases hu with (hu | ⟨p2, h1, h2⟩) | ⟨p2, h1, h2⟩
                  · exact Or.inl hu
                  · exact Or.inr ⟨p2, by omega, h2⟩
                  · omega))
              · have hp0 : p < n := by omega
                refine aw_aload0 h dX4_reachesBack_47 ?_
                refine aw_iload1 h dX4_reachesBack_48 ?_
                refine aw_iload5 h dX4_reachesBack_49 ?_
                refine aw_callVE2 h hl cl_X4_409 (met_m_roomIn hG hE1 hS h0 (by omega) (by omega)) (gmt hG) rfl dX4_reachesBack_51 (Nat.le_of_ble_eq_true rfl) rfl (Nat.zero_le _) (Nat.zero_le _) ?_
                refine aw_aload0 h dX4_reachesBack_54 ?_
                refine aw_iload4 h dX4_reachesBack_55 ?_
                refine aw_callVE1 h hl cl_X4_304 (met_m_farOf hG hE1 hS hd) (gmt hG) rfl dX4_reachesBack_57 (Nat.le_of_ble_eq_true rfl) rfl (Nat.zero_le _) (Nat.zero_le _) ?_
                refine aw_icmp_eqN h (tgt := 66) (by have := dg_lt h0 c p; omega) (by have := (ivd hS hd).2.2.2; omega) dX4_reachesBack_60 (by decide) (fun c60 => ?_) (fun c60 => ?_)
                · refine aw_aload0 h dX4_reachesBack_66 ?_
                  refine aw_iload1 h dX4_reachesBack_67 ?_
                  refine aw_iload5 h dX4_reachesBack_68 ?_
                  refine aw_aload0 h dX4_reachesBack_70 ?_
                  refine aw_iload4 h dX4_reachesBack_71 ?_
                  refine aw_callVE1 h hl cl_X4_301 (met_m_nearOf hG hE1 hS hd) (gmt hG) rfl dX4_reachesBack_73 (Nat.le_of_ble_eq_true rfl) rfl (Nat.zero_le _) (Nat.zero_le _) ?_
                  refine aw_callVE3 h hl cl_X4_418 (met_m_moved hG hE1 hS h0 (by omega) (by omega)) (gmt hG) rfl dX4_reachesBack_76 (Nat.le_of_ble_eq_true rfl) rfl (Nat.zero_le _) (Nat.zero_le _) ?_
                  refine aw_istore6 h rfl dX4_reachesBack_79 ?_
                  have hone : mv (nr S) c p (near S d) < pw (nr S) n := mv_lt h0 hv.2.1 hp0 (ivd hS hd).2.1
                  have hpf : dg (nr S) c p = farr S d := c60
                  have hnext : ∀ (I1 : Im) (L1 : Lm) (o6 o7 : Option Value), QK I L I1 L1 → RB (EB S n inw) src n (pw (nr S) n) c k x (fun u => (∃ d2, d2 < d ∧ EBd S n inw c d2 u) ∨ ∃ p2, p2 < p + 1 ∧ EPp S n c d p2 u) I1 → AW X 0 0 148 [some (.ref (w.1 + 161)), some (.int (nI c)), some (.int (inw)), some (.int (nI (x + 1))), some (.int (nI d)), some (.int (nI p)), o6, o7] [] G I1 L1 := by
                    intro I1 L1 o6 o7 hK hR
                    refine aw_iincN5 h rfl dX4_reachesBack_148 ?_
                    refine aw_goto h (tgt := 38) dX4_reachesBack_151 (by decide) ?_
                    exact ihp (p + 1) I1 L1 _ _ (by omega) (by omega) hK hR
                  have keyq : ∀ (fu q : Nat) (I1 : Im) (L1 : Lm), q ≤ n → n < q + fu → QK I L I1 L1 → RB (EB S n inw) src n (pw (nr S) n) c k x (fun u => (((∃ d2, d2 < d ∧ EBd S n inw c d2 u) ∨ ∃ p2, p2 < p ∧ EPp S n c d p2 u) ∨ u = mv (nr S) c p (near S d)) ∨ ∃ q2, q2 < q ∧ q2 ≠ p ∧ dg (nr S) c q2 = near S d ∧ u = mv (nr S) (mv (nr S) c p (near S d)) q2 (farr S d)) I1 → AW X 0 0 91 [some (.ref (w.1 + 161)), some (.int (nI c)), some (.int (inw)), some (.int (nI (x + 1))), some (.int (nI d)), some (.int (nI p)), some (.int (nI (mv (nr S) c p (near S d)))), some (.int (nI q))] [] G I1 L1 := by
                    intro fu
                    induction fu with
                    | zero => intro q I1 L1 hle hlt; exact absurd hlt (by omega)
                    | succ fu ih =>
                      intro q I1 L1 hle hlt hK hR
                      have hE1 : I1 171 = S := hK.S hE
                      have hv := hR.val
                      refine aw_iload7 h dX4_reachesBack_91 ?_
                      refine aw_aload0 h dX4_reachesBack_93 ?_
                      refine aw_getiV h fl_X4_415 (gmt hG) dX4_reachesBack_94 rfl (hv.2.2.2) ?_
                      refine aw_icmp_geN h (tgt := 148) (by omega) (by omega) dX4_reachesBack_97 (by decide) (fun c97 => ?_) (fun c97 => ?_)
                      · exact hnext I1 L1 _ _ hK (hR.mono (fun u hu => by
                          rcases hu with hu | ⟨p2, h1, h2⟩
                          · exact Or.inl (Or.inl (Or.inl hu))
                          · by_cases e : p2 = p
                            · subst e
                              rcases h2.2 with h3 | ⟨q2, h4, h5, h6, h7⟩
                              · exact Or.inl (Or.inr h3)
                              · exact Or.inr ⟨q2, by omega, h5, h6, h7⟩
                            · exact Or.inl (Or.inl (Or.inr ⟨p2, by omega, h2⟩))))
                      · refine aw_iload7 h dX4_reachesBack_100 ?_
                        refine aw_iload5 h dX4_reachesBack_102 ?_
                        refine aw_icmp_eqN h (tgt := 142) (by omega) (by omega) dX4_reachesBack_104 (by decide) (fun c104 => ?_) (fun c104 => ?_)
                        · refine aw_iincN7 h rfl dX4_reachesBack_142 ?_
                          refine aw_goto h (tgt := 91) dX4_reachesBack_145 (by decide) ?_
                          exact ih (q + 1) I1 L1 (by omega) (by omega) hK (hR.mono (fun u hu => by
                            rcases hu with hu | ⟨q2, h1, h2, h3⟩
                            · exact Or.inl hu
                            · exact Or.inr ⟨q2, by omega, h2, h3⟩))
                        · refine aw_aload0 h dX4_reachesBack_107 ?_
                          refine aw_iload1 h dX4_reachesBack_108 ?_
                          refine aw_iload7 h dX4_reachesBack_109 ?_
                          refine aw_callVE2 h hl cl_X4_409 (met_m_roomIn hG hE1 hS h0 (by omega) (by omega)) (gmt hG) rfl dX4_reachesBack_111 (Nat.le_of_ble_eq_true rfl) rfl (Nat.zero_le _) (Nat.zero_le _) ?_
                          refine aw_aload0 h dX4_reachesBack_114 ?_
                          refine aw_iload4 h dX4_reachesBack_115 ?_
                          refine aw_callVE1 h hl cl_X4_301 (met_m_nearOf hG hE1 hS hd) (gmt hG) rfl dX4_reachesBack_117 (Nat.le_of_ble_eq_true rfl) rfl (Nat.zero_le _) (Nat.zero_le _) ?_
                          refine aw_icmp_neN h (tgt := 142) (by have := dg_lt h0 c q; omega) (by have := (ivd hS hd).2.1; omega) dX4_reachesBack_120 (by decide) (fun c120 => ?_) (fun c120 => ?_)
                          · refine aw_iincN7 h rfl dX4_reachesBack_142 ?_
                            refine aw_goto h (tgt := 91) dX4_reachesBack_145 (by decide) ?_
                            exact ih (q + 1) I1 L1 (by omega) (by omega) hK (hR.mono (fun u hu => by
                              rcases hu with hu | ⟨q2, h1, h2, h3⟩
                              · exact Or.inl hu
                              · by_cases e : q2 = q
                                · subst e; exact absurd h3.1 c120
                                · exact Or.inr ⟨q2, by omega, h2, h3⟩))
                          · refine aw_aload0 h dX4_reachesBack_123 ?_
                            refine aw_aload0 h dX4_reachesBack_124 ?_
                            refine aw_iload6 h dX4_reachesBack_125 ?_
                            refine aw_iload7 h dX4_reachesBack_127 ?_
                            refine aw_aload0 h dX4_reachesBack_129 ?_
                            refine aw_iload4 h dX4_reachesBack_130 ?_
                            refine aw_callVE1 h hl cl_X4_304 (met_m_farOf hG hE1 hS hd) (gmt hG) rfl dX4_reachesBack_132 (Nat.le_of_ble_eq_true rfl) rfl (Nat.zero_le _) (Nat.zero_le _) ?_
                            refine aw_callVE3 h hl cl_X4_418 (met_m_moved hG hE1 hS h0 (by omega) (by omega)) (gmt hG) rfl dX4_reachesBack_135 (Nat.le_of_ble_eq_true rfl) rfl (Nat.zero_le _) (Nat.zero_le _) ?_
                            obtain ⟨cnt, qv, lv, hQ, hB, hk, hqk, hlv, hD⟩ := hR
                            refine aw_iload3 h dX4_reachesBack_138 ?_
                            refine aw_callVN2 h hl cl_X4_422 (met_m_reaches (c := mv (nr S) (mv (nr S) c p (near S d)) q (farr S d)) (x := x + 1) hG hQ hMM (mv_lt h0 hone (by omega) (ivd hS hd).2.2.2) (by have := hQ.2.2.2.2.2.2 _ hk; rw [hqk, hlv] at this; omega)) (gmt hG) rfl dX4_reachesBack_139 (Nat.le_of_ble_eq_true rfl) rfl (Nat.zero_le _) (Nat.zero_le _) (fun G1 I2 L2 hp => ?_)
                            have hR2 := RB.re hB hk hqk hlv hD (⟨d, hd, ho, Or.inl ⟨p, hp0, hpf, Or.inr ⟨q, by omega, c104, c120, rfl⟩⟩⟩) (mv_lt h0 hone (by omega) (ivd hS hd).2.2.2) hp
                            have hK2 := hK.trans hp.2.1
                            obtain rfl := hp.1
                            refine aw_iincN7 h rfl dX4_reachesBack_142 ?_
                            refine aw_goto h (tgt := 91) dX4_reachesBack_145 (by decide) ?_
                            exact ih (q + 1) I2 L2 (by omega) (by omega) hK2 (hR2.mono (fun u hu => by
                              rcases hu with hu | ⟨q2, h1, h2, h3, h4⟩
                              · exact Or.inl (Or.inl hu)
                              · by_cases e : q2 = q
                                · subst e; exact Or.inr h4
                                · exact Or.inl (Or.inr ⟨q2, by omega, h2, h3, h4⟩)))
                  obtain ⟨cnt, qv, lv, hQ, hB, hk, hqk, hlv, hD⟩ := hR
                  refine aw_aload0 h dX4_reachesBack_81 ?_
                  refine aw_iload6 h dX4_reachesBack_82 ?_
                  refine aw_iload3 h dX4_reachesBack_84 ?_
                  refine aw_callVN2 h hl cl_X4_422 (met_m_reaches (c := mv (nr S) c p (near S d)) (x := x + 1) hG hQ hMM (hone) (by have := hQ.2.2.2.2.2.2 _ hk; rw [hqk, hlv] at this; omega)) (gmt hG) rfl dX4_reachesBack_85 (Nat.le_of_ble_eq_true rfl) rfl (Nat.zero_le _) (Nat.zero_le _) (fun G1 I2 L2 hp => ?_)
                  have hR2 := RB.re hB hk hqk hlv hD (⟨d, hd, ho, Or.inl ⟨p, hp0, hpf, Or.inl rfl⟩⟩) (hone) hp
                  have hK2 := hK.trans hp.2.1
                  obtain rfl := hp.1
                  refine aw_iconst h _ ci_0 dX4_reachesBack_88 ?_
                  refine aw_istore7 h rfl dX4_reachesBack_89 ?_
                  exact keyq (n + 1) 0 _ _ (Nat.zero_le _) (by omega) hK2 (hR2.mono (fun u hu => by
                    rcases hu with hu | ⟨q2, h1, h2⟩
                    · exact hu
                    · omega))
                · refine aw_goto h (tgt := 148) dX4_reachesBack_63 (by decide) ?_
                  refine aw_iincN5 h rfl dX4_reachesBack_148 ?_
                  refine aw_goto h (tgt := 38) dX4_reachesBack_151 (by decide) ?_
                  exact ihp (p + 1) I1 L1 _ _ (by omega) (by omega) hK (hR.mono (fun u hu => by
                    rcases hu with hu | ⟨p2, h1, h2⟩
                    · exact Or.inl hu
                    · by_cases e : p2 = p
                      · subst e; exact absurd h2.1 c60
                      · exact Or.inr ⟨p2, by omega, h2⟩))
          refine aw_iconst h _ ci_0 dX4_reachesBack_35 ?_
          refine aw_istore5 h rfl dX4_reachesBack_36 ?_
          exact keyp (n + 1) 0 _ _ _ _ (Nat.zero_le _) (by omega) hK (hR.mono (fun u hu => by
            rcases hu with hu | ⟨p2, h1, h2⟩
            · exact hu
            · omega))
        · refine aw_goto h (tgt := 212) dX4_reachesBack_32 (by decide) ?_
          refine aw_iincN4 h rfl dX4_reachesBack_212 ?_
          refine aw_goto h (tgt := 12) dX4_reachesBack_215 (by decide) ?_
          exact ihd (d + 1) I1 L1 _ _ _ (by omega) (by omega) hK (hR.mono (fun u hu => by
            obtain ⟨d2, h1, h2⟩ := hu
            by_cases e : d2 = d
            · subst e; exact absurd h2.1 (by rw [c29]; exact Bool.false_ne_true)
            · exact ⟨d2, by omega, h2⟩))
  refine aw_aload0 h dX4_reachesBack_0 ?_
  refine aw_getr h fl_X4_63 (gmt hG) dX4_reachesBack_1 rfl (gmp29 hG) ?_
  refine aw_iload1 h dX4_reachesBack_4 ?_
  refine aw_ialdV h (gms177 hG) (by decide) (by omega) dX4_reachesBack_5 (hv.1) ?_
  refine aw_iconst h _ ci_1 dX4_reachesBack_6 ?_
  refine aw_iaddN h dX4_reachesBack_7 ?_
  refine aw_istore3 h rfl dX4_reachesBack_8 ?_
  refine aw_iconst h _ ci_0 dX4_reachesBack_9 ?_
  refine aw_istore4 h rfl dX4_reachesBack_10 ?_
  exact keyd (nd S + 1) 0 _ _ _ _ _ (Nat.zero_le _) (by omega) hK (hR.mono (fun u hu => by obtain ⟨d2, h1, h2⟩ := hu; omega))
theorem met_m_goesBack {w : Wd} {G : Gm} {I : Im} {L : Lm} (hG : GM G) {S : Nat → Int32} (hE : I 171 = S) (hS : InvS S) (h0 : 0 < nr S) {src : Nat → Prop} {n : Nat} {inw : Int32} (hn : n ≤ 5) (hMM : pw (nr S) n ≤ 32768) (hR : GS (EB S n inw) src n (pw (nr S) n) 0 I) : AMet w yX4_goesBack cX4_goesBack 3 none 5 135 0 0 [.ref (w.1 + 161), .int inw] G I L (Ans none (FP S src n inw G I L)) := by
  refine AMet.of (ls0 := [some (.ref (w.1 + 161)), some (.int inw), none]) rfl (Nat.le_of_ble_eq_true rfl) rfl (fun q hq => hq) (fun X h hl hr hi => ?_)
  have key : ∀ (fu k : Nat) (I1 : Im) (L1 : Lm), k ≤ pw (nr S) n → pw (nr S) n < k + fu → QK I L I1 L1 → GS (EB S n inw) src n (pw (nr S) n) k I1 → AW X 0 0 2 [some (.ref (w.1 + 161)), some (.int (inw)), some (.int (nI k))] [] G I1 L1 := by
    intro fu
    induction fu with
    | zero => intro k I1 L1 hle hlt; exact absurd hlt (by omega)
    | succ fu ih =>
      intro k I1 L1 hle hlt hK hR
      have hE1 : I1 171 = S := hK.S hE
      obtain ⟨cnt, qv, lv, hQ, hB, hkc⟩ := hR
      have hcl := hQ.le
      refine aw_iload2 h dX4_goesBack_2 ?_
      refine aw_aload0 h dX4_goesBack_3 ?_
      refine aw_getiV h fl_X4_412 (gmt hG) dX4_goesBack_4 rfl (hQ.1) ?_
      refine aw_icmp_geN h (tgt := 27) (by omega) (by omega) dX4_goesBack_7 (by decide) (fun c7 => ?_) (fun c7 => ?_)
      · exact aw_vret h hr dX4_goesBack_27 (⟨rfl, rfl, hK, hQ.done ((show k = cnt by omega) ▸ hB)⟩) (Nat.zero_le _) (Nat.zero_le _)
      · refine aw_aload0 h dX4_goesBack_10 ?_
        refine aw_aload0 h dX4_goesBack_11 ?_
        refine aw_getr h fl_X4_66 (gmt hG) dX4_goesBack_12 rfl (gmp30 hG) ?_
        refine aw_iload2 h dX4_goesBack_15 ?_
        refine aw_ialdV h (gms178 hG) (by decide) (by omega) dX4_goesBack_16 (hQ.2.2.1 k (by omega)) ?_
        refine aw_iload1 h dX4_goesBack_17 ?_
        refine aw_callVN2 h hl cl_X4_425 (met_m_reachesBack (src := src) (n := n) (k := k) (x := lv (qv k)) hG hE1 hS h0 hn hMM ⟨cnt, qv, lv, hQ, hB, by omega, rfl, rfl, fun u hu => hu.elim⟩) (gmt hG) rfl dX4_goesBack_18 (Nat.le_of_ble_eq_true rfl) rfl (Nat.zero_le _) (Nat.zero_le _) (fun G1 I2 L2 hp => ?_)
        obtain ⟨rfl, hK2, cnt2, qv2, lv2, hQ2, hB2, hk2, hq2, -, hD2⟩ := hp
        refine aw_iincN2 h rfl dX4_goesBack_21 ?_
        refine aw_goto h (tgt := 2) dX4_goesBack_24 (by decide) ?_
        have hcl2 := hQ2.le
        exact ih (k + 1) I2 L2 (by omega) (by omega) (hK.trans hK2) ⟨cnt2, qv2, lv2, hQ2, hB2.next hk2 (fun u hu => hD2 u (by rw [hq2] at hu; exact hu)), by omega⟩
  refine aw_iconst h _ ci_0 dX4_goesBack_0 ?_
  refine aw_istore2 h rfl dX4_goesBack_1 ?_
  exact key (pw (nr S) n + 1) 0 _ _ (Nat.zero_le _) (by omega) QK.rf hR
theorem met_m_clears {w : Wd} {G : Gm} {I : Im} {L : Lm} (hG : GM G) {S : Nat → Int32} (hE : I 171 = S) (hS : InvS S) {n : Nat} (hn : n ≤ 5) (hMM : pw (nr S) n ≤ 32768) : AMet w yX4_clears cX4_clears 3 none 2 63 0 0 [.ref (w.1 + 161), .int (nI n)] G I L (Ans none (fun G1 I1 L1 => G = G1 ∧ QK I L I1 L1 ∧ ∃ qv lv, QW n (pw (nr S) n) 0 qv lv I1)) := by
  refine AMet.of (ls0 := [some (.ref (w.1 + 161)), some (.int (nI n)), none]) rfl (Nat.le_of_ble_eq_true rfl) rfl (fun q hq => hq) (fun X h hl hr hi => ?_)
  have key : ∀ (fu c : Nat) (f : Nat → Int32), c ≤ pw (nr S) n → pw (nr S) n < c + fu → (∀ j, j < c → f j = -1) → AW X 0 0 12 [some (.ref (w.1 + 161)), some (.int (nI n)), some (.int (nI c))] [] G (va_up (upd2 (upd2 I 161 32 (nI n)) 161 31 (nI 0)) 177 f) L := by
    intro fu
    induction fu with
    | zero => intro c f hle hlt; exact absurd hlt (by omega)
    | succ fu ih =>
      intro c f hle hlt hf
      have hE2 : va_up (upd2 (upd2 I 161 32 (nI n)) 161 31 (nI 0)) 177 f 171 = S := hE
      refine aw_iload2 h dX4_clears_12 ?_
      refine aw_aload0 h dX4_clears_13 ?_
      refine aw_iload1 h dX4_clears_14 ?_
      refine aw_callVE1 h hl cl_X4_406 (met_m_power hG hE2 hS hn) (gmt hG) rfl dX4_clears_15 (Nat.le_of_ble_eq_true rfl) rfl (Nat.zero_le _) (Nat.zero_le _) ?_
      refine aw_icmp_geN h (tgt := 34) (by omega) (by omega) dX4_clears_18 (by decide) (fun c18 => ?_) (fun c18 => ?_)
      · exact aw_vret h hr dX4_clears_34 (⟨rfl, rfl, ⟨rfl, fun m a b _ => (vup_n _ _ b).trans ((vup_n _ _ a).trans (vup_n _ _ a)), fun j a b => (vup_n _ _ a).trans (vup_n _ _ b)⟩, fun _ => 0, fun _ => 0, rfl, rfl, fun j hj => absurd hj (by omega), fun u hu => ⟨fun ⟨j, hj, _⟩ => absurd hj (by omega), fun _ => hf u (by omega)⟩, fun i j hi => absurd hi (by omega), fun j hj => absurd hj (by omega), fun j hj => absurd hj (by omega)⟩) (Nat.zero_le _) (Nat.zero_le _)
      · refine aw_aload0 h dX4_clears_21 ?_
        refine aw_getr h fl_X4_63 (gmt hG) dX4_clears_22 rfl (gmp29 hG) ?_
        refine aw_iload2 h dX4_clears_25 ?_
        refine aw_iconst h _ ci_m1 dX4_clears_26 ?_
        refine aw_iastN h (gms177 hG) (by decide) (by omega) dX4_clears_27 ?_
        rw [upd2_vup]
        refine aw_iincN2 h rfl dX4_clears_28 ?_
        refine aw_goto h (tgt := 12) dX4_clears_31 (by decide) ?_
        refine ih (c + 1) _ (by omega) (by omega) (fun j hj => ?_)
        by_cases e : j = c
        · subst e; rw [vup_s]
        · rw [vup_n _ _ e]; exact hf j (by omega)
  refine aw_aload0 h dX4_clears_0 ?_
  refine aw_iload1 h dX4_clears_1 ?_
  refine aw_puti h fl_X4_415 ft_X4_415 (fun z => by cases z) (gmt hG) dX4_clears_2 rfl ?_
  refine aw_aload0 h dX4_clears_5 ?_
  refine aw_iconst h _ ci_0 dX4_clears_6 ?_
  refine aw_puti h fl_X4_412 ft_X4_412 (fun z => by cases z) (gmt hG) dX4_clears_7 rfl ?_
  refine aw_iconst h _ ci_0 dX4_clears_10 ?_
  refine aw_istore2 h rfl dX4_clears_11 ?_
  have h9 := key (pw (nr S) n + 1) 0 (I 177) (Nat.zero_le _) (by omega) (fun j hj => absurd hj (by omega))
  rw [show va_up (upd2 (upd2 I 161 32 (nI n)) 161 31 (nI 0)) 177 (I 177) = upd2 (upd2 I 161 32 (nI n)) 161 31 (nI 0) from vup_id (upd2 (upd2 I 161 32 (nI n)) 161 31 (nI 0)) 177] at h9
  exact h9
/-- the goals of a set -/
def goalC (S : Nat → Int32) (n m : Nat) : Nat → Prop := fun c => c < pw (nr S) n ∧ atB S m c = true
theorem met_m_fillsPassings {w : Wd} {G : Gm} {I : Im} {L : Lm} (hG : GM G) {S : Nat → Int32} (hE : I 171 = S) (hS : InvS S) (h0 : 0 < nr S) {n m : Nat} {inw : Int32} (hn : n ≤ 5) (hMM : pw (nr S) n ≤ 32768) (hm : m < 2 ^ 31) : AMet w yX4_fillsPassings cX4_fillsPassings 5 none 6 157 0 0 [.ref (w.1 + 161), .int (nI m), .int (nI n), .int inw] G I L (Ans none (FP S (goalC S n m) n inw G I L)) := by
  refine AMet.of (ls0 := [some (.ref (w.1 + 161)), some (.int (nI m)), some (.int (nI n)), some (.int inw), none]) rfl (Nat.le_of_ble_eq_true rfl) rfl (fun q hq => hq) (fun X h hl hr hi => ?_)
  have key : ∀ (fu c : Nat) (I1 : Im) (L1 : Lm), c ≤ pw (nr S) n → pw (nr S) n < c + fu → QK I L I1 L1 → ST (goalC S n m) n (pw (nr S) n) c I1 → AW X 0 0 8 [some (.ref (w.1 + 161)), some (.int (nI m)), some (.int (nI n)), some (.int (inw)), some (.int (nI c))] [] G I1 L1 := by
    intro fu
    induction fu with
    | zero => intro c I1 L1 hle hlt; exact absurd hlt (by omega)
    | succ fu ih =>
      intro c I1 L1 hle hlt hK hR
      have hE1 : I1 171 = S := hK.S hE
      refine aw_iload4 h dX4_fillsPassings_8 ?_
      refine aw_aload0 h dX4_fillsPassings_10 ?_
      refine aw_iload2 h dX4_fillsPassings_11 ?_
      refine aw_callVE1 h hl cl_X4_406 (met_m_power hG hE1 hS hn) (gmt hG) rfl dX4_fillsPassings_12 (Nat.le_of_ble_eq_true rfl) rfl (Nat.zero_le _) (Nat.zero_le _) ?_
      refine aw_icmp_geN h (tgt := 41) (by omega) (by omega) dX4_fillsPassings_15 (by decide) (fun c15 => ?_) (fun c15 => ?_)
      · refine aw_aload0 h dX4_fillsPassings_41 ?_
        refine aw_iload3 h dX4_fillsPassings_42 ?_
        refine aw_callVN1 h hl cl_X4_434 (met_m_goesBack (src := goalC S n m) hG hE1 hS h0 hn hMM ((show c = pw (nr S) n by omega) ▸ hR |>.done (fun s hs => hs.1))) (gmt hG) rfl dX4_fillsPassings_43 (Nat.le_of_ble_eq_true rfl) rfl (Nat.zero_le _) (Nat.zero_le _) (fun G1 I2 L2 hp => ?_)
        obtain ⟨rfl, hK2, hf⟩ := hp
        exact aw_vret h hr dX4_fillsPassings_46 (⟨rfl, rfl, hK.trans hK2, hf⟩) (Nat.zero_le _) (Nat.zero_le _)
      · refine aw_aload0 h dX4_fillsPassings_18 ?_
        refine aw_iload4 h dX4_fillsPassings_19 ?_
        refine aw_iload1 h dX4_fillsPassings_21 ?_
        refine aw_callVE2 h hl cl_X4_431 (met_m_areAtGoals hG hE1 hS h0 (by omega) hm) (gmt hG) rfl dX4_fillsPassings_22 (Nat.le_of_ble_eq_true rfl) rfl (Nat.zero_le _) (Nat.zero_le _) ?_
        refine aw_if_eqB h (tgt := 35) dX4_fillsPassings_25 (by decide) (fun c25 => ?_) (fun c25 => ?_)
        · refine aw_iincN4 h rfl dX4_fillsPassings_35 ?_
          refine aw_goto h (tgt := 8) dX4_fillsPassings_38 (by decide) ?_
          exact ih (c + 1) I1 L1 (by omega) (by omega) hK (hR.skip (fun q => absurd q.2 (by rw [c25]; exact Bool.false_ne_true)))
        · refine aw_aload0 h dX4_fillsPassings_28 ?_
          refine aw_iload4 h dX4_fillsPassings_29 ?_
          refine aw_iconst h _ ci_0 dX4_fillsPassings_31 ?_
          obtain ⟨cnt, qv, lv, hQ, hb, hd⟩ := hR
          refine aw_callVN2 h hl cl_X4_422 (met_m_reaches (x := 0) hG hQ hMM (by omega) (Nat.zero_le _)) (gmt hG) rfl dX4_fillsPassings_32 (Nat.le_of_ble_eq_true rfl) rfl (Nat.zero_le _) (Nat.zero_le _) (fun G1 I2 L2 hp => ?_)
          have hR2 := ST.re hb hd (show goalC S n m c from ⟨by omega, c25⟩) hp
          have hK2 := hK.trans hp.2.1
          obtain rfl := hp.1
          refine aw_iincN4 h rfl dX4_fillsPassings_35 ?_
          refine aw_goto h (tgt := 8) dX4_fillsPassings_38 (by decide) ?_
          exact ih (c + 1) I2 L2 (by omega) (by omega) hK2 hR2
  refine aw_aload0 h dX4_fillsPassings_0 ?_
  refine aw_iload2 h dX4_fillsPassings_1 ?_
  refine aw_callVN1 h hl cl_X4_428 (met_m_clears hG hE hS hn hMM) (gmt hG) rfl dX4_fillsPassings_2 (Nat.le_of_ble_eq_true rfl) rfl (Nat.zero_le _) (Nat.zero_le _) (fun G1 I1 L1 hp => ?_)
  obtain ⟨rfl, hK, qv, lv, hQ⟩ := hp
  refine aw_iconst h _ ci_0 dX4_fillsPassings_5 ?_
  refine aw_istore4 h rfl dX4_fillsPassings_6 ?_
  exact key (pw (nr S) n + 1) 0 _ _ (Nat.zero_le _) (by omega) hK ⟨0, qv, lv, hQ, fun j hj => absurd hj (by omega), fun s hs => absurd hs (by omega)⟩
