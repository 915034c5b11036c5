/-! The reference's answer passing -/
set_option maxRecDepth 100000
noncomputable def fewF (S : Nat → Int32) (m : Nat) (c : Nat) : Int32 := distE (EB S (np S) (-1)) (goalC S (np S) m) c
def passB (S : Nat → Int32) (m k wh : Int32) : Bool := setB S m && (decide (0 ≤ k) && inI wh 0 2)
noncomputable def passA (S : Nat → Int32) (m k wh : Int32) : Int32 := if passB S m k wh = true then (if fewF S m.toNatClampNeg (codeV S) ≤ k then -2 else (let t := rowK S (fewF S m.toNatClampNeg) (codeV S) k.toNatClampNeg; if wh = 0 then nI t.1 else if wh = nI 1 then nI t.2.1 else qI t.2.2)) else -3
theorem qI_s (q : Nat) : nI q = qI (q + 1) := by unfold qI; rw [if_neg (by omega), Nat.add_sub_cancel]
theorem qI_0 : (-1 : Int32) = qI 0 := rfl
theorem met_m_nextCode {w : Wd} {G : Gm} {I : Im} {L : Lm} (hG : GM G) {S : Nat → Int32} (hE : I 171 = S) (hS : InvS S) (h0 : 0 < nr S) {f : Nat → Int32} {c a b e : Nat} (hc : c < pw (nr S) (np S)) (hf : ∀ c, c < pw (nr S) (np S) → I 177 c = f c) (hN : NXF S f c a b e) : AMet w yX4_nextCode cX4_nextCode 7 (some .int) 4 108 0 0 [.ref (w.1 + 161), .int (nI c)] G I L (Exact (some (.int (nI (nxTo S c a b e)))) G (upd2 (upd2 (upd2 I 161 33 (nI a)) 161 34 (nI b)) 161 35 (qI e)) L) := by
  refine AMet.of (ls0 := [some (.ref (w.1 + 161)), some (.int (nI c)), none, none, none, none, none]) rfl (Nat.le_of_ble_eq_true rfl) rfl (fun q hq => hq) (fun X h hl hr hi => ?_)
  have b0 := iv0b hS
  have b1 := iv1b hS
  have b2 := iv2b hS
  have hp4 := pw_np hS
  have keyp : ∀ (fp p : Nat), p ≤ np S → np S < p + fp → ∀ o3 o4 o5 o6 : Option Value, p ≤ a → AW X 0 0 2 [some (.ref (w.1 + 161)), some (.int (nI c)), some (.int (nI p)), o3, o4, o5, o6] [] G I L := by
    intro fp
    induction fp with
    | zero => intro p hle1 hlt1; exact absurd hlt1 (by omega)
    | succ fp ihp =>
      intro p hle1 hlt1
      intro o3 o4 o5 o6 hpa
      refine aw_iload2 h dX4_nextCode_2 ?_
      refine aw_aload0 h dX4_nextCode_3 ?_
      refine aw_getr h fl_X4_39 (gmt hG) dX4_nextCode_4 rfl (gmp20 hG) ?_
      refine aw_iconst h _ ci_2 dX4_nextCode_7 ?_
      refine aw_ialdV h (gms171 hG) (by decide) (by omega) dX4_nextCode_8 (iv2e hE hS) ?_
      refine aw_icmp_geN h (tgt := 188) (by omega) (by omega) dX4_nextCode_9 (by decide) (fun c9 => ?_) (fun c9 => ?_)
      · exact absurd hN.1.1.1 (by omega)
      · have keyd : ∀ (fd d : Nat), d ≤ nd S → nd S < d + fd → ∀ o4 o5 o6 : Option Value, (p = a → d ≤ b) → AW X 0 0 14 [some (.ref (w.1 + 161)), some (.int (nI c)), some (.int (nI p)), some (.int (nI d)), o4, o5, o6] [] G I L := by
          intro fd
          induction fd with
          | zero => intro d hle2 hlt2; exact absurd hlt2 (by omega)
          | succ fd ihd =>
            intro d hle2 hlt2
            intro o4 o5 o6 hdb
            refine aw_iload3 h dX4_nextCode_14 ?_
            refine aw_aload0 h dX4_nextCode_15 ?_
            refine aw_getr h fl_X4_39 (gmt hG) dX4_nextCode_16 rfl (gmp20 hG) ?_
            refine aw_iconst h _ ci_1 dX4_nextCode_19 ?_
            refine aw_ialdV h (gms171 hG) (by decide) (by omega) dX4_nextCode_20 (iv1e hE hS) ?_
            refine aw_icmp_geN h (tgt := 182) (by omega) (by omega) dX4_nextCode_21 (by decide) (fun c21 => ?_) (fun c21 => ?_)
            · refine aw_iincN2 h rfl dX4_nextCode_182 ?_
              refine aw_goto h (tgt := 2) dX4_nextCode_185 (by decide) ?_
              exact ihp (p + 1) (by omega) (by omega) _ _ _ _ (by
                by_cases ea : p = a
                · have := hdb ea
                  have := hN.1.1.2.1
                  omega
                · omega)
            · have hd : d < nd S := by omega
              refine aw_aload0 h dX4_nextCode_24 ?_
              refine aw_iload3 h dX4_nextCode_25 ?_
              refine aw_callVE1 h hl cl_X4_310 (met_m_isOpen hG hE hS (by omega)) (gmt hG) rfl dX4_nextCode_26 (Nat.le_of_ble_eq_true rfl) rfl (Nat.zero_le _) (Nat.zero_le _) ?_
              refine aw_if_eqB h (tgt := 176) dX4_nextCode_29 (by decide) (fun c29 => ?_) (fun c29 => ?_)
              · refine aw_iincN3 h rfl dX4_nextCode_176 ?_
                refine aw_goto h (tgt := 14) dX4_nextCode_179 (by decide) ?_
                exact ihd (d + 1) (by omega) (by omega) _ _ _ (fun ea => by
                  have h5 := hdb ea
                  by_cases eb : d = b
                  · subst eb
                    exact absurd hN.1.1.2.2.2.1 (by rw [c29]; exact Bool.false_ne_true)
                  · omega)
              · have ho : openB S d = true := c29
                refine aw_aload0 h dX4_nextCode_32 ?_
                refine aw_iload1 h dX4_nextCode_33 ?_
                refine aw_iload2 h dX4_nextCode_34 ?_
                refine aw_callVE2 h hl cl_X4_409 (met_m_roomIn hG hE hS h0 (by omega) (by omega)) (gmt hG) rfl dX4_nextCode_35 (Nat.le_of_ble_eq_true rfl) rfl (Nat.zero_le _) (Nat.zero_le _) ?_
                refine aw_aload0 h dX4_nextCode_38 ?_
                refine aw_iload3 h dX4_nextCode_39 ?_
                refine aw_callVE1 h hl cl_X4_301 (met_m_nearOf hG hE hS hd) (gmt hG) rfl dX4_nextCode_40 (Nat.le_of_ble_eq_true rfl) rfl (Nat.zero_le _) (Nat.zero_le _) ?_
                refine aw_icmp_eqN h (tgt := 49) (by have := dg_lt h0 c p; omega) (by have := (ivd hS hd).2.1; omega) dX4_nextCode_43 (by decide) (fun c43 => ?_) (fun c43 => ?_)
                · refine aw_aload0 h dX4_nextCode_49 ?_
                  refine aw_iload1 h dX4_nextCode_50 ?_
                  refine aw_iload2 h dX4_nextCode_51 ?_
                  refine aw_aload0 h dX4_nextCode_52 ?_
                  refine aw_iload3 h dX4_nextCode_53 ?_
                  refine aw_callVE1 h hl cl_X4_304 (met_m_farOf hG hE hS hd) (gmt hG) rfl dX4_nextCode_54 (Nat.le_of_ble_eq_true rfl) rfl (Nat.zero_le _) (Nat.zero_le _) ?_
                  refine aw_callVE3 h hl cl_X4_418 (met_m_moved hG hE hS h0 (by omega) (by omega)) (gmt hG) rfl dX4_nextCode_57 (Nat.le_of_ble_eq_true rfl) rfl (Nat.zero_le _) (Nat.zero_le _) ?_
                  refine aw_istore4 h rfl dX4_nextCode_60 ?_
                  have hp : p < np S := by omega
                  have hpn : dg (nr S) c p = near S d := c43
                  have hone : mv (nr S) c p (farr S d) < pw (nr S) (np S) := mv_lt h0 hc hp (ivd hS hd).2.2.2
                  have hto0 : nxTo S c p d 0 = mv (nr S) c p (farr S d) := rfl
                  have hb0 : nxB S c p d 0 := ⟨hp, hd, Nat.zero_le _, ho, hpn, Or.inl rfl⟩
                  have nextd : ∀ (o4 o5 o6 : Option Value), (p = a → d = b → False) → AW X 0 0 176 [some (.ref (w.1 + 161)), some (.int (nI c)), some (.int (nI p)), some (.int (nI d)), o4, o5, o6] [] G I L := by
                    intro o4 o5 o6 hno
                    refine aw_iincN3 h rfl dX4_nextCode_176 ?_
                    refine aw_goto h (tgt := 14) dX4_nextCode_179 (by decide) ?_
                    exact ihd (d + 1) (by omega) (by omega) _ _ _ (fun ea => by
                      have h5 := hdb ea
                      have h6 : ¬ d = b := hno ea
                      omega)
                  have keyq : ∀ (fq q : Nat), q ≤ np S → np S < q + fq → ∀ o6 : Option Value, (p = a → d = b → q + 1 ≤ e) → AW X 0 0 65 [some (.ref (w.1 + 161)), some (.int (nI c)), some (.int (nI p)), some (.int (nI d)), some (.int (nI (mv (nr S) c p (farr S d)))), some (.int (nI q)), o6] [] G I L := by
                    intro fq
                    induction fq with
                    | zero => intro q hle3 hlt3; exact absurd hlt3 (by omega)
                    | succ fq ih =>
                      intro q hle3 hlt3
                      intro o6 h4
                      refine aw_iload5 h dX4_nextCode_65 ?_
                      refine aw_aload0 h dX4_nextCode_67 ?_
                      refine aw_getr h fl_X4_39 (gmt hG) dX4_nextCode_68 rfl (gmp20 hG) ?_
                      refine aw_iconst h _ ci_2 dX4_nextCode_71 ?_
                      refine aw_ialdV h (gms171 hG) (by decide) (by omega) dX4_nextCode_72 (iv2e hE hS) ?_
                      refine aw_icmp_geN h (tgt := 176) (by omega) (by omega) dX4_nextCode_73 (by decide) (fun c73 => ?_) (fun c73 => ?_)
                      · exact nextd _ _ _ (fun ea eb => by
                          have := h4 ea eb
                          have := hN.1.1.2.2.1
                          omega)
                      · refine aw_iload5 h dX4_nextCode_76 ?_
                        refine aw_if_ltN h (tgt := 105) (by omega) dX4_nextCode_78 (by decide) (fun c78 => ?_) (fun c78 => ?_)
                        · exact absurd c78 (by omega)
                        · refine aw_iload5 h dX4_nextCode_81 ?_
                          refine aw_iload2 h dX4_nextCode_83 ?_
                          refine aw_icmp_eqN h (tgt := 170) (by omega) (by omega) dX4_nextCode_84 (by decide) (fun c84 => ?_) (fun c84 => ?_)
                          · refine aw_iincN5 h rfl dX4_nextCode_170 ?_
                            refine aw_goto h (tgt := 65) dX4_nextCode_173 (by decide) ?_
                            exact ih (q + 1) (by omega) (by omega) _ (fun ea eb => by
                              have h5 := h4 ea eb
                              by_cases e5 : e = q + 1
                              · subst e5; subst ea; subst eb
                                have h6 := hN.1.1.2.2.2.2.2.resolve_left (by omega)
                                rw [Nat.add_sub_cancel] at h6
                                exact absurd c84 h6.1
                              · omega)
                          · refine aw_aload0 h dX4_nextCode_87 ?_
                            refine aw_iload1 h dX4_nextCode_88 ?_
                            refine aw_iload5 h dX4_nextCode_89 ?_
                            refine aw_callVE2 h hl cl_X4_409 (met_m_roomIn hG hE hS h0 (by omega) (by omega)) (gmt hG) rfl dX4_nextCode_91 (Nat.le_of_ble_eq_true rfl) rfl (Nat.zero_le _) (Nat.zero_le _) ?_
                            refine aw_aload0 h dX4_nextCode_94 ?_
                            refine aw_iload3 h dX4_nextCode_95 ?_
                            refine aw_callVE1 h hl cl_X4_304 (met_m_farOf hG hE hS hd) (gmt hG) rfl dX4_nextCode_96 (Nat.le_of_ble_eq_true rfl) rfl (Nat.zero_le _) (Nat.zero_le _) ?_
                            refine aw_icmp_eqN h (tgt := 105) (by have := dg_lt h0 c q; omega) (by have := (ivd hS hd).2.2.2; omega) dX4_nextCode_99 (by decide) (fun c99 => ?_) (fun c99 => ?_)
                            · refine aw_iload5 h dX4_nextCode_105 ?_
                              refine aw_if_geN h (tgt := 115) (by omega) dX4_nextCode_107 (by decide) (fun c107 => ?_) (fun c107 => ?_)
                              · refine aw_aload0 h dX4_nextCode_115 ?_
                                refine aw_iload4 h dX4_nextCode_116 ?_
                                refine aw_iload5 h dX4_nextCode_118 ?_
                                refine aw_aload0 h dX4_nextCode_120 ?_
                                refine aw_iload3 h dX4_nextCode_121 ?_
                                refine aw_callVE1 h hl cl_X4_301 (met_m_nearOf hG hE hS hd) (gmt hG) rfl dX4_nextCode_122 (Nat.le_of_ble_eq_true rfl) rfl (Nat.zero_le _) (Nat.zero_le _) ?_
                                refine aw_callVE3 h hl cl_X4_418 (met_m_moved hG hE hS h0 (by omega) (by omega)) (gmt hG) rfl dX4_nextCode_125 (Nat.le_of_ble_eq_true rfl) rfl (Nat.zero_le _) (Nat.zero_le _) ?_
                                have hto : nxTo S c p d (q + 1) = mv (nr S) (mv (nr S) c p (farr S d)) q (near S d) := by unfold nxTo; rw [if_neg (by omega), Nat.add_sub_cancel]
                                have htl : mv (nr S) (mv (nr S) c p (farr S d)) q (near S d) < pw (nr S) (np S) := mv_lt h0 hone (by omega) (ivd hS hd).2.1
                                have hbq : nxB S c p d (q + 1) := ⟨hp, hd, by omega, ho, hpn, Or.inr ⟨by rw [Nat.add_sub_cancel]; exact c84, by rw [Nat.add_sub_cancel]; exact c99⟩⟩
                                refine aw_istore6 h rfl dX4_nextCode_128 ?_
                                refine aw_aload0 h dX4_nextCode_130 ?_
                                refine aw_getr h fl_X4_63 (gmt hG) dX4_nextCode_131 rfl (gmp29 hG) ?_
                                refine aw_iload6 h dX4_nextCode_134 ?_
                                refine aw_ialdV h (gms177 hG) (by decide) (by omega) dX4_nextCode_136 (hf _ htl) ?_
                                refine aw_aload0 h dX4_nextCode_137 ?_
                                refine aw_getr h fl_X4_63 (gmt hG) dX4_nextCode_138 rfl (gmp29 hG) ?_
                                refine aw_iload1 h dX4_nextCode_141 ?_
                                refine aw_ialdV h (gms177 hG) (by decide) (by omega) dX4_nextCode_142 (hf _ hc) ?_
                                refine aw_iconst h _ ci_1 dX4_nextCode_143 ?_
                                refine aw_isub h dX4_nextCode_144 ?_
                                refine aw_icmp_eq h (tgt := 151) dX4_nextCode_145 (by decide) (fun c145 => ?_) (fun c145 => ?_)
                                · have hcur : NXP S f c p d (q + 1) := ⟨hbq, by rw [hto]; exact c145⟩
                                  obtain ⟨rfl, rfl, rfl⟩ : p = a ∧ d = b ∧ q + 1 = e := lex_anti ⟨hpa, fun ea => ⟨hdb ea, fun eb => h4 ea eb⟩⟩ (hN.2 _ _ _ hcur)
                                  refine aw_aload0 h dX4_nextCode_151 ?_
                                  refine aw_iload2 h dX4_nextCode_152 ?_
                                  refine aw_puti h fl_X4_446 ft_X4_446 (fun z => by cases z) (gmt hG) dX4_nextCode_153 rfl ?_
                                  refine aw_aload0 h dX4_nextCode_156 ?_
                                  refine aw_iload3 h dX4_nextCode_157 ?_
                                  refine aw_puti h fl_X4_449 ft_X4_449 (fun z => by cases z) (gmt hG) dX4_nextCode_158 rfl ?_
                                  refine aw_aload0 h dX4_nextCode_161 ?_
                                  refine aw_iload5 h dX4_nextCode_162 ?_
                                  refine aw_puti h fl_X4_452 ft_X4_452 (fun z => by cases z) (gmt hG) dX4_nextCode_164 rfl ?_
                                  refine aw_iload6 h dX4_nextCode_167 ?_
                                  exact aw_iret h hr dX4_nextCode_169 (⟨by rw [hto], rfl, by rw [← qI_s q], rfl⟩) (Nat.zero_le _) (Nat.zero_le _)
                                · refine aw_goto h (tgt := 170) dX4_nextCode_148 (by decide) ?_
                                  refine aw_iincN5 h rfl dX4_nextCode_170 ?_
                                  refine aw_goto h (tgt := 65) dX4_nextCode_173 (by decide) ?_
                                  exact ih (q + 1) (by omega) (by omega) _ (fun ea eb => by
                                    have h5 := h4 ea eb
                                    by_cases e5 : e = q + 1
                                    · subst e5; subst ea; subst eb
                                      exact absurd (hto ▸ hN.1.2) c145
                                    · omega)
                              · exact absurd c107 (by omega)
                            · refine aw_goto h (tgt := 170) dX4_nextCode_102 (by decide) ?_
                              refine aw_iincN5 h rfl dX4_nextCode_170 ?_
                              refine aw_goto h (tgt := 65) dX4_nextCode_173 (by decide) ?_
                              exact ih (q + 1) (by omega) (by omega) _ (fun ea eb => by
                                have h5 := h4 ea eb
                                by_cases e5 : e = q + 1
                                · subst e5; subst ea; subst eb
                                  have h6 := hN.1.1.2.2.2.2.2.resolve_left (by omega)
                                  rw [Nat.add_sub_cancel] at h6
                                  exact absurd h6.2 c99
                                · omega)
                  refine aw_iconst h _ ci_m1 dX4_nextCode_62 ?_
                  refine aw_istore5 h rfl dX4_nextCode_63 ?_
                  refine aw_iload5 h dX4_nextCode_65 ?_
                  refine aw_aload0 h dX4_nextCode_67 ?_
                  refine aw_getr h fl_X4_39 (gmt hG) dX4_nextCode_68 rfl (gmp20 hG) ?_
                  refine aw_iconst h _ ci_2 dX4_nextCode_71 ?_
                  refine aw_ialdV h (gms171 hG) (by decide) (by omega) dX4_nextCode_72 (iv2e hE hS) ?_
                  refine aw_icmp_ge h (tgt := 176) dX4_nextCode_73 (by decide) (fun c73 => ?_) (fun c73 => ?_)
                  · exact absurd c73 (Int32.not_le.mpr (Int32.lt_of_lt_of_le (show (-1 : Int32) < 0 by decide) (nI_pos' (by omega))))
                  · refine aw_iload5 h dX4_nextCode_76 ?_
                    refine aw_if_lt h (tgt := 105) dX4_nextCode_78 (by decide) (fun c78 => ?_) (fun c78 => ?_)
                    · refine aw_iload5 h dX4_nextCode_105 ?_
                      refine aw_if_ge h (tgt := 115) dX4_nextCode_107 (by decide) (fun c107 => ?_) (fun c107 => ?_)
                      · exact absurd c107 (by decide)
                      · refine aw_iload4 h dX4_nextCode_110 ?_
                        refine aw_goto h (tgt := 128) dX4_nextCode_112 (by decide) ?_
                        refine aw_istore6 h rfl dX4_nextCode_128 ?_
                        refine aw_aload0 h dX4_nextCode_130 ?_
                        refine aw_getr h fl_X4_63 (gmt hG) dX4_nextCode_131 rfl (gmp29 hG) ?_
                        refine aw_iload6 h dX4_nextCode_134 ?_
                        refine aw_ialdV h (gms177 hG) (by decide) (by omega) dX4_nextCode_136 (hf _ hone) ?_
                        refine aw_aload0 h dX4_nextCode_137 ?_
                        refine aw_getr h fl_X4_63 (gmt hG) dX4_nextCode_138 rfl (gmp29 hG) ?_
                        refine aw_iload1 h dX4_nextCode_141 ?_
                        refine aw_ialdV h (gms177 hG) (by decide) (by omega) dX4_nextCode_142 (hf _ hc) ?_
                        refine aw_iconst h _ ci_1 dX4_nextCode_143 ?_
                        refine aw_isub h dX4_nextCode_144 ?_
                        refine aw_icmp_eq h (tgt := 151) dX4_nextCode_145 (by decide) (fun c145 => ?_) (fun c145 => ?_)
                        · have hcur : NXP S f c p d 0 := ⟨hb0, by rw [hto0]; exact c145⟩
                          obtain ⟨rfl, rfl, rfl⟩ : p = a ∧ d = b ∧ 0 = e := lex_anti ⟨hpa, fun ea => ⟨hdb ea, fun eb => Nat.zero_le _⟩⟩ (hN.2 _ _ _ hcur)
                          refine aw_aload0 h dX4_nextCode_151 ?_
                          refine aw_iload2 h dX4_nextCode_152 ?_
                          refine aw_puti h fl_X4_446 ft_X4_446 (fun z => by cases z) (gmt hG) dX4_nextCode_153 rfl ?_
                          refine aw_aload0 h dX4_nextCode_156 ?_
                          refine aw_iload3 h dX4_nextCode_157 ?_
                          refine aw_puti h fl_X4_449 ft_X4_449 (fun z => by cases z) (gmt hG) dX4_nextCode_158 rfl ?_
                          refine aw_aload0 h dX4_nextCode_161 ?_
                          refine aw_iload5 h dX4_nextCode_162 ?_
                          refine aw_puti h fl_X4_452 ft_X4_452 (fun z => by cases z) (gmt hG) dX4_nextCode_164 rfl ?_
                          refine aw_iload6 h dX4_nextCode_167 ?_
                          exact aw_iret h hr dX4_nextCode_169 (⟨rfl, rfl, rfl, rfl⟩) (Nat.zero_le _) (Nat.zero_le _)
                        · refine aw_goto h (tgt := 170) dX4_nextCode_148 (by decide) ?_
                          refine aw_iinc5 h rfl rfl dX4_nextCode_170 ?_
                          refine aw_goto h (tgt := 65) dX4_nextCode_173 (by decide) ?_
                          exact keyq (np S + 1) 0 (Nat.zero_le _) (by omega) _ (fun ea eb => by
                            by_cases e5 : e = 0
                            · subst e5; subst ea; subst eb
                              exact absurd (hto0 ▸ hN.1.2) c145
                            · omega)
                    · exact absurd (show (-1 : Int32) < 0 by decide) c78
                · refine aw_goto h (tgt := 176) dX4_nextCode_46 (by decide) ?_
                  refine aw_iincN3 h rfl dX4_nextCode_176 ?_
                  refine aw_goto h (tgt := 14) dX4_nextCode_179 (by decide) ?_
                  exact ihd (d + 1) (by omega) (by omega) _ _ _ (fun ea => by
                    have h5 := hdb ea
                    by_cases eb : d = b
                    · subst ea; subst eb
                      exact absurd hN.1.1.2.2.2.2.1 c43
                    · omega)
        refine aw_iconst h _ ci_0 dX4_nextCode_12 ?_
        refine aw_istore3 h rfl dX4_nextCode_13 ?_
        exact keyd (nd S + 1) 0 (Nat.zero_le _) (by omega) _ _ _ (fun _ => Nat.zero_le _)
  refine aw_iconst h _ ci_0 dX4_nextCode_0 ?_
  refine aw_istore2 h rfl dX4_nextCode_1 ?_
  exact keyp (np S + 1) 0 (Nat.zero_le _) (by omega) _ _ _ _ (Nat.zero_le _)
theorem met_m_passing {w : Wd} {G : Gm} {I : Im} {L : Lm} (hG : GM G) {S : Nat → Int32} (hE : I 171 = S) (hS : InvS S) {m k wh : Int32} : AMet w yX4_passing cX4_passing 6 (some .int) 7 181 0 0 [.ref (w.1 + 161), .int m, .int k, .int wh] G I L (Ans (some (.int (passA S m k wh))) (PQ G I L)) := by
  refine AMet.of (ls0 := [some (.ref (w.1 + 161)), some (.int m), some (.int k), some (.int wh), none, none]) rfl (Nat.le_of_ble_eq_true rfl) rfl (fun q hq => hq) (fun X h hl hr hi => ?_)
  refine aw_aload0 h dX4_passing_0 ?_
  refine aw_iload1 h dX4_passing_1 ?_
  refine aw_callVE1 h hl cl_X4_437 (met_m_isSet hG hE hS) (gmt hG) rfl dX4_passing_2 (Nat.le_of_ble_eq_true rfl) rfl (Nat.zero_le _) (Nat.zero_le _) ?_
  refine aw_if_eqB h (tgt := 24) dX4_passing_5 (by decide) (fun c5 => ?_) (fun c5 => ?_)
  · refine aw_bipush h _ cb_m3 dX4_passing_24 ?_
    exact aw_iret h hr dX4_passing_26 (⟨by unfold passA; rw [show passB S m k wh = false from (by unfold passB; rw [c5]; rfl)]; rfl, rfl, MC.rf⟩) (Nat.zero_le _) (Nat.zero_le _)
  · refine aw_iload2 h dX4_passing_8 ?_
    refine aw_if_lt h (tgt := 24) dX4_passing_9 (by decide) (fun c9 => ?_) (fun c9 => ?_)
    · refine aw_bipush h _ cb_m3 dX4_passing_24 ?_
      exact aw_iret h hr dX4_passing_26 (⟨by unfold passA; rw [show passB S m k wh = false from (by unfold passB; rw [decide_eq_false (Int32.not_le.mpr c9), Bool.false_and, Bool.and_false])]; rfl, rfl, MC.rf⟩) (Nat.zero_le _) (Nat.zero_le _)
    · refine aw_iload3 h dX4_passing_12 ?_
      refine aw_i2l h dX4_passing_13 ?_
      refine aw_lconst h _ cl_0 dX4_passing_14 ?_
      refine aw_ldc2 h (v := lN 2) q1731 dX4_passing_15 ?_
      refine aw_callSE3 h hl cl_X4_128 (met_m_in) dX4_passing_18 (Nat.le_of_ble_eq_true rfl) rfl (Nat.zero_le _) (Nat.zero_le _) ?_
      refine aw_if_neB h (tgt := 27) dX4_passing_21 (by decide) (fun c21 => ?_) (fun c21 => ?_)
      · obtain ⟨h0, a, rfl, hk, hk2⟩ := setB_of hS c5
        obtain ⟨kk, hkk, rfl⟩ := nI_of (Int32.not_lt.mpr (Int32.not_lt.mp c9))
        have hcl0 : (nI a).toNatClampNeg = a := nI_clamp (by omega)
        have hkl : (nI kk).toNatClampNeg = kk := nI_clamp hkk
        have b2 := iv2b hS
        have hp4 := pw_np hS
        have hcv := codeV_lt hS
        have hpb : passB S (nI a) (nI kk) wh = true := by unfold passB; rw [c5, decide_eq_true (nI_pos' hkk), show inI wh 0 2 = true from (inL_I (by omega) (by omega)).symm.trans c21]; rfl
        refine aw_aload0 h dX4_passing_27 ?_
        refine aw_iload1 h dX4_passing_28 ?_
        refine aw_aload0 h dX4_passing_29 ?_
        refine aw_getr h fl_X4_39 (gmt hG) dX4_passing_30 rfl (gmp20 hG) ?_
        refine aw_iconst h _ ci_2 dX4_passing_33 ?_
        refine aw_ialdV h (gms171 hG) (by decide) (by omega) dX4_passing_34 (iv2e hE hS) ?_
        refine aw_iconst h _ ci_m1 dX4_passing_35 ?_
        refine aw_callVN3 h hl cl_X4_440 (met_m_fillsPassings hG hE hS h0 (by omega) (by omega) (by omega)) (gmt hG) rfl dX4_passing_36 (Nat.le_of_ble_eq_true rfl) rfl (Nat.zero_le _) (Nat.zero_le _) (fun G1 I1 L1 hp => ?_)
        obtain ⟨rfl, hK, hf⟩ := hp
        have hE1 : I1 171 = S := hK.S hE
        have hfD : ∀ c, c < pw (nr S) (np S) → DistP (EB S (np S) (-1)) (goalC S (np S) a) (pw (nr S) (np S)) c (fewF S a c) := fun c hc => by
          have h3 := hf c hc
          have h4 := h3.2
          rw [h3.1] at h4; exact h4
        have hsrc : ∀ s, goalC S (np S) a s → s < pw (nr S) (np S) := fun s h => h.1
        have hM0 : MC [] [] I L I1 L1 := hK.mc
        have hff : ∀ c, c < pw (nr S) (np S) → I1 177 c = fewF S a c := fun c hc => (hf c hc).1
        refine aw_aload0 h dX4_passing_39 ?_
        refine aw_callVE0 h hl cl_X4_443 (met_m_codeNow hG hE1 hS) (gmt hG) rfl dX4_passing_40 (Nat.le_of_ble_eq_true rfl) rfl (Nat.zero_le _) (Nat.zero_le _) ?_
        refine aw_istore4 h rfl dX4_passing_43 ?_
        refine aw_iload2 h dX4_passing_45 ?_
        refine aw_aload0 h dX4_passing_46 ?_
        refine aw_getr h fl_X4_63 (gmt hG) dX4_passing_47 rfl (gmp29 hG) ?_
        refine aw_iload4 h dX4_passing_50 ?_
        refine aw_ialdV h (gms177 hG) (by decide) (show codeV S < 32768 by omega) dX4_passing_52 (hff _ hcv) ?_
        refine aw_icmp_lt h (tgt := 59) dX4_passing_53 (by decide) (fun c53 => ?_) (fun c53 => ?_)
        · obtain ⟨x, hx, hfx, -, -⟩ := (hfD _ hcv).resolve_left (fun q => by
            have h3 : fewF S a (codeV S) = -1 := q.1
            have h4 : nI kk < fewF S a (codeV S) := c53
            rw [h3] at h4
            exact absurd (Int32.lt_of_lt_of_le h4 (show (-1 : Int32) ≤ 0 by decide)) (Int32.not_lt.mpr (nI_pos' hkk)))
          have hkx : kk < x := by
            have h4 : nI kk < fewF S a (codeV S) := c53
            rw [hfx] at h4
            exact (nI_ltI hkk (by omega)).mp h4
          have hans : passA S (nI a) (nI kk) wh = if wh = 0 then nI (rowK S (fewF S a) (codeV S) kk).1 else if wh = nI 1 then nI (rowK S (fewF S a) (codeV S) kk).2.1 else qI (rowK S (fewF S a) (codeV S) kk).2.2 := by
            unfold passA
            rw [if_pos hpb, hcl0, hkl, if_neg (show ¬ fewF S a (codeV S) ≤ nI kk from Int32.not_le.mpr c53)]
          have key : ∀ (fu i : Nat) (c : Nat) (I2 : Im), i ≤ kk + 1 → kk + 1 < i + fu → c < pw (nr S) (np S) → fewF S a c = nI (x - i) → CH S (fewF S a) i (codeV S) c → MC [] [] I L I2 L1 → (∀ c, c < pw (nr S) (np S) → I2 177 c = fewF S a c) → (∀ jj, i = jj + 1 → ∃ t, RowK S (fewF S a) (codeV S) jj t ∧ I2 161 33 = nI t.1 ∧ I2 161 34 = nI t.2.1 ∧ I2 161 35 = qI t.2.2) → AW X 0 0 62 [some (.ref (w.1 + 161)), some (.int (nI a)), some (.int (nI kk)), some (.int (wh)), some (.int (nI c)), some (.int (nI i))] [] G I2 L1 := by
            intro fu
            induction fu with
            | zero => intro i c I2 hle hlt; exact absurd hlt (by omega)
            | succ fu ih =>
              intro i c I2 hle hlt hcl hfc hch hM2 hf2 hlast
              have hE2 : I2 171 = S := (hM2.1 171 (by decide) (by decide)).trans hE
              refine aw_iload5 h dX4_passing_62 ?_
              refine aw_iload2 h dX4_passing_64 ?_
              refine aw_icmp_gtN h (tgt := 82) (by omega) (by omega) dX4_passing_65 (by decide) (fun c65 => ?_) (fun c65 => ?_)
              · obtain ⟨t, hrow, e1, e2, e3⟩ := hlast kk (by omega)
                have ha2 : passA S (nI a) (nI kk) wh = if wh = 0 then nI t.1 else if wh = nI 1 then nI t.2.1 else qI t.2.2 := by rw [hans, hrow.eq]
                refine aw_iload3 h dX4_passing_82 ?_
                refine aw_if_ne h (tgt := 93) dX4_passing_83 (by decide) (fun c83 => ?_) (fun c83 => ?_)
                · refine aw_iload3 h dX4_passing_93 ?_
                  refine aw_iconst h _ ci_1 dX4_passing_94 ?_
                  refine aw_icmp_ne h (tgt := 105) dX4_passing_95 (by decide) (fun c95 => ?_) (fun c95 => ?_)
                  · refine aw_aload0 h dX4_passing_105 ?_
                    refine aw_getiV h fl_X4_452 (gmt hG) dX4_passing_106 rfl (e3) ?_
                    exact aw_iret h hr dX4_passing_109 (⟨by rw [ha2, if_neg c83, if_neg c95], rfl, hM2⟩) (Nat.zero_le _) (Nat.zero_le _)
                  · refine aw_aload0 h dX4_passing_98 ?_
                    refine aw_getiV h fl_X4_449 (gmt hG) dX4_passing_99 rfl (e2) ?_
                    refine aw_goto h (tgt := 109) dX4_passing_102 (by decide) ?_
                    exact aw_iret h hr dX4_passing_109 (⟨by rw [ha2, if_neg c83, if_pos c95], rfl, hM2⟩) (Nat.zero_le _) (Nat.zero_le _)
                · refine aw_aload0 h dX4_passing_86 ?_
                  refine aw_getiV h fl_X4_446 (gmt hG) dX4_passing_87 rfl (e1) ?_
                  refine aw_goto h (tgt := 109) dX4_passing_90 (by decide) ?_
                  exact aw_iret h hr dX4_passing_109 (⟨by rw [ha2, if_pos c83], rfl, hM2⟩) (Nat.zero_le _) (Nat.zero_le _)
              · obtain ⟨p, d, j, hN⟩ := NXF.ex (next_ex (n := x - i - 1) hS h0 hsrc hfD hcl (by rw [hfc]; congr 1; omega) (by omega))
                have htl := (nx_EB hS h0 hN.1.1 hcl).1
                have hfn : fewF S a (nxTo S c p d j) = nI (x - (i + 1)) := by rw [hN.1.2, hfc, pk_sub (by omega)]; congr 1
                refine aw_aload0 h dX4_passing_68 ?_
                refine aw_iload4 h dX4_passing_69 ?_
                refine aw_callVE1 h hl cl_X4_455 (met_m_nextCode hG hE2 hS h0 hcl hf2 hN) (gmt hG) rfl dX4_passing_71 (Nat.le_of_ble_eq_true rfl) rfl (Nat.zero_le _) (Nat.zero_le _) ?_
                refine aw_istore4 h rfl dX4_passing_74 ?_
                refine aw_iincN5 h rfl dX4_passing_76 ?_
                refine aw_goto h (tgt := 62) dX4_passing_79 (by decide) ?_
                exact ih (i + 1) (nxTo S c p d j) _ (by omega) (by omega) htl hfn ⟨c, p, d, j, hch, hN, rfl⟩ (hM2.trans ((MC.upF _ (Or.inl (by decide))).trans ((MC.upF _ (Or.inl (by decide))).trans (MC.upF _ (Or.inl (by decide)))))) hf2 (fun jj hj => by
                  obtain rfl : i = jj := by omega
                  exact ⟨(p, d, j), ⟨c, hch, hN⟩, rfl, rfl, rfl⟩)
          refine aw_iconst h _ ci_0 dX4_passing_59 ?_
          refine aw_istore5 h rfl dX4_passing_60 ?_
          exact key (kk + 2) 0 (codeV S) I1 (Nat.zero_le _) (by omega) hcv hfx rfl hM0 hff (fun jj hj => by omega)
        · refine aw_bipush h _ cb_m2 dX4_passing_56 ?_
          exact aw_iret h hr dX4_passing_58 (⟨by unfold passA; rw [if_pos hpb, hcl0, hkl, if_pos (show fewF S a (codeV S) ≤ nI kk from Int32.not_lt.mp c53)], rfl, hM0⟩) (Nat.zero_le _) (Nat.zero_le _)
      · refine aw_bipush h _ cb_m3 dX4_passing_24 ?_
        exact aw_iret h hr dX4_passing_26 (⟨by unfold passA; rw [show passB S m k wh = false from (by unfold passB; rw [show inI wh 0 2 = false from (inL_I (by omega) (by omega)).symm.trans c21, Bool.and_false, Bool.and_false])]; rfl, rfl, MC.rf⟩) (Nat.zero_le _) (Nat.zero_le _)
