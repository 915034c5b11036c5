/-! The component: all passings from one -/
set_option maxRecDepth 100000
theorem SK.skip {S : Nat → Int32} {n : Nat} {inw : Int32} {c0 k l0 l1 : Nat} {P : Nat → Prop} {c : Nat} {I : Im} (h : SK S n inw c0 k l0 P c I) (hl : l0 ≤ l1) (hn : ∀ l x, l0 ≤ l → l < l1 → ¬ FEd S 8 n inw c l x) : SK S n inw c0 k l1 P c I := by
  obtain ⟨cnt, qv, lv, par, lab, ⟨a1, a2, a3, a4⟩, hk, hq⟩ := h
  exact ⟨cnt, qv, lv, par, lab, ⟨a1, a2, a3.skip hl (by rw [hq]; exact hn), a4⟩, hk, hq⟩
/-- one is done -/
def SQ (S : Nat → Int32) (n : Nat) (inw : Int32) (c0 k : Nat) (P : Nat → Prop) (I : Im) : Prop := ∃ cnt qv lv par lab, SX S n inw c0 k 0 P cnt qv lv par lab I ∧ k ≤ cnt
theorem SK.next {S : Nat → Int32} {n : Nat} {inw : Int32} {c0 k l0 : Nat} {P : Nat → Prop} {c : Nat} {I : Im} (h : SK S n inw c0 k l0 P c I) (hP : P c) (hn : ∀ l x, l0 ≤ l → ¬ FEd S 8 n inw c l x) : SQ S n inw c0 (k + 1) P I := by
  obtain ⟨cnt, qv, lv, par, lab, ⟨a1, a2, a3, a4, a5, a6⟩, hk, hq⟩ := h
  have hn2 : ∀ l x, l0 ≤ l → ¬ FEd S 8 n inw (qv k) l x := by rw [hq]; exact hn
  refine ⟨cnt, qv, lv, par, lab, ⟨a1, a2.next hk (fun x hx => ?_), a3.next hn2, a4, fun i hi => ?_, a6⟩, hk⟩
  · obtain ⟨l, hl⟩ := hx
    exact a3.all hk hn2 l x hl
  · by_cases e : i = k
    · subst e; rw [hq]; exact hP
    · exact a5 i (by omega)
theorem SX.imp {S : Nat → Int32} {n : Nat} {inw : Int32} {c0 k l0 : Nat} {P P2 : Nat → Prop} {cnt : Nat} {qv lv par lab : Nat → Nat} {I : Im} (h : SX S n inw c0 k l0 P cnt qv lv par lab I) (hP : ∀ c, P c → P2 c) : SX S n inw c0 k l0 P2 cnt qv lv par lab I := by
  obtain ⟨a1, a2, a3, a4, a5, a6⟩ := h
  exact ⟨a1, a2, a3, a4, fun i hi => hP _ (a5 i hi), a6⟩
theorem code_c {p d q : Nat} (h : (p + 1) * 128 + d * 8 + (q + 1) < 1024) : (nI p + nI 1) * nI 128 + nI d * nI 8 + nI q + nI 1 = nI (((p + 1) * 128 + d * 8 + (q + 1)) % 1024) := by
  rw [Nat.mod_eq_of_lt h, qI_s q, code_a]
theorem code_0 {p d : Nat} (h : (p + 1) * 128 + d * 8 < 1024) : (nI p + nI 1) * nI 128 + nI d * nI 8 + (-1) + nI 1 = nI (((p + 1) * 128 + d * 8) % 1024) := by
  rw [Nat.mod_eq_of_lt h]
  exact code_a (j := 0)
theorem code_d {d q : Nat} (h : d * 8 + q + 1 < 1024) : ((-1 : Int32) + nI 1) * nI 128 + nI d * nI 8 + nI q + nI 1 = nI ((1024 + d * 8 + q + 1) % 1024) := by
  rw [code_b]
  congr 1
  omega
theorem sr_mut (m : Nat) (h : srE m = true) : MutB m = true := by
  unfold srE at h
  unfold MutB
  simp only [Bool.or_eq_true, Bool.and_eq_true, decide_eq_true_eq] at h ⊢
  omega
/-- the search goes on with the next -/
def SPr (S : Nat → Int32) (n : Nat) (inw : Int32) (c0 k : Nat) (P : Nat → Prop) (c : Nat) (G : Gm) (I : Im) (L : Lm) : Gm → Im → Lm → Prop := fun G1 I1 L1 => G = G1 ∧ XM srE srF I L I1 L1 ∧ SQ S n inw c0 (k + 1) P I1 ∧ I1 156 k = nI c
theorem SK.q {S : Nat → Int32} {n : Nat} {inw : Int32} {c0 k l0 : Nat} {P : Nat → Prop} {c : Nat} {I : Im} (h : SK S n inw c0 k l0 P c I) : I 156 k = nI c := by
  obtain ⟨cnt, qv, lv, par, lab, ⟨a1, -⟩, hk, hq⟩ := h
  rw [a1.2.1 k hk, hq]
theorem met_x_spreads {w : Wd} {G : Gm} {I : Im} {L : Lm} (hX : XG G) {sl : Nat → Prop} {K : CS} {cK : Nat} {S : Nat → Int32} {t : Nat} (hV : XV sl G I K cK S t) (h0 : 0 < nr S) (hA : StAt I 7 S) {n : Nat} (hn5 : n ≤ 5) {inw : Int32} (hTw : I 0 27 = inw) (hinw : inw = -1 ∨ ∃ d, d < nd S ∧ inw = nI d ∧ openB S d = true) {c0 k : Nat} {P : Nat → Prop} {c : Nat} (hSK0 : SK S n inw c0 k 0 P c I) (hPc : P c) : AMet w yX0_spreads cX0_spreads 7 none 6 148 0 0 [.ref (w.1 + 0), .int (nI c), .int (nI n)] G I L (Ans none (SPr S n inw c0 k P c G I L)) := by
  refine AMet.of (ls0 := [some (.ref (w.1 + 0)), some (.int (nI c)), some (.int (nI n)), none, none, none, none]) rfl (Nat.le_of_ble_eq_true rfl) rfl (fun q hq => hq) (fun X h hl hr hi => ?_)
  obtain ⟨hC0, hS, hcs, ht, ht2, hdj⟩ := id hV
  have hC := hC0
  obtain ⟨hc0, ⟨pl, pa, dl, da, fa, ps, ds, hK, hsp⟩, hok, hsl⟩ := id hC
  obtain ⟨cp, hLp⟩ := hK.2.2.2.2.2.1
  obtain ⟨cd, hLd⟩ := hK.2.2.2.2.2.2.1
  have hpl := hK.2.2.2.2.2.2.2.1
  have hdl := hK.2.2.2.2.2.2.2.2.1
  have hdk := hK.2.2.2.2.2.2.2.2.2.2.1
  have hpk := hK.2.2.2.2.2.2.2.2.2.1
  have hrm := hK.2.2.2.2.2.2.2.2.2.2.2.1
  have hfr := hK.2.2.2.2.2.2.2.2.2.2.2.2.2
  have hR8 := hok.2.1
  have hD14 := hok.2.2.1
  have hP4 := hok.2.2.2.1
  have hdo := hok.2.2.2.2.1
  have hpo := hok.2.2.2.2.2.1
  have hf9 := hok.2.2.2.2.2.2.2
  have hn := cas_n hcs hok
  have h8 := iv0b hS
  have hd14 := iv1b hS
  have hM := pw8_le hn5
  have hcV : VC S n c := by
    obtain ⟨cnt, qv, lv, par, lab, hSX, hk, hq⟩ := hSK0
    exact hq ▸ hSX.2.2.2.1 k hk
  have hc15 : c < 2 ^ 15 := Nat.lt_of_lt_of_le hcV.1 hM
  have keyp : ∀ (fp p : Nat) (I1 : Im) (L1 : Lm), p ≤ n → n < p + fp → XM srE srF I L I1 L1 → SK S n inw c0 k ((p + 1) * 128) P c I1 → ∀ o4 o5 o6 : Option Value, AW X 0 0 2 [some (.ref (w.1 + 0)), some (.int (nI c)), some (.int (nI n)), some (.int (nI p)), o4, o5, o6] [] G I1 L1 := by
    intro fp
    induction fp with
    | zero => intro p I1 L1 hle hlt; exact absurd hlt (by omega)
    | succ fp ihp =>
      intro p I1 L1 hle hlt hm hSK
      intro o4 o5 o6
      refine aw_iload3 h dX0_spreads_2 ?_
      refine aw_iload2 h dX0_spreads_3 ?_
      refine aw_icmp_geN h (tgt := 174) (by omega) (by omega) dX0_spreads_4 (by decide) (fun c4 => ?_) (fun c4 => ?_)
      · obtain rfl : p = n := by omega
        have hS2 : SK S p inw c0 k 1024 P c I1 := hSK.skip (by omega) (fun l x g1 g2 hF => by
          rcases hF with ⟨p2, d2, j2, e1, e2, e3, e4, e5, e6, e7, -⟩ | ⟨d2, q2, e1, -, -, e2, -, e3, -⟩
          · omega
          · omega)
        rcases hinw with rfl | ⟨d, hdn, rfl, hop⟩
        · refine aw_aload0 h dX0_spreads_174 ?_
          refine aw_getiV h fl_X0_104 (gx0 hX) dX0_spreads_175 rfl (((hm.2.1 27 rfl).trans hTw)) ?_
          refine aw_iconst h _ ci_m1 dX0_spreads_178 ?_
          refine aw_icmp_ne h (tgt := 183) dX0_spreads_179 (by decide) (fun c179 => ?_) (fun c179 => ?_)
          · exact absurd rfl c179
          · have hfin : ∀ l x, 1024 ≤ l → ¬ FEd S 8 p (-1) c l x := by
              rintro l x g1 hF
              rcases hF with ⟨p2, d2, j2, e1, e2, e3, e4, e5, e6, e7, -⟩ | ⟨d2, q2, e1, -, e9, e2, e4, e3, -⟩
              · omega
              · exact absurd e9 (ne_m1 (by omega))
            exact aw_vret h hr dX0_spreads_182 (⟨rfl, rfl, hm, hS2.next hPc hfin, hS2.q⟩) (Nat.zero_le _) (Nat.zero_le _)
        · have hdd : d < (kD K).length := by omega
          have hx := cas_d hcs hok hdd
          have hiv := ivd hS hdn
          have hS3 : SK S p (nI d) c0 k (1024 + d * 8 + 0 + 1) P c I1 := hS2.skip (by omega) (fun l x g1 g2 hF => by
            rcases hF with ⟨p2, d2, j2, e1, e2, e3, e4, e5, e6, e7, -⟩ | ⟨d2, q2, e1, -, e9, e2, e4, e3, -⟩
            · omega
            · have := (nI_eq (by omega) (by omega)).mp e9
              omega)
          have keyt : ∀ (ft q : Nat) (I1 : Im) (L1 : Lm), q ≤ p → p < q + ft → XM srE srF I L I1 L1 → SK S p (nI d) c0 k (1024 + d * 8 + q + 1) P c I1 → AW X 0 0 185 [some (.ref (w.1 + 0)), some (.int (nI c)), some (.int (nI p)), some (.int (nI q)), o4, o5, o6] [] G I1 L1 := by
            intro ft
            induction ft with
            | zero => intro q I1 L1 hle hlt; exact absurd hlt (by omega)
            | succ ft iht =>
              intro q I1 L1 hle hlt hm hSK
              have hV1 : XV sl G I1 K cK S t := hV.ix (hm.nm sr_mut)
              have hA1 : StAt I1 7 S := hA.ix7 (fun m q1 q2 => (hm.1 m (by omega) (by unfold srE; simp; omega)).1)
              obtain ⟨hc0, ⟨pl, pa, dl, da, fa, ps, ds, hK, hsp⟩, -, -⟩ := id hV1.1
              obtain ⟨cd, hLd⟩ := hK.2.2.2.2.2.2.1
              have hdl := hK.2.2.2.2.2.2.2.2.1
              refine aw_iload3 h dX0_spreads_185 ?_
              refine aw_iload2 h dX0_spreads_186 ?_
              refine aw_icmp_geN h (tgt := 245) (by omega) (by omega) dX0_spreads_187 (by decide) (fun c187 => ?_) (fun c187 => ?_)
              · have hfin : ∀ l x, 1024 + d * 8 + q + 1 ≤ l → ¬ FEd S 8 p (nI d) c l x := by
                  rintro l x g1 hF
                  rcases hF with ⟨p2, d2, j2, e1, e2, e3, e4, e5, e6, e7, -⟩ | ⟨d2, q2, e1, -, e9, e2, e4, e3, -⟩
                  · omega
                  · have := (nI_eq (by omega) (by omega)).mp e9
                    omega
                exact aw_vret h hr dX0_spreads_245 (⟨rfl, rfl, hm, hSK.next hPc hfin, hSK.q⟩) (Nat.zero_le _) (Nat.zero_le _)
              · have hdl8 := dg_lt (b := 8) (by decide) c q
                refine aw_iload1 h dX0_spreads_190 ?_
                refine aw_iload3 h dX0_spreads_191 ?_
                refine aw_callSE2 h hl cl_X0_331 (met_x_placeOf hc15 (p := q) (by omega)) dX0_spreads_192 (Nat.le_of_ble_eq_true rfl) rfl (Nat.zero_le _) (Nat.zero_le _) ?_
                refine aw_aload0 h dX0_spreads_195 ?_
                refine aw_getr h fl_X0_12 (gx0 hX) dX0_spreads_196 rfl hc0 ?_
                refine aw_aload0 h dX0_spreads_199 ?_
                refine aw_getiV h fl_X0_104 (gx0 hX) dX0_spreads_200 rfl ((show I1 0 27 = nI d from (hm.2.1 27 rfl).trans hTw)) ?_
                refine aw_callVE1 h hl cl_X0_183 (met_x_outer hK hok hdd) hK.1 rfl dX0_spreads_203 (Nat.le_of_ble_eq_true rfl) rfl (Nat.zero_le _) (Nat.zero_le _) ?_
                rw [← hx.2.1]
                refine aw_icmp_neN h (tgt := 239) (by omega) (by omega) dX0_spreads_206 (by decide) (fun c206 => ?_) (fun c206 => ?_)
                · refine aw_iincN3 h rfl dX0_spreads_239 ?_
                  refine aw_goto h (tgt := 185) dX0_spreads_242 (by decide) ?_
                  refine iht (q + 1) I1 L1 (by omega) (by omega) hm (hSK.skip (Nat.le_succ _) (fun l x g1 g2 hF => ?_))
                  rcases hF with ⟨p2, d2, j2, e1, e2, e3, e4, e5, e6, e7, -⟩ | ⟨d2, q2, e1, -, -, e2, e4, e3, -⟩
                  · omega
                  · obtain rfl : d2 = d := by omega
                    obtain rfl : q2 = q := by omega
                    exact absurd e4 c206
                · refine aw_aload0 h dX0_spreads_209 ?_
                  refine aw_iload1 h dX0_spreads_210 ?_
                  refine aw_iload3 h dX0_spreads_211 ?_
                  refine aw_aload0 h dX0_spreads_212 ?_
                  refine aw_getr h fl_X0_12 (gx0 hX) dX0_spreads_213 rfl hc0 ?_
                  refine aw_aload0 h dX0_spreads_216 ?_
                  refine aw_getiV h fl_X0_104 (gx0 hX) dX0_spreads_217 rfl ((show I1 0 27 = nI d from (hm.2.1 27 rfl).trans hTw)) ?_
                  refine aw_callVE1 h hl cl_X0_179 (met_x_inner hK hok hdd) hK.1 rfl dX0_spreads_220 (Nat.le_of_ble_eq_true rfl) rfl (Nat.zero_le _) (Nat.zero_le _) ?_
                  rw [← hx.1]
                  refine aw_callSE3 h hl cl_X0_334 (met_x_moved hc15 (p := q) (r := near S d) (by omega) (by omega)) dX0_spreads_223 (Nat.le_of_ble_eq_true rfl) rfl (Nat.zero_le _) (Nat.zero_le _) ?_
                  refine aw_iload1 h dX0_spreads_226 ?_
                  refine aw_iconst h _ ci_m1 dX0_spreads_227 ?_
                  refine aw_aload0 h dX0_spreads_228 ?_
                  refine aw_getiV h fl_X0_104 (gx0 hX) dX0_spreads_229 rfl ((show I1 0 27 = nI d from (hm.2.1 27 rfl).trans hTw)) ?_
                  refine aw_iload3 h dX0_spreads_232 ?_
                  refine aw_callSE3 h hl cl_X0_337 (met_x_codeOf) dX0_spreads_233 (Nat.le_of_ble_eq_true rfl) rfl (Nat.zero_le _) (Nat.zero_le _) ?_
                  rw [code_d (by omega)]
                  refine aw_callVN3 h hl cl_X0_340 (met_x_reaches hX hS h0 hn5 (l := 1024 + d * 8 + q + 1) hSK (Or.inr ⟨d, q, hdn, hop, rfl, by omega, c206, rfl, rfl⟩)) (gx0 hX) rfl dX0_spreads_236 (Nat.le_of_ble_eq_true rfl) rfl (Nat.zero_le _) (Nat.zero_le _) (fun G1 I2 L2 hp9 => ?_)
                  obtain ⟨rfl, hm2, hSK2⟩ := hp9
                  refine aw_iincN3 h rfl dX0_spreads_239 ?_
                  refine aw_goto h (tgt := 185) dX0_spreads_242 (by decide) ?_
                  exact iht (q + 1) I2 L2 (by omega) (by omega) (hm.trans hm2) hSK2
          refine aw_aload0 h dX0_spreads_174 ?_
          refine aw_getiV h fl_X0_104 (gx0 hX) dX0_spreads_175 rfl (((hm.2.1 27 rfl).trans hTw)) ?_
          refine aw_iconst h _ ci_m1 dX0_spreads_178 ?_
          refine aw_icmp_ne h (tgt := 183) dX0_spreads_179 (by decide) (fun c179 => ?_) (fun c179 => ?_)
          · refine aw_iconst h _ ci_0 dX0_spreads_183 ?_
            refine aw_istore3 h rfl dX0_spreads_184 ?_
            exact keyt (p + 1) 0 I1 L1 (Nat.zero_le _) (by omega) hm hS3
          · exact absurd (by first | exact c179 | exact Decidable.not_not.mp c179) (ne_m1 (by omega))
      · have hpn : p < n := by omega
        have keyd : ∀ (fd d : Nat) (I1 : Im) (L1 : Lm), d ≤ nd S → nd S < d + fd → XM srE srF I L I1 L1 → SK S n inw c0 k ((p + 1) * 128 + d * 8) P c I1 → ∀ o5 o6 : Option Value, AW X 0 0 10 [some (.ref (w.1 + 0)), some (.int (nI c)), some (.int (nI n)), some (.int (nI p)), some (.int (nI d)), o5, o6] [] G I1 L1 := by
          intro fd
          induction fd with
          | zero => intro d I1 L1 hle hlt; exact absurd hlt (by omega)
          | succ fd ihd =>
            intro d I1 L1 hle hlt hm hSK
            intro o5 o6
            have hV1 : XV sl G I1 K cK S t := hV.ix (hm.nm sr_mut)
            have hA1 : StAt I1 7 S := hA.ix7 (fun m q1 q2 => (hm.1 m (by omega) (by unfold srE; simp; omega)).1)
            obtain ⟨hc0, ⟨pl, pa, dl, da, fa, ps, ds, hK, hsp⟩, -, -⟩ := id hV1.1
            obtain ⟨cd, hLd⟩ := hK.2.2.2.2.2.2.1
            have hdl := hK.2.2.2.2.2.2.2.2.1
            refine aw_iload4 h dX0_spreads_10 ?_
            refine aw_aload0 h dX0_spreads_12 ?_
            refine aw_getr h fl_X0_12 (gx0 hX) dX0_spreads_13 rfl hc0 ?_
            refine aw_getr h fl_X0_133 hK.1 dX0_spreads_16 rfl hK.2.2.1 ?_
            refine aw_callVE0 h hl cl_X0_136 (met_j_size hLd) hLd.1 rfl dX0_spreads_19 (Nat.le_of_ble_eq_true rfl) rfl (Nat.zero_le _) (Nat.zero_le _) ?_
            rw [hdl, ← hn.2.1]
            refine aw_icmp_geN h (tgt := 168) (by omega) (by omega) dX0_spreads_22 (by decide) (fun c22 => ?_) (fun c22 => ?_)
            · refine aw_iincN3 h rfl dX0_spreads_168 ?_
              refine aw_goto h (tgt := 2) dX0_spreads_171 (by decide) ?_
              refine ihp (p + 1) I1 L1 (by omega) (by omega) hm (hSK.skip (by omega) (fun l x g1 g2 hF => ?_)) (some (.int (nI d))) o5 o6
              rcases hF with ⟨p2, d2, j2, e1, e2, e3, e4, e5, e6, e7, -⟩ | ⟨d2, q2, e1, -, -, e2, -, e3, -⟩
              · omega
              · omega
            · have hdn : d < nd S := by omega
              have hdd : d < (kD K).length := by omega
              have hx := cas_d hcs hok hdd
              have hiv := ivd hS hdn
              have hdl8 := dg_lt (b := 8) (by decide) c p
              refine aw_aload0 h dX0_spreads_25 ?_
              refine aw_getr h fl_X0_12 (gx0 hX) dX0_spreads_26 rfl hc0 ?_
              refine aw_iload4 h dX0_spreads_29 ?_
              refine aw_aload0 h dX0_spreads_31 ?_
              refine aw_getr h fl_X0_19 (gx0 hX) dX0_spreads_32 rfl (gxp1 hX) ?_
              refine aw_getiV h fl_X0_195 (gxt7 hX).1 dX0_spreads_35 rfl (hA1.1.trans ht) ?_
              refine aw_callVE2 h hl cl_X0_175 (met_x_isOpen hK hok hdd ht2) hK.1 rfl dX0_spreads_38 (Nat.le_of_ble_eq_true rfl) rfl (Nat.zero_le _) (Nat.zero_le _) ?_
              rw [← cas_op hcs hok ht ht2 hdd]
              refine aw_if_eqB h (tgt := 162) dX0_spreads_41 (by decide) (fun c41 => ?_) (fun c41 => ?_)
              · refine aw_iincN4 h rfl dX0_spreads_162 ?_
                refine aw_goto h (tgt := 10) dX0_spreads_165 (by decide) ?_
                refine ihd (d + 1) I1 L1 (by omega) (by omega) hm (hSK.skip (by omega) (fun l x g1 g2 hF => ?_)) _ _
                rcases hF with ⟨p2, d2, j2, e1, e2, e3, e4, e5, e6, e7, -⟩ | ⟨d2, q2, e1, -, -, e2, -, e3, -⟩
                · obtain rfl : p2 = p := by omega
                  obtain rfl : d2 = d := by omega
                  rw [c41] at e4; cases e4
                · omega
              · refine aw_aload0 h dX0_spreads_44 ?_
                refine aw_getr h fl_X0_12 (gx0 hX) dX0_spreads_45 rfl hc0 ?_
                refine aw_iload4 h dX0_spreads_48 ?_
                refine aw_callVE1 h hl cl_X0_179 (met_x_inner hK hok hdd) hK.1 rfl dX0_spreads_50 (Nat.le_of_ble_eq_true rfl) rfl (Nat.zero_le _) (Nat.zero_le _) ?_
                rw [← hx.1]
                refine aw_iload1 h dX0_spreads_53 ?_
                refine aw_iload3 h dX0_spreads_54 ?_
                refine aw_callSE2 h hl cl_X0_331 (met_x_placeOf hc15 (p := p) (by omega)) dX0_spreads_55 (Nat.le_of_ble_eq_true rfl) rfl (Nat.zero_le _) (Nat.zero_le _) ?_
                refine aw_icmp_eqN h (tgt := 64) (by omega) (by omega) dX0_spreads_58 (by decide) (fun c58 => ?_) (fun c58 => ?_)
                · have hgp : dg 8 c p = near S d := c58.symm
                  have hop : openB S d = true := c41
                  have hc1 : mv 8 c p (farr S d) < 2 ^ 15 := Nat.lt_of_lt_of_le (mv_lt (b := 8) (n := n) (by decide) hcV.1 hpn (by omega)) hM
                  refine aw_iload1 h dX0_spreads_64 ?_
                  refine aw_iload3 h dX0_spreads_65 ?_
                  refine aw_aload0 h dX0_spreads_66 ?_
                  refine aw_getr h fl_X0_12 (gx0 hX) dX0_spreads_67 rfl hc0 ?_
                  refine aw_iload4 h dX0_spreads_70 ?_
                  refine aw_callVE1 h hl cl_X0_183 (met_x_outer hK hok hdd) hK.1 rfl dX0_spreads_72 (Nat.le_of_ble_eq_true rfl) rfl (Nat.zero_le _) (Nat.zero_le _) ?_
                  rw [← hx.2.1]
                  refine aw_callSE3 h hl cl_X0_334 (met_x_moved hc15 (p := p) (r := farr S d) (by omega) (by omega)) dX0_spreads_75 (Nat.le_of_ble_eq_true rfl) rfl (Nat.zero_le _) (Nat.zero_le _) ?_
                  refine aw_istore5 h rfl dX0_spreads_78 ?_
                  refine aw_aload0 h dX0_spreads_80 ?_
                  refine aw_iload5 h dX0_spreads_81 ?_
                  refine aw_iload1 h dX0_spreads_83 ?_
                  refine aw_iload3 h dX0_spreads_84 ?_
                  refine aw_iload4 h dX0_spreads_85 ?_
                  refine aw_iconst h _ ci_m1 dX0_spreads_87 ?_
                  refine aw_callSE3 h hl cl_X0_337 (met_x_codeOf) dX0_spreads_88 (Nat.le_of_ble_eq_true rfl) rfl (Nat.zero_le _) (Nat.zero_le _) ?_
                  rw [code_0 (by omega)]
                  refine aw_callVN3 h hl cl_X0_340 (met_x_reaches hX hS h0 hn5 (l := (p + 1) * 128 + d * 8) hSK (Or.inl ⟨p, d, 0, hpn, hdn, Nat.zero_le _, hop, hgp, Or.inl rfl, rfl, rfl⟩)) (gx0 hX) rfl dX0_spreads_91 (Nat.le_of_ble_eq_true rfl) rfl (Nat.zero_le _) (Nat.zero_le _) (fun G1 I2 L2 hp9 => ?_)
                  obtain ⟨rfl, hm2, hSK2⟩ := hp9
                  have hm := hm.trans hm2
                  
                  have keyq : ∀ (fq q : Nat) (I1 : Im) (L1 : Lm), q ≤ n → n < q + fq → XM srE srF I L I1 L1 → SK S n inw c0 k ((p + 1) * 128 + d * 8 + (q + 1)) P c I1 → AW X 0 0 97 [some (.ref (w.1 + 0)), some (.int (nI c)), some (.int (nI n)), some (.int (nI p)), some (.int (nI d)), some (.int (nI (mv 8 c p (farr S d)))), some (.int (nI q))] [] G I1 L1 := by
                    intro fq
                    induction fq with
                    | zero => intro q I1 L1 hle hlt; exact absurd hlt (by omega)
                    | succ fq ihq =>
                      intro q I1 L1 hle hlt hm hSK
                      have hV1 : XV sl G I1 K cK S t := hV.ix (hm.nm sr_mut)
                      have hA1 : StAt I1 7 S := hA.ix7 (fun m q1 q2 => (hm.1 m (by omega) (by unfold srE; simp; omega)).1)
                      obtain ⟨hc0, ⟨pl, pa, dl, da, fa, ps, ds, hK, hsp⟩, -, -⟩ := id hV1.1
                      obtain ⟨cd, hLd⟩ := hK.2.2.2.2.2.2.1
                      have hdl := hK.2.2.2.2.2.2.2.2.1
                      refine aw_iload6 h dX0_spreads_97 ?_
                      refine aw_iload2 h dX0_spreads_99 ?_
                      refine aw_icmp_geN h (tgt := 162) (by omega) (by omega) dX0_spreads_100 (by decide) (fun c100 => ?_) (fun c100 => ?_)
                      · refine aw_iincN4 h rfl dX0_spreads_162 ?_
                        refine aw_goto h (tgt := 10) dX0_spreads_165 (by decide) ?_
                        refine ihd (d + 1) I1 L1 (by omega) (by omega) hm (hSK.skip (by omega) (fun l x g1 g2 hF => ?_)) _ _
                        rcases hF with ⟨p2, d2, j2, e1, e2, e3, e4, e5, e6, e7, -⟩ | ⟨d2, q2, e1, -, -, e2, -, e3, -⟩
                        · omega
                        · omega
                      · have hdl8 := dg_lt (b := 8) (by decide) c q
                        refine aw_iload6 h dX0_spreads_103 ?_
                        refine aw_iload3 h dX0_spreads_105 ?_
                        refine aw_icmp_eqN h (tgt := 156) (by omega) (by omega) dX0_spreads_106 (by decide) (fun c106 => ?_) (fun c106 => ?_)
                        · refine aw_iincN6 h rfl dX0_spreads_156 ?_
                          refine aw_goto h (tgt := 97) dX0_spreads_159 (by decide) ?_
                          refine ihq (q + 1) I1 L1 (by omega) (by omega) hm (hSK.skip (Nat.le_succ _) (fun l x g1 g2 hF => ?_))
                          rcases hF with ⟨p2, d2, j2, e1, e2, e3, e4, e5, e6, e7, -⟩ | ⟨d2, q2, e1, -, -, e2, -, e3, -⟩
                          · obtain rfl : p2 = p := by omega
                            obtain rfl : d2 = d := by omega
                            obtain rfl : j2 = q + 1 := by omega
                            have e8 := e6.resolve_left (Nat.succ_ne_zero q)
                            rw [Nat.add_sub_cancel] at e8
                            omega
                          · omega
                        · refine aw_iload1 h dX0_spreads_109 ?_
                          refine aw_iload6 h dX0_spreads_110 ?_
                          refine aw_callSE2 h hl cl_X0_331 (met_x_placeOf hc15 (p := q) (by omega)) dX0_spreads_112 (Nat.le_of_ble_eq_true rfl) rfl (Nat.zero_le _) (Nat.zero_le _) ?_
                          refine aw_aload0 h dX0_spreads_115 ?_
                          refine aw_getr h fl_X0_12 (gx0 hX) dX0_spreads_116 rfl hc0 ?_
                          refine aw_iload4 h dX0_spreads_119 ?_
                          refine aw_callVE1 h hl cl_X0_183 (met_x_outer hK hok hdd) hK.1 rfl dX0_spreads_121 (Nat.le_of_ble_eq_true rfl) rfl (Nat.zero_le _) (Nat.zero_le _) ?_
                          rw [← hx.2.1]
                          refine aw_icmp_neN h (tgt := 156) (by omega) (by omega) dX0_spreads_124 (by decide) (fun c124 => ?_) (fun c124 => ?_)
                          · refine aw_iincN6 h rfl dX0_spreads_156 ?_
                            refine aw_goto h (tgt := 97) dX0_spreads_159 (by decide) ?_
                            refine ihq (q + 1) I1 L1 (by omega) (by omega) hm (hSK.skip (Nat.le_succ _) (fun l x g1 g2 hF => ?_))
                            rcases hF with ⟨p2, d2, j2, e1, e2, e3, e4, e5, e6, e7, -⟩ | ⟨d2, q2, e1, -, -, e2, -, e3, -⟩
                            · obtain rfl : p2 = p := by omega
                              obtain rfl : d2 = d := by omega
                              obtain rfl : j2 = q + 1 := by omega
                              have e8 := e6.resolve_left (Nat.succ_ne_zero q)
                              rw [Nat.add_sub_cancel] at e8
                              exact absurd e8.2 c124
                            · omega
                          · refine aw_aload0 h dX0_spreads_127 ?_
                            refine aw_iload5 h dX0_spreads_128 ?_
                            refine aw_iload6 h dX0_spreads_130 ?_
                            refine aw_aload0 h dX0_spreads_132 ?_
                            refine aw_getr h fl_X0_12 (gx0 hX) dX0_spreads_133 rfl hc0 ?_
                            refine aw_iload4 h dX0_spreads_136 ?_
                            refine aw_callVE1 h hl cl_X0_179 (met_x_inner hK hok hdd) hK.1 rfl dX0_spreads_138 (Nat.le_of_ble_eq_true rfl) rfl (Nat.zero_le _) (Nat.zero_le _) ?_
                            rw [← hx.1]
                            refine aw_callSE3 h hl cl_X0_334 (met_x_moved hc1 (p := q) (r := near S d) (by omega) (by omega)) dX0_spreads_141 (Nat.le_of_ble_eq_true rfl) rfl (Nat.zero_le _) (Nat.zero_le _) ?_
                            refine aw_iload1 h dX0_spreads_144 ?_
                            refine aw_iload3 h dX0_spreads_145 ?_
                            refine aw_iload4 h dX0_spreads_146 ?_
                            refine aw_iload6 h dX0_spreads_148 ?_
                            refine aw_callSE3 h hl cl_X0_337 (met_x_codeOf) dX0_spreads_150 (Nat.le_of_ble_eq_true rfl) rfl (Nat.zero_le _) (Nat.zero_le _) ?_
                            rw [code_c (by omega)]
                            refine aw_callVN3 h hl cl_X0_340 (met_x_reaches hX hS h0 hn5 (l := (p + 1) * 128 + d * 8 + (q + 1)) hSK (Or.inl ⟨p, d, q + 1, hpn, hdn, by omega, hop, hgp, Or.inr ⟨c106, by rw [Nat.add_sub_cancel]; exact c124⟩, rfl, by rw [if_neg (Nat.succ_ne_zero q), Nat.add_sub_cancel]⟩)) (gx0 hX) rfl dX0_spreads_153 (Nat.le_of_ble_eq_true rfl) rfl (Nat.zero_le _) (Nat.zero_le _) (fun G1 I2 L2 hp9 => ?_)
                            obtain ⟨rfl, hm2, hSK2⟩ := hp9
                            refine aw_iincN6 h rfl dX0_spreads_156 ?_
                            refine aw_goto h (tgt := 97) dX0_spreads_159 (by decide) ?_
                            exact ihq (q + 1) I2 L2 (by omega) (by omega) (hm.trans hm2) (hSK2)
                  refine aw_iconst h _ ci_0 dX0_spreads_94 ?_
                  refine aw_istore6 h rfl dX0_spreads_95 ?_
                  exact keyq (n + 1) 0 I2 L2 (Nat.zero_le _) (by omega) hm hSK2
                · refine aw_goto h (tgt := 162) dX0_spreads_61 (by decide) ?_
                  refine aw_iincN4 h rfl dX0_spreads_162 ?_
                  refine aw_goto h (tgt := 10) dX0_spreads_165 (by decide) ?_
                  refine ihd (d + 1) I1 L1 (by omega) (by omega) hm (hSK.skip (by omega) (fun l x g1 g2 hF => ?_)) _ _
                  rcases hF with ⟨p2, d2, j2, e1, e2, e3, e4, e5, e6, e7, -⟩ | ⟨d2, q2, e1, -, -, e2, -, e3, -⟩
                  · obtain rfl : p2 = p := by omega
                    obtain rfl : d2 = d := by omega
                    exact absurd e5.symm c58
                  · omega
        refine aw_iconst h _ ci_0 dX0_spreads_7 ?_
        refine aw_istore4 h rfl dX0_spreads_8 ?_
        exact keyd (nd S + 1) 0 I1 L1 (Nat.zero_le _) (by omega) hm (by rw [Nat.zero_mul, Nat.add_zero]; exact hSK) _ _
  refine aw_iconst h _ ci_0 dX0_spreads_0 ?_
  refine aw_istore3 h rfl dX0_spreads_1 ?_
  exact keyp (n + 1) 0 I L (Nat.zero_le _) (by omega) XM.rf (hSK0.skip (by omega) (fun l x g1 g2 hF => by
    rcases hF with ⟨p2, d2, j2, e1, e2, e3, e4, e5, e6, e7, -⟩ | ⟨d2, q2, e1, -, -, e2, -, e3, -⟩
    · omega
    · omega)) _ _ _
