/-! The component: words are laid, wills -/
set_option maxRecDepth 100000
def hereF (S : Nat → Int32) (p q : Nat) : Nat := if (decide (¬ q = p) && decide (rm S q = rm S p)) = true then 1 else 0
def askF (S : Nat → Int32) (p q : Nat) : Nat := if askB S p q = true then 1 else 0
/-- the words of a person are laid -/
def WLt (S : Nat → Int32) (p : Nat) (G : Gm) (I : Im) (L : Lm) : Gm → Im → Lm → Prop := fun G1 I1 L1 => G = G1 ∧ I = I1 ∧ ∃ W : Nat → Int64, va_up L 27 W = L1 ∧ ∀ j, j < 12 → W j = wordsV S p j
theorem met_x_bitx {w : Wd} {G : Gm} {I : Im} {L : Lm} {x : Int32} (hx : x = nI 0 ∨ x = nI 1) : AMet w yX0_bit cX0_bit 1 (some .int) 1 40 0 0 [.int x] G I L (Exact (some (.int (x))) G I L) := by
  refine AMet.of (ls0 := [some (.int x)]) rfl (Nat.le_of_ble_eq_true rfl) rfl (fun q hq => hq) (fun X h hl hr hi => ?_)
  rcases hx with rfl | rfl
  · refine aw_iload0 h dX0_bit_0 ?_
    refine aw_if_eqN h (tgt := 8) (by decide) dX0_bit_1 (by decide) (fun c1 => ?_) (fun c1 => ?_)
    · refine aw_iconst h _ ci_0 dX0_bit_8 ?_
      exact aw_iret h hr dX0_bit_9 (⟨rfl, rfl, rfl, rfl⟩) (Nat.zero_le _) (Nat.zero_le _)
    · exact absurd rfl c1
  · refine aw_iload0 h dX0_bit_0 ?_
    refine aw_if_eqN h (tgt := 8) (by decide) dX0_bit_1 (by decide) (fun c1 => ?_) (fun c1 => ?_)
    · exact absurd c1 (by decide)
    · refine aw_iconst h _ ci_1 dX0_bit_4 ?_
      refine aw_goto h (tgt := 9) dX0_bit_5 (by decide) ?_
      exact aw_iret h hr dX0_bit_9 (⟨rfl, rfl, rfl, rfl⟩) (Nat.zero_le _) (Nat.zero_le _)
theorem met_x_asks {w : Wd} {G : Gm} {I : Im} {L : Lm} (hX : XG G) {sl : Nat → Prop} {K : CS} {c : Nat} {S : Nat → Int32} {t : Nat} (hV : XV sl G I K c S t) {s : Nat} (hs : StSh G s) (hA : StAt I s S) (hs7 : s = 7 ∨ s = 13) (hst : ∀ q, q < np S → I 28 q = stepI S (gl S q) (rm S q)) {p : Nat} (hp : p < np S) (hlf : I 30 p = nI (distV S (gl S p) (rm S p))) : AMet w yX0_asks cX0_asks 6 none 4 104 0 0 [.ref (w.1 + 0), .ref (w.1 + s), .int (nI p)] G I L (Ans none (WLt S p G I L)) := by
  refine AMet.of (ls0 := [some (.ref (w.1 + 0)), some (.ref (w.1 + s)), some (.int (nI p)), none, none, none]) rfl (Nat.le_of_ble_eq_true rfl) rfl (fun q hq => hq) (fun X h hl hr hi => ?_)
  obtain ⟨hC0, hS, hcs, ht, ht2, hdj⟩ := id hV
  have hC := hC0
  obtain ⟨hc0, ⟨pl, pa, dl, da, fa, ps, ds, hK, hsp⟩, hok, hsl⟩ := id hC
  obtain ⟨cp, hLp⟩ := hK.2.2.2.2.2.1
  obtain ⟨cd, hLd⟩ := hK.2.2.2.2.2.2.1
  have hpl := hK.2.2.2.2.2.2.2.1
  have hdl := hK.2.2.2.2.2.2.2.2.1
  have hdk := hK.2.2.2.2.2.2.2.2.2.2.1
  have hpk := hK.2.2.2.2.2.2.2.2.2.1
  have hrm := hK.2.2.2.2.2.2.2.2.2.2.2.1
  have hfr := hK.2.2.2.2.2.2.2.2.2.2.2.2.2
  have hR8 := hok.2.1
  have hD14 := hok.2.2.1
  have hP4 := hok.2.2.2.1
  have hdo := hok.2.2.2.2.1
  have hpo := hok.2.2.2.2.2.1
  have hf9 := hok.2.2.2.2.2.2.2
  have hn := cas_n hcs hok
  have hivp := ivp hS hp
  have hpl2 : p < ps.length := by omega
  have hpk1 := hpk p hpl2
  have key : ∀ (fu k : Nat), k ≤ np S → np S < k + fu → AW X 0 0 8 [some (.ref (w.1 + 0)), some (.ref (w.1 + s)), some (.int (nI p)), some (.int (nI (sumN k (hereF S p)))), some (.int (nI (sumN k (askF S p)))), some (.int (nI k))] [] G I L := by
    intro fu
    induction fu with
    | zero => intro k hle hlt; exact absurd hlt (by omega)
    | succ fu ih =>
      intro k hle hlt
      refine aw_iload5 h dX0_asks_8 ?_
      refine aw_aload0 h dX0_asks_10 ?_
      refine aw_getr h fl_X0_12 (gx0 hX) dX0_asks_11 rfl hc0 ?_
      refine aw_callVE0 h hl cl_X0_125 (met_x_many hK hok) hK.1 rfl dX0_asks_14 (Nat.le_of_ble_eq_true rfl) rfl (Nat.zero_le _) (Nat.zero_le _) ?_
      refine aw_icmp_geN h (tgt := 123) (by omega) (by omega) dX0_asks_17 (by decide) (fun c17 => ?_) (fun c17 => ?_)
      · have hkn : k = np S := by omega
        subst hkn
        have hpa := hA.2.1 p hp
        have hrp := hfr (rm S p) (by omega)
        have hh4 : sumN (np S) (hereF S p) ≤ np S * 1 := sumN_le (fun q _ => by unfold hereF; split <;> omega)
        have ha4 : sumN (np S) (askF S p) ≤ np S * 1 := sumN_le (fun q _ => by unfold askF; split <;> omega)
        have hd9 := dist_le S (gl S p) (rm S p)
        have hfp := hf9 (rm S p) (by omega)
        refine aw_aload0 h dX0_asks_123 ?_
        refine aw_getr h fl_X0_67 (gx0 hX) dX0_asks_124 rfl (gxp14 hX) ?_
        refine aw_iconst h _ ci_0 dX0_asks_127 ?_
        refine aw_iload2 h dX0_asks_128 ?_
        refine aw_i2lN h (by omega) dX0_asks_129 ?_
        refine aw_lastN h (gxs27 hX) (by decide) (by omega) dX0_asks_130 ?_
        rw [upd2_self]
        refine aw_aload0 h dX0_asks_131 ?_
        refine aw_getr h fl_X0_67 (gx0 hX) dX0_asks_132 rfl (gxp14 hX) ?_
        refine aw_iconst h _ ci_1 dX0_asks_135 ?_
        refine aw_aload1 h dX0_asks_136 ?_
        refine aw_getr h fl_X0_202 hs.1 dX0_asks_137 rfl (hs.2 0 (by decide)).1 ?_
        refine aw_iload2 h dX0_asks_140 ?_
        refine aw_ialdV h (hs.2 0 (by decide)).2 (by decide) (by omega) dX0_asks_141 (hpa.1.trans hivp.1) ?_
        refine aw_i2lN h (by omega) dX0_asks_142 ?_
        refine aw_lastN h (gxs27 hX) (by decide) (by omega) dX0_asks_143 ?_
        rw [upd2_vup]
        refine aw_aload0 h dX0_asks_144 ?_
        refine aw_getr h fl_X0_67 (gx0 hX) dX0_asks_145 rfl (gxp14 hX) ?_
        refine aw_iconst h _ ci_2 dX0_asks_148 ?_
        refine aw_aload0 h dX0_asks_149 ?_
        refine aw_getr h fl_X0_12 (gx0 hX) dX0_asks_150 rfl hc0 ?_
        refine aw_getr h fl_X0_248 hK.1 dX0_asks_153 rfl hK.2.2.2.1 ?_
        refine aw_aload1 h dX0_asks_156 ?_
        refine aw_getr h fl_X0_202 hs.1 dX0_asks_157 rfl (hs.2 0 (by decide)).1 ?_
        refine aw_iload2 h dX0_asks_160 ?_
        refine aw_ialdV h (hs.2 0 (by decide)).2 (by decide) (by omega) dX0_asks_161 (hpa.1.trans hivp.1) ?_
        refine aw_ialdV h hK.2.2.2.2.1 (by decide) (by omega) dX0_asks_162 (hrp.trans (cas_f hcs (show rm S p < 8 by omega)).symm) ?_
        refine aw_i2l h dX0_asks_163 ?_
        refine aw_lastN h (gxs27 hX) (by decide) (by omega) dX0_asks_164 ?_
        rw [upd2_vup]
        refine aw_aload0 h dX0_asks_165 ?_
        refine aw_getr h fl_X0_67 (gx0 hX) dX0_asks_166 rfl (gxp14 hX) ?_
        refine aw_iconst h _ ci_3 dX0_asks_169 ?_
        refine aw_aload1 h dX0_asks_170 ?_
        refine aw_getr h fl_X0_192 hs.1 dX0_asks_171 rfl (hs.2 1 (by decide)).1 ?_
        refine aw_iload2 h dX0_asks_174 ?_
        refine aw_ialdV h (hs.2 1 (by decide)).2 (by decide) (by omega) dX0_asks_175 (hpa.2.1.trans hivp.2.2.1) ?_
        refine aw_i2lN h (by omega) dX0_asks_176 ?_
        refine aw_lastN h (gxs27 hX) (by decide) (by omega) dX0_asks_177 ?_
        rw [upd2_vup]
        refine aw_aload0 h dX0_asks_178 ?_
        refine aw_getr h fl_X0_67 (gx0 hX) dX0_asks_179 rfl (gxp14 hX) ?_
        refine aw_iconst h _ ci_4 dX0_asks_182 ?_
        refine aw_aload0 h dX0_asks_183 ?_
        refine aw_getr h fl_X0_77 (gx0 hX) dX0_asks_184 rfl (gxp17 hX) ?_
        refine aw_iload2 h dX0_asks_187 ?_
        refine aw_ialdV h (gxs30 hX) (by decide) (by omega) dX0_asks_188 (hlf) ?_
        refine aw_i2lN h (by omega) dX0_asks_189 ?_
        refine aw_lastN h (gxs27 hX) (by decide) (by omega) dX0_asks_190 ?_
        rw [upd2_vup]
        refine aw_aload0 h dX0_asks_191 ?_
        refine aw_getr h fl_X0_67 (gx0 hX) dX0_asks_192 rfl (gxp14 hX) ?_
        refine aw_iconst h _ ci_5 dX0_asks_195 ?_
        refine aw_aload0 h dX0_asks_196 ?_
        refine aw_getr h fl_X0_12 (gx0 hX) dX0_asks_197 rfl hc0 ?_
        refine aw_getr h fl_X0_220 hK.1 dX0_asks_200 rfl hK.2.1 ?_
        refine aw_iload2 h dX0_asks_203 ?_
        refine aw_callVE1 h hl cl_X0_223 (met_j_get hLp (i := p) hpl2) hLp.1 rfl dX0_asks_204 (Nat.le_of_ble_eq_true rfl) rfl (Nat.zero_le _) (Nat.zero_le _) ?_
        refine aw_cast h hpk1.1 (by decide) rfl q962 (Or.inl rfl) dX0_asks_207 ?_
        refine aw_getiV h fl_X0_229 hpk1.1 dX0_asks_210 rfl (hpk1.2.2.2.trans (hcs.2.2.2.2.2 p (by omega)).symm) ?_
        refine aw_i2l h dX0_asks_213 ?_
        refine aw_lastN h (gxs27 hX) (by decide) (by omega) dX0_asks_214 ?_
        rw [upd2_vup]
        refine aw_aload0 h dX0_asks_215 ?_
        refine aw_getr h fl_X0_67 (gx0 hX) dX0_asks_216 rfl (gxp14 hX) ?_
        refine aw_bipush h _ cb_6 dX0_asks_219 ?_
        refine aw_aload1 h dX0_asks_221 ?_
        refine aw_getiV h fl_X0_195 hs.1 dX0_asks_222 rfl (hA.1) ?_
        refine aw_i2l h dX0_asks_225 ?_
        refine aw_lastN h (gxs27 hX) (by decide) (by omega) dX0_asks_226 ?_
        rw [upd2_vup]
        refine aw_aload0 h dX0_asks_227 ?_
        refine aw_getr h fl_X0_67 (gx0 hX) dX0_asks_228 rfl (gxp14 hX) ?_
        refine aw_bipush h _ cb_7 dX0_asks_231 ?_
        refine aw_aload0 h dX0_asks_233 ?_
        refine aw_getr h fl_X0_12 (gx0 hX) dX0_asks_234 rfl hc0 ?_
        refine aw_aload1 h dX0_asks_237 ?_
        refine aw_getiV h fl_X0_195 hs.1 dX0_asks_238 rfl (hA.1.trans ht) ?_
        refine aw_callVE1 h hl cl_X0_270 (met_x_isNight hK hok ht2) hK.1 rfl dX0_asks_241 (Nat.le_of_ble_eq_true rfl) rfl (Nat.zero_le _) (Nat.zero_le _) ?_
        refine aw_callSE1 h hl cl_X0_266 (met_x_bit) dX0_asks_244 (Nat.le_of_ble_eq_true rfl) rfl (Nat.zero_le _) (Nat.zero_le _) ?_
        refine aw_i2l h dX0_asks_247 ?_
        refine aw_lastN h (gxs27 hX) (by decide) (by omega) dX0_asks_248 ?_
        rw [upd2_vup]
        refine aw_aload0 h dX0_asks_249 ?_
        refine aw_getr h fl_X0_67 (gx0 hX) dX0_asks_250 rfl (gxp14 hX) ?_
        refine aw_bipush h _ cb_8 dX0_asks_253 ?_
        refine aw_iload3 h dX0_asks_255 ?_
        refine aw_i2lN h (by omega) dX0_asks_256 ?_
        refine aw_lastN h (gxs27 hX) (by decide) (by omega) dX0_asks_257 ?_
        rw [upd2_vup]
        refine aw_aload0 h dX0_asks_258 ?_
        refine aw_getr h fl_X0_67 (gx0 hX) dX0_asks_259 rfl (gxp14 hX) ?_
        refine aw_bipush h _ cb_9 dX0_asks_262 ?_
        refine aw_aload1 h dX0_asks_264 ?_
        refine aw_getr h fl_X0_236 hs.1 dX0_asks_265 rfl (hs.2 2 (by decide)).1 ?_
        refine aw_iload2 h dX0_asks_268 ?_
        refine aw_ialdV h (hs.2 2 (by decide)).2 (by decide) (by omega) dX0_asks_269 (hpa.2.2.1) ?_
        refine aw_i2l h dX0_asks_270 ?_
        refine aw_lastN h (gxs27 hX) (by decide) (by omega) dX0_asks_271 ?_
        rw [upd2_vup]
        refine aw_aload0 h dX0_asks_272 ?_
        refine aw_getr h fl_X0_67 (gx0 hX) dX0_asks_273 rfl (gxp14 hX) ?_
        refine aw_bipush h _ cb_10 dX0_asks_276 ?_
        refine aw_aload1 h dX0_asks_278 ?_
        refine aw_getr h fl_X0_239 hs.1 dX0_asks_279 rfl (hs.2 3 (by decide)).1 ?_
        refine aw_iload2 h dX0_asks_282 ?_
        refine aw_ialdV h (hs.2 3 (by decide)).2 (by decide) (by omega) dX0_asks_283 (hpa.2.2.2.1) ?_
        refine aw_i2l h dX0_asks_284 ?_
        refine aw_lastN h (gxs27 hX) (by decide) (by omega) dX0_asks_285 ?_
        rw [upd2_vup]
        refine aw_aload0 h dX0_asks_286 ?_
        refine aw_getr h fl_X0_67 (gx0 hX) dX0_asks_287 rfl (gxp14 hX) ?_
        refine aw_bipush h _ cb_11 dX0_asks_290 ?_
        refine aw_iload4 h dX0_asks_292 ?_
        refine aw_i2lN h (by omega) dX0_asks_294 ?_
        refine aw_lastN h (gxs27 hX) (by decide) (by omega) dX0_asks_295 ?_
        rw [upd2_vup]
        refine aw_vret h hr dX0_asks_296 (⟨rfl, rfl, rfl, _, rfl, fun j hj => ?_⟩) (Nat.zero_le _) (Nat.zero_le _)
        rcases (by omega : j = 0 ∨ j = 1 ∨ j = 2 ∨ j = 3 ∨ j = 4 ∨ j = 5 ∨ j = 6 ∨ j = 7 ∨ j = 8 ∨ j = 9 ∨ j = 10 ∨ j = 11) with rfl | rfl | rfl | rfl | rfl | rfl | rfl | rfl | rfl | rfl | rfl | rfl
        · rfl
        · rfl
        · rfl
        · rfl
        · rfl
        · rfl
        · rfl
        · show (bI (ntK K t)).toInt64 = if nightB S = true then lN 1 else lN 0
          rw [cas_nt hcs hok (by omega) ht ht2]
          cases ntK K t <;> rfl
        · rfl
        · rfl
        · rfl
        · rfl
      · have hkn : k < np S := by omega
        have hivk := ivp hS hkn
        have hka := hA.2.1 k hkn
        have hpa := hA.2.1 p hp
        have hsk := hst k hkn
        have hfk := hf9 (rm S k) (by omega)
        have hfp := hf9 (rm S p) (by omega)
        have hrk := hfr (rm S k) (by omega)
        have hrp := hfr (rm S p) (by omega)
        have ef : sumN (k + 1) (hereF S p) = sumN k (hereF S p) + hereF S p k := rfl
        have eg : sumN (k + 1) (askF S p) = sumN k (askF S p) + askF S p k := rfl
        have hak : askB S p k = (decide (¬ k = p) && (decide (stepI S (gl S k) (rm S k) = nI (rm S p)) && decide (kF K (rm S p) < kF K (rm S k)))) := by
          unfold askB
          rw [cas_f hcs (show rm S p < 8 by omega), cas_f hcs (show rm S k < 8 by omega), decide_eq_decide.mpr (nI_ltI (a := kF K (rm S p)) (b := kF K (rm S k)) (by omega) (by omega))]
        refine aw_iload5 h dX0_asks_20 ?_
        refine aw_iload2 h dX0_asks_22 ?_
        refine aw_icmp_neN h (tgt := 29) (by omega) (by omega) dX0_asks_23 (by decide) (fun c23 => ?_) (fun c23 => ?_)
        · refine aw_iload3 h dX0_asks_29 ?_
          refine aw_aload1 h dX0_asks_30 ?_
          refine aw_getr h fl_X0_202 hs.1 dX0_asks_31 rfl (hs.2 0 (by decide)).1 ?_
          refine aw_iload5 h dX0_asks_34 ?_
          refine aw_ialdV h (hs.2 0 (by decide)).2 (by decide) (by omega) dX0_asks_36 (hka.1.trans hivk.1) ?_
          refine aw_aload1 h dX0_asks_37 ?_
          refine aw_getr h fl_X0_202 hs.1 dX0_asks_38 rfl (hs.2 0 (by decide)).1 ?_
          refine aw_iload2 h dX0_asks_41 ?_
          refine aw_ialdV h (hs.2 0 (by decide)).2 (by decide) (by omega) dX0_asks_42 (hpa.1.trans hivp.1) ?_
          refine aw_icmp_neN h (tgt := 50) (by omega) (by omega) dX0_asks_43 (by decide) (fun c43 => ?_) (fun c43 => ?_)
          · refine aw_iconst h _ ci_0 dX0_asks_50 ?_
            refine aw_callSE1 h hl cl_X0_266 (met_x_bitx (by first | exact Or.inl rfl | exact Or.inr rfl)) dX0_asks_51 (Nat.le_of_ble_eq_true rfl) rfl (Nat.zero_le _) (Nat.zero_le _) ?_
            refine aw_iaddN h dX0_asks_54 ?_
            refine aw_istore3 h rfl dX0_asks_55 ?_
            refine aw_iload4 h dX0_asks_56 ?_
            refine aw_aload0 h dX0_asks_58 ?_
            refine aw_getr h fl_X0_71 (gx0 hX) dX0_asks_59 rfl (gxp15 hX) ?_
            refine aw_iload5 h dX0_asks_62 ?_
            refine aw_ialdV h (gxs28 hX) (by decide) (by omega) dX0_asks_64 (hsk) ?_
            refine aw_aload1 h dX0_asks_65 ?_
            refine aw_getr h fl_X0_202 hs.1 dX0_asks_66 rfl (hs.2 0 (by decide)).1 ?_
            refine aw_iload2 h dX0_asks_69 ?_
            refine aw_ialdV h (hs.2 0 (by decide)).2 (by decide) (by omega) dX0_asks_70 (hpa.1.trans hivp.1) ?_
            refine aw_icmp_ne h (tgt := 110) dX0_asks_71 (by decide) (fun c71 => ?_) (fun c71 => ?_)
            · refine aw_iconst h _ ci_0 dX0_asks_110 ?_
              refine aw_callSE1 h hl cl_X0_266 (met_x_bitx (by first | exact Or.inl rfl | exact Or.inr rfl)) dX0_asks_111 (Nat.le_of_ble_eq_true rfl) rfl (Nat.zero_le _) (Nat.zero_le _) ?_
              refine aw_iaddN h dX0_asks_114 ?_
              refine aw_istore4 h rfl dX0_asks_115 ?_
              refine aw_iincN5 h rfl dX0_asks_117 ?_
              refine aw_goto h (tgt := 8) dX0_asks_120 (by decide) ?_
              have e1 : sumN (k + 1) (hereF S p) = sumN k (hereF S p) + 0 := by rw [ef]; unfold hereF; rw [decide_eq_true c23, decide_eq_false c43]; rfl
              have e2 : sumN (k + 1) (askF S p) = sumN k (askF S p) + 0 := by rw [eg]; unfold askF; rw [hak, decide_eq_true c23, decide_eq_false c71]; rfl
              rw [← e1, ← e2]
              exact ih (k + 1) (by omega) (by omega)
            · refine aw_aload0 h dX0_asks_74 ?_
              refine aw_getr h fl_X0_12 (gx0 hX) dX0_asks_75 rfl hc0 ?_
              refine aw_getr h fl_X0_248 hK.1 dX0_asks_78 rfl hK.2.2.2.1 ?_
              refine aw_aload1 h dX0_asks_81 ?_
              refine aw_getr h fl_X0_202 hs.1 dX0_asks_82 rfl (hs.2 0 (by decide)).1 ?_
              refine aw_iload5 h dX0_asks_85 ?_
              refine aw_ialdV h (hs.2 0 (by decide)).2 (by decide) (by omega) dX0_asks_87 (hka.1.trans hivk.1) ?_
              refine aw_ialdV h hK.2.2.2.2.1 (by decide) (by omega) dX0_asks_88 (hrk) ?_
              refine aw_aload0 h dX0_asks_89 ?_
              refine aw_getr h fl_X0_12 (gx0 hX) dX0_asks_90 rfl hc0 ?_
              refine aw_getr h fl_X0_248 hK.1 dX0_asks_93 rfl hK.2.2.2.1 ?_
              refine aw_aload1 h dX0_asks_96 ?_
              refine aw_getr h fl_X0_202 hs.1 dX0_asks_97 rfl (hs.2 0 (by decide)).1 ?_
              refine aw_iload2 h dX0_asks_100 ?_
              refine aw_ialdV h (hs.2 0 (by decide)).2 (by decide) (by omega) dX0_asks_101 (hpa.1.trans hivp.1) ?_
              refine aw_ialdV h hK.2.2.2.2.1 (by decide) (by omega) dX0_asks_102 (hrp) ?_
              refine aw_icmp_leN h (tgt := 110) (by omega) (by omega) dX0_asks_103 (by decide) (fun c103 => ?_) (fun c103 => ?_)
              · refine aw_iconst h _ ci_0 dX0_asks_110 ?_
                refine aw_callSE1 h hl cl_X0_266 (met_x_bitx (by first | exact Or.inl rfl | exact Or.inr rfl)) dX0_asks_111 (Nat.le_of_ble_eq_true rfl) rfl (Nat.zero_le _) (Nat.zero_le _) ?_
                refine aw_iaddN h dX0_asks_114 ?_
                refine aw_istore4 h rfl dX0_asks_115 ?_
                refine aw_iincN5 h rfl dX0_asks_117 ?_
                refine aw_goto h (tgt := 8) dX0_asks_120 (by decide) ?_
                have e1 : sumN (k + 1) (hereF S p) = sumN k (hereF S p) + 0 := by rw [ef]; unfold hereF; rw [decide_eq_true c23, decide_eq_false c43]; rfl
                have e2 : sumN (k + 1) (askF S p) = sumN k (askF S p) + 0 := by rw [eg]; unfold askF; rw [hak, decide_eq_true c23, decide_eq_true c71, decide_eq_false (show ¬ kF K (rm S p) < kF K (rm S k) by omega)]; rfl
                rw [← e1, ← e2]
                exact ih (k + 1) (by omega) (by omega)
              · refine aw_iconst h _ ci_1 dX0_asks_106 ?_
                refine aw_goto h (tgt := 111) dX0_asks_107 (by decide) ?_
                refine aw_callSE1 h hl cl_X0_266 (met_x_bitx (by first | exact Or.inl rfl | exact Or.inr rfl)) dX0_asks_111 (Nat.le_of_ble_eq_true rfl) rfl (Nat.zero_le _) (Nat.zero_le _) ?_
                refine aw_iaddN h dX0_asks_114 ?_
                refine aw_istore4 h rfl dX0_asks_115 ?_
                refine aw_iincN5 h rfl dX0_asks_117 ?_
                refine aw_goto h (tgt := 8) dX0_asks_120 (by decide) ?_
                have e1 : sumN (k + 1) (hereF S p) = sumN k (hereF S p) + 0 := by rw [ef]; unfold hereF; rw [decide_eq_true c23, decide_eq_false c43]; rfl
                have e2 : sumN (k + 1) (askF S p) = sumN k (askF S p) + 1 := by rw [eg]; unfold askF; rw [hak, decide_eq_true c23, decide_eq_true c71, decide_eq_true (show kF K (rm S p) < kF K (rm S k) by omega)]; rfl
                rw [← e1, ← e2]
                exact ih (k + 1) (by omega) (by omega)
          · refine aw_iconst h _ ci_1 dX0_asks_46 ?_
            refine aw_goto h (tgt := 51) dX0_asks_47 (by decide) ?_
            refine aw_callSE1 h hl cl_X0_266 (met_x_bitx (by first | exact Or.inl rfl | exact Or.inr rfl)) dX0_asks_51 (Nat.le_of_ble_eq_true rfl) rfl (Nat.zero_le _) (Nat.zero_le _) ?_
            refine aw_iaddN h dX0_asks_54 ?_
            refine aw_istore3 h rfl dX0_asks_55 ?_
            refine aw_iload4 h dX0_asks_56 ?_
            refine aw_aload0 h dX0_asks_58 ?_
            refine aw_getr h fl_X0_71 (gx0 hX) dX0_asks_59 rfl (gxp15 hX) ?_
            refine aw_iload5 h dX0_asks_62 ?_
            refine aw_ialdV h (gxs28 hX) (by decide) (by omega) dX0_asks_64 (hsk) ?_
            refine aw_aload1 h dX0_asks_65 ?_
            refine aw_getr h fl_X0_202 hs.1 dX0_asks_66 rfl (hs.2 0 (by decide)).1 ?_
            refine aw_iload2 h dX0_asks_69 ?_
            refine aw_ialdV h (hs.2 0 (by decide)).2 (by decide) (by omega) dX0_asks_70 (hpa.1.trans hivp.1) ?_
            refine aw_icmp_ne h (tgt := 110) dX0_asks_71 (by decide) (fun c71 => ?_) (fun c71 => ?_)
            · refine aw_iconst h _ ci_0 dX0_asks_110 ?_
              refine aw_callSE1 h hl cl_X0_266 (met_x_bitx (by first | exact Or.inl rfl | exact Or.inr rfl)) dX0_asks_111 (Nat.le_of_ble_eq_true rfl) rfl (Nat.zero_le _) (Nat.zero_le _) ?_
              refine aw_iaddN h dX0_asks_114 ?_
              refine aw_istore4 h rfl dX0_asks_115 ?_
              refine aw_iincN5 h rfl dX0_asks_117 ?_
              refine aw_goto h (tgt := 8) dX0_asks_120 (by decide) ?_
              have e1 : sumN (k + 1) (hereF S p) = sumN k (hereF S p) + 1 := by rw [ef]; unfold hereF; rw [decide_eq_true c23, decide_eq_true c43]; rfl
              have e2 : sumN (k + 1) (askF S p) = sumN k (askF S p) + 0 := by rw [eg]; unfold askF; rw [hak, decide_eq_true c23, decide_eq_false c71]; rfl
              rw [← e1, ← e2]
              exact ih (k + 1) (by omega) (by omega)
            · refine aw_aload0 h dX0_asks_74 ?_
              refine aw_getr h fl_X0_12 (gx0 hX) dX0_asks_75 rfl hc0 ?_
              refine aw_getr h fl_X0_248 hK.1 dX0_asks_78 rfl hK.2.2.2.1 ?_
              refine aw_aload1 h dX0_asks_81 ?_
              refine aw_getr h fl_X0_202 hs.1 dX0_asks_82 rfl (hs.2 0 (by decide)).1 ?_
              refine aw_iload5 h dX0_asks_85 ?_
              refine aw_ialdV h (hs.2 0 (by decide)).2 (by decide) (by omega) dX0_asks_87 (hka.1.trans hivk.1) ?_
              refine aw_ialdV h hK.2.2.2.2.1 (by decide) (by omega) dX0_asks_88 (hrk) ?_
              refine aw_aload0 h dX0_asks_89 ?_
              refine aw_getr h fl_X0_12 (gx0 hX) dX0_asks_90 rfl hc0 ?_
              refine aw_getr h fl_X0_248 hK.1 dX0_asks_93 rfl hK.2.2.2.1 ?_
              refine aw_aload1 h dX0_asks_96 ?_
              refine aw_getr h fl_X0_202 hs.1 dX0_asks_97 rfl (hs.2 0 (by decide)).1 ?_
              refine aw_iload2 h dX0_asks_100 ?_
              refine aw_ialdV h (hs.2 0 (by decide)).2 (by decide) (by omega) dX0_asks_101 (hpa.1.trans hivp.1) ?_
              refine aw_ialdV h hK.2.2.2.2.1 (by decide) (by omega) dX0_asks_102 (hrp) ?_
              refine aw_icmp_leN h (tgt := 110) (by omega) (by omega) dX0_asks_103 (by decide) (fun c103 => ?_) (fun c103 => ?_)
              · refine aw_iconst h _ ci_0 dX0_asks_110 ?_
                refine aw_callSE1 h hl cl_X0_266 (met_x_bitx (by first | exact Or.inl rfl | exact Or.inr rfl)) dX0_asks_111 (Nat.le_of_ble_eq_true rfl) rfl (Nat.zero_le _) (Nat.zero_le _) ?_
                refine aw_iaddN h dX0_asks_114 ?_
                refine aw_istore4 h rfl dX0_asks_115 ?_
                refine aw_iincN5 h rfl dX0_asks_117 ?_
                refine aw_goto h (tgt := 8) dX0_asks_120 (by decide) ?_
                have e1 : sumN (k + 1) (hereF S p) = sumN k (hereF S p) + 1 := by rw [ef]; unfold hereF; rw [decide_eq_true c23, decide_eq_true c43]; rfl
                have e2 : sumN (k + 1) (askF S p) = sumN k (askF S p) + 0 := by rw [eg]; unfold askF; rw [hak, decide_eq_true c23, decide_eq_true c71, decide_eq_false (show ¬ kF K (rm S p) < kF K (rm S k) by omega)]; rfl
                rw [← e1, ← e2]
                exact ih (k + 1) (by omega) (by omega)
              · refine aw_iconst h _ ci_1 dX0_asks_106 ?_
                refine aw_goto h (tgt := 111) dX0_asks_107 (by decide) ?_
                refine aw_callSE1 h hl cl_X0_266 (met_x_bitx (by first | exact Or.inl rfl | exact Or.inr rfl)) dX0_asks_111 (Nat.le_of_ble_eq_true rfl) rfl (Nat.zero_le _) (Nat.zero_le _) ?_
                refine aw_iaddN h dX0_asks_114 ?_
                refine aw_istore4 h rfl dX0_asks_115 ?_
                refine aw_iincN5 h rfl dX0_asks_117 ?_
                refine aw_goto h (tgt := 8) dX0_asks_120 (by decide) ?_
                have e1 : sumN (k + 1) (hereF S p) = sumN k (hereF S p) + 1 := by rw [ef]; unfold hereF; rw [decide_eq_true c23, decide_eq_true c43]; rfl
                have e2 : sumN (k + 1) (askF S p) = sumN k (askF S p) + 1 := by rw [eg]; unfold askF; rw [hak, decide_eq_true c23, decide_eq_true c71, decide_eq_true (show kF K (rm S p) < kF K (rm S k) by omega)]; rfl
                rw [← e1, ← e2]
                exact ih (k + 1) (by omega) (by omega)
        · refine aw_goto h (tgt := 117) dX0_asks_26 (by decide) ?_
          refine aw_iincN5 h rfl dX0_asks_117 ?_
          refine aw_goto h (tgt := 8) dX0_asks_120 (by decide) ?_
          have e1 : sumN (k + 1) (hereF S p) = sumN k (hereF S p) := by rw [ef]; unfold hereF; rw [decide_eq_false (fun q => q c23)]; rfl
          have e2 : sumN (k + 1) (askF S p) = sumN k (askF S p) := by rw [eg]; unfold askF; rw [hak, decide_eq_false (fun q => q c23)]; rfl
          have h9 := ih (k + 1) (by omega) (by omega)
          rw [e1, e2] at h9
          exact h9
  refine aw_iconst h _ ci_0 dX0_asks_0 ?_
  refine aw_istore3 h rfl dX0_asks_1 ?_
  refine aw_iconst h _ ci_0 dX0_asks_2 ?_
  refine aw_istore4 h rfl dX0_asks_3 ?_
  refine aw_iconst h _ ci_0 dX0_asks_5 ?_
  refine aw_istore5 h rfl dX0_asks_6 ?_
  exact key (np S + 1) 0 (Nat.zero_le _) (by omega)
