/-! The component: how many doors are left -/
set_option maxRecDepth 100000
theorem DI.up2 {S : Nat → Int32} {g : Nat} {f : Nat → Int32} {F : Nat → Nat} (h : DI S g f F) {a b x y : Nat} (hab : a ≠ b) (hx : x ≤ F a) (hy : y ≤ F b) (hda : distV S g a ≤ x) (hdb : distV S g b ≤ y) (ha : a < nr S) (hb : b < nr S) : DI S g (va_up (va_up f a (nI x)) b (nI y)) (va_up (va_up F a x) b y) := by
  have h2 := h.1
  refine ⟨?_, fun q hq => ?_⟩
  · by_cases e : g = b
    · subst e; rw [vup_s]; omega
    · rw [vup_n _ _ e]
      by_cases e2 : g = a
      · subst e2; rw [vup_s]; omega
      · rw [vup_n _ _ e2]; exact h2
  · have h99a := (h.2 a ha).2.2
    have h99b := (h.2 b hb).2.2
    by_cases e : q = b
    · subst e; rw [vup_s, vup_s]; exact ⟨rfl, hdb, by omega⟩
    · rw [vup_n _ _ e, vup_n _ _ e]
      by_cases e2 : q = a
      · subst e2; rw [vup_s, vup_s]; exact ⟨rfl, hda, by omega⟩
      · rw [vup_n _ _ e2, vup_n _ _ e2]; exact h.2 q hq
/-- the component at work on a State: its castle, its vector -/
def DJ (K : CS) : Prop := ∀ i j, i < (kD K).length → j < (kD K).length → joinF (kD K) (gK (kD K) i).1 (gK (kD K) i).2.1 j = true → i = j
def XV (sl : Nat → Prop) (G : Gm) (I : Im) (K : CS) (c : Nat) (S : Nat → Int32) (t : Nat) : Prop := XC sl G I K c ∧ InvS S ∧ CasS S K ∧ S 3 = nI t ∧ t < 2 ^ 30 ∧ DJ K
def LLt (S : Nat → Int32) (g : Nat) (G : Gm) (I : Im) (L : Lm) : Gm → Im → Lm → Prop := fun G1 I1 L1 => G = G1 ∧ L = L1 ∧ ∃ f : Nat → Int32, va_up I 26 f = I1 ∧ ∀ r, r < nr S → f r = nI (distV S g r)
theorem XC.r {sl : Nat → Prop} {G : Gm} {I : Im} {K : CS} {c n : Nat} {f : Nat → Int32} (h : XC sl G I K c) (hn : MutB n = true) : XC sl G (va_up I n f) K c := h.ix (fun m hm => vup_n _ _ (fun e => by rw [e, hn] at hm; cases hm))
theorem met_x_laysLeft {w : Wd} {G : Gm} {I : Im} {L : Lm} (hX : XG G) {sl : Nat → Prop} {K : CS} {c : Nat} {S : Nat → Int32} {t : Nat} (hV : XV sl G I K c S t) {g : Nat} (hg : g < nr S) : AMet w yX0_laysLeft cX0_laysLeft 8 none 6 148 0 0 [.ref (w.1 + 0), .int (nI g), .int (nI t)] G I L (Ans none (LLt S g G I L)) := by
  refine AMet.of (ls0 := [some (.ref (w.1 + 0)), some (.int (nI g)), some (.int (nI t)), none, none, none, none, none]) rfl (Nat.le_of_ble_eq_true rfl) rfl (fun q hq => hq) (fun X h hl hr hi => ?_)
  obtain ⟨hC0, hS, hcs, ht, ht2, hdj⟩ := id hV
  have hC := hC0
  obtain ⟨hc0, ⟨pl, pa, dl, da, fa, ps, ds, hK, hsp⟩, hok, hsl⟩ := id hC
  obtain ⟨cp, hLp⟩ := hK.2.2.2.2.2.1
  obtain ⟨cd, hLd⟩ := hK.2.2.2.2.2.2.1
  have hpl := hK.2.2.2.2.2.2.2.1
  have hdl := hK.2.2.2.2.2.2.2.2.1
  have hdk := hK.2.2.2.2.2.2.2.2.2.2.1
  have hpk := hK.2.2.2.2.2.2.2.2.2.1
  have hrm := hK.2.2.2.2.2.2.2.2.2.2.2.1
  have hfr := hK.2.2.2.2.2.2.2.2.2.2.2.2.2
  have hR8 := hok.2.1
  have hD14 := hok.2.2.1
  have hP4 := hok.2.2.2.1
  have hdo := hok.2.2.2.2.1
  have hpo := hok.2.2.2.2.2.1
  have hf9 := hok.2.2.2.2.2.2.2
  have hn := cas_n hcs hok
  have b0 := iv0b hS
  have key0 : ∀ (f : Nat → Int32) (F : Nat → Nat) (o4 o5 o6 o7 : Option Value), DI S g f F → (∀ d, d < nd S → FixD S F d) → AW X 0 0 38 [some (.ref (w.1 + 0)), some (.int (nI g)), some (.int (nI t)), some (.int (bI false)), o4, o5, o6, o7] [] G (va_up I 26 f) L := by
    intro f F o4 o5 o6 o7 hD hx
    refine aw_iload3 h dX0_laysLeft_38 ?_
    refine aw_if_eqB h (tgt := 204) dX0_laysLeft_39 (by decide) (fun c39 => ?_) (fun c39 => ?_)
    · exact aw_vret h hr dX0_laysLeft_204 (⟨rfl, rfl, rfl, f, rfl, fun r hr => DI.done hS hD hx hr⟩) (Nat.zero_le _) (Nat.zero_le _)
    · cases c39
  have key2 : ∀ (n : Nat) (f : Nat → Int32) (F : Nat → Nat) (o4 o5 o6 o7 : Option Value), DI S g f F → sumN (nr S) F < n → AW X 0 0 38 [some (.ref (w.1 + 0)), some (.int (nI g)), some (.int (nI t)), some (.int (bI true)), o4, o5, o6, o7] [] G (va_up I 26 f) L := by
    intro n
    induction n with
    | zero => intro f F o4 o5 o6 o7 hD hn; exact absurd hn (by omega)
    | succ n ih =>
      intro f F0 o4 o5 o6 o7 hD0 hn0
      have key3 : ∀ (kk d : Nat) (b : Bool) (F : Nat → Nat) (f : Nat → Int32) (o5 o6 o7 : Option Value), d ≤ nd S → nd S < d + kk → DI S g f F → (b = false → F = F0 ∧ ∀ d', d' < d → FixD S F d') → (b = true → sumN (nr S) F < sumN (nr S) F0) → AW X 0 0 47 [some (.ref (w.1 + 0)), some (.int (nI g)), some (.int (nI t)), some (.int (bI b)), some (.int (nI d)), o5, o6, o7] [] G (va_up I 26 f) L := by
        intro kk
        induction kk with
        | zero => intro d b F f o5 o6 o7 h1 h2; exact absurd h2 (by omega)
        | succ kk ihk =>
          intro d b F f o5 o6 o7 h1 h2 hD hb0 hb1
          have hC := hC0.r (n := 26) (f := f) rfl
          obtain ⟨-, ⟨pl, pa, dl, da, fa, ps, ds, hK, hsp⟩, -, -⟩ := id hC
          obtain ⟨cd, hLd⟩ := hK.2.2.2.2.2.2.1
          obtain ⟨cp, hLp⟩ := hK.2.2.2.2.2.1
          have hdl := hK.2.2.2.2.2.2.2.2.1
          have hrm := hK.2.2.2.2.2.2.2.2.2.2.2.1
          refine aw_iload4 h dX0_laysLeft_47 ?_
          refine aw_aload0 h dX0_laysLeft_49 ?_
          refine aw_getr h fl_X0_12 (gx0 hX) dX0_laysLeft_50 rfl hc0 ?_
          refine aw_getr h fl_X0_133 hK.1 dX0_laysLeft_53 rfl hK.2.2.1 ?_
          refine aw_callVE0 h hl cl_X0_136 (met_j_size hLd) hLd.1 rfl dX0_laysLeft_56 (Nat.le_of_ble_eq_true rfl) rfl (Nat.zero_le _) (Nat.zero_le _) ?_
          rw [hdl]
          refine aw_icmp_geN h (tgt := 201) (by omega) (by omega) dX0_laysLeft_59 (by decide) (fun c59 => ?_) (fun c59 => ?_)
          · refine aw_goto h (tgt := 38) dX0_laysLeft_201 (by decide) ?_
            cases b with
            | false => exact key0 f F _ _ _ _ hD (fun d' hd' => (hb0 rfl).2 d' (by omega))
            | true => exact ih f F _ _ _ _ hD (by have := hb1 rfl; omega)
          · have hd : d < (kD K).length := by omega
            have hx := cas_d hcs hok hd
            have hop := cas_op hcs hok ht ht2 hd
            have hlt := inK_lt hok hd
            have hDa := hD.2 (inK K d) (by omega)
            have hDb := hD.2 (ouK K d) (by omega)
            refine aw_aload0 h dX0_laysLeft_62 ?_
            refine aw_getr h fl_X0_12 (gx0 hX) dX0_laysLeft_63 rfl hc0 ?_
            refine aw_iload4 h dX0_laysLeft_66 ?_
            refine aw_iload2 h dX0_laysLeft_68 ?_
            refine aw_callVE2 h hl cl_X0_175 (met_x_isOpen hK hok hd ht2) hK.1 rfl dX0_laysLeft_69 (Nat.le_of_ble_eq_true rfl) rfl (Nat.zero_le _) (Nat.zero_le _) ?_
            refine aw_if_neB h (tgt := 78) dX0_laysLeft_72 (by decide) (fun c72 => ?_) (fun c72 => ?_)
            · have ho : openB S d = true := by rw [hop]; exact c72
              have hst := dist_step (g := g) (show d < nd S by omega) ho
              rw [hx.1, hx.2.1] at hst
              refine aw_aload0 h dX0_laysLeft_78 ?_
              refine aw_getr h fl_X0_12 (gx0 hX) dX0_laysLeft_79 rfl hc0 ?_
              refine aw_iload4 h dX0_laysLeft_82 ?_
              refine aw_callVE1 h hl cl_X0_179 (met_x_inner hK hok hd) hK.1 rfl dX0_laysLeft_84 (Nat.le_of_ble_eq_true rfl) rfl (Nat.zero_le _) (Nat.zero_le _) ?_
              refine aw_istore5 h rfl dX0_laysLeft_87 ?_
              refine aw_aload0 h dX0_laysLeft_89 ?_
              refine aw_getr h fl_X0_12 (gx0 hX) dX0_laysLeft_90 rfl hc0 ?_
              refine aw_iload4 h dX0_laysLeft_93 ?_
              refine aw_callVE1 h hl cl_X0_183 (met_x_outer hK hok hd) hK.1 rfl dX0_laysLeft_95 (Nat.le_of_ble_eq_true rfl) rfl (Nat.zero_le _) (Nat.zero_le _) ?_
              refine aw_istore6 h rfl dX0_laysLeft_98 ?_
              refine aw_aload0 h dX0_laysLeft_100 ?_
              refine aw_getr h fl_X0_60 (gx0 hX) dX0_laysLeft_101 rfl (gxp13 hX) ?_
              refine aw_iload5 h dX0_laysLeft_104 ?_
              refine aw_ialdV h (gxs26 hX) (by decide) (by omega) dX0_laysLeft_106 ((congrFun (vup_s I 26 f) _).trans hDa.1) ?_
              refine aw_aload0 h dX0_laysLeft_107 ?_
              refine aw_getr h fl_X0_60 (gx0 hX) dX0_laysLeft_108 rfl (gxp13 hX) ?_
              refine aw_iload6 h dX0_laysLeft_111 ?_
              refine aw_ialdV h (gxs26 hX) (by decide) (by omega) dX0_laysLeft_113 ((congrFun (vup_s I 26 f) _).trans hDb.1) ?_
              refine aw_mmin h (by decide) (by decide) q990 q726 q169 q727 (Nat.le_of_ble_eq_true rfl) (Nat.zero_le _) (Nat.zero_le _) dX0_laysLeft_114 ?_
              rw [nI_min (by omega) (by omega)]
              refine aw_iconst h _ ci_1 dX0_laysLeft_117 ?_
              refine aw_iaddN h dX0_laysLeft_118 ?_
              refine aw_istore7 h rfl dX0_laysLeft_119 ?_
              refine aw_aload0 h dX0_laysLeft_121 ?_
              refine aw_getr h fl_X0_60 (gx0 hX) dX0_laysLeft_122 rfl (gxp13 hX) ?_
              refine aw_iload5 h dX0_laysLeft_125 ?_
              refine aw_ialdV h (gxs26 hX) (by decide) (by omega) dX0_laysLeft_127 ((congrFun (vup_s I 26 f) _).trans hDa.1) ?_
              refine aw_iload7 h dX0_laysLeft_128 ?_
              refine aw_icmp_gtN h (tgt := 145) (by omega) (by omega) dX0_laysLeft_130 (by decide) (fun c130 => ?_) (fun c130 => ?_)
              · have hcase : F (ouK K d) + 1 < F (inK K d) := by omega
                have hmn : min (F (inK K d)) (F (ouK K d)) = F (ouK K d) := Nat.min_eq_right (by omega)
                refine aw_iload7 h dX0_laysLeft_145 ?_
                refine aw_bipush h _ cb_99 dX0_laysLeft_147 ?_
                refine aw_icmp_leN h (tgt := 155) (by omega) (by decide) dX0_laysLeft_149 (by decide) (fun c149 => ?_) (fun c149 => ?_)
                · refine aw_aload0 h dX0_laysLeft_155 ?_
                  refine aw_getr h fl_X0_60 (gx0 hX) dX0_laysLeft_156 rfl (gxp13 hX) ?_
                  refine aw_iload5 h dX0_laysLeft_159 ?_
                  refine aw_aload0 h dX0_laysLeft_161 ?_
                  refine aw_getr h fl_X0_60 (gx0 hX) dX0_laysLeft_162 rfl (gxp13 hX) ?_
                  refine aw_iload5 h dX0_laysLeft_165 ?_
                  refine aw_ialdV h (gxs26 hX) (by decide) (by omega) dX0_laysLeft_167 ((congrFun (vup_s I 26 f) _).trans hDa.1) ?_
                  refine aw_iload7 h dX0_laysLeft_168 ?_
                  refine aw_mmin h (by decide) (by decide) q990 q726 q169 q727 (Nat.le_of_ble_eq_true rfl) (Nat.zero_le _) (Nat.zero_le _) dX0_laysLeft_170 ?_
                  rw [nI_min (by omega) (by omega)]
                  refine aw_iastN h (gxs26 hX) (by decide) (by omega) dX0_laysLeft_173 ?_
                  rw [upd2_vup]
                  refine aw_aload0 h dX0_laysLeft_174 ?_
                  refine aw_getr h fl_X0_60 (gx0 hX) dX0_laysLeft_175 rfl (gxp13 hX) ?_
                  refine aw_iload6 h dX0_laysLeft_178 ?_
                  refine aw_aload0 h dX0_laysLeft_180 ?_
                  refine aw_getr h fl_X0_60 (gx0 hX) dX0_laysLeft_181 rfl (gxp13 hX) ?_
                  refine aw_iload6 h dX0_laysLeft_184 ?_
                  refine aw_ialdV h (gxs26 hX) (by decide) (by omega) dX0_laysLeft_186 ((congrFun (vup_s I 26 _) _).trans ((vup_n _ _ (by omega)).trans hDb.1)) ?_
                  refine aw_iload7 h dX0_laysLeft_187 ?_
                  refine aw_mmin h (by decide) (by decide) q990 q726 q169 q727 (Nat.le_of_ble_eq_true rfl) (Nat.zero_le _) (Nat.zero_le _) dX0_laysLeft_189 ?_
                  rw [nI_min (by omega) (by omega)]
                  refine aw_iastN h (gxs26 hX) (by decide) (by omega) dX0_laysLeft_192 ?_
                  rw [upd2_vup]
                  refine aw_iconst h _ ci_1 dX0_laysLeft_193 ?_
                  refine aw_istore3 h rfl dX0_laysLeft_194 ?_
                  refine aw_iincN4 h rfl dX0_laysLeft_195 ?_
                  refine aw_goto h (tgt := 47) dX0_laysLeft_198 (by decide) ?_
                  have hD2 := hD.up2 (x := min (F (inK K d)) (min (F (inK K d)) (F (ouK K d)) + 1)) (y := min (F (ouK K d)) (min (F (inK K d)) (F (ouK K d)) + 1)) hlt.2.2 (Nat.min_le_left _ _) (Nat.min_le_left _ _) (by omega) (by omega) (by omega) (by omega)
                  have h5 := sumN_up (f := F) (show inK K d < nr S by omega) (x := F (ouK K d) + 1) (by omega)
                  have e5 : va_up (va_up F (inK K d) (min (F (inK K d)) (min (F (inK K d)) (F (ouK K d)) + 1))) (ouK K d) (min (F (ouK K d)) (min (F (inK K d)) (F (ouK K d)) + 1)) = va_up F (inK K d) (F (ouK K d) + 1) := by
                    rw [hmn, Nat.min_eq_right (show F (ouK K d) + 1 ≤ F (inK K d) by omega), Nat.min_eq_left (show F (ouK K d) ≤ F (ouK K d) + 1 by omega)]
                    have e6 := vup_id (va_up F (inK K d) (F (ouK K d) + 1)) (ouK K d)
                    rw [vup_n _ _ (Ne.symm hlt.2.2)] at e6
                    exact e6
                  rw [e5] at hD2
                  refine ihk (d + 1) true (va_up F (inK K d) (F (ouK K d) + 1)) _ _ _ _ (by omega) (by omega) hD2 (fun hb => by cases hb) (fun _ => ?_)
                  cases b with
                  | false => rw [← (hb0 rfl).1]; exact h5
                  | true => have := hb1 rfl; omega
                · refine aw_goto h (tgt := 195) dX0_laysLeft_152 (by decide) ?_
                  refine aw_iincN4 h rfl dX0_laysLeft_195 ?_
                  refine aw_goto h (tgt := 47) dX0_laysLeft_198 (by decide) ?_
                  refine ihk (d + 1) b F f _ _ _ (by omega) (by omega) hD (fun hb => ⟨(hb0 hb).1, fun d' hd' => ?_⟩) hb1
                  by_cases e : d' = d
                  · subst e; exact fun _ => by rw [hx.1, hx.2.1]; omega
                  · exact (hb0 hb).2 d' (by omega)
              · refine aw_aload0 h dX0_laysLeft_133 ?_
                refine aw_getr h fl_X0_60 (gx0 hX) dX0_laysLeft_134 rfl (gxp13 hX) ?_
                refine aw_iload6 h dX0_laysLeft_137 ?_
                refine aw_ialdV h (gxs26 hX) (by decide) (by omega) dX0_laysLeft_139 ((congrFun (vup_s I 26 f) _).trans hDb.1) ?_
                refine aw_iload7 h dX0_laysLeft_140 ?_
                refine aw_icmp_leN h (tgt := 195) (by omega) (by omega) dX0_laysLeft_142 (by decide) (fun c142 => ?_) (fun c142 => ?_)
                · refine aw_iincN4 h rfl dX0_laysLeft_195 ?_
                  refine aw_goto h (tgt := 47) dX0_laysLeft_198 (by decide) ?_
                  refine ihk (d + 1) b F f _ _ _ (by omega) (by omega) hD (fun hb => ⟨(hb0 hb).1, fun d' hd' => ?_⟩) hb1
                  by_cases e : d' = d
                  · subst e; exact fun _ => by rw [hx.1, hx.2.1]; omega
                  · exact (hb0 hb).2 d' (by omega)
                · have hcase : F (inK K d) + 1 < F (ouK K d) := by omega
                  have hmn : min (F (inK K d)) (F (ouK K d)) = F (inK K d) := Nat.min_eq_left (by omega)
                  refine aw_iload7 h dX0_laysLeft_145 ?_
                  refine aw_bipush h _ cb_99 dX0_laysLeft_147 ?_
                  refine aw_icmp_leN h (tgt := 155) (by omega) (by decide) dX0_laysLeft_149 (by decide) (fun c149 => ?_) (fun c149 => ?_)
                  · refine aw_aload0 h dX0_laysLeft_155 ?_
                    refine aw_getr h fl_X0_60 (gx0 hX) dX0_laysLeft_156 rfl (gxp13 hX) ?_
                    refine aw_iload5 h dX0_laysLeft_159 ?_
                    refine aw_aload0 h dX0_laysLeft_161 ?_
                    refine aw_getr h fl_X0_60 (gx0 hX) dX0_laysLeft_162 rfl (gxp13 hX) ?_
                    refine aw_iload5 h dX0_laysLeft_165 ?_
                    refine aw_ialdV h (gxs26 hX) (by decide) (by omega) dX0_laysLeft_167 ((congrFun (vup_s I 26 f) _).trans hDa.1) ?_
                    refine aw_iload7 h dX0_laysLeft_168 ?_
                    refine aw_mmin h (by decide) (by decide) q990 q726 q169 q727 (Nat.le_of_ble_eq_true rfl) (Nat.zero_le _) (Nat.zero_le _) dX0_laysLeft_170 ?_
                    rw [nI_min (by omega) (by omega)]
                    refine aw_iastN h (gxs26 hX) (by decide) (by omega) dX0_laysLeft_173 ?_
                    rw [upd2_vup]
                    refine aw_aload0 h dX0_laysLeft_174 ?_
                    refine aw_getr h fl_X0_60 (gx0 hX) dX0_laysLeft_175 rfl (gxp13 hX) ?_
                    refine aw_iload6 h dX0_laysLeft_178 ?_
                    refine aw_aload0 h dX0_laysLeft_180 ?_
                    refine aw_getr h fl_X0_60 (gx0 hX) dX0_laysLeft_181 rfl (gxp13 hX) ?_
                    refine aw_iload6 h dX0_laysLeft_184 ?_
                    refine aw_ialdV h (gxs26 hX) (by decide) (by omega) dX0_laysLeft_186 ((congrFun (vup_s I 26 _) _).trans ((vup_n _ _ (by omega)).trans hDb.1)) ?_
                    refine aw_iload7 h dX0_laysLeft_187 ?_
                    refine aw_mmin h (by decide) (by decide) q990 q726 q169 q727 (Nat.le_of_ble_eq_true rfl) (Nat.zero_le _) (Nat.zero_le _) dX0_laysLeft_189 ?_
                    rw [nI_min (by omega) (by omega)]
                    refine aw_iastN h (gxs26 hX) (by decide) (by omega) dX0_laysLeft_192 ?_
                    rw [upd2_vup]
                    refine aw_iconst h _ ci_1 dX0_laysLeft_193 ?_
                    refine aw_istore3 h rfl dX0_laysLeft_194 ?_
                    refine aw_iincN4 h rfl dX0_laysLeft_195 ?_
                    refine aw_goto h (tgt := 47) dX0_laysLeft_198 (by decide) ?_
                    have hD2 := hD.up2 (x := min (F (inK K d)) (min (F (inK K d)) (F (ouK K d)) + 1)) (y := min (F (ouK K d)) (min (F (inK K d)) (F (ouK K d)) + 1)) hlt.2.2 (Nat.min_le_left _ _) (Nat.min_le_left _ _) (by omega) (by omega) (by omega) (by omega)
                    have h5 := sumN_up (f := F) (show ouK K d < nr S by omega) (x := F (inK K d) + 1) (by omega)
                    have e5 : va_up (va_up F (inK K d) (min (F (inK K d)) (min (F (inK K d)) (F (ouK K d)) + 1))) (ouK K d) (min (F (ouK K d)) (min (F (inK K d)) (F (ouK K d)) + 1)) = va_up F (ouK K d) (F (inK K d) + 1) := by
                      rw [hmn, Nat.min_eq_left (show F (inK K d) ≤ F (inK K d) + 1 by omega), Nat.min_eq_right (show F (inK K d) + 1 ≤ F (ouK K d) by omega), vup_id]
                    rw [e5] at hD2
                    refine ihk (d + 1) true (va_up F (ouK K d) (F (inK K d) + 1)) _ _ _ _ (by omega) (by omega) hD2 (fun hb => by cases hb) (fun _ => ?_)
                    cases b with
                    | false => rw [← (hb0 rfl).1]; exact h5
                    | true => have := hb1 rfl; omega
                  · refine aw_goto h (tgt := 195) dX0_laysLeft_152 (by decide) ?_
                    refine aw_iincN4 h rfl dX0_laysLeft_195 ?_
                    refine aw_goto h (tgt := 47) dX0_laysLeft_198 (by decide) ?_
                    refine ihk (d + 1) b F f _ _ _ (by omega) (by omega) hD (fun hb => ⟨(hb0 hb).1, fun d' hd' => ?_⟩) hb1
                    by_cases e : d' = d
                    · subst e; exact fun _ => by rw [hx.1, hx.2.1]; omega
                    · exact (hb0 hb).2 d' (by omega)
            · refine aw_goto h (tgt := 195) dX0_laysLeft_75 (by decide) ?_
              refine aw_iincN4 h rfl dX0_laysLeft_195 ?_
              refine aw_goto h (tgt := 47) dX0_laysLeft_198 (by decide) ?_
              refine ihk (d + 1) b F f _ _ _ (by omega) (by omega) hD (fun hb => ⟨(hb0 hb).1, fun d' hd' => ?_⟩) hb1
              by_cases e : d' = d
              · subst e; exact fun ho => by rw [hop, show opK K t d' = false from c72] at ho; cases ho
              · exact (hb0 hb).2 d' (by omega)
      refine aw_iload3 h dX0_laysLeft_38 ?_
      refine aw_if_eqB h (tgt := 204) dX0_laysLeft_39 (by decide) (fun c39 => ?_) (fun c39 => ?_)
      · cases c39
      · refine aw_iconst h _ ci_0 dX0_laysLeft_42 ?_
        refine aw_istore3 h rfl dX0_laysLeft_43 ?_
        refine aw_iconst h _ ci_0 dX0_laysLeft_44 ?_
        refine aw_istore4 h rfl dX0_laysLeft_45 ?_
        exact key3 (nd S + 1) 0 false F0 f _ _ _ (by omega) (by omega) hD0 (fun _ => ⟨rfl, fun d hd => absurd hd (by omega)⟩) (fun hb => by cases hb)
  have key1 : ∀ (n r : Nat) (f : Nat → Int32), r ≤ nr S → nr S < r + n → (∀ j, j < r → f j = nI (if j = g then 0 else 99)) → AW X 0 0 2 [some (.ref (w.1 + 0)), some (.int (nI g)), some (.int (nI t)), some (.int (nI r)), none, none, none, none] [] G (va_up I 26 f) L := by
    intro n
    induction n with
    | zero => intro r f h1 h2; exact absurd h2 (by omega)
    | succ n ih =>
      intro r f h1 h2 hf
      have hC := hC0.r (n := 26) (f := f) rfl
      obtain ⟨-, ⟨pl, pa, dl, da, fa, ps, ds, hK, hsp⟩, -, -⟩ := id hC
      obtain ⟨cd, hLd⟩ := hK.2.2.2.2.2.2.1
      obtain ⟨cp, hLp⟩ := hK.2.2.2.2.2.1
      have hdl := hK.2.2.2.2.2.2.2.2.1
      have hrm := hK.2.2.2.2.2.2.2.2.2.2.2.1
      refine aw_iload3 h dX0_laysLeft_2 ?_
      refine aw_aload0 h dX0_laysLeft_3 ?_
      refine aw_getr h fl_X0_12 (gx0 hX) dX0_laysLeft_4 rfl hc0 ?_
      refine aw_getiV h fl_X0_123 hK.1 dX0_laysLeft_7 rfl (hrm) ?_
      refine aw_icmp_geN h (tgt := 36) (by omega) (by omega) dX0_laysLeft_10 (by decide) (fun c10 => ?_) (fun c10 => ?_)
      · refine aw_iconst h _ ci_1 dX0_laysLeft_36 ?_
        refine aw_istore3 h rfl dX0_laysLeft_37 ?_
        refine key2 (99 * 8 + 1) f (fun j => if j = g then 0 else 99) _ _ _ _ ⟨by simp, fun j hj => ⟨hf j (by omega), ?_, ?_⟩⟩ ?_
        · by_cases e : j = g
          · subst e; rw [dist_0]; exact Nat.zero_le _
          · have := dist_le S g j; simp [e]; omega
        · dsimp only; split <;> omega
        · have := sumN_le (n := nr S) (b := 99) (f := fun j => if j = g then 0 else 99) (fun j _ => by split <;> omega)
          have h8 : nr S * 99 ≤ 8 * 99 := Nat.mul_le_mul_right _ b0
          omega
      · refine aw_aload0 h dX0_laysLeft_13 ?_
        refine aw_getr h fl_X0_60 (gx0 hX) dX0_laysLeft_14 rfl (gxp13 hX) ?_
        refine aw_iload3 h dX0_laysLeft_17 ?_
        refine aw_iload3 h dX0_laysLeft_18 ?_
        refine aw_iload1 h dX0_laysLeft_19 ?_
        refine aw_icmp_neN h (tgt := 27) (by omega) (by omega) dX0_laysLeft_20 (by decide) (fun c20 => ?_) (fun c20 => ?_)
        · refine aw_bipush h _ cb_99 dX0_laysLeft_27 ?_
          refine aw_iastN h (gxs26 hX) (by decide) (by omega) dX0_laysLeft_29 ?_
          rw [upd2_vup]
          refine aw_iincN3 h rfl dX0_laysLeft_30 ?_
          refine aw_goto h (tgt := 2) dX0_laysLeft_33 (by decide) ?_
          refine ih (r + 1) _ (by omega) (by omega) (fun j hj => ?_)
          by_cases e : j = r
          · subst e; rw [vup_s]; simp [c20]
          · rw [vup_n _ _ e]; exact hf j (by omega)
        · refine aw_iconst h _ ci_0 dX0_laysLeft_23 ?_
          refine aw_goto h (tgt := 29) dX0_laysLeft_24 (by decide) ?_
          refine aw_iastN h (gxs26 hX) (by decide) (by omega) dX0_laysLeft_29 ?_
          rw [upd2_vup]
          refine aw_iincN3 h rfl dX0_laysLeft_30 ?_
          refine aw_goto h (tgt := 2) dX0_laysLeft_33 (by decide) ?_
          refine ih (r + 1) _ (by omega) (by omega) (fun j hj => ?_)
          by_cases e : j = r
          · subst e; rw [vup_s]; simp [c20]
          · rw [vup_n _ _ e]; exact hf j (by omega)
  have hI : va_up I 26 (I 26) = I := vup_id I 26
  refine aw_iconst h _ ci_0 dX0_laysLeft_0 ?_
  refine aw_istore3 h rfl dX0_laysLeft_1 ?_
  have h9 := key1 (nr S + 1) 0 (I 26) (Nat.zero_le _) (by omega) (fun j hj => absurd hj (by omega))
  rw [hI] at h9
  exact h9
