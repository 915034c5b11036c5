/-! The reference: how many doors to a room, steps, who is where -/
set_option maxRecDepth 100000
theorem upd2_vup {α : Type} (I : Nat → Nat → α) (n i : Nat) (f : Nat → α) (x : α) : upd2 (va_up I n f) n i x = va_up I n (va_up f i x) := by
  unfold upd2
  rw [vup_vup, vup_s]
theorem upd2_self {α : Type} (I : Nat → Nat → α) (n i : Nat) (x : α) : upd2 I n i x = va_up I n (va_up (I n) i x) := rfl
/-- the row of distances while it is made -/
def DI (S : Nat → Int32) (g : Nat) (f : Nat → Int32) (F : Nat → Nat) : Prop := F g = 0 ∧ ∀ r, r < nr S → f r = nI (F r) ∧ distV S g r ≤ F r ∧ F r ≤ 99
theorem DI.up {S : Nat → Int32} {g : Nat} {f : Nat → Int32} {F : Nat → Nat} (h : DI S g f F) {r x : Nat} (hx : x ≤ 99) (hd : distV S g r ≤ x) (hg : r ≠ g) : DI S g (va_up f r (nI x)) (va_up F r x) := by
  refine ⟨by rw [vup_n _ _ (Ne.symm hg)]; exact h.1, fun q hq => ?_⟩
  by_cases e : q = r
  · subst e; rw [vup_s, vup_s]; exact ⟨rfl, hd, hx⟩
  · rw [vup_n _ _ e, vup_n _ _ e]; exact h.2 q hq
def FixD (S : Nat → Int32) (F : Nat → Nat) (d : Nat) : Prop := openB S d = true → F (near S d) ≤ F (farr S d) + 1 ∧ F (farr S d) ≤ F (near S d) + 1
theorem DI.done {S : Nat → Int32} (hS : InvS S) {g : Nat} {f : Nat → Int32} {F : Nat → Nat} (h : DI S g f F) (hx : ∀ d, d < nd S → FixD S F d) {r : Nat} (hr : r < nr S) : f r = nI (distV S g r) := by
  have h1 := dist_upper (S := S) (g := g) (f := F) h.1 (fun r hr => (h.2 r hr).2.2) (fun d hd => ⟨(ivd hS hd).2.1, (ivd hS hd).2.2.2⟩) (fun d hd ho => hx d hd ho) r hr
  have h2 := h.2 r hr
  rw [h2.1, show F r = distV S g r by omega]
/-- the row of distances to g is laid, nothing else is changed -/
def PD (S : Nat → Int32) (g : Nat) (G : Gm) (I : Im) (L : Lm) : Gm → Im → Lm → Prop := fun G1 I1 L1 => G = G1 ∧ L = L1 ∧ ∃ f : Nat → Int32, I1 = va_up I 172 f ∧ ∀ r, r < nr S → f r = nI (distV S g r)
/-- fillsDoors(g): the row of distances to g -/
theorem met_m_fillsDoors {w : Wd} {G : Gm} {I : Im} {L : Lm} (hG : GM G) {S : Nat → Int32} (hE : I 171 = S) (hS : InvS S) {g : Nat} (hg : g < nr S) : AMet w yX4_fillsDoors cX4_fillsDoors 6 none 3 82 0 0 [.ref (w.1 + 161), .int (nI g)] G I L (Ans none (PD S g G I L)) := by
  refine AMet.of (ls0 := [some (.ref (w.1 + 161)), some (.int (nI g)), none, none, none, none]) rfl (Nat.le_of_ble_eq_true rfl) rfl (fun q hq => hq) (fun X h hl hr hi => ?_)
  have b0 := iv0b hS
  have b1 := iv1b hS
  have key0 : ∀ (f : Nat → Int32) (F : Nat → Nat) (o3 o4 o5 : Option Value), DI S g f F → (∀ d, d < nd S → FixD S F d) → AW X 0 0 37 [some (.ref (w.1 + 161)), some (.int (nI g)), some (.int (bI false)), o3, o4, o5] [] G (va_up I 172 f) L := by
    intro f F o3 o4 o5 hD hx
    refine aw_iload2 h dX4_fillsDoors_37 ?_
    refine aw_if_eqB h (tgt := 163) dX4_fillsDoors_38 (by decide) (fun c38 => ?_) (fun c38 => ?_)
    · exact aw_vret h hr dX4_fillsDoors_163 (⟨rfl, rfl, rfl, f, rfl, fun r hr => DI.done hS hD hx hr⟩) (Nat.zero_le _) (Nat.zero_le _)
    · cases c38
  have key2 : ∀ (n : Nat) (f : Nat → Int32) (F : Nat → Nat) (o3 o4 o5 : Option Value), DI S g f F → sumN (nr S) F < n → AW X 0 0 37 [some (.ref (w.1 + 161)), some (.int (nI g)), some (.int (bI true)), o3, o4, o5] [] G (va_up I 172 f) L := by
    intro n
    induction n with
    | zero => intro f F o3 o4 o5 hD hn; exact absurd hn (by omega)
    | succ n ih =>
      intro f F0 o3 o4 o5 hD0 hn
      have key3 : ∀ (k d : Nat) (b : Bool) (F : Nat → Nat) (f : Nat → Int32) (o4 o5 : Option Value), d ≤ nd S → nd S < d + k → DI S g f F → (b = false → F = F0 ∧ ∀ d', d' < d → FixD S F d') → (b = true → sumN (nr S) F < sumN (nr S) F0) → AW X 0 0 45 [some (.ref (w.1 + 161)), some (.int (nI g)), some (.int (bI b)), some (.int (nI d)), o4, o5] [] G (va_up I 172 f) L := by
        intro k
        induction k with
        | zero => intro d b F f o4 o5 h1 h2; exact absurd h2 (by omega)
        | succ k ihk =>
          intro d b F f o4 o5 h1 h2 hD hb0 hb1
          have hE2 : va_up I 172 f 171 = S := hE
          have key4 : ∀ (b : Bool) (F : Nat → Nat) (f : Nat → Int32), d < nd S → openB S d = true → DI S g f F → F (farr S d) ≤ F (near S d) + 1 → (b = false → F = F0 ∧ ∀ d', d' < d → FixD S F d') → (b = true → sumN (nr S) F < sumN (nr S) F0) → AW X 0 0 117 [some (.ref (w.1 + 161)), some (.int (nI g)), some (.int (bI b)), some (.int (nI d)), some (.int (nI (near S d))), some (.int (nI (farr S d)))] [] G (va_up I 172 f) L := by
            intro b F f hd ho hD hle hb0 hb1
            obtain ⟨-, ha, -, hb⟩ := ivd hS hd
            have va := hD.2 _ ha
            have vb := hD.2 _ hb
            have hst := dist_step (g := g) hd ho
            refine aw_aload0 h dX4_fillsDoors_117 ?_
            refine aw_getr h fl_X4_46 (gmt hG) dX4_fillsDoors_118 rfl (gmp23 hG) ?_
            refine aw_iload5 h dX4_fillsDoors_121 ?_
            refine aw_ialdV h (gms172 hG) (by decide) (by omega) dX4_fillsDoors_123 (vb.1) ?_
            refine aw_iconst h _ ci_1 dX4_fillsDoors_124 ?_
            refine aw_iaddN h dX4_fillsDoors_125 ?_
            refine aw_aload0 h dX4_fillsDoors_126 ?_
            refine aw_getr h fl_X4_46 (gmt hG) dX4_fillsDoors_127 rfl (gmp23 hG) ?_
            refine aw_iload4 h dX4_fillsDoors_130 ?_
            refine aw_ialdV h (gms172 hG) (by decide) (by omega) dX4_fillsDoors_132 (va.1) ?_
            refine aw_icmp_geN h (tgt := 154) (by omega) (by omega) dX4_fillsDoors_133 (by decide) (fun c133 => ?_) (fun c133 => ?_)
            · refine aw_iincN3 h rfl dX4_fillsDoors_154 ?_
              refine aw_goto h (tgt := 45) dX4_fillsDoors_157 (by decide) ?_
              refine ihk (d + 1) b F f _ _ (by omega) (by omega) hD (fun hb => ⟨(hb0 hb).1, fun d' hd' => ?_⟩) hb1
              by_cases e : d' = d
              · subst e; exact fun _ => ⟨c133, hle⟩
              · exact (hb0 hb).2 d' (by omega)
            · refine aw_aload0 h dX4_fillsDoors_136 ?_
              refine aw_getr h fl_X4_46 (gmt hG) dX4_fillsDoors_137 rfl (gmp23 hG) ?_
              refine aw_iload4 h dX4_fillsDoors_140 ?_
              refine aw_aload0 h dX4_fillsDoors_142 ?_
              refine aw_getr h fl_X4_46 (gmt hG) dX4_fillsDoors_143 rfl (gmp23 hG) ?_
              refine aw_iload5 h dX4_fillsDoors_146 ?_
              refine aw_ialdV h (gms172 hG) (by decide) (by omega) dX4_fillsDoors_148 (vb.1) ?_
              refine aw_iconst h _ ci_1 dX4_fillsDoors_149 ?_
              refine aw_iaddN h dX4_fillsDoors_150 ?_
              refine aw_iastN h (gms172 hG) (by decide) (by omega) dX4_fillsDoors_151 ?_
              rw [upd2_vup]
              refine aw_iconst h _ ci_1 dX4_fillsDoors_152 ?_
              refine aw_istore2 h rfl dX4_fillsDoors_153 ?_
              refine aw_iincN3 h rfl dX4_fillsDoors_154 ?_
              refine aw_goto h (tgt := 45) dX4_fillsDoors_157 (by decide) ?_
              refine ihk (d + 1) true (va_up F (near S d) (F (farr S d) + 1)) _ _ _ (by omega) (by omega) (hD.up (by omega) (by omega) (fun e => by rw [e, hD.1] at c133; omega)) (fun hb => by cases hb) (fun _ => ?_)
              have h5 := sumN_up (f := F) ha (x := F (farr S d) + 1) (by omega)
              cases b with
              | false => rw [← (hb0 rfl).1]; exact h5
              | true => have := hb1 rfl; omega
          refine aw_iload3 h dX4_fillsDoors_45 ?_
          refine aw_aload0 h dX4_fillsDoors_46 ?_
          refine aw_getr h fl_X4_39 (gmt hG) dX4_fillsDoors_47 rfl (gmp20 hG) ?_
          refine aw_iconst h _ ci_1 dX4_fillsDoors_50 ?_
          refine aw_ialdV h (gms171 hG) (by decide) (by omega) dX4_fillsDoors_51 (iv1e hE hS) ?_
          refine aw_icmp_geN h (tgt := 160) (by omega) (by omega) dX4_fillsDoors_52 (by decide) (fun c52 => ?_) (fun c52 => ?_)
          · refine aw_goto h (tgt := 37) dX4_fillsDoors_160 (by decide) ?_
            cases b with
            | false => exact key0 f F _ _ _ hD (fun d' hd' => (hb0 rfl).2 d' (by omega))
            | true => exact ih f F _ _ _ hD (by have := hb1 rfl; omega)
          · refine aw_aload0 h dX4_fillsDoors_55 ?_
            refine aw_iload3 h dX4_fillsDoors_56 ?_
            refine aw_callVE1 h hl cl_X4_310 (met_m_isOpen hG hE2 hS (by omega)) (gmt hG) rfl dX4_fillsDoors_57 (Nat.le_of_ble_eq_true rfl) rfl (Nat.zero_le _) (Nat.zero_le _) ?_
            refine aw_if_neB h (tgt := 66) dX4_fillsDoors_60 (by decide) (fun c60 => ?_) (fun c60 => ?_)
            · refine aw_aload0 h dX4_fillsDoors_66 ?_
              refine aw_iload3 h dX4_fillsDoors_67 ?_
              refine aw_callVE1 h hl cl_X4_301 (met_m_nearOf hG hE2 hS (by omega)) (gmt hG) rfl dX4_fillsDoors_68 (Nat.le_of_ble_eq_true rfl) rfl (Nat.zero_le _) (Nat.zero_le _) ?_
              refine aw_istore4 h rfl dX4_fillsDoors_71 ?_
              refine aw_aload0 h dX4_fillsDoors_73 ?_
              refine aw_iload3 h dX4_fillsDoors_74 ?_
              refine aw_callVE1 h hl cl_X4_304 (met_m_farOf hG hE2 hS (by omega)) (gmt hG) rfl dX4_fillsDoors_75 (Nat.le_of_ble_eq_true rfl) rfl (Nat.zero_le _) (Nat.zero_le _) ?_
              refine aw_istore5 h rfl dX4_fillsDoors_78 ?_
              refine aw_aload0 h dX4_fillsDoors_80 ?_
              refine aw_getr h fl_X4_46 (gmt hG) dX4_fillsDoors_81 rfl (gmp23 hG) ?_
              refine aw_iload4 h dX4_fillsDoors_84 ?_
              refine aw_ialdV h (gms172 hG) (by decide) (by have := (ivd hS (by omega : d < nd S)); omega) dX4_fillsDoors_86 ((hD.2 _ (ivd hS (by omega)).2.1).1) ?_
              refine aw_iconst h _ ci_1 dX4_fillsDoors_87 ?_
              refine aw_iaddN h dX4_fillsDoors_88 ?_
              refine aw_aload0 h dX4_fillsDoors_89 ?_
              refine aw_getr h fl_X4_46 (gmt hG) dX4_fillsDoors_90 rfl (gmp23 hG) ?_
              refine aw_iload5 h dX4_fillsDoors_93 ?_
              refine aw_ialdV h (gms172 hG) (by decide) (by have := (ivd hS (by omega : d < nd S)); omega) dX4_fillsDoors_95 ((hD.2 _ (ivd hS (by omega)).2.2.2).1) ?_
              refine aw_icmp_geN h (tgt := 117) (by have := (hD.2 _ (ivd hS (by omega : d < nd S)).2.1); omega) (by have := (hD.2 _ (ivd hS (by omega : d < nd S)).2.2.2); omega) dX4_fillsDoors_96 (by decide) (fun c96 => ?_) (fun c96 => ?_)
              · exact key4 b F f (by omega) c60 hD c96 hb0 hb1
              · refine aw_aload0 h dX4_fillsDoors_99 ?_
                refine aw_getr h fl_X4_46 (gmt hG) dX4_fillsDoors_100 rfl (gmp23 hG) ?_
                refine aw_iload5 h dX4_fillsDoors_103 ?_
                refine aw_aload0 h dX4_fillsDoors_105 ?_
                refine aw_getr h fl_X4_46 (gmt hG) dX4_fillsDoors_106 rfl (gmp23 hG) ?_
                refine aw_iload4 h dX4_fillsDoors_109 ?_
                refine aw_ialdV h (gms172 hG) (by decide) (by have := (ivd hS (by omega : d < nd S)); omega) dX4_fillsDoors_111 ((hD.2 _ (ivd hS (by omega)).2.1).1) ?_
                refine aw_iconst h _ ci_1 dX4_fillsDoors_112 ?_
                refine aw_iaddN h dX4_fillsDoors_113 ?_
                refine aw_iastN h (gms172 hG) (by decide) (by have := (ivd hS (by omega : d < nd S)); omega) dX4_fillsDoors_114 ?_
                rw [upd2_vup]
                refine aw_iconst h _ ci_1 dX4_fillsDoors_115 ?_
                refine aw_istore2 h rfl dX4_fillsDoors_116 ?_
                obtain ⟨-, ha, -, hb⟩ := ivd hS (by omega : d < nd S)
                have va := hD.2 _ ha
                have vb := hD.2 _ hb
                have hst := dist_step (g := g) (by omega : d < nd S) c60
                have hne : near S d ≠ farr S d := fun e => by rw [← e] at c96; omega
                refine key4 true (va_up F (farr S d) (F (near S d) + 1)) _ (by omega) c60 (hD.up (by omega) (by omega) (fun e => by rw [e, hD.1] at c96; omega)) (by rw [vup_s, vup_n _ _ hne]; omega) (fun hb => by cases hb) (fun _ => ?_)
                have h5 := sumN_up (f := F) hb (x := F (near S d) + 1) (by omega)
                cases b with
                | false => rw [← (hb0 rfl).1]; exact h5
                | true => have := hb1 rfl; omega
            · refine aw_goto h (tgt := 154) dX4_fillsDoors_63 (by decide) ?_
              refine aw_iincN3 h rfl dX4_fillsDoors_154 ?_
              refine aw_goto h (tgt := 45) dX4_fillsDoors_157 (by decide) ?_
              refine ihk (d + 1) b F f _ _ (by omega) (by omega) hD (fun hb => ⟨(hb0 hb).1, fun d' hd' => ?_⟩) hb1
              by_cases e : d' = d
              · subst e; exact fun ho => by rw [c60] at ho; cases ho
              · exact (hb0 hb).2 d' (by omega)
      refine aw_iload2 h dX4_fillsDoors_37 ?_
      refine aw_if_eqB h (tgt := 163) dX4_fillsDoors_38 (by decide) (fun c38 => ?_) (fun c38 => ?_)
      · cases c38
      · refine aw_iconst h _ ci_0 dX4_fillsDoors_41 ?_
        refine aw_istore2 h rfl dX4_fillsDoors_42 ?_
        refine aw_iconst h _ ci_0 dX4_fillsDoors_43 ?_
        refine aw_istore3 h rfl dX4_fillsDoors_44 ?_
        exact key3 (nd S + 1) 0 false F0 f _ _ (by omega) (by omega) hD0 (fun _ => ⟨rfl, fun d hd => absurd hd (by omega)⟩) (fun hb => by cases hb)
  have key1 : ∀ (n r : Nat) (f : Nat → Int32), r ≤ nr S → nr S < r + n → (∀ j, j < r → f j = nI (if j = g then 0 else 99)) → AW X 0 0 2 [some (.ref (w.1 + 161)), some (.int (nI g)), some (.int (nI r)), none, none, none] [] G (va_up I 172 f) L := by
    intro n
    induction n with
    | zero => intro r f h1 h2; exact absurd h2 (by omega)
    | succ n ih =>
      intro r f h1 h2 hf
      refine aw_iload2 h dX4_fillsDoors_2 ?_
      refine aw_aload0 h dX4_fillsDoors_3 ?_
      refine aw_getr h fl_X4_39 (gmt hG) dX4_fillsDoors_4 rfl (gmp20 hG) ?_
      refine aw_iconst h _ ci_0 dX4_fillsDoors_7 ?_
      refine aw_ialdV h (gms171 hG) (by decide) (by omega) dX4_fillsDoors_8 (iv0e hE hS) ?_
      refine aw_icmp_geN h (tgt := 35) (by omega) (by omega) dX4_fillsDoors_9 (by decide) (fun c9 => ?_) (fun c9 => ?_)
      · refine aw_iconst h _ ci_1 dX4_fillsDoors_35 ?_
        refine aw_istore2 h rfl dX4_fillsDoors_36 ?_
        refine key2 (99 * 8 + 1) f (fun j => if j = g then 0 else 99) _ _ _ ⟨by simp, fun j hj => ⟨hf j (by omega), ?_, ?_⟩⟩ ?_
        · by_cases e : j = g
          · subst e; rw [dist_0]; exact Nat.zero_le _
          · have := dist_le S g j; simp [e]; omega
        · dsimp only; split <;> omega
        · have := sumN_le (n := nr S) (b := 99) (f := fun j => if j = g then 0 else 99) (fun j _ => by split <;> omega)
          have h8 : nr S * 99 ≤ 8 * 99 := Nat.mul_le_mul_right _ b0
          omega
      · refine aw_aload0 h dX4_fillsDoors_12 ?_
        refine aw_getr h fl_X4_46 (gmt hG) dX4_fillsDoors_13 rfl (gmp23 hG) ?_
        refine aw_iload2 h dX4_fillsDoors_16 ?_
        refine aw_iload2 h dX4_fillsDoors_17 ?_
        refine aw_iload1 h dX4_fillsDoors_18 ?_
        refine aw_icmp_neN h (tgt := 26) (by omega) (by omega) dX4_fillsDoors_19 (by decide) (fun c19 => ?_) (fun c19 => ?_)
        · refine aw_bipush h _ cb_99 dX4_fillsDoors_26 ?_
          refine aw_iastN h (gms172 hG) (by decide) (by omega) dX4_fillsDoors_28 ?_
          rw [upd2_vup]
          refine aw_iincN2 h rfl dX4_fillsDoors_29 ?_
          refine aw_goto h (tgt := 2) dX4_fillsDoors_32 (by decide) ?_
          refine ih (r + 1) _ (by omega) (by omega) (fun j hj => ?_)
          by_cases e : j = r
          · subst e; rw [vup_s]; simp [c19]
          · rw [vup_n _ _ e]; exact hf j (by omega)
        · refine aw_iconst h _ ci_0 dX4_fillsDoors_22 ?_
          refine aw_goto h (tgt := 28) dX4_fillsDoors_23 (by decide) ?_
          refine aw_iastN h (gms172 hG) (by decide) (by omega) dX4_fillsDoors_28 ?_
          rw [upd2_vup]
          refine aw_iincN2 h rfl dX4_fillsDoors_29 ?_
          refine aw_goto h (tgt := 2) dX4_fillsDoors_32 (by decide) ?_
          refine ih (r + 1) _ (by omega) (by omega) (fun j hj => ?_)
          by_cases e : j = r
          · subst e; rw [vup_s]; simp [c19]
          · rw [vup_n _ _ e]; exact hf j (by omega)
  have hI : I = va_up I 172 (I 172) := (vup_id I 172).symm
  rw [hI]
  refine aw_iconst h _ ci_0 dX4_fillsDoors_0 ?_
  refine aw_istore2 h rfl dX4_fillsDoors_1 ?_
  exact key1 (nr S + 1) 0 (I 172) (Nat.zero_le _) (by omega) (fun j hj => absurd hj (by omega))
theorem met_m_leftFrom {w : Wd} {G : Gm} {I : Im} {L : Lm} (hG : GM G) {S : Nat → Int32} (hE : I 171 = S) (hS : InvS S) {r g : Nat} (hr0 : r < nr S) (hg : g < nr S) : AMet w yX4_leftFrom cX4_leftFrom 3 (some .int) 4 107 0 0 [.ref (w.1 + 161), .int (nI r), .int (nI g)] G I L (Ans (some (.int (nI (distV S g r)))) (PD S g G I L)) := by
  refine AMet.of (ls0 := [some (.ref (w.1 + 161)), some (.int (nI r)), some (.int (nI g))]) rfl (Nat.le_of_ble_eq_true rfl) rfl (fun q hq => hq) (fun X h hl hr hi => ?_)
  refine aw_aload0 h dX4_leftFrom_0 ?_
  refine aw_iload2 h dX4_leftFrom_1 ?_
  refine aw_callVN1 h hl cl_X4_313 (met_m_fillsDoors hG hE hS (by omega)) (gmt hG) rfl dX4_leftFrom_2 (Nat.le_of_ble_eq_true rfl) rfl (Nat.zero_le _) (Nat.zero_le _) (fun G1 I1 L1 hp => ?_)
  obtain ⟨rfl, rfl, f, rfl, hf⟩ := hp
  have hE2 : va_up I 172 f 171 = S := hE
  refine aw_aload0 h dX4_leftFrom_5 ?_
  refine aw_getr h fl_X4_46 (gmt hG) dX4_leftFrom_6 rfl (gmp23 hG) ?_
  refine aw_iload1 h dX4_leftFrom_9 ?_
  refine aw_ialdV h (gms172 hG) (by decide) (by have := iv0b hS; omega) dX4_leftFrom_10 (hf _ hr0) ?_
  exact aw_iret h hr dX4_leftFrom_11 (⟨rfl, rfl, rfl, f, rfl, hf⟩) (Nat.zero_le _) (Nat.zero_le _)
theorem met_m_leftOf {w : Wd} {G : Gm} {I : Im} {L : Lm} (hG : GM G) {S : Nat → Int32} (hE : I 171 = S) (hS : InvS S) {p : Nat} (hp : p < np S) : AMet w yX4_leftOf cX4_leftOf 2 (some .int) 5 129 0 0 [.ref (w.1 + 161), .int (nI p)] G I L (Ans (some (.int (nI (distV S (gl S p) (rm S p))))) (PD S (gl S p) G I L)) := by
  refine AMet.of (ls0 := [some (.ref (w.1 + 161)), some (.int (nI p))]) rfl (Nat.le_of_ble_eq_true rfl) rfl (fun q hq => hq) (fun X h hl hr hi => ?_)
  refine aw_aload0 h dX4_leftOf_0 ?_
  refine aw_aload0 h dX4_leftOf_1 ?_
  refine aw_iload1 h dX4_leftOf_2 ?_
  refine aw_iconst h _ ci_0 dX4_leftOf_3 ?_
  refine aw_callVE2 h hl cl_X4_279 (met_m_personOf hG hE (by have := iv2b hS; omega)) (gmt hG) rfl dX4_leftOf_4 (Nat.le_of_ble_eq_true rfl) rfl (Nat.zero_le _) (Nat.zero_le _) ?_
  rw [(ivp hS hp).1]
  refine aw_aload0 h dX4_leftOf_7 ?_
  refine aw_iload1 h dX4_leftOf_8 ?_
  refine aw_iconst h _ ci_1 dX4_leftOf_9 ?_
  refine aw_callVE2 h hl cl_X4_279 (met_m_personOf hG hE (by have := iv2b hS; omega)) (gmt hG) rfl dX4_leftOf_10 (Nat.le_of_ble_eq_true rfl) rfl (Nat.zero_le _) (Nat.zero_le _) ?_
  rw [(ivp hS hp).2.2.1]
  refine aw_callVA2 h hl cl_X4_316 (met_m_leftFrom hG hE hS (ivp hS hp).2.1 (ivp hS hp).2.2.2) (gmt hG) rfl dX4_leftOf_13 (Nat.le_of_ble_eq_true rfl) rfl (Nat.zero_le _) (Nat.zero_le _) (fun G1 I1 L1 hp => ?_)
  obtain ⟨rfl, rfl, f, rfl, hf⟩ := hp
  have hE2 : va_up I 172 f 171 = S := hE
  exact aw_iret h hr dX4_leftOf_16 (⟨rfl, rfl, rfl, f, rfl, hf⟩) (Nat.zero_le _) (Nat.zero_le _)
def adjB (S : Nat → Int32) (a b : Nat) : Bool := anyN (nd S) (fun d => openB S d && ((near S d == a && farr S d == b) || (near S d == b && farr S d == a)))
def stepF (S : Nat → Int32) (g a : Nat) : Nat := firstT (fun r => adjB S a r && (distV S g r == distV S g a - 1)) (nr S)
/-- the next room on a least way; none -/
def stepI (S : Nat → Int32) (g a : Nat) : Int32 := if distV S g a = 0 ∨ distV S g a = 99 then -1 else if stepF S g a < nr S then nI (stepF S g a) else -1
/-- a room that the first d doors give -/
def SC (S : Nat → Int32) (g a d r : Nat) : Prop := ∃ d', d' < d ∧ openB S d' = true ∧ ((near S d' = a ∧ farr S d' = r) ∨ (near S d' = r ∧ farr S d' = a)) ∧ distV S g r = distV S g a - 1
theorem SC.succ {S : Nat → Int32} {g a d r : Nat} (h : SC S g a (d + 1) r) : SC S g a d r ∨ (openB S d = true ∧ ((near S d = a ∧ farr S d = r) ∨ (near S d = r ∧ farr S d = a)) ∧ distV S g r = distV S g a - 1) := by
  obtain ⟨d', h1, h2⟩ := h
  by_cases e : d' = d
  · subst e; exact Or.inr h2
  · exact Or.inl ⟨d', by omega, h2⟩
theorem SC.mono {S : Nat → Int32} {g a d r : Nat} (h : SC S g a d r) : SC S g a (d + 1) r := by
  obtain ⟨d', h1, h2⟩ := h
  exact ⟨d', by omega, h2⟩
def SB (S : Nat → Int32) (g a d : Nat) (best : Int32) : Prop := (best = -1 ∧ ∀ r, ¬ SC S g a d r) ∨ ∃ b, best = nI b ∧ b < nr S ∧ SC S g a d b ∧ ∀ r, SC S g a d r → b ≤ r
theorem SC.adj {S : Nat → Int32} {g a r : Nat} : SC S g a (nd S) r ↔ (adjB S a r && (distV S g r == distV S g a - 1)) = true := by
  simp only [Bool.and_eq_true, beq_iff_eq, adjB, anyN_iff, Bool.or_eq_true]
  constructor
  · rintro ⟨d, h1, h2, h3, h4⟩; exact ⟨⟨d, h1, h2, h3⟩, h4⟩
  · rintro ⟨⟨d, h1, h2, h3⟩, h4⟩; exact ⟨d, h1, h2, h3, h4⟩
theorem SB.done {S : Nat → Int32} {g a : Nat} {best : Int32} (h : SB S g a (nd S) best) (h0 : ¬ (distV S g a = 0 ∨ distV S g a = 99)) (hin : ∀ r, SC S g a (nd S) r → r < nr S) : best = stepI S g a := by
  unfold stepI
  rw [if_neg h0]
  have hsp := firstT_spec (fun r => adjB S a r && (distV S g r == distV S g a - 1)) (nr S)
  rcases h with ⟨rfl, hno⟩ | ⟨b, rfl, hb1, hb2, hb3⟩
  · rw [if_neg]
    intro hl
    exact hno _ (SC.adj.mpr (hsp.1 hl))
  · have h1 : stepF S g a ≤ b := firstT_of hb1 (SC.adj.mp hb2)
    rw [if_pos (by omega)]
    have h2 := hb3 _ (SC.adj.mpr (hsp.1 (show stepF S g a < nr S by omega)))
    rw [show stepF S g a = b by unfold stepF at *; omega]
theorem SB.skip {S : Nat → Int32} {g a d : Nat} {best : Int32} (h : SB S g a d best) (hx : ∀ r, openB S d = true → ((near S d = a ∧ farr S d = r) ∨ (near S d = r ∧ farr S d = a)) → False) : SB S g a (d + 1) best := by
  rcases h with ⟨e, hno⟩ | ⟨b, e, hb1, hb2, hb3⟩
  · refine Or.inl ⟨e, fun r hr => ?_⟩
    rcases hr.succ with hr | ⟨h1, h2, -⟩
    · exact hno r hr
    · exact hx r h1 h2
  · refine Or.inr ⟨b, e, hb1, hb2.mono, fun r hr => ?_⟩
    rcases hr.succ with hr | ⟨h1, h2, -⟩
    · exact hb3 r hr
    · exact (hx r h1 h2).elim
/-- stepOf(p) -/
theorem met_m_stepOf {w : Wd} {G : Gm} {I : Im} {L : Lm} (hG : GM G) {S : Nat → Int32} (hE : I 171 = S) (hS : InvS S) {p : Nat} (hp : p < np S) : AMet w yX4_stepOf cX4_stepOf 7 (some .int) 6 150 0 0 [.ref (w.1 + 161), .int (nI p)] G I L (Ans (some (.int (stepI S (gl S p) (rm S p)))) (PD S (gl S p) G I L)) := by
  refine AMet.of (ls0 := [some (.ref (w.1 + 161)), some (.int (nI p)), none, none, none, none, none]) rfl (Nat.le_of_ble_eq_true rfl) rfl (fun q hq => hq) (fun X h hl hr hi => ?_)
  have b0 := iv0b hS
  have b1 := iv1b hS
  refine aw_aload0 h dX4_stepOf_0 ?_
  refine aw_iload1 h dX4_stepOf_1 ?_
  refine aw_iconst h _ ci_0 dX4_stepOf_2 ?_
  refine aw_callVE2 h hl cl_X4_279 (met_m_personOf hG hE (by have := iv2b hS; omega)) (gmt hG) rfl dX4_stepOf_3 (Nat.le_of_ble_eq_true rfl) rfl (Nat.zero_le _) (Nat.zero_le _) ?_
  rw [(ivp hS hp).1]
  refine aw_istore2 h rfl dX4_stepOf_6 ?_
  refine aw_aload0 h dX4_stepOf_7 ?_
  refine aw_iload1 h dX4_stepOf_8 ?_
  refine aw_callVA1 h hl cl_X4_319 (met_m_leftOf hG hE hS hp) (gmt hG) rfl dX4_stepOf_9 (Nat.le_of_ble_eq_true rfl) rfl (Nat.zero_le _) (Nat.zero_le _) (fun G1 I1 L1 hp => ?_)
  obtain ⟨rfl, rfl, f, rfl, hf⟩ := hp
  have hE2 : va_up I 172 f 171 = S := hE
  refine aw_istore3 h rfl dX4_stepOf_12 ?_
  have hin : ∀ r, SC S (gl S p) (rm S p) (nd S) r → r < nr S := fun r ⟨d', h1, _, h2, _⟩ => by
    have := ivd hS h1
    rcases h2 with ⟨_, e⟩ | ⟨e, _⟩ <;> omega
  have keyB : ¬ (distV S (gl S p) (rm S p) = 0 ∨ distV S (gl S p) (rm S p) = 99) → ∀ {k : Nat} (d : Nat) (best : Int32) (to : Nat) (o6 : Option Value), d < nd S → SB S (gl S p) (rm S p) d best → to < nr S → openB S d = true → ((near S d = rm S p ∧ farr S d = to) ∨ (near S d = to ∧ farr S d = rm S p)) → (∀ r, ((near S d = rm S p ∧ farr S d = r) ∨ (near S d = r ∧ farr S d = rm S p)) → r = to) → (∀ (d : Nat) (best : Int32) (o6 : Option Value), d ≤ nd S → nd S < d + k → SB S (gl S p) (rm S p) d best → AW X 0 0 31 [some (.ref (w.1 + 161)), some (.int (nI p)), some (.int (nI (rm S p))), some (.int (nI (distV S (gl S p) (rm S p)))), some (.int best), some (.int (nI d)), o6] [] G (va_up I 172 f) L) → nd S < d + (k + 1) → AW X 0 0 99 [some (.ref (w.1 + 161)), some (.int (nI p)), some (.int (nI (rm S p))), some (.int (nI (distV S (gl S p) (rm S p)))), some (.int best), some (.int (nI d)), o6] [.int (nI to)] G (va_up I 172 f) L := by
    intro h0 k d best to o6 hd hB hto ho hadj2 hadj ih hk
    rcases hB with ⟨rfl, hno⟩ | ⟨b, rfl, hb1, hb2, hb3⟩
    ·
          refine aw_istore6 h rfl dX4_stepOf_99 ?_
          refine aw_aload0 h dX4_stepOf_101 ?_
          refine aw_getr h fl_X4_46 (gmt hG) dX4_stepOf_102 rfl (gmp23 hG) ?_
          refine aw_iload6 h dX4_stepOf_105 ?_
          refine aw_ialdV h (gms172 hG) (by decide) (by have := iv0b hS; omega) dX4_stepOf_107 (hf _ hto) ?_
          refine aw_iload3 h dX4_stepOf_108 ?_
          refine aw_iconst h _ ci_1 dX4_stepOf_109 ?_
          refine aw_isubN h (by omega) dX4_stepOf_110 ?_
          refine aw_icmp_neN h (tgt := 130) (by have := dist_le S (gl S p) to; omega) (by have := dist_le S (gl S p) (rm S p); omega) dX4_stepOf_111 (by decide) (fun c111 => ?_) (fun c111 => ?_)
          · refine aw_iincN5 h rfl dX4_stepOf_130 ?_
            refine aw_goto h (tgt := 31) dX4_stepOf_133 (by decide) ?_
            refine ih (d + 1) (-1) _ (by omega) (by omega) (Or.inl ⟨rfl, fun r hr => ?_⟩)
            rcases hr.succ with hr | ⟨hr1, hr2, hr3⟩
            · exact hno r hr
            · rw [hadj r hr2] at hr3; exact c111 hr3
          · refine aw_iload4 h dX4_stepOf_114 ?_
            refine aw_if_lt h (tgt := 126) dX4_stepOf_116 (by decide) (fun c116 => ?_) (fun c116 => ?_)
            · refine aw_iload6 h dX4_stepOf_126 ?_
              refine aw_istore4 h rfl dX4_stepOf_128 ?_
              refine aw_iincN5 h rfl dX4_stepOf_130 ?_
              refine aw_goto h (tgt := 31) dX4_stepOf_133 (by decide) ?_
              refine ih (d + 1) (nI to) _ (by omega) (by omega) (Or.inr ⟨to, rfl, hto, ⟨d, by omega, ho, hadj2, c111⟩, fun r hr => ?_⟩)
              rcases hr.succ with hr | ⟨hr1, hr2, hr3⟩
              · exact absurd hr (hno r)
              · rw [hadj r hr2]; exact Nat.le_refl _
            · exact absurd (show (-1 : Int32) < 0 by decide) c116
    ·
          refine aw_istore6 h rfl dX4_stepOf_99 ?_
          refine aw_aload0 h dX4_stepOf_101 ?_
          refine aw_getr h fl_X4_46 (gmt hG) dX4_stepOf_102 rfl (gmp23 hG) ?_
          refine aw_iload6 h dX4_stepOf_105 ?_
          refine aw_ialdV h (gms172 hG) (by decide) (by have := iv0b hS; omega) dX4_stepOf_107 (hf _ hto) ?_
          refine aw_iload3 h dX4_stepOf_108 ?_
          refine aw_iconst h _ ci_1 dX4_stepOf_109 ?_
          refine aw_isubN h (by omega) dX4_stepOf_110 ?_
          refine aw_icmp_neN h (tgt := 130) (by have := dist_le S (gl S p) to; omega) (by have := dist_le S (gl S p) (rm S p); omega) dX4_stepOf_111 (by decide) (fun c111 => ?_) (fun c111 => ?_)
          · refine aw_iincN5 h rfl dX4_stepOf_130 ?_
            refine aw_goto h (tgt := 31) dX4_stepOf_133 (by decide) ?_
            refine ih (d + 1) (nI b) _ (by omega) (by omega) (Or.inr ⟨b, rfl, hb1, hb2.mono, fun r hr => ?_⟩)
            rcases hr.succ with hr | ⟨hr1, hr2, hr3⟩
            · exact hb3 r hr
            · rw [hadj r hr2] at hr3; exact absurd hr3 c111
          · refine aw_iload4 h dX4_stepOf_114 ?_
            refine aw_if_ltN h (tgt := 126) (by have := iv0b hS; omega) dX4_stepOf_116 (by decide) (fun c116 => ?_) (fun c116 => ?_)
            · exact absurd c116 (by omega)
            · refine aw_iload6 h dX4_stepOf_119 ?_
              refine aw_iload4 h dX4_stepOf_121 ?_
              refine aw_icmp_geN h (tgt := 130) (by have := iv0b hS; omega) (by have := iv0b hS; omega) dX4_stepOf_123 (by decide) (fun c123 => ?_) (fun c123 => ?_)
              · refine aw_iincN5 h rfl dX4_stepOf_130 ?_
                refine aw_goto h (tgt := 31) dX4_stepOf_133 (by decide) ?_
                refine ih (d + 1) (nI b) _ (by omega) (by omega) (Or.inr ⟨b, rfl, hb1, hb2.mono, fun r hr => ?_⟩)
                rcases hr.succ with hr | ⟨hr1, hr2, hr3⟩
                · exact hb3 r hr
                · rw [hadj r hr2]; exact c123
              · refine aw_iload6 h dX4_stepOf_126 ?_
                refine aw_istore4 h rfl dX4_stepOf_128 ?_
                refine aw_iincN5 h rfl dX4_stepOf_130 ?_
                refine aw_goto h (tgt := 31) dX4_stepOf_133 (by decide) ?_
                refine ih (d + 1) (nI to) _ (by omega) (by omega) (Or.inr ⟨to, rfl, hto, ⟨d, by omega, ho, hadj2, c111⟩, fun r hr => ?_⟩)
                rcases hr.succ with hr | ⟨hr1, hr2, hr3⟩
                · have := hb3 r hr; omega
                · rw [hadj r hr2]; exact Nat.le_refl _
  have keyL : ¬ (distV S (gl S p) (rm S p) = 0 ∨ distV S (gl S p) (rm S p) = 99) → ∀ (k d : Nat) (best : Int32) (o6 : Option Value), d ≤ nd S → nd S < d + k → SB S (gl S p) (rm S p) d best → AW X 0 0 31 [some (.ref (w.1 + 161)), some (.int (nI p)), some (.int (nI (rm S p))), some (.int (nI (distV S (gl S p) (rm S p)))), some (.int best), some (.int (nI d)), o6] [] G (va_up I 172 f) L := by
    intro h0 k
    induction k with
    | zero => intro d best o6 h1 h2; exact absurd h2 (by omega)
    | succ k ih =>
      intro d best o6 h1 h2 hB
      refine aw_iload5 h dX4_stepOf_31 ?_
      refine aw_aload0 h dX4_stepOf_33 ?_
      refine aw_getr h fl_X4_39 (gmt hG) dX4_stepOf_34 rfl (gmp20 hG) ?_
      refine aw_iconst h _ ci_1 dX4_stepOf_37 ?_
      refine aw_ialdV h (gms171 hG) (by decide) (by omega) dX4_stepOf_38 (iv1e hE2 hS) ?_
      refine aw_icmp_geN h (tgt := 136) (by have := iv1b hS; omega) (by have := iv1b hS; omega) dX4_stepOf_39 (by decide) (fun c39 => ?_) (fun c39 => ?_)
      · refine aw_iload4 h dX4_stepOf_136 ?_
        exact aw_iret h hr dX4_stepOf_138 (⟨by have hB2 := hB; rw [show d = nd S by omega] at hB2; rw [SB.done hB2 h0 hin], rfl, rfl, f, rfl, hf⟩) (Nat.zero_le _) (Nat.zero_le _)
      · refine aw_aload0 h dX4_stepOf_42 ?_
        refine aw_iload5 h dX4_stepOf_43 ?_
        refine aw_callVE1 h hl cl_X4_310 (met_m_isOpen hG hE2 hS (by omega)) (gmt hG) rfl dX4_stepOf_45 (Nat.le_of_ble_eq_true rfl) rfl (Nat.zero_le _) (Nat.zero_le _) ?_
        refine aw_if_eqB h (tgt := 130) dX4_stepOf_48 (by decide) (fun c48 => ?_) (fun c48 => ?_)
        · refine aw_iincN5 h rfl dX4_stepOf_130 ?_
          refine aw_goto h (tgt := 31) dX4_stepOf_133 (by decide) ?_
          refine ih (d + 1) best _ (by omega) (by omega) (SB.skip hB (fun r h1 h2 => by rw [c48] at h1; cases h1))
        · refine aw_aload0 h dX4_stepOf_51 ?_
          refine aw_iload5 h dX4_stepOf_52 ?_
          refine aw_callVE1 h hl cl_X4_301 (met_m_nearOf hG hE2 hS (by omega)) (gmt hG) rfl dX4_stepOf_54 (Nat.le_of_ble_eq_true rfl) rfl (Nat.zero_le _) (Nat.zero_le _) ?_
          refine aw_iload2 h dX4_stepOf_57 ?_
          refine aw_icmp_eqN h (tgt := 74) (by have := (ivd hS (by omega : d < nd S)); have := iv0b hS; omega) (by have := (ivp hS hp).2.1; have := iv0b hS; omega) dX4_stepOf_58 (by decide) (fun c58 => ?_) (fun c58 => ?_)
          · refine aw_aload0 h dX4_stepOf_74 ?_
            refine aw_iload5 h dX4_stepOf_75 ?_
            refine aw_callVE1 h hl cl_X4_301 (met_m_nearOf hG hE2 hS (by omega)) (gmt hG) rfl dX4_stepOf_77 (Nat.le_of_ble_eq_true rfl) rfl (Nat.zero_le _) (Nat.zero_le _) ?_
            refine aw_iload2 h dX4_stepOf_80 ?_
            refine aw_icmp_neN h (tgt := 93) (by have := (ivd hS (by omega : d < nd S)); have := iv0b hS; omega) (by have := (ivp hS hp).2.1; have := iv0b hS; omega) dX4_stepOf_81 (by decide) (fun c81 => ?_) (fun c81 => ?_)
            · refine aw_aload0 h dX4_stepOf_93 ?_
              refine aw_iload5 h dX4_stepOf_94 ?_
              refine aw_callVE1 h hl cl_X4_301 (met_m_nearOf hG hE2 hS (by omega)) (gmt hG) rfl dX4_stepOf_96 (Nat.le_of_ble_eq_true rfl) rfl (Nat.zero_le _) (Nat.zero_le _) ?_
              exact absurd c58 c81
            · refine aw_aload0 h dX4_stepOf_84 ?_
              refine aw_iload5 h dX4_stepOf_85 ?_
              refine aw_callVE1 h hl cl_X4_304 (met_m_farOf hG hE2 hS (by omega)) (gmt hG) rfl dX4_stepOf_87 (Nat.le_of_ble_eq_true rfl) rfl (Nat.zero_le _) (Nat.zero_le _) ?_
              refine aw_goto h (tgt := 99) dX4_stepOf_90 (by decide) ?_
              exact keyB h0 d best (farr S d) o6 (by omega) hB (ivd hS (by omega)).2.2.2 c48 (Or.inl ⟨c58, rfl⟩) (fun r hr => by rcases hr with ⟨h1, h3⟩ | ⟨h1, h3⟩; exact h3.symm; exact h1.symm.trans (c58.trans h3.symm)) ih h2
          · refine aw_aload0 h dX4_stepOf_61 ?_
            refine aw_iload5 h dX4_stepOf_62 ?_
            refine aw_callVE1 h hl cl_X4_304 (met_m_farOf hG hE2 hS (by omega)) (gmt hG) rfl dX4_stepOf_64 (Nat.le_of_ble_eq_true rfl) rfl (Nat.zero_le _) (Nat.zero_le _) ?_
            refine aw_iload2 h dX4_stepOf_67 ?_
            refine aw_icmp_eqN h (tgt := 74) (by have := (ivd hS (by omega : d < nd S)); have := iv0b hS; omega) (by have := (ivp hS hp).2.1; have := iv0b hS; omega) dX4_stepOf_68 (by decide) (fun c68 => ?_) (fun c68 => ?_)
            · refine aw_aload0 h dX4_stepOf_74 ?_
              refine aw_iload5 h dX4_stepOf_75 ?_
              refine aw_callVE1 h hl cl_X4_301 (met_m_nearOf hG hE2 hS (by omega)) (gmt hG) rfl dX4_stepOf_77 (Nat.le_of_ble_eq_true rfl) rfl (Nat.zero_le _) (Nat.zero_le _) ?_
              refine aw_iload2 h dX4_stepOf_80 ?_
              refine aw_icmp_neN h (tgt := 93) (by have := (ivd hS (by omega : d < nd S)); have := iv0b hS; omega) (by have := (ivp hS hp).2.1; have := iv0b hS; omega) dX4_stepOf_81 (by decide) (fun c81 => ?_) (fun c81 => ?_)
              · refine aw_aload0 h dX4_stepOf_93 ?_
                refine aw_iload5 h dX4_stepOf_94 ?_
                refine aw_callVE1 h hl cl_X4_301 (met_m_nearOf hG hE2 hS (by omega)) (gmt hG) rfl dX4_stepOf_96 (Nat.le_of_ble_eq_true rfl) rfl (Nat.zero_le _) (Nat.zero_le _) ?_
                exact keyB h0 d best (near S d) o6 (by omega) hB (ivd hS (by omega)).2.1 c48 (Or.inr ⟨rfl, c68⟩) (fun r hr => by rcases hr with ⟨h1, h3⟩ | ⟨h1, h3⟩; exact absurd h1 c58; exact h1.symm) ih h2
              · refine aw_aload0 h dX4_stepOf_84 ?_
                refine aw_iload5 h dX4_stepOf_85 ?_
                refine aw_callVE1 h hl cl_X4_304 (met_m_farOf hG hE2 hS (by omega)) (gmt hG) rfl dX4_stepOf_87 (Nat.le_of_ble_eq_true rfl) rfl (Nat.zero_le _) (Nat.zero_le _) ?_
                refine aw_goto h (tgt := 99) dX4_stepOf_90 (by decide) ?_
                exact absurd c81 c58
            · refine aw_goto h (tgt := 130) dX4_stepOf_71 (by decide) ?_
              refine aw_iincN5 h rfl dX4_stepOf_130 ?_
              refine aw_goto h (tgt := 31) dX4_stepOf_133 (by decide) ?_
              refine ih (d + 1) best _ (by omega) (by omega) (SB.skip hB (fun r h1 h2 => by rcases h2 with ⟨h3, h4⟩ | ⟨h3, h4⟩; exact c58 h3; exact c68 h4))
  refine aw_iload3 h dX4_stepOf_13 ?_
  refine aw_if_eqN h (tgt := 23) (by have := dist_le S (gl S p) (rm S p); omega) dX4_stepOf_14 (by decide) (fun c14 => ?_) (fun c14 => ?_)
  · refine aw_iconst h _ ci_m1 dX4_stepOf_23 ?_
    exact aw_iret h hr dX4_stepOf_24 (⟨by unfold stepI; rw [if_pos (Or.inl c14)], rfl, rfl, f, rfl, hf⟩) (Nat.zero_le _) (Nat.zero_le _)
  · refine aw_iload3 h dX4_stepOf_17 ?_
    refine aw_bipush h _ cb_99 dX4_stepOf_18 ?_
    refine aw_icmp_neN h (tgt := 25) (by have := dist_le S (gl S p) (rm S p); omega) (by decide) dX4_stepOf_20 (by decide) (fun c20 => ?_) (fun c20 => ?_)
    · refine aw_iconst h _ ci_m1 dX4_stepOf_25 ?_
      refine aw_istore4 h rfl dX4_stepOf_26 ?_
      refine aw_iconst h _ ci_0 dX4_stepOf_28 ?_
      refine aw_istore5 h rfl dX4_stepOf_29 ?_
      exact keyL (fun q => by rcases q with q | q; exact c14 q; exact c20 q) (nd S + 1) 0 (-1) none (Nat.zero_le _) (by omega) (Or.inl ⟨rfl, fun r ⟨d', hd', _⟩ => absurd hd' (by omega)⟩)
    · refine aw_iconst h _ ci_m1 dX4_stepOf_23 ?_
      exact aw_iret h hr dX4_stepOf_24 (⟨by unfold stepI; rw [if_pos (Or.inr c20)], rfl, rfl, f, rfl, hf⟩) (Nat.zero_le _) (Nat.zero_le _)
