/-! The component: its answers person, room, door -/
set_option maxRecDepth 100000
theorem met_x_whoIn {w : Wd} {G : Gm} {I : Im} {L : Lm} (hX : XG G) {sl : Nat → Prop} {K : CS} {c : Nat} {S : Nat → Int32} {t : Nat} (hV : XV sl G I K c S t) (hA : StAt I 7 S) {a : Nat} (ha : a < nr S) : AMet w yX0_whoIn cX0_whoIn 4 (some .int) 3 80 0 0 [.ref (w.1 + 0), .int (nI a)] G I L (Exact (some (.int (nI (pinN S a)))) G I L) := by
  refine AMet.of (ls0 := [some (.ref (w.1 + 0)), some (.int (nI a)), none, none]) rfl (Nat.le_of_ble_eq_true rfl) rfl (fun q hq => hq) (fun X h hl hr hi => ?_)
  obtain ⟨hC0, hS, hcs, ht, ht2, hdj⟩ := id hV
  have hC := hC0
  obtain ⟨hc0, ⟨pl, pa, dl, da, fa, ps, ds, hK, hsp⟩, hok, hsl⟩ := id hC
  obtain ⟨cp, hLp⟩ := hK.2.2.2.2.2.1
  obtain ⟨cd, hLd⟩ := hK.2.2.2.2.2.2.1
  have hpl := hK.2.2.2.2.2.2.2.1
  have hdl := hK.2.2.2.2.2.2.2.2.1
  have hdk := hK.2.2.2.2.2.2.2.2.2.2.1
  have hpk := hK.2.2.2.2.2.2.2.2.2.1
  have hrm := hK.2.2.2.2.2.2.2.2.2.2.2.1
  have hfr := hK.2.2.2.2.2.2.2.2.2.2.2.2.2
  have hR8 := hok.2.1
  have hD14 := hok.2.2.1
  have hP4 := hok.2.2.2.1
  have hdo := hok.2.2.2.2.1
  have hpo := hok.2.2.2.2.2.1
  have hf9 := hok.2.2.2.2.2.2.2
  have hn := cas_n hcs hok
  have key : ∀ (fu k : Nat), k ≤ np S → np S < k + fu → AW X 0 0 4 [some (.ref (w.1 + 0)), some (.int (nI a)), some (.int (nI (mskN k (fun p => rm S p == a)))), some (.int (nI k))] [] G I L := by
    intro fu
    induction fu with
    | zero => intro k hle hlt; exact absurd hlt (by omega)
    | succ fu ih =>
      intro k hle hlt
      refine aw_iload3 h dX0_whoIn_4 ?_
      refine aw_aload0 h dX0_whoIn_5 ?_
      refine aw_getr h fl_X0_12 (gx0 hX) dX0_whoIn_6 rfl hc0 ?_
      refine aw_callVE0 h hl cl_X0_125 (met_x_many hK hok) hK.1 rfl dX0_whoIn_9 (Nat.le_of_ble_eq_true rfl) rfl (Nat.zero_le _) (Nat.zero_le _) ?_
      refine aw_icmp_geN h (tgt := 44) (by omega) (by omega) dX0_whoIn_12 (by decide) (fun c12 => ?_) (fun c12 => ?_)
      · refine aw_iload2 h dX0_whoIn_44 ?_
        exact aw_iret h hr dX0_whoIn_45 (⟨by unfold pinN; rw [show np S = k by omega], rfl, rfl, rfl⟩) (Nat.zero_le _) (Nat.zero_le _)
      · refine aw_iload2 h dX0_whoIn_15 ?_
        refine aw_aload0 h dX0_whoIn_16 ?_
        refine aw_getr h fl_X0_19 (gx0 hX) dX0_whoIn_17 rfl (gxp1 hX) ?_
        refine aw_getr h fl_X0_202 (gxt7 hX).1 dX0_whoIn_20 rfl ((gxt7 hX).2 0 (by decide)).1 ?_
        refine aw_iload3 h dX0_whoIn_23 ?_
        refine aw_ialdV h ((gxt7 hX).2 0 (by decide)).2 (by decide) (by omega) dX0_whoIn_24 ((hA.2.1 k (by omega)).1.trans (ivp hS (by omega : k < np S)).1) ?_
        refine aw_iload1 h dX0_whoIn_25 ?_
        refine aw_icmp_neN h (tgt := 35) (by have := (ivp hS (by omega : k < np S)); omega) (by omega) dX0_whoIn_26 (by decide) (fun c26 => ?_) (fun c26 => ?_)
        · refine aw_iconst h _ ci_0 dX0_whoIn_35 ?_
          refine aw_ior h dX0_whoIn_36 ?_
          refine aw_istore2 h rfl dX0_whoIn_37 ?_
          refine aw_iincN3 h rfl dX0_whoIn_38 ?_
          refine aw_goto h (tgt := 4) dX0_whoIn_41 (by decide) ?_
          rw [bs_or, Nat.or_zero]
          have e : mskN (k + 1) (fun p => rm S p == a) = mskN k (fun p => rm S p == a) := by simp [mskN, c26]
          rw [← e]
          exact ih (k + 1) (by omega) (by omega)
        · refine aw_iconst h _ ci_1 dX0_whoIn_29 ?_
          refine aw_iload3 h dX0_whoIn_30 ?_
          refine aw_ishl h dX0_whoIn_31 ?_
          refine aw_goto h (tgt := 36) dX0_whoIn_32 (by decide) ?_
          refine aw_ior h dX0_whoIn_36 ?_
          refine aw_istore2 h rfl dX0_whoIn_37 ?_
          refine aw_iincN3 h rfl dX0_whoIn_38 ?_
          refine aw_goto h (tgt := 4) dX0_whoIn_41 (by decide) ?_
          rw [bs_shl1 (by omega), bs_or, msk_or (msk_lt _ _)]
          have e : mskN (k + 1) (fun p => rm S p == a) = mskN k (fun p => rm S p == a) + 2 ^ k := by simp [mskN, c26]
          rw [← e]
          exact ih (k + 1) (by omega) (by omega)
  refine aw_iconst h _ ci_0 dX0_whoIn_0 ?_
  refine aw_istore2 h rfl dX0_whoIn_1 ?_
  refine aw_iconst h _ ci_0 dX0_whoIn_2 ?_
  refine aw_istore3 h rfl dX0_whoIn_3 ?_
  exact key (np S + 1) 0 (Nat.zero_le _) (by omega)
theorem met_x_outsideOf {w : Wd} {G : Gm} {I : Im} {L : Lm} (hX : XG G) {sl : Nat → Prop} {K : CS} {c : Nat} {S : Nat → Int32} {t : Nat} (hV : XV sl G I K c S t) (hA : StAt I 7 S) {a : Nat} (ha : a < nr S) : AMet w yX0_outsideOf cX0_outsideOf 6 (some .int) 6 148 0 0 [.ref (w.1 + 0), .int (nI a)] G I L (Exact (some (.int (nI (outV S a - (outV S a &&& 2 ^ a))))) G I L) := by
  refine AMet.of (ls0 := [some (.ref (w.1 + 0)), some (.int (nI a)), none, none, none, none]) rfl (Nat.le_of_ble_eq_true rfl) rfl (fun q hq => hq) (fun X h hl hr hi => ?_)
  obtain ⟨hC0, hS, hcs, ht, ht2, hdj⟩ := id hV
  have hC := hC0
  obtain ⟨hc0, ⟨pl, pa, dl, da, fa, ps, ds, hK, hsp⟩, hok, hsl⟩ := id hC
  obtain ⟨cp, hLp⟩ := hK.2.2.2.2.2.1
  obtain ⟨cd, hLd⟩ := hK.2.2.2.2.2.2.1
  have hpl := hK.2.2.2.2.2.2.2.1
  have hdl := hK.2.2.2.2.2.2.2.2.1
  have hdk := hK.2.2.2.2.2.2.2.2.2.2.1
  have hpk := hK.2.2.2.2.2.2.2.2.2.1
  have hrm := hK.2.2.2.2.2.2.2.2.2.2.2.1
  have hfr := hK.2.2.2.2.2.2.2.2.2.2.2.2.2
  have hR8 := hok.2.1
  have hD14 := hok.2.2.1
  have hP4 := hok.2.2.2.1
  have hdo := hok.2.2.2.2.1
  have hpo := hok.2.2.2.2.2.1
  have hf9 := hok.2.2.2.2.2.2.2
  have hn := cas_n hcs hok
  have hout : ∀ (m : Nat) (o4 o5 : Option Value), OutSet S a m → AW X 0 0 6 [some (.ref (w.1 + 0)), some (.int (nI a)), some (.int (nI m)), some (.int (bI false)), o4, o5] [] G I L := by
    intro m o4 o5 hO
    have hO0 := hO.1
    refine aw_iload3 h dX0_outsideOf_6 ?_
    refine aw_if_eqB h (tgt := 101) dX0_outsideOf_7 (by decide) (fun c7 => ?_) (fun c7 => ?_)
    · refine aw_iload2 h dX0_outsideOf_101 ?_
      refine aw_iconst h _ ci_1 dX0_outsideOf_102 ?_
      refine aw_iload1 h dX0_outsideOf_103 ?_
      refine aw_ishl h dX0_outsideOf_104 ?_
      rw [bs_shl1 (by omega)]
      refine aw_iconst h _ ci_m1 dX0_outsideOf_105 ?_
      refine aw_ixor h dX0_outsideOf_106 ?_
      refine aw_iand h dX0_outsideOf_107 ?_
      rw [bs_not _ _ (by have := hO0.2.1; omega)]
      exact aw_iret h hr dX0_outsideOf_108 (⟨by rw [← OutSet.eq hO], rfl, rfl, rfl⟩) (Nat.zero_le _) (Nat.zero_le _)
    · cases c7
  have key : ∀ (fu m0 : Nat) (o4 o5 : Option Value), OW S a m0 → 8 < cntS m0 + fu → AW X 0 0 6 [some (.ref (w.1 + 0)), some (.int (nI a)), some (.int (nI m0)), some (.int (bI true)), o4, o5] [] G I L := by
    intro fu
    induction fu with
    | zero => intro m0 o4 o5 hO hc; have := cnt_le m0; omega
    | succ fu ih =>
      intro m0 o4 o5 hO0 hc
      have k86 : ∀ (m : Nat), OW S a m → OP S m0 m (nd S) → ∀ o5 : Option Value, AW X 0 0 86 [some (.ref (w.1 + 0)), some (.int (nI a)), some (.int (nI m)), some (.int (bI true)), some (.int (nI m0)), o5] [] G I L := by
        intro m hO hP o5
        refine aw_iload2 h dX0_outsideOf_86 ?_
        refine aw_iload4 h dX0_outsideOf_87 ?_
        refine aw_icmp_eqN h (tgt := 96) (by have := hO.2.1; omega) (by have := hO0.2.1; omega) dX0_outsideOf_89 (by decide) (fun c89 => ?_) (fun c89 => ?_)
        · refine aw_iconst h _ ci_0 dX0_outsideOf_96 ?_
          refine aw_istore3 h rfl dX0_outsideOf_97 ?_
          refine aw_goto h (tgt := 6) dX0_outsideOf_98 (by decide) ?_
          rcases hP with ⟨-, hcl⟩ | ⟨h3, -⟩
          · subst c89; exact hout m _ _ ⟨hO, hcl⟩
          · subst c89; omega
        · refine aw_iconst h _ ci_1 dX0_outsideOf_92 ?_
          refine aw_goto h (tgt := 97) dX0_outsideOf_93 (by decide) ?_
          refine aw_istore3 h rfl dX0_outsideOf_97 ?_
          refine aw_goto h (tgt := 6) dX0_outsideOf_98 (by decide) ?_
          rcases hP with ⟨e, -⟩ | ⟨h3, -⟩
          · exact absurd e c89
          · exact ih m _ _ hO (by omega)
      have key2 : ∀ (fv k : Nat) (m : Nat), k ≤ nd S → nd S < k + fv → OW S a m → OP S m0 m k → AW X 0 0 16 [some (.ref (w.1 + 0)), some (.int (nI a)), some (.int (nI m)), some (.int (bI true)), some (.int (nI m0)), some (.int (nI k))] [] G I L := by
        intro fv
        induction fv with
        | zero => intro k m hle hlt; exact absurd hlt (by omega)
        | succ fv ih2 =>
          intro k m hle hlt hO hP
          refine aw_iload5 h dX0_outsideOf_16 ?_
          refine aw_aload0 h dX0_outsideOf_18 ?_
          refine aw_getr h fl_X0_12 (gx0 hX) dX0_outsideOf_19 rfl hc0 ?_
          refine aw_getr h fl_X0_133 hK.1 dX0_outsideOf_22 rfl hK.2.2.1 ?_
          refine aw_callVE0 h hl cl_X0_136 (met_j_size hLd) hLd.1 rfl dX0_outsideOf_25 (Nat.le_of_ble_eq_true rfl) rfl (Nat.zero_le _) (Nat.zero_le _) ?_
          rw [hdl]
          refine aw_icmp_geN h (tgt := 86) (by omega) (by omega) dX0_outsideOf_28 (by decide) (fun c28 => ?_) (fun c28 => ?_)
          · exact k86 m hO (by rw [show k = nd S by omega] at hP; exact hP) _
          · have hd : k < (kD K).length := by omega
            have hx := cas_d hcs hok hd
            have hop := cas_op hcs hok ht ht2 hd
            have hlt := inK_lt hok hd
            have hm8 := hO.2.1
            refine aw_aload0 h dX0_outsideOf_31 ?_
            refine aw_getr h fl_X0_12 (gx0 hX) dX0_outsideOf_32 rfl hc0 ?_
            refine aw_iload5 h dX0_outsideOf_35 ?_
            refine aw_aload0 h dX0_outsideOf_37 ?_
            refine aw_getr h fl_X0_19 (gx0 hX) dX0_outsideOf_38 rfl (gxp1 hX) ?_
            refine aw_getiV h fl_X0_195 (gxt7 hX).1 dX0_outsideOf_41 rfl (hA.1.trans ht) ?_
            refine aw_callVE2 h hl cl_X0_175 (met_x_isOpen hK hok hd ht2) hK.1 rfl dX0_outsideOf_44 (Nat.le_of_ble_eq_true rfl) rfl (Nat.zero_le _) (Nat.zero_le _) ?_
            refine aw_if_eqB h (tgt := 80) dX0_outsideOf_47 (by decide) (fun c47 => ?_) (fun c47 => ?_)
            · refine aw_iincN5 h rfl dX0_outsideOf_80 ?_
              refine aw_goto h (tgt := 16) dX0_outsideOf_83 (by decide) ?_
              exact ih2 (k + 1) m (by omega) (by omega) hO (hP.skip (fun q _ => by rw [hop, c47] at q; cases q))
            · refine aw_iload2 h dX0_outsideOf_50 ?_
              refine aw_aload0 h dX0_outsideOf_51 ?_
              refine aw_getr h fl_X0_12 (gx0 hX) dX0_outsideOf_52 rfl hc0 ?_
              refine aw_iload5 h dX0_outsideOf_55 ?_
              refine aw_callVE1 h hl cl_X0_179 (met_x_inner hK hok hd) hK.1 rfl dX0_outsideOf_57 (Nat.le_of_ble_eq_true rfl) rfl (Nat.zero_le _) (Nat.zero_le _) ?_
              refine aw_callSE2 h hl cl_X0_213 (met_x_has (by omega) (by omega)) dX0_outsideOf_60 (Nat.le_of_ble_eq_true rfl) rfl (Nat.zero_le _) (Nat.zero_le _) ?_
              refine aw_if_eqB h (tgt := 80) dX0_outsideOf_63 (by decide) (fun c63 => ?_) (fun c63 => ?_)
              · refine aw_iincN5 h rfl dX0_outsideOf_80 ?_
                refine aw_goto h (tgt := 16) dX0_outsideOf_83 (by decide) ?_
                exact ih2 (k + 1) m (by omega) (by omega) hO (hP.skip (fun _ q => by rw [hx.1, c63] at q; cases q))
              · refine aw_iload2 h dX0_outsideOf_66 ?_
                refine aw_iconst h _ ci_1 dX0_outsideOf_67 ?_
                refine aw_aload0 h dX0_outsideOf_68 ?_
                refine aw_getr h fl_X0_12 (gx0 hX) dX0_outsideOf_69 rfl hc0 ?_
                refine aw_iload5 h dX0_outsideOf_72 ?_
                refine aw_callVE1 h hl cl_X0_183 (met_x_outer hK hok hd) hK.1 rfl dX0_outsideOf_74 (Nat.le_of_ble_eq_true rfl) rfl (Nat.zero_le _) (Nat.zero_le _) ?_
                refine aw_ishl h dX0_outsideOf_77 ?_
                rw [bs_shl1 (by omega)]
                refine aw_ior h dX0_outsideOf_78 ?_
                rw [bs_or]
                refine aw_istore2 h rfl dX0_outsideOf_79 ?_
                refine aw_iincN5 h rfl dX0_outsideOf_80 ?_
                refine aw_goto h (tgt := 16) dX0_outsideOf_83 (by decide) ?_
                have h1 := hO.or hS (show k < nd S by omega) (by rw [hop]; exact c47) (by rw [hx.1]; exact c63)
                have h2 := hP.step hS (show k < nd S by omega) (by rw [hop]; exact c47) (by rw [hx.1]; exact c63)
                rw [hx.2.1] at h1 h2
                exact ih2 (k + 1) _ (by omega) (by omega) h1 h2
      refine aw_iload3 h dX0_outsideOf_6 ?_
      refine aw_if_eqB h (tgt := 101) dX0_outsideOf_7 (by decide) (fun c7 => ?_) (fun c7 => ?_)
      · cases c7
      · refine aw_iload2 h dX0_outsideOf_10 ?_
        refine aw_istore4 h rfl dX0_outsideOf_11 ?_
        refine aw_iconst h _ ci_0 dX0_outsideOf_13 ?_
        refine aw_istore5 h rfl dX0_outsideOf_14 ?_
        exact key2 (nd S + 1) 0 m0 (Nat.zero_le _) (by omega) hO0 (Or.inl ⟨rfl, fun d hd => absurd hd (by omega)⟩)
  refine aw_iconst h _ ci_1 dX0_outsideOf_0 ?_
  refine aw_iload1 h dX0_outsideOf_1 ?_
  refine aw_ishl h dX0_outsideOf_2 ?_
  rw [bs_shl1 (by omega)]
  refine aw_istore2 h rfl dX0_outsideOf_3 ?_
  refine aw_iconst h _ ci_1 dX0_outsideOf_4 ?_
  refine aw_istore3 h rfl dX0_outsideOf_5 ?_
  exact key 9 (2 ^ a) _ _ ⟨by rw [Nat.testBit_two_pow]; simp, Nat.pow_lt_pow_right (by decide) (by omega), fun r hr => by
    rw [Nat.testBit_two_pow] at hr
    have e : a = r := by simpa using hr
    subst e; exact ⟨ha, 0, rfl⟩⟩ (by omega)
/-- one row of distances may be laid -/
def PX (n : Nat) (G : Gm) (I : Im) (L : Lm) : Gm → Im → Lm → Prop := fun G1 I1 L1 => G = G1 ∧ L = L1 ∧ ∃ f : Nat → Int32, va_up I n f = I1
theorem PX.rf {n : Nat} {G : Gm} {I : Im} {L : Lm} : PX n G I L G I L := ⟨rfl, rfl, I n, vup_id I n⟩
theorem met_x_room {w : Wd} {G : Gm} {I : Im} {L : Lm} (hX : XG G) {sl : Nat → Prop} {K : CS} {c : Nat} {S : Nat → Int32} {t : Nat} (hV : XV sl G I K c S t) (hA : StAt I 7 S) {r what : Int32} : AMet w yX0_room cX0_room 3 (some .int) 7 173 0 0 [.ref (w.1 + 0), .int r, .int what] G I L (Exact (some (.int (roomA S r what))) G I L) := by
  refine AMet.of (ls0 := [some (.ref (w.1 + 0)), some (.int r), some (.int what)]) rfl (Nat.le_of_ble_eq_true rfl) rfl (fun q hq => hq) (fun X h hl hr hi => ?_)
  obtain ⟨hC0, hS, hcs, ht, ht2, hdj⟩ := id hV
  have hC := hC0
  obtain ⟨hc0, ⟨pl, pa, dl, da, fa, ps, ds, hK, hsp⟩, hok, hsl⟩ := id hC
  obtain ⟨cp, hLp⟩ := hK.2.2.2.2.2.1
  obtain ⟨cd, hLd⟩ := hK.2.2.2.2.2.2.1
  have hpl := hK.2.2.2.2.2.2.2.1
  have hdl := hK.2.2.2.2.2.2.2.2.1
  have hdk := hK.2.2.2.2.2.2.2.2.2.2.1
  have hpk := hK.2.2.2.2.2.2.2.2.2.1
  have hrm := hK.2.2.2.2.2.2.2.2.2.2.2.1
  have hfr := hK.2.2.2.2.2.2.2.2.2.2.2.2.2
  have hR8 := hok.2.1
  have hD14 := hok.2.2.1
  have hP4 := hok.2.2.2.1
  have hdo := hok.2.2.2.2.1
  have hpo := hok.2.2.2.2.2.1
  have hf9 := hok.2.2.2.2.2.2.2
  have hn := cas_n hcs hok
  refine aw_aload0 h dX0_room_0 ?_
  refine aw_iload1 h dX0_room_1 ?_
  refine aw_callVE1 h hl cl_X0_245 (met_x_isRoom hX hC) (gx0 hX) rfl dX0_room_2 (Nat.le_of_ble_eq_true rfl) rfl (Nat.zero_le _) (Nat.zero_le _) ?_
  refine aw_if_neB h (tgt := 10) dX0_room_5 (by decide) (fun c5 => ?_) (fun c5 => ?_)
  · obtain ⟨a, ha, rfl⟩ := of_rng c5 (by omega)
    rw [← hn.1] at ha
    refine aw_iload2 h dX0_room_10 ?_
    cases hin : inI what 0 2 with
    | false =>
      refine aw_tableOut h (tgt := 58) dX0_room_11 (inI_no (by decide) hin) (by decide) ?_
      refine aw_iconst h _ ci_m1 dX0_room_58 ?_
      exact aw_iret h hr dX0_room_59 (⟨by rw [show roomA S (nI a) what = -1 from ifno2 hin], rfl, rfl, rfl⟩) (Nat.zero_le _) (Nat.zero_le _)
    | true =>
      obtain ⟨j, -, hj, rfl⟩ := inI_of hin (by decide) (by decide)
      have hj2 : j = 0 ∨ j = 1 ∨ j = 2 := by omega
      rcases hj2 with rfl | rfl | rfl
      · refine aw_tableIn h (off := 25) (tgt := 36) dX0_room_11 (by decide) (by decide) rfl (by decide) ?_
        refine aw_aload0 h dX0_room_36 ?_
        refine aw_getr h fl_X0_12 (gx0 hX) dX0_room_37 rfl hc0 ?_
        refine aw_getr h fl_X0_248 hK.1 dX0_room_40 rfl hK.2.2.2.1 ?_
        refine aw_iload1 h dX0_room_43 ?_
        refine aw_ialdV h hK.2.2.2.2.1 (by decide) (by omega) dX0_room_44 ((hfr a (by omega)).trans (cas_f hcs (by omega)).symm) ?_
        exact aw_iret h hr dX0_room_45 (⟨by rw [roomA_j (S := S) (p := a) (j := 0) ha (by omega) (by decide)]; rfl, rfl, rfl, rfl⟩) (Nat.zero_le _) (Nat.zero_le _)
      · refine aw_tableIn h (off := 35) (tgt := 46) dX0_room_11 (by decide) (by decide) rfl (by decide) ?_
        refine aw_aload0 h dX0_room_46 ?_
        refine aw_iload1 h dX0_room_47 ?_
        refine aw_callVE1 h hl cl_X0_251 (met_x_whoIn hX hV hA ha) (gx0 hX) rfl dX0_room_48 (Nat.le_of_ble_eq_true rfl) rfl (Nat.zero_le _) (Nat.zero_le _) ?_
        exact aw_iret h hr dX0_room_51 (⟨by rw [roomA_j (S := S) (p := a) (j := 1) ha (by omega) (by decide)]; rfl, rfl, rfl, rfl⟩) (Nat.zero_le _) (Nat.zero_le _)
      · refine aw_tableIn h (off := 41) (tgt := 52) dX0_room_11 (by decide) (by decide) rfl (by decide) ?_
        refine aw_aload0 h dX0_room_52 ?_
        refine aw_iload1 h dX0_room_53 ?_
        refine aw_callVE1 h hl cl_X0_254 (met_x_outsideOf hX hV hA ha) (gx0 hX) rfl dX0_room_54 (Nat.le_of_ble_eq_true rfl) rfl (Nat.zero_le _) (Nat.zero_le _) ?_
        exact aw_iret h hr dX0_room_57 (⟨by rw [roomA_j (S := S) (p := a) (j := 2) ha (by omega) (by decide)]; rfl, rfl, rfl, rfl⟩) (Nat.zero_le _) (Nat.zero_le _)
  · refine aw_iconst h _ ci_m1 dX0_room_8 ?_
    exact aw_iret h hr dX0_room_9 (⟨by rw [show roomA S r what = -1 from ifno1 (by rw [hn.1]; exact c5)], rfl, rfl, rfl⟩) (Nat.zero_le _) (Nat.zero_le _)
theorem wn_b {w : Nat} (h : w ≤ 1) : nI w = bI (decide (w = 1)) := by
  rcases (by omega : w = 0 ∨ w = 1) with rfl | rfl <;> rfl
theorem met_x_doorX {w : Wd} {G : Gm} {I : Im} {L : Lm} (hX : XG G) {sl : Nat → Prop} {K : CS} {c : Nat} {S : Nat → Int32} {t : Nat} (hV : XV sl G I K c S t) (hA : StAt I 7 S) {p what : Int32} : AMet w yX0_door cX0_door 3 (some .int) 6 148 0 0 [.ref (w.1 + 0), .int p, .int what] G I L (Exact (some (.int (doorA S p what))) G I L) := by
  refine AMet.of (ls0 := [some (.ref (w.1 + 0)), some (.int p), some (.int what)]) rfl (Nat.le_of_ble_eq_true rfl) rfl (fun q hq => hq) (fun X h hl hr hi => ?_)
  obtain ⟨hC0, hS, hcs, ht, ht2, hdj⟩ := id hV
  have hC := hC0
  obtain ⟨hc0, ⟨pl, pa, dl, da, fa, ps, ds, hK, hsp⟩, hok, hsl⟩ := id hC
  obtain ⟨cp, hLp⟩ := hK.2.2.2.2.2.1
  obtain ⟨cd, hLd⟩ := hK.2.2.2.2.2.2.1
  have hpl := hK.2.2.2.2.2.2.2.1
  have hdl := hK.2.2.2.2.2.2.2.2.1
  have hdk := hK.2.2.2.2.2.2.2.2.2.2.1
  have hpk := hK.2.2.2.2.2.2.2.2.2.1
  have hrm := hK.2.2.2.2.2.2.2.2.2.2.2.1
  have hfr := hK.2.2.2.2.2.2.2.2.2.2.2.2.2
  have hR8 := hok.2.1
  have hD14 := hok.2.2.1
  have hP4 := hok.2.2.2.1
  have hdo := hok.2.2.2.2.1
  have hpo := hok.2.2.2.2.2.1
  have hf9 := hok.2.2.2.2.2.2.2
  have hn := cas_n hcs hok
  refine aw_aload0 h dX0_door_0 ?_
  refine aw_iload1 h dX0_door_1 ?_
  refine aw_callVE1 h hl cl_X0_257 (met_x_isDoor hX hC) (gx0 hX) rfl dX0_door_2 (Nat.le_of_ble_eq_true rfl) rfl (Nat.zero_le _) (Nat.zero_le _) ?_
  refine aw_if_neB h (tgt := 10) dX0_door_5 (by decide) (fun c5 => ?_) (fun c5 => ?_)
  · obtain ⟨a, hda, rfl⟩ := of_rng c5 (by omega)
    have hdl2 : a < ds.length := by omega
    have ha : a < nd S := by omega
    refine aw_iload2 h dX0_door_10 ?_
    cases hin : inI what 0 3 with
    | false =>
      refine aw_tableOut h (tgt := 98) dX0_door_11 (inI_no (by decide) hin) (by decide) ?_
      refine aw_iconst h _ ci_m1 dX0_door_98 ?_
      exact aw_iret h hr dX0_door_99 (⟨by rw [show doorA S (nI a) what = -1 from ifno2 hin], rfl, rfl, rfl⟩) (Nat.zero_le _) (Nat.zero_le _)
    | true =>
      obtain ⟨j, -, hj, rfl⟩ := inI_of hin (by decide) (by decide)
      have hj2 : j = 0 ∨ j = 1 ∨ j = 2 ∨ j = 3 := by omega
      rcases hj2 with rfl | rfl | rfl | rfl
      · refine aw_tableIn h (off := 29) (tgt := 40) dX0_door_11 (by decide) (by decide) rfl (by decide) ?_
        refine aw_aload0 h dX0_door_40 ?_
        refine aw_getr h fl_X0_12 (gx0 hX) dX0_door_41 rfl hc0 ?_
        refine aw_iload1 h dX0_door_44 ?_
        refine aw_callVE1 h hl cl_X0_179 (met_x_inner hK hok hda) hK.1 rfl dX0_door_45 (Nat.le_of_ble_eq_true rfl) rfl (Nat.zero_le _) (Nat.zero_le _) ?_
        exact aw_iret h hr dX0_door_48 (⟨by rw [doorA_j (S := S) (p := a) (j := 0) ha (by omega) (by decide)]; exact congrArg (fun z => some (Value.int z)) (cas_d hcs hok hda).2.2.1.symm, rfl, rfl, rfl⟩) (Nat.zero_le _) (Nat.zero_le _)
      · refine aw_tableIn h (off := 38) (tgt := 49) dX0_door_11 (by decide) (by decide) rfl (by decide) ?_
        refine aw_aload0 h dX0_door_49 ?_
        refine aw_getr h fl_X0_12 (gx0 hX) dX0_door_50 rfl hc0 ?_
        refine aw_iload1 h dX0_door_53 ?_
        refine aw_callVE1 h hl cl_X0_183 (met_x_outer hK hok hda) hK.1 rfl dX0_door_54 (Nat.le_of_ble_eq_true rfl) rfl (Nat.zero_le _) (Nat.zero_le _) ?_
        exact aw_iret h hr dX0_door_57 (⟨by rw [doorA_j (S := S) (p := a) (j := 1) ha (by omega) (by decide)]; exact congrArg (fun z => some (Value.int z)) (cas_d hcs hok hda).2.2.2.1.symm, rfl, rfl, rfl⟩) (Nat.zero_le _) (Nat.zero_le _)
      · refine aw_tableIn h (off := 47) (tgt := 58) dX0_door_11 (by decide) (by decide) rfl (by decide) ?_
        refine aw_aload0 h dX0_door_58 ?_
        refine aw_getr h fl_X0_12 (gx0 hX) dX0_door_59 rfl hc0 ?_
        refine aw_getr h fl_X0_133 hK.1 dX0_door_62 rfl hK.2.2.1 ?_
        refine aw_iload1 h dX0_door_65 ?_
        refine aw_callVE1 h hl cl_X0_223 (met_j_get hLd (i := a) hdl2) hLd.1 rfl dX0_door_66 (Nat.le_of_ble_eq_true rfl) rfl (Nat.zero_le _) (Nat.zero_le _) ?_
        refine aw_cast h (hdk a hdl2).1 (by decide) rfl q1027 (Or.inl rfl) dX0_door_69 ?_
        refine aw_getiV h fl_X0_262 (hdk a hdl2).1 dX0_door_72 rfl ((hdk a hdl2).2.2.2.trans (wn_b (by have := hdo a hda; omega))) ?_
        refine aw_callSE1 h hl cl_X0_266 (met_x_bit (b := decide ((gK (kD K) a).2.2 = 1))) dX0_door_75 (Nat.le_of_ble_eq_true rfl) rfl (Nat.zero_le _) (Nat.zero_le _) ?_
        exact aw_iret h hr dX0_door_78 (⟨by rw [doorA_j (S := S) (p := a) (j := 2) ha (by omega) (by decide)]; exact congrArg (fun z => some (Value.int z)) (((cas_d hcs hok hda).2.2.2.2.trans (wn_b (by have := hdo a hda; omega))).symm), rfl, rfl, rfl⟩) (Nat.zero_le _) (Nat.zero_le _)
      · refine aw_tableIn h (off := 68) (tgt := 79) dX0_door_11 (by decide) (by decide) rfl (by decide) ?_
        refine aw_aload0 h dX0_door_79 ?_
        refine aw_getr h fl_X0_12 (gx0 hX) dX0_door_80 rfl hc0 ?_
        refine aw_iload1 h dX0_door_83 ?_
        refine aw_aload0 h dX0_door_84 ?_
        refine aw_getr h fl_X0_19 (gx0 hX) dX0_door_85 rfl (gxp1 hX) ?_
        refine aw_getiV h fl_X0_195 (gxt7 hX).1 dX0_door_88 rfl (hA.1.trans ht) ?_
        refine aw_callVE2 h hl cl_X0_175 (met_x_isOpen hK hok hda ht2) hK.1 rfl dX0_door_91 (Nat.le_of_ble_eq_true rfl) rfl (Nat.zero_le _) (Nat.zero_le _) ?_
        refine aw_callSE1 h hl cl_X0_266 (met_x_bit) dX0_door_94 (Nat.le_of_ble_eq_true rfl) rfl (Nat.zero_le _) (Nat.zero_le _) ?_
        exact aw_iret h hr dX0_door_97 (⟨by rw [doorA_j (S := S) (p := a) (j := 3) ha (by omega) (by decide)]; exact congrArg (fun z => some (Value.int z)) (show bI (opK K t a) = doorN S a 3 by rw [← cas_op hcs hok ht ht2 hda]; rfl), rfl, rfl, rfl⟩) (Nat.zero_le _) (Nat.zero_le _)
  · refine aw_iconst h _ ci_m1 dX0_door_8 ?_
    exact aw_iret h hr dX0_door_9 (⟨by rw [show doorA S p what = -1 from ifno1 (by rw [hn.2.1]; exact c5)], rfl, rfl, rfl⟩) (Nat.zero_le _) (Nat.zero_le _)
theorem met_x_personX {w : Wd} {G : Gm} {I : Im} {L : Lm} (hX : XG G) {sl : Nat → Prop} {K : CS} {c : Nat} {S : Nat → Int32} {t : Nat} (hV : XV sl G I K c S t) (hA : StAt I 7 S) {p what : Int32} : AMet w yX0_person cX0_person 3 (some .int) 9 222 0 0 [.ref (w.1 + 0), .int p, .int what] G I L (Ans (some (.int (personA S p what))) (PX 26 G I L)) := by
  refine AMet.of (ls0 := [some (.ref (w.1 + 0)), some (.int p), some (.int what)]) rfl (Nat.le_of_ble_eq_true rfl) rfl (fun q hq => hq) (fun X h hl hr hi => ?_)
  obtain ⟨hC0, hS, hcs, ht, ht2, hdj⟩ := id hV
  have hC := hC0
  obtain ⟨hc0, ⟨pl, pa, dl, da, fa, ps, ds, hK, hsp⟩, hok, hsl⟩ := id hC
  obtain ⟨cp, hLp⟩ := hK.2.2.2.2.2.1
  obtain ⟨cd, hLd⟩ := hK.2.2.2.2.2.2.1
  have hpl := hK.2.2.2.2.2.2.2.1
  have hdl := hK.2.2.2.2.2.2.2.2.1
  have hdk := hK.2.2.2.2.2.2.2.2.2.2.1
  have hpk := hK.2.2.2.2.2.2.2.2.2.1
  have hrm := hK.2.2.2.2.2.2.2.2.2.2.2.1
  have hfr := hK.2.2.2.2.2.2.2.2.2.2.2.2.2
  have hR8 := hok.2.1
  have hD14 := hok.2.2.1
  have hP4 := hok.2.2.2.1
  have hdo := hok.2.2.2.2.1
  have hpo := hok.2.2.2.2.2.1
  have hf9 := hok.2.2.2.2.2.2.2
  have hn := cas_n hcs hok
  refine aw_aload0 h dX0_person_0 ?_
  refine aw_iload1 h dX0_person_1 ?_
  refine aw_callVE1 h hl cl_X0_216 (met_x_isPerson hX hC) (gx0 hX) rfl dX0_person_2 (Nat.le_of_ble_eq_true rfl) rfl (Nat.zero_le _) (Nat.zero_le _) ?_
  refine aw_if_neB h (tgt := 11) dX0_person_5 (by decide) (fun c5 => ?_) (fun c5 => ?_)
  · obtain ⟨a, hpa, rfl⟩ := of_rng c5 (by omega)
    have hpl2 : a < ps.length := by omega
    have ha : a < np S := by omega
    refine aw_iload2 h dX0_person_11 ?_
    cases hin : inI what 0 7 with
    | false =>
      refine aw_tableOut h (tgt := 157) dX0_person_12 (inI_no (by decide) hin) (by decide) ?_
      refine aw_bipush h _ cb_m2 dX0_person_157 ?_
      exact aw_iret h hr dX0_person_159 (⟨by rw [show personA S (nI a) what = -2 from ifno2 hin], PX.rf⟩) (Nat.zero_le _) (Nat.zero_le _)
    | true =>
      obtain ⟨j, -, hj, rfl⟩ := inI_of hin (by decide) (by decide)
      have hj2 : j = 0 ∨ j = 1 ∨ j = 2 ∨ j = 3 ∨ j = 4 ∨ j = 5 ∨ j = 6 ∨ j = 7 := by omega
      rcases hj2 with rfl | rfl | rfl | rfl | rfl | rfl | rfl | rfl
      · refine aw_tableIn h (off := 48) (tgt := 60) dX0_person_12 (by decide) (by decide) rfl (by decide) ?_
        refine aw_aload0 h dX0_person_60 ?_
        refine aw_getr h fl_X0_19 (gx0 hX) dX0_person_61 rfl (gxp1 hX) ?_
        refine aw_getr h fl_X0_202 (gxt7 hX).1 dX0_person_64 rfl ((gxt7 hX).2 0 (by decide)).1 ?_
        refine aw_iload1 h dX0_person_67 ?_
        refine aw_ialdV h ((gxt7 hX).2 0 (by decide)).2 (by decide) (by omega) dX0_person_68 ((hA.2.1 a ha).1) ?_
        exact aw_iret h hr dX0_person_69 (⟨by rw [personA_j (S := S) (p := a) (j := 0) ha (by omega) (by decide)]; exact congrArg (fun z => some (Value.int z)) rfl, PX.rf⟩) (Nat.zero_le _) (Nat.zero_le _)
      · refine aw_tableIn h (off := 58) (tgt := 70) dX0_person_12 (by decide) (by decide) rfl (by decide) ?_
        refine aw_aload0 h dX0_person_70 ?_
        refine aw_getr h fl_X0_19 (gx0 hX) dX0_person_71 rfl (gxp1 hX) ?_
        refine aw_getr h fl_X0_192 (gxt7 hX).1 dX0_person_74 rfl ((gxt7 hX).2 1 (by decide)).1 ?_
        refine aw_iload1 h dX0_person_77 ?_
        refine aw_ialdV h ((gxt7 hX).2 1 (by decide)).2 (by decide) (by omega) dX0_person_78 ((hA.2.1 a ha).2.1) ?_
        exact aw_iret h hr dX0_person_79 (⟨by rw [personA_j (S := S) (p := a) (j := 1) ha (by omega) (by decide)]; exact congrArg (fun z => some (Value.int z)) rfl, PX.rf⟩) (Nat.zero_le _) (Nat.zero_le _)
      · refine aw_tableIn h (off := 68) (tgt := 80) dX0_person_12 (by decide) (by decide) rfl (by decide) ?_
        refine aw_aload0 h dX0_person_80 ?_
        refine aw_getr h fl_X0_12 (gx0 hX) dX0_person_81 rfl hc0 ?_
        refine aw_getr h fl_X0_220 hK.1 dX0_person_84 rfl hK.2.1 ?_
        refine aw_iload1 h dX0_person_87 ?_
        refine aw_callVE1 h hl cl_X0_223 (met_j_get hLp (i := a) hpl2) hLp.1 rfl dX0_person_88 (Nat.le_of_ble_eq_true rfl) rfl (Nat.zero_le _) (Nat.zero_le _) ?_
        refine aw_cast h (hpk a hpl2).1 (by decide) rfl q962 (Or.inl rfl) dX0_person_91 ?_
        refine aw_getiV h fl_X0_229 (hpk a hpl2).1 dX0_person_94 rfl ((hpk a hpl2).2.2.2.trans (hcs.2.2.2.2.2 a (by omega)).symm) ?_
        exact aw_iret h hr dX0_person_97 (⟨by rw [personA_j (S := S) (p := a) (j := 2) ha (by omega) (by decide)]; exact congrArg (fun z => some (Value.int z)) rfl, PX.rf⟩) (Nat.zero_le _) (Nat.zero_le _)
      · refine aw_tableIn h (off := 86) (tgt := 98) dX0_person_12 (by decide) (by decide) rfl (by decide) ?_
        refine aw_aload0 h dX0_person_98 ?_
        refine aw_aload0 h dX0_person_99 ?_
        refine aw_getr h fl_X0_19 (gx0 hX) dX0_person_100 rfl (gxp1 hX) ?_
        refine aw_iload1 h dX0_person_103 ?_
        refine aw_aload0 h dX0_person_104 ?_
        refine aw_getr h fl_X0_19 (gx0 hX) dX0_person_105 rfl (gxp1 hX) ?_
        refine aw_getr h fl_X0_202 (gxt7 hX).1 dX0_person_108 rfl ((gxt7 hX).2 0 (by decide)).1 ?_
        refine aw_iload1 h dX0_person_111 ?_
        refine aw_ialdV h ((gxt7 hX).2 0 (by decide)).2 (by decide) (by omega) dX0_person_112 ((hA.2.1 a ha).1.trans (ivp hS ha).1) ?_
        refine aw_callVA3 h hl cl_X0_205 (met_x_leftFrom hX hV (gxt7 hX) hA (Or.inl rfl) ha (ivp hS ha).2.1) (gx0 hX) rfl dX0_person_113 (Nat.le_of_ble_eq_true rfl) rfl (Nat.zero_le _) (Nat.zero_le _) (fun G1 I1 L1 hp9 => ?_)
        obtain ⟨rfl, rfl, f, rfl, hf⟩ := hp9
        exact aw_iret h hr dX0_person_116 (⟨by rw [personA_j (S := S) (p := a) (j := 3) ha (by omega) (by decide)]; exact congrArg (fun z => some (Value.int z)) rfl, ⟨rfl, rfl, f, rfl⟩⟩) (Nat.zero_le _) (Nat.zero_le _)
      · refine aw_tableIn h (off := 105) (tgt := 117) dX0_person_12 (by decide) (by decide) rfl (by decide) ?_
        refine aw_aload0 h dX0_person_117 ?_
        refine aw_aload0 h dX0_person_118 ?_
        refine aw_getr h fl_X0_19 (gx0 hX) dX0_person_119 rfl (gxp1 hX) ?_
        refine aw_iload1 h dX0_person_122 ?_
        refine aw_callVA2 h hl cl_X0_232 (met_x_stepOf hX hV (gxt7 hX) hA (Or.inl rfl) ha) (gx0 hX) rfl dX0_person_123 (Nat.le_of_ble_eq_true rfl) rfl (Nat.zero_le _) (Nat.zero_le _) (fun G1 I1 L1 hp9 => ?_)
        obtain ⟨rfl, rfl, f, rfl, hf⟩ := hp9
        exact aw_iret h hr dX0_person_126 (⟨by rw [personA_j (S := S) (p := a) (j := 4) ha (by omega) (by decide)]; exact congrArg (fun z => some (Value.int z)) rfl, ⟨rfl, rfl, f, rfl⟩⟩) (Nat.zero_le _) (Nat.zero_le _)
      · refine aw_tableIn h (off := 115) (tgt := 127) dX0_person_12 (by decide) (by decide) rfl (by decide) ?_
        refine aw_aload0 h dX0_person_127 ?_
        refine aw_getr h fl_X0_19 (gx0 hX) dX0_person_128 rfl (gxp1 hX) ?_
        refine aw_getr h fl_X0_236 (gxt7 hX).1 dX0_person_131 rfl ((gxt7 hX).2 2 (by decide)).1 ?_
        refine aw_iload1 h dX0_person_134 ?_
        refine aw_ialdV h ((gxt7 hX).2 2 (by decide)).2 (by decide) (by omega) dX0_person_135 ((hA.2.1 a ha).2.2.1) ?_
        exact aw_iret h hr dX0_person_136 (⟨by rw [personA_j (S := S) (p := a) (j := 5) ha (by omega) (by decide)]; exact congrArg (fun z => some (Value.int z)) rfl, PX.rf⟩) (Nat.zero_le _) (Nat.zero_le _)
      · refine aw_tableIn h (off := 125) (tgt := 137) dX0_person_12 (by decide) (by decide) rfl (by decide) ?_
        refine aw_aload0 h dX0_person_137 ?_
        refine aw_getr h fl_X0_19 (gx0 hX) dX0_person_138 rfl (gxp1 hX) ?_
        refine aw_getr h fl_X0_239 (gxt7 hX).1 dX0_person_141 rfl ((gxt7 hX).2 3 (by decide)).1 ?_
        refine aw_iload1 h dX0_person_144 ?_
        refine aw_ialdV h ((gxt7 hX).2 3 (by decide)).2 (by decide) (by omega) dX0_person_145 ((hA.2.1 a ha).2.2.2.1) ?_
        exact aw_iret h hr dX0_person_146 (⟨by rw [personA_j (S := S) (p := a) (j := 6) ha (by omega) (by decide)]; exact congrArg (fun z => some (Value.int z)) rfl, PX.rf⟩) (Nat.zero_le _) (Nat.zero_le _)
      · refine aw_tableIn h (off := 135) (tgt := 147) dX0_person_12 (by decide) (by decide) rfl (by decide) ?_
        refine aw_aload0 h dX0_person_147 ?_
        refine aw_getr h fl_X0_19 (gx0 hX) dX0_person_148 rfl (gxp1 hX) ?_
        refine aw_getr h fl_X0_242 (gxt7 hX).1 dX0_person_151 rfl ((gxt7 hX).2 4 (by decide)).1 ?_
        refine aw_iload1 h dX0_person_154 ?_
        refine aw_ialdV h ((gxt7 hX).2 4 (by decide)).2 (by decide) (by omega) dX0_person_155 ((hA.2.1 a ha).2.2.2.2) ?_
        exact aw_iret h hr dX0_person_156 (⟨by rw [personA_j (S := S) (p := a) (j := 7) ha (by omega) (by decide)]; exact congrArg (fun z => some (Value.int z)) rfl, PX.rf⟩) (Nat.zero_le _) (Nat.zero_le _)
  · refine aw_bipush h _ cb_m2 dX0_person_8 ?_
    exact aw_iret h hr dX0_person_10 (⟨by rw [show personA S p what = -2 from ifno1 (by rw [hn.2.2]; exact c5)], PX.rf⟩) (Nat.zero_le _) (Nat.zero_le _)
