/-! The reference's answers ruled, look -/
set_option maxRecDepth 100000
def FLs (S : Nat → Int32) (RL : List (List Cl)) (k : Nat) : List Nat := (List.range' k (RL.length + 1 - k)).filter (fun j => fitB S RL j 61)
theorem FLs_end {S : Nat → Int32} {RL : List (List Cl)} : FLs S RL (RL.length + 1) = [] := by unfold FLs; rw [Nat.sub_self]; rfl
theorem FLs_no {S : Nat → Int32} {RL : List (List Cl)} {k : Nat} (h : k ≤ RL.length) (hs : fitB S RL k 61 = false) : FLs S RL k = FLs S RL (k + 1) := by
  unfold FLs
  rw [show RL.length + 1 - k = (RL.length + 1 - (k + 1)) + 1 by omega, List.range'_succ, List.filter_cons_of_neg (by rw [hs]; exact Bool.false_ne_true)]
theorem FLs_yes {S : Nat → Int32} {RL : List (List Cl)} {k : Nat} (h : k ≤ RL.length) (hs : fitB S RL k 61 = true) : FLs S RL k = k :: FLs S RL (k + 1) := by
  unfold FLs
  rw [show RL.length + 1 - k = (RL.length + 1 - (k + 1)) + 1 by omega, List.range'_succ, List.filter_cons_of_pos (p := fun j => fitB S RL j 61) hs]
def hdR : List Nat → Int32
  | [] => -2
  | k :: _ => nI k - nI 1
def ruledA (S : Nat → Int32) (RL : List (List Cl)) (what : Int32) : Int32 := if (decide (0 < nr S) && inI what 0 1) = true then (if what = 0 then nI (FLs S RL 0).length else hdR (FLs S RL 0)) else -3
def alB (S : Nat → Int32) (RL : List (List Cl)) (mo p r : Nat) (k : Nat) : Bool := fitB S RL k 61 && decide (pv (TJ S RL k mo) p 0 = nI r)
def mxN (f : Nat → Nat) : Nat → Nat
  | 0 => 0
  | n + 1 => if f n ≤ mxN f n then mxN f n else f n
def alN (S : Nat → Int32) (RL : List (List Cl)) (mo p : Nat) : Nat := mxN (fun r => cntB (alB S RL mo p r) (RL.length + 1)) (nr S)
theorem cntB_le2 (f : Nat → Bool) (n : Nat) : cntB f n ≤ n := by
  induction n with
  | zero => exact Nat.le_refl _
  | succ n ih => rw [cntB_s]; split <;> omega
theorem mxN_le {f : Nat → Nat} {b : Nat} (h : ∀ k, f k ≤ b) : ∀ n, mxN f n ≤ b := by
  intro n
  induction n with
  | zero => exact Nat.zero_le _
  | succ n ih => rw [mxN]; split; exact ih; exact h n
theorem GD.mc {S : Nat → Int32} {RL : List (List Cl)} {mo k : Nat} {I I1 : Im} (h : GD S RL mo k I) (h1 : I1 180 = I 180) (h2 : I1 181 = I 181) : GD S RL mo k I1 := by
  intro k2 hk2
  rw [h1, h2]; exact h k2 hk2
theorem met_m_ruled {w : Wd} {G : Gm} {I : Im} {L : Lm} (hG : GM G) {S : Nat → Int32} (hE : I 171 = S) (hS : InvS S) (hT : InvT S) (hN : InvN S) {RL : List (List Cl)} (hRL : RulesAt I RL) {wh : Int32} : AMet w yX4_ruled cX4_ruled 5 (some .int) 12 295 0 0 [.ref (w.1 + 161), .int wh] G I L (Ans (some (.int (ruledA S RL wh))) (PQ G I L)) := by
  refine AMet.of (ls0 := [some (.ref (w.1 + 161)), some (.int wh), none, none, none]) rfl (Nat.le_of_ble_eq_true rfl) rfl (fun q hq => hq) (fun X h hl hr hi => ?_)
  refine aw_aload0 h dX4_ruled_0 ?_
  refine aw_callVE0 h hl cl_X4_389 (met_m_isCastle hG hE hS) (gmt hG) rfl dX4_ruled_1 (Nat.le_of_ble_eq_true rfl) rfl (Nat.zero_le _) (Nat.zero_le _) ?_
  refine aw_if_eqB h (tgt := 17) dX4_ruled_4 (by decide) (fun c4 => ?_) (fun c4 => ?_)
  · refine aw_bipush h _ cb_m3 dX4_ruled_17 ?_
    exact aw_iret h hr dX4_ruled_19 (⟨by unfold ruledA; rw [c4]; rfl, rfl, MC.rf⟩) (Nat.zero_le _) (Nat.zero_le _)
  · refine aw_iload1 h dX4_ruled_7 ?_
    refine aw_i2l h dX4_ruled_8 ?_
    refine aw_lconst h _ cl_0 dX4_ruled_9 ?_
    refine aw_lconst h _ cl_1 dX4_ruled_10 ?_
    refine aw_callSE3 h hl cl_X4_128 (met_m_in) dX4_ruled_11 (Nat.le_of_ble_eq_true rfl) rfl (Nat.zero_le _) (Nat.zero_le _) ?_
    refine aw_if_neB h (tgt := 20) dX4_ruled_14 (by decide) (fun c14 => ?_) (fun c14 => ?_)
    · have h0 : 0 < nr S := by simpa using c4
      have hin : inI wh 0 1 = true := (inL_I (by omega) (by omega)).symm.trans c14
      have hans : ruledA S RL wh = if wh = 0 then nI (FLs S RL 0).length else hdR (FLs S RL 0) := by unfold ruledA; rw [c4, hin]; rfl
      have hlen := hRL.2.1
      refine aw_iconst h _ ci_0 dX4_ruled_20 ?_
      refine aw_istore2 h rfl dX4_ruled_21 ?_
      refine aw_bipush h _ cb_m2 dX4_ruled_22 ?_
      refine aw_istore3 h rfl dX4_ruled_24 ?_
      refine aw_aload0 h dX4_ruled_25 ?_
      refine aw_iconst h _ ci_0 dX4_ruled_26 ?_
      refine aw_callVN1 h hl cl_X4_472 (met_m_gathersRules hG hE hS hT hN hRL (Nat.zero_le _)) (gmt hG) rfl dX4_ruled_27 (Nat.le_of_ble_eq_true rfl) rfl (Nat.zero_le _) (Nat.zero_le _) (fun G1 I1 L1 hp => ?_)
      obtain ⟨rfl, hM1, hD1⟩ := hp
      have hR1 : RulesAt I1 RL := RulesAt.mc hM1 (by decide) (by decide) (by decide) (by decide) hRL
      have key : ∀ kk : Nat, kk ≤ RL.length + 1 → AW X 0 0 36 [some (.ref (w.1 + 161)), some (.int (wh)), some (.int (nI (FLs S RL kk).length)), some (.int (hdR (FLs S RL kk))), some (.int (qI kk))] [] G I1 L1 := by
        intro kk
        induction kk with
        | zero =>
          intro hk
          refine aw_iload4 h dX4_ruled_36 ?_
          refine aw_if_lt h (tgt := 68) dX4_ruled_38 (by decide) (fun c38 => ?_) (fun c38 => ?_)
          · refine aw_iload1 h dX4_ruled_68 ?_
            refine aw_if_ne h (tgt := 76) dX4_ruled_69 (by decide) (fun c69 => ?_) (fun c69 => ?_)
            · refine aw_iload3 h dX4_ruled_76 ?_
              exact aw_iret h hr dX4_ruled_77 (⟨by rw [hans, if_neg c69], rfl, hM1⟩) (Nat.zero_le _) (Nat.zero_le _)
            · refine aw_iload2 h dX4_ruled_72 ?_
              refine aw_goto h (tgt := 77) dX4_ruled_73 (by decide) ?_
              exact aw_iret h hr dX4_ruled_77 (⟨by rw [hans, if_pos c69], rfl, hM1⟩) (Nat.zero_le _) (Nat.zero_le _)
          · exact absurd (show (-1 : Int32) < 0 by decide) c38
        | succ k ih =>
          intro hk
          rw [← qI_s k]
          refine aw_iload4 h dX4_ruled_36 ?_
          refine aw_if_ltN h (tgt := 68) (by omega) dX4_ruled_38 (by decide) (fun c38 => ?_) (fun c38 => ?_)
          · exact absurd c38 (by omega)
          · refine aw_aload0 h dX4_ruled_41 ?_
            refine aw_getr h fl_X4_72 (gmt hG) dX4_ruled_42 rfl (gmp37 hG) ?_
            refine aw_iload4 h dX4_ruled_45 ?_
            refine aw_zaldN h (gms180 hG) (by decide) (by omega) dX4_ruled_47 ?_
            rw [(hD1 k (by omega)).1]
            refine aw_if_neB h (tgt := 54) dX4_ruled_48 (by decide) (fun c48 => ?_) (fun c48 => ?_)
            · refine aw_iincN2 h rfl dX4_ruled_54 ?_
              refine aw_iload4 h dX4_ruled_57 ?_
              refine aw_iconst h _ ci_1 dX4_ruled_59 ?_
              refine aw_isub h dX4_ruled_60 ?_
              refine aw_istore3 h rfl dX4_ruled_61 ?_
              refine aw_iinc4 h rfl rfl dX4_ruled_62 ?_
              refine aw_goto h (tgt := 36) dX4_ruled_65 (by decide) ?_
              rw [qI_dec]
              have h9 := ih (by omega)
              rw [FLs_yes (by omega) c48] at h9
              exact h9
            · refine aw_goto h (tgt := 62) dX4_ruled_51 (by decide) ?_
              refine aw_iinc4 h rfl rfl dX4_ruled_62 ?_
              refine aw_goto h (tgt := 36) dX4_ruled_65 (by decide) ?_
              rw [qI_dec]
              have h9 := ih (by omega)
              rw [FLs_no (by omega) c48] at h9
              exact h9
      refine aw_aload0 h dX4_ruled_30 ?_
      refine aw_getiV h fl_X4_270 (gmt hG) dX4_ruled_31 rfl (hR1.1) ?_
      refine aw_istore4 h rfl dX4_ruled_34 ?_
      have h9 := key (RL.length + 1) (Nat.le_refl _)
      rw [FLs_end, ← qI_s] at h9
      exact h9
    · refine aw_bipush h _ cb_m3 dX4_ruled_17 ?_
      exact aw_iret h hr dX4_ruled_19 (⟨by unfold ruledA; rw [show inI wh 0 1 = false from (inL_I (by omega) (by omega)).symm.trans c14, Bool.and_false]; rfl, rfl, MC.rf⟩) (Nat.zero_le _) (Nat.zero_le _)
theorem met_m_alikeOf {w : Wd} {G : Gm} {I : Im} {L : Lm} (hG : GM G) {S : Nat → Int32} (hE : I 171 = S) (hS : InvS S) {RL : List (List Cl)} (hRL : RulesAt I RL) {mo p : Nat} (hD : GD S RL mo (RL.length + 1) I) (hp : p < np S) : AMet w yX4_alikeOf cX4_alikeOf 6 (some .int) 1 40 0 0 [.ref (w.1 + 161), .int (nI p)] G I L (Exact (some (.int (nI (alN S RL mo p)))) G I L) := by
  refine AMet.of (ls0 := [some (.ref (w.1 + 161)), some (.int (nI p)), none, none, none, none]) rfl (Nat.le_of_ble_eq_true rfl) rfl (fun q hq => hq) (fun X h hl hr hi => ?_)
  have b0 := iv0b hS
  have b2 := iv2b hS
  have hlen := hRL.2.1
  have keyr : ∀ (fr r : Nat), r ≤ nr S → nr S < r + fr → ∀ o4 o5 : Option Value, AW X 0 0 4 [some (.ref (w.1 + 161)), some (.int (nI p)), some (.int (nI (mxN (fun r => cntB (alB S RL mo p r) (RL.length + 1)) r))), some (.int (nI r)), o4, o5] [] G I L := by
    intro fr
    induction fr with
    | zero => intro r hle hlt; exact absurd hlt (by omega)
    | succ fr ihr =>
      intro r hle hlt
      intro o4 o5
      refine aw_iload3 h dX4_alikeOf_4 ?_
      refine aw_aload0 h dX4_alikeOf_5 ?_
      refine aw_getr h fl_X4_39 (gmt hG) dX4_alikeOf_6 rfl (gmp20 hG) ?_
      refine aw_iconst h _ ci_0 dX4_alikeOf_9 ?_
      refine aw_ialdV h (gms171 hG) (by decide) (by omega) dX4_alikeOf_10 (iv0e hE hS) ?_
      refine aw_icmp_geN h (tgt := 89) (by omega) (by omega) dX4_alikeOf_11 (by decide) (fun c11 => ?_) (fun c11 => ?_)
      · refine aw_iload2 h dX4_alikeOf_89 ?_
        exact aw_iret h hr dX4_alikeOf_90 (by rw [show r = nr S by omega]; exact ⟨rfl, rfl, rfl, rfl⟩) (Nat.zero_le _) (Nat.zero_le _)
      · have keyk : ∀ (fk k : Nat), k ≤ RL.length + 1 → RL.length + 1 < k + fk → AW X 0 0 20 [some (.ref (w.1 + 161)), some (.int (nI p)), some (.int (nI (mxN (fun r => cntB (alB S RL mo p r) (RL.length + 1)) r))), some (.int (nI r)), some (.int (nI (cntB (alB S RL mo p r) k))), some (.int (nI k))] [] G I L := by
          intro fk
          induction fk with
          | zero => intro k hle2 hlt2; exact absurd hlt2 (by omega)
          | succ fk ihk =>
            intro k hle2 hlt2
            have hcn := cntB_le2 (alB S RL mo p r) k
            have hmx := mxN_le (f := fun r => cntB (alB S RL mo p r) (RL.length + 1)) (b := RL.length + 1) (fun r => cntB_le2 _ _) r
            refine aw_iload5 h dX4_alikeOf_20 ?_
            refine aw_aload0 h dX4_alikeOf_22 ?_
            refine aw_getiV h fl_X4_270 (gmt hG) dX4_alikeOf_23 rfl (hRL.1) ?_
            refine aw_icmp_gtN h (tgt := 70) (by omega) (by omega) dX4_alikeOf_26 (by decide) (fun c26 => ?_) (fun c26 => ?_)
            · obtain rfl : k = RL.length + 1 := by omega
              refine aw_iload4 h dX4_alikeOf_70 ?_
              refine aw_iload2 h dX4_alikeOf_72 ?_
              refine aw_icmp_leN h (tgt := 81) (by omega) (by omega) dX4_alikeOf_73 (by decide) (fun c73 => ?_) (fun c73 => ?_)
              · refine aw_iload2 h dX4_alikeOf_81 ?_
                refine aw_istore2 h rfl dX4_alikeOf_82 ?_
                refine aw_iincN3 h rfl dX4_alikeOf_83 ?_
                refine aw_goto h (tgt := 4) dX4_alikeOf_86 (by decide) ?_
                have h9 := ihr (r + 1) (by omega) (by omega) (some (.int (nI (cntB (alB S RL mo p r) (RL.length + 1)))) ) (some (.int (nI (RL.length + 1))))
                rw [mxN, if_pos c73] at h9
                exact h9
              · refine aw_iload4 h dX4_alikeOf_76 ?_
                refine aw_goto h (tgt := 82) dX4_alikeOf_78 (by decide) ?_
                refine aw_istore2 h rfl dX4_alikeOf_82 ?_
                refine aw_iincN3 h rfl dX4_alikeOf_83 ?_
                refine aw_goto h (tgt := 4) dX4_alikeOf_86 (by decide) ?_
                have h9 := ihr (r + 1) (by omega) (by omega) (some (.int (nI (cntB (alB S RL mo p r) (RL.length + 1)))) ) (some (.int (nI (RL.length + 1))))
                rw [mxN, if_neg c73] at h9
                exact h9
            · refine aw_iload4 h dX4_alikeOf_29 ?_
              refine aw_aload0 h dX4_alikeOf_31 ?_
              refine aw_getr h fl_X4_72 (gmt hG) dX4_alikeOf_32 rfl (gmp37 hG) ?_
              refine aw_iload5 h dX4_alikeOf_35 ?_
              refine aw_zaldN h (gms180 hG) (by decide) (by omega) dX4_alikeOf_37 ?_
              rw [(hD k (by omega)).1]
              refine aw_if_eqB h (tgt := 60) dX4_alikeOf_38 (by decide) (fun c38 => ?_) (fun c38 => ?_)
              · refine aw_iconst h _ ci_0 dX4_alikeOf_60 ?_
                refine aw_iaddN h dX4_alikeOf_61 ?_
                refine aw_istore4 h rfl dX4_alikeOf_62 ?_
                refine aw_iincN5 h rfl dX4_alikeOf_64 ?_
                refine aw_goto h (tgt := 20) dX4_alikeOf_67 (by decide) ?_
                have h9 := ihk (k + 1) (by omega) (by omega)
                rw [cntB_s, if_neg (by unfold alB; rw [c38]; exact Bool.false_ne_true)] at h9
                exact h9
              · refine aw_aload0 h dX4_alikeOf_41 ?_
                refine aw_getr h fl_X4_75 (gmt hG) dX4_alikeOf_42 rfl (gmp38 hG) ?_
                refine aw_iconst h _ ci_4 dX4_alikeOf_45 ?_
                refine aw_iload5 h dX4_alikeOf_46 ?_
                refine aw_imulN h dX4_alikeOf_48 ?_
                refine aw_iload1 h dX4_alikeOf_49 ?_
                refine aw_iaddN h dX4_alikeOf_50 ?_
                refine aw_ialdV h (gms181 hG) (by decide) (by omega) dX4_alikeOf_51 ((hD k (by omega)).2 p hp) ?_
                refine aw_iload3 h dX4_alikeOf_52 ?_
                refine aw_icmp_ne h (tgt := 60) dX4_alikeOf_53 (by decide) (fun c53 => ?_) (fun c53 => ?_)
                · refine aw_iconst h _ ci_0 dX4_alikeOf_60 ?_
                  refine aw_iaddN h dX4_alikeOf_61 ?_
                  refine aw_istore4 h rfl dX4_alikeOf_62 ?_
                  refine aw_iincN5 h rfl dX4_alikeOf_64 ?_
                  refine aw_goto h (tgt := 20) dX4_alikeOf_67 (by decide) ?_
                  have h9 := ihk (k + 1) (by omega) (by omega)
                  rw [cntB_s, if_neg (by unfold alB; rw [decide_eq_false c53, Bool.and_false]; exact Bool.false_ne_true)] at h9
                  exact h9
                · refine aw_iconst h _ ci_1 dX4_alikeOf_56 ?_
                  refine aw_goto h (tgt := 61) dX4_alikeOf_57 (by decide) ?_
                  refine aw_iaddN h dX4_alikeOf_61 ?_
                  refine aw_istore4 h rfl dX4_alikeOf_62 ?_
                  refine aw_iincN5 h rfl dX4_alikeOf_64 ?_
                  refine aw_goto h (tgt := 20) dX4_alikeOf_67 (by decide) ?_
                  have h9 := ihk (k + 1) (by omega) (by omega)
                  rw [cntB_s, if_pos (by unfold alB; rw [c38, decide_eq_true c53]; rfl)] at h9
                  exact h9
        refine aw_iconst h _ ci_0 dX4_alikeOf_14 ?_
        refine aw_istore4 h rfl dX4_alikeOf_15 ?_
        refine aw_iconst h _ ci_0 dX4_alikeOf_17 ?_
        refine aw_istore5 h rfl dX4_alikeOf_18 ?_
        exact keyk (RL.length + 2) 0 (Nat.zero_le _) (by omega)
  refine aw_iconst h _ ci_0 dX4_alikeOf_0 ?_
  refine aw_istore2 h rfl dX4_alikeOf_1 ?_
  refine aw_iconst h _ ci_0 dX4_alikeOf_2 ?_
  refine aw_istore3 h rfl dX4_alikeOf_3 ?_
  exact keyr (nr S + 1) 0 (Nat.zero_le _) (by omega) _ _
def lkD (S : Nat → Int32) (RL : List (List Cl)) (mo p : Nat) : Int32 := if alN S RL mo p = 0 then -1 else nI (alN S RL mo p)
def lookA (S : Nat → Int32) (RL : List (List Cl)) (n what : Int32) : Int32 := if (decide (0 < nr S) && (inI n 0 60 && inI what 0 1)) = true then (let x := pgF (lkD S RL n.toNatClampNeg) (np S); if what = 0 then x.1 else x.2) else -1
theorem alN_le (S : Nat → Int32) (RL : List (List Cl)) (mo p : Nat) : alN S RL mo p ≤ RL.length + 1 := mxN_le (fun r => cntB_le2 _ _) _
theorem met_m_look {w : Wd} {G : Gm} {I : Im} {L : Lm} (hG : GM G) {S : Nat → Int32} (hE : I 171 = S) (hS : InvS S) (hT : InvT S) (hN : InvN S) {RL : List (List Cl)} (hRL : RulesAt I RL) {n wh : Int32} : AMet w yX4_look cX4_look 7 (some .int) 12 295 0 0 [.ref (w.1 + 161), .int n, .int wh] G I L (Ans (some (.int (lookA S RL n wh))) (PQ G I L)) := by
  refine AMet.of (ls0 := [some (.ref (w.1 + 161)), some (.int n), some (.int wh), none, none, none, none]) rfl (Nat.le_of_ble_eq_true rfl) rfl (fun q hq => hq) (fun X h hl hr hi => ?_)
  refine aw_aload0 h dX4_look_0 ?_
  refine aw_callVE0 h hl cl_X4_389 (met_m_isCastle hG hE hS) (gmt hG) rfl dX4_look_1 (Nat.le_of_ble_eq_true rfl) rfl (Nat.zero_le _) (Nat.zero_le _) ?_
  refine aw_if_eqB h (tgt := 29) dX4_look_4 (by decide) (fun c4 => ?_) (fun c4 => ?_)
  · refine aw_iconst h _ ci_m1 dX4_look_29 ?_
    exact aw_iret h hr dX4_look_30 (⟨by unfold lookA; rw [show (decide (0 < nr S) && (inI n 0 60 && inI wh 0 1)) = false from (by rw [c4]; rfl)]; rfl, rfl, MC.rf⟩) (Nat.zero_le _) (Nat.zero_le _)
  · refine aw_iload1 h dX4_look_7 ?_
    refine aw_i2l h dX4_look_8 ?_
    refine aw_lconst h _ cl_0 dX4_look_9 ?_
    refine aw_ldc2 h (v := lN 60) q1939 dX4_look_10 ?_
    refine aw_callSE3 h hl cl_X4_128 (met_m_in) dX4_look_13 (Nat.le_of_ble_eq_true rfl) rfl (Nat.zero_le _) (Nat.zero_le _) ?_
    refine aw_if_eqB h (tgt := 29) dX4_look_16 (by decide) (fun c16 => ?_) (fun c16 => ?_)
    · refine aw_iconst h _ ci_m1 dX4_look_29 ?_
      exact aw_iret h hr dX4_look_30 (⟨by unfold lookA; rw [show (decide (0 < nr S) && (inI n 0 60 && inI wh 0 1)) = false from (by rw [show inI n 0 60 = false from (inL_I (by omega) (by omega)).symm.trans c16, Bool.false_and, Bool.and_false])]; rfl, rfl, MC.rf⟩) (Nat.zero_le _) (Nat.zero_le _)
    · refine aw_iload2 h dX4_look_19 ?_
      refine aw_i2l h dX4_look_20 ?_
      refine aw_lconst h _ cl_0 dX4_look_21 ?_
      refine aw_lconst h _ cl_1 dX4_look_22 ?_
      refine aw_callSE3 h hl cl_X4_128 (met_m_in) dX4_look_23 (Nat.le_of_ble_eq_true rfl) rfl (Nat.zero_le _) (Nat.zero_le _) ?_
      refine aw_if_neB h (tgt := 31) dX4_look_26 (by decide) (fun c26 => ?_) (fun c26 => ?_)
      · have h0 : 0 < nr S := by simpa using c4
        have hi1 : inI n 0 60 = true := (inL_I (by omega) (by omega)).symm.trans c16
        have hi2 : inI wh 0 1 = true := (inL_I (by omega) (by omega)).symm.trans c26
        obtain ⟨mo, hm0, hm1, rfl⟩ := inI_of hi1 (by decide) (by decide)
        have hans : lookA S RL (nI mo) wh = if wh = 0 then (pgF (lkD S RL mo) (np S)).1 else (pgF (lkD S RL mo) (np S)).2 := by unfold lookA; rw [c4, hi1, hi2, nI_clamp (by omega)]; rfl
        have hlen := hRL.2.1
        have b2 := iv2b hS
        refine aw_aload0 h dX4_look_31 ?_
        refine aw_iload1 h dX4_look_32 ?_
        refine aw_callVN1 h hl cl_X4_472 (met_m_gathersRules hG hE hS hT hN hRL hm1) (gmt hG) rfl dX4_look_33 (Nat.le_of_ble_eq_true rfl) rfl (Nat.zero_le _) (Nat.zero_le _) (fun G1 I1 L1 hp => ?_)
        obtain ⟨rfl, hM1, hD1⟩ := hp
        refine aw_bipush h _ cb_m2 dX4_look_36 ?_
        refine aw_istore3 h rfl dX4_look_38 ?_
        refine aw_bipush h _ cb_m2 dX4_look_39 ?_
        refine aw_istore4 h rfl dX4_look_41 ?_
        refine aw_iconst h _ ci_0 dX4_look_43 ?_
        refine aw_istore5 h rfl dX4_look_44 ?_
        have hR1 : RulesAt I1 RL := RulesAt.mc hM1 (by decide) (by decide) (by decide) (by decide) hRL
        have hE1 : I1 171 = S := (hM1.1 171 (by decide) (by decide)).trans hE
        have key : ∀ (fu p : Nat), p ≤ np S → np S < p + fu → ∀ o6 : Option Value, AW X 0 0 46 [some (.ref (w.1 + 161)), some (.int (nI mo)), some (.int (wh)), some (.int ((pgF (lkD S RL mo) p).1)), some (.int ((pgF (lkD S RL mo) p).2)), some (.int (nI p)), o6] [] G I1 L1 := by
          intro fu
          induction fu with
          | zero => intro p hle hlt; exact absurd hlt (by omega)
          | succ fu ih =>
            intro p hle hlt
            intro o6
            have hal := alN_le S RL mo p
            refine aw_iload5 h dX4_look_46 ?_
            refine aw_aload0 h dX4_look_48 ?_
            refine aw_getr h fl_X4_39 (gmt hG) dX4_look_49 rfl (gmp20 hG) ?_
            refine aw_iconst h _ ci_2 dX4_look_52 ?_
            refine aw_ialdV h (gms171 hG) (by decide) (by omega) dX4_look_53 (iv2e hE1 hS) ?_
            refine aw_icmp_geN h (tgt := 97) (by omega) (by omega) dX4_look_54 (by decide) (fun c54 => ?_) (fun c54 => ?_)
            · refine aw_iload2 h dX4_look_97 ?_
              refine aw_if_ne h (tgt := 105) dX4_look_98 (by decide) (fun c98 => ?_) (fun c98 => ?_)
              · refine aw_iload4 h dX4_look_105 ?_
                exact aw_iret h hr dX4_look_107 (⟨by rw [show p = np S by omega]; exact congrArg (fun z => some (Value.int z)) (hans.trans (if_neg c98)).symm, rfl, hM1⟩) (Nat.zero_le _) (Nat.zero_le _)
              · refine aw_iload3 h dX4_look_101 ?_
                refine aw_goto h (tgt := 107) dX4_look_102 (by decide) ?_
                exact aw_iret h hr dX4_look_107 (⟨by rw [show p = np S by omega]; exact congrArg (fun z => some (Value.int z)) (hans.trans (if_pos c98)).symm, rfl, hM1⟩) (Nat.zero_le _) (Nat.zero_le _)
            · refine aw_aload0 h dX4_look_57 ?_
              refine aw_iload5 h dX4_look_58 ?_
              refine aw_callVE1 h hl cl_X4_475 (met_m_alikeOf hG hE1 hS hR1 hD1 (by omega)) (gmt hG) rfl dX4_look_60 (Nat.le_of_ble_eq_true rfl) rfl (Nat.zero_le _) (Nat.zero_le _) ?_
              refine aw_istore6 h rfl dX4_look_63 ?_
              refine aw_iload6 h dX4_look_65 ?_
              refine aw_if_eqN h (tgt := 91) (by omega) dX4_look_67 (by decide) (fun c67 => ?_) (fun c67 => ?_)
              · refine aw_iincN5 h rfl dX4_look_91 ?_
                refine aw_goto h (tgt := 46) dX4_look_94 (by decide) ?_
                have he := pg_no (D := lkD S RL mo) (r := p) (Or.inl (by unfold lkD; rw [if_pos c67]; decide))
                have h9 := ih (p + 1) (by omega) (by omega) (some (.int (nI (alN S RL mo p))))
                rw [← he] at h9
                exact h9
              · refine aw_iload3 h dX4_look_70 ?_
                refine aw_if_lt h (tgt := 84) dX4_look_71 (by decide) (fun c71 => ?_) (fun c71 => ?_)
                · refine aw_iload5 h dX4_look_84 ?_
                  refine aw_istore3 h rfl dX4_look_86 ?_
                  refine aw_iload6 h dX4_look_87 ?_
                  refine aw_istore4 h rfl dX4_look_89 ?_
                  refine aw_iincN5 h rfl dX4_look_91 ?_
                  refine aw_goto h (tgt := 46) dX4_look_94 (by decide) ?_
                  have he := (show (nI p, nI (alN S RL mo p)) = _ from (show (nI p, nI (alN S RL mo p)) = (nI p, lkD S RL mo p) by unfold lkD; rw [if_neg c67]).trans (pg_yes (D := lkD S RL mo) (r := p) (fun q => q.elim (fun q => absurd q (by rw [(show lkD S RL mo p = nI (alN S RL mo p) by unfold lkD; rw [if_neg c67])]; exact Int32.not_lt.mpr (nI_pos' (by omega)))) (fun q => absurd c71 (Int32.not_lt.mpr q.1)))))
                  have h9 := ih (p + 1) (by omega) (by omega) (some (.int (nI (alN S RL mo p))))
                  rw [← he] at h9
                  exact h9
                · refine aw_iload6 h dX4_look_74 ?_
                  refine aw_iload4 h dX4_look_76 ?_
                  refine aw_icmp_lt h (tgt := 84) dX4_look_78 (by decide) (fun c78 => ?_) (fun c78 => ?_)
                  · refine aw_iload5 h dX4_look_84 ?_
                    refine aw_istore3 h rfl dX4_look_86 ?_
                    refine aw_iload6 h dX4_look_87 ?_
                    refine aw_istore4 h rfl dX4_look_89 ?_
                    refine aw_iincN5 h rfl dX4_look_91 ?_
                    refine aw_goto h (tgt := 46) dX4_look_94 (by decide) ?_
                    have he := (show (nI p, nI (alN S RL mo p)) = _ from (show (nI p, nI (alN S RL mo p)) = (nI p, lkD S RL mo p) by unfold lkD; rw [if_neg c67]).trans (pg_yes (D := lkD S RL mo) (r := p) (fun q => q.elim (fun q => absurd q (by rw [(show lkD S RL mo p = nI (alN S RL mo p) by unfold lkD; rw [if_neg c67])]; exact Int32.not_lt.mpr (nI_pos' (by omega)))) (fun q => absurd c78 (Int32.not_lt.mpr (by rw [← (show lkD S RL mo p = nI (alN S RL mo p) by unfold lkD; rw [if_neg c67])]; exact q.2))))))
                    have h9 := ih (p + 1) (by omega) (by omega) (some (.int (nI (alN S RL mo p))))
                    rw [← he] at h9
                    exact h9
                  · refine aw_goto h (tgt := 91) dX4_look_81 (by decide) ?_
                    refine aw_iincN5 h rfl dX4_look_91 ?_
                    refine aw_goto h (tgt := 46) dX4_look_94 (by decide) ?_
                    have he := pg_no (D := lkD S RL mo) (r := p) (Or.inr ⟨Int32.not_lt.mp c71, by rw [(show lkD S RL mo p = nI (alN S RL mo p) by unfold lkD; rw [if_neg c67])]; exact Int32.not_lt.mp c78⟩)
                    have h9 := ih (p + 1) (by omega) (by omega) (some (.int (nI (alN S RL mo p))))
                    rw [← he] at h9
                    exact h9
        exact key (np S + 1) 0 (Nat.zero_le _) (by omega) _
      · refine aw_iconst h _ ci_m1 dX4_look_29 ?_
        exact aw_iret h hr dX4_look_30 (⟨by unfold lookA; rw [show (decide (0 < nr S) && (inI n 0 60 && inI wh 0 1)) = false from (by rw [show inI wh 0 1 = false from (inL_I (by omega) (by omega)).symm.trans c26, Bool.and_false, Bool.and_false])]; rfl, rfl, MC.rf⟩) (Nat.zero_le _) (Nat.zero_le _)
