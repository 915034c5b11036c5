/-! The reference's constructor -/
set_option maxRecDepth 100000
/-- cells ahead of b are as they were -/
def GB (b : Nat) (Gb : Gm) (Ib : Im) (Lb : Lm) (G : Gm) (I : Im) (L : Lm) : Prop := ∀ n, n < b → G.2.1 n = Gb.2.1 n ∧ G.2.2 n = Gb.2.2 n ∧ I n = Ib n ∧ L n = Lb n
theorem GB.rf {b : Nat} {G : Gm} {I : Im} {L : Lm} : GB b G I L G I L := fun _ _ => ⟨rfl, rfl, rfl, rfl⟩
theorem GB.trans {b : Nat} {G G1 G2 : Gm} {I I1 I2 : Im} {L L1 L2 : Lm} (h : GB b G I L G1 I1 L1) (h2 : GB b G1 I1 L1 G2 I2 L2) : GB b G I L G2 I2 L2 := fun n hn => ⟨(h2 n hn).1.trans (h n hn).1, (h2 n hn).2.1.trans (h n hn).2.1, (h2 n hn).2.2.1.trans (h n hn).2.2.1, (h2 n hn).2.2.2.trans (h n hn).2.2.2⟩
def GM0 (i : Nat) (z : Nat → Int32) (Gb : Gm) (Ib : Im) (Lb : Lm) (G : Gm) (I : Im) (L : Lm) : Prop := G.1 = 162 + i ∧ G.2.1 161 = (4, 44) ∧ (∀ p ∈ gmP.take i, G.2.2 161 p.1 = some p.2) ∧ (∀ p ∈ gmS.take i, SHP G p.1 p.2.1 p.2.2) ∧ GB 161 Gb Ib Lb G I L ∧ I 161 = z ∧ L 161 = (fun _ => 0) ∧ ∀ n, 162 ≤ n → n < 162 + i → I n = (fun _ => 0) ∧ L n = fun _ => 0
theorem GM0.step {i k len f : Nat} {z : Nat → Int32} {Gb : Gm} {Ib : Im} {Lb : Lm} {G : Gm} {I : Im} {L : Lm} (h : GM0 i z Gb Ib Lb G I L) (h1 : gmP.take (i + 1) = gmP.take i ++ [(f, 162 + i)]) (h2 : gmS.take (i + 1) = gmS.take i ++ [(162 + i, k, len)]) (h3 : ∀ p ∈ gmP.take i, p.1 ≠ f) : GM0 (i + 1) z Gb Ib Lb ((Gnew G k len).1, (Gnew G k len).2.1, upd2 (Gnew G k len).2.2 161 f (some G.1)) (Inew G I) (Lnew G L) := by
  obtain ⟨a1, a2, a3, a4, a5, a6, a7, a8⟩ := h
  have hne : ∀ n, n < 162 + i → n ≠ G.1 := fun n hn => by omega
  refine ⟨by show G.1 + 1 = _; omega, (vup_n _ _ (hne 161 (by omega))).trans a2, fun p hp => ?_, fun p hp => ?_, fun n hn => ?_, (vup_n _ _ (hne 161 (by omega))).trans a6, (vup_n _ _ (hne 161 (by omega))).trans a7, fun n h1 h2 => ?_⟩
  · rw [h1] at hp
    show upd2 (Gnew G k len).2.2 161 f (some G.1) 161 p.1 = _
    rw [upd2_s]
    rcases List.mem_append.mp hp with q | q
    · rw [vup_n _ _ (h3 p q), show (Gnew G k len).2.2 161 = G.2.2 161 from vup_n _ _ (hne 161 (by omega))]
      exact a3 p q
    · rw [List.mem_singleton.mp q]
      show va_up _ f (some G.1) f = some (162 + i)
      rw [vup_s, a1]
  · rw [h2] at hp
    rcases List.mem_append.mp hp with q | q
    · exact SHP.old (a4 p q)
    · rw [List.mem_singleton.mp q]
      show SHP (Gnew G k len) (162 + i) k len
      rw [← a1]; exact SHP.new _ _ _
  · obtain ⟨b1, b2, b3, b4⟩ := a5 n hn
    refine ⟨(vup_n _ _ (hne n (by omega))).trans b1, ?_, (vup_n _ _ (hne n (by omega))).trans b3, (vup_n _ _ (hne n (by omega))).trans b4⟩
    show upd2 (Gnew G k len).2.2 161 f (some G.1) n = _
    rw [upd2_n _ _ _ (by omega)]
    exact (vup_n _ _ (hne n (by omega))).trans b2
  · by_cases e : n = 162 + i
    · subst e
      rw [← a1]
      exact ⟨vup_s _ _ _, vup_s _ _ _⟩
    · rw [show Inew G I n = I n from vup_n _ _ (hne n (by omega)), show Lnew G L n = L n from vup_n _ _ (hne n (by omega))]
      exact a8 n h1 (by omega)
theorem GM0.put {i : Nat} {z : Nat → Int32} {Gb : Gm} {Ib : Im} {Lb : Lm} {G : Gm} {I : Im} {L : Lm} (h : GM0 i z Gb Ib Lb G I L) (f : Nat) (x : Int32) : GM0 i (va_up z f x) Gb Ib Lb G (upd2 I 161 f x) L := by
  obtain ⟨a1, a2, a3, a4, a5, a6, a7, a8⟩ := h
  refine ⟨a1, a2, a3, a4, fun n hn => ?_, by rw [upd2_s, a6], a7, fun n h1 h2 => ?_⟩
  · obtain ⟨b1, b2, b3, b4⟩ := a5 n hn
    exact ⟨b1, b2, (upd2_n _ _ _ (by omega)).trans b3, b4⟩
  · rw [upd2_n _ _ _ (by omega)]; exact a8 n h1 h2
section GMW
variable {X : Cx} {cs ss pc : Nat} {ls : List (Option Value)} {st : List Value} {G Gb : Gm} {I Ib : Im} {L Lb : Lm}
theorem GM0.go {i k len f : Nat} {z : Nat → Int32} (h : GM0 i z Gb Ib Lb G I L) (h1 : gmP.take (i + 1) = gmP.take i ++ [(f, 162 + i)]) (h2 : gmS.take (i + 1) = gmS.take i ++ [(162 + i, k, len)]) (h3 : ∀ p ∈ gmP.take i, p.1 ≠ f) (kk : ∀ G1 I1 L1, GM0 (i + 1) z Gb Ib Lb G1 I1 L1 → AW X cs ss pc ls st G1 I1 L1) : AW X cs ss pc ls st ((Gnew G k len).1, (Gnew G k len).2.1, upd2 (Gnew G k len).2.2 161 f (some G.1)) (Inew G I) (Lnew G L) := kk _ _ _ (h.step h1 h2 h3)
end GMW
/-- the reference as it's made -/
def MI (Gb : Gm) (Ib : Im) (Lb : Lm) : Gm → Im → Lm → Prop := fun G I L => GM0 24 (va_up (fun _ => 0) 21 (-1)) Gb Ib Lb G I L
theorem MI.gm {Gb G : Gm} {Ib I : Im} {Lb L : Lm} (h : MI Gb Ib Lb G I L) : GM G := ⟨⟨by have := h.1; omega, h.2.1⟩, h.2.2.1, h.2.2.2.1⟩
/-- slots of its arrays: 74685 -/
theorem met_m_init {w : Wd} {G : Gm} {I : Im} {L : Lm} (hg : GM0 0 (fun _ => 0) G I L G I L) : AMet w yX4_init cX4_init 1 none 2 60 24 74685 [.ref (w.1 + 161)] G I L (Ans none (MI G I L)) := by
  refine AMet.of (ls0 := [some (.ref (w.1 + 161))]) rfl (Nat.le_of_ble_eq_true rfl) rfl (fun q hq => hq) (fun X h hl hr hi => ?_)
  refine aw_aload0 h dX4_init_0 ?_
  refine aw_obj0 h o0_X4_1 dX4_init_1 (Nat.le_of_ble_eq_true rfl) rfl ?_
  refine aw_aload0 h dX4_init_4 ?_
  refine aw_sipush h _ cs_400 dX4_init_5 ?_
  refine aw_newa h (k := 102) (ty := .byte) rfl (by simp) q467 (by exact Nat.le_of_ble_eq_true rfl) (by exact Nat.le_of_ble_eq_true rfl) (by exact Nat.le_of_ble_eq_true rfl) dX4_init_8 ?_
  refine aw_putr h fl_X4_7 ft_X4_7 (fun _ => hi rfl) (SHP.old (⟨by have := hg.1; omega, hg.2.1⟩ : SHP _ 161 4 44)) dX4_init_10 rfl rfl ?_
  refine GM0.go hg (i := 0) (f := 0) rfl rfl (by decide) (fun G1 I1 L1 hg1 => ?_)
  refine aw_aload0 h dX4_init_13 ?_
  refine aw_sipush h _ cs_2400 dX4_init_14 ?_
  refine aw_newa h (k := 100) (ty := .int) rfl (by simp) q256 (by exact Nat.le_of_ble_eq_true rfl) (by exact Nat.le_of_ble_eq_true rfl) (by exact Nat.le_of_ble_eq_true rfl) dX4_init_17 ?_
  refine aw_putr h fl_X4_13 ft_X4_13 (fun _ => hi rfl) (SHP.old (⟨by have := hg1.1; omega, hg1.2.1⟩ : SHP _ 161 4 44)) dX4_init_19 rfl rfl ?_
  refine GM0.go hg1 (i := 1) (f := 3) rfl rfl (by decide) (fun G2 I2 L2 hg2 => ?_)
  refine aw_aload0 h dX4_init_22 ?_
  refine aw_bipush h _ cb_7 dX4_init_23 ?_
  refine aw_newa h (k := 100) (ty := .int) rfl (by simp) q256 (by exact Nat.le_of_ble_eq_true rfl) (by exact Nat.le_of_ble_eq_true rfl) (by exact Nat.le_of_ble_eq_true rfl) dX4_init_25 ?_
  refine aw_putr h fl_X4_17 ft_X4_17 (fun _ => hi rfl) (SHP.old (⟨by have := hg2.1; omega, hg2.2.1⟩ : SHP _ 161 4 44)) dX4_init_27 rfl rfl ?_
  refine GM0.go hg2 (i := 2) (f := 4) rfl rfl (by decide) (fun G3 I3 L3 hg3 => ?_)
  refine aw_aload0 h dX4_init_30 ?_
  refine aw_sipush h _ cs_288 dX4_init_31 ?_
  refine aw_newa h (k := 100) (ty := .int) rfl (by simp) q256 (by exact Nat.le_of_ble_eq_true rfl) (by exact Nat.le_of_ble_eq_true rfl) (by exact Nat.le_of_ble_eq_true rfl) dX4_init_34 ?_
  refine aw_putr h fl_X4_20 ft_X4_20 (fun _ => hi rfl) (SHP.old (⟨by have := hg3.1; omega, hg3.2.1⟩ : SHP _ 161 4 44)) dX4_init_36 rfl rfl ?_
  refine GM0.go hg3 (i := 3) (f := 5) rfl rfl (by decide) (fun G4 I4 L4 hg4 => ?_)
  refine aw_aload0 h dX4_init_39 ?_
  refine aw_bipush h _ cb_6 dX4_init_40 ?_
  refine aw_newa h (k := 100) (ty := .int) rfl (by simp) q256 (by exact Nat.le_of_ble_eq_true rfl) (by exact Nat.le_of_ble_eq_true rfl) (by exact Nat.le_of_ble_eq_true rfl) dX4_init_42 ?_
  refine aw_putr h fl_X4_23 ft_X4_23 (fun _ => hi rfl) (SHP.old (⟨by have := hg4.1; omega, hg4.2.1⟩ : SHP _ 161 4 44)) dX4_init_44 rfl rfl ?_
  refine GM0.go hg4 (i := 4) (f := 6) rfl rfl (by decide) (fun G5 I5 L5 hg5 => ?_)
  refine aw_aload0 h dX4_init_47 ?_
  refine aw_bipush h _ cb_84 dX4_init_48 ?_
  refine aw_newa h (k := 100) (ty := .int) rfl (by simp) q256 (by exact Nat.le_of_ble_eq_true rfl) (by exact Nat.le_of_ble_eq_true rfl) (by exact Nat.le_of_ble_eq_true rfl) dX4_init_50 ?_
  refine aw_putr h fl_X4_26 ft_X4_26 (fun _ => hi rfl) (SHP.old (⟨by have := hg5.1; omega, hg5.2.1⟩ : SHP _ 161 4 44)) dX4_init_52 rfl rfl ?_
  refine GM0.go hg5 (i := 5) (f := 7) rfl rfl (by decide) (fun G6 I6 L6 hg6 => ?_)
  refine aw_aload0 h dX4_init_55 ?_
  refine aw_sipush h _ cs_400 dX4_init_56 ?_
  refine aw_newa h (k := 100) (ty := .int) rfl (by simp) q256 (by exact Nat.le_of_ble_eq_true rfl) (by exact Nat.le_of_ble_eq_true rfl) (by exact Nat.le_of_ble_eq_true rfl) dX4_init_59 ?_
  refine aw_putr h fl_X4_29 ft_X4_29 (fun _ => hi rfl) (SHP.old (⟨by have := hg6.1; omega, hg6.2.1⟩ : SHP _ 161 4 44)) dX4_init_61 rfl rfl ?_
  refine GM0.go hg6 (i := 6) (f := 15) rfl rfl (by decide) (fun G7 I7 L7 hg7 => ?_)
  refine aw_aload0 h dX4_init_64 ?_
  refine aw_bipush h _ cb_64 dX4_init_65 ?_
  refine aw_newa h (k := 101) (ty := .long) rfl (by simp) q468 (by exact Nat.le_of_ble_eq_true rfl) (by exact Nat.le_of_ble_eq_true rfl) (by exact Nat.le_of_ble_eq_true rfl) dX4_init_67 ?_
  refine aw_putr h fl_X4_32 ft_X4_32 (fun _ => hi rfl) (SHP.old (⟨by have := hg7.1; omega, hg7.2.1⟩ : SHP _ 161 4 44)) dX4_init_69 rfl rfl ?_
  refine GM0.go hg7 (i := 7) (f := 17) rfl rfl (by decide) (fun G8 I8 L8 hg8 => ?_)
  refine aw_aload0 h dX4_init_72 ?_
  refine aw_bipush h _ cb_12 dX4_init_73 ?_
  refine aw_newa h (k := 101) (ty := .long) rfl (by simp) q468 (by exact Nat.le_of_ble_eq_true rfl) (by exact Nat.le_of_ble_eq_true rfl) (by exact Nat.le_of_ble_eq_true rfl) dX4_init_75 ?_
  refine aw_putr h fl_X4_36 ft_X4_36 (fun _ => hi rfl) (SHP.old (⟨by have := hg8.1; omega, hg8.2.1⟩ : SHP _ 161 4 44)) dX4_init_77 rfl rfl ?_
  refine GM0.go hg8 (i := 8) (f := 19) rfl rfl (by decide) (fun G9 I9 L9 hg9 => ?_)
  refine aw_aload0 h dX4_init_80 ?_
  refine aw_bipush h _ cb_123 dX4_init_81 ?_
  refine aw_newa h (k := 100) (ty := .int) rfl (by simp) q256 (by exact Nat.le_of_ble_eq_true rfl) (by exact Nat.le_of_ble_eq_true rfl) (by exact Nat.le_of_ble_eq_true rfl) dX4_init_83 ?_
  refine aw_putr h fl_X4_39 ft_X4_39 (fun _ => hi rfl) (SHP.old (⟨by have := hg9.1; omega, hg9.2.1⟩ : SHP _ 161 4 44)) dX4_init_85 rfl rfl ?_
  refine GM0.go hg9 (i := 9) (f := 20) rfl rfl (by decide) (fun G10 I10 L10 hg10 => ?_)
  refine aw_aload0 h dX4_init_88 ?_
  refine aw_iconst h _ ci_m1 dX4_init_89 ?_
  refine aw_puti h fl_X4_42 ft_X4_42 (fun z => by cases z) (⟨by have := hg10.1; omega, hg10.2.1⟩ : SHP _ 161 4 44) dX4_init_90 rfl ?_
  have hg10 := hg10.put 21 (-1)
  revert hg10
  generalize upd2 I10 161 21 (-1) = I10
  intro hg10
  refine aw_aload0 h dX4_init_93 ?_
  refine aw_bipush h _ cb_8 dX4_init_94 ?_
  refine aw_newa h (k := 100) (ty := .int) rfl (by simp) q256 (by exact Nat.le_of_ble_eq_true rfl) (by exact Nat.le_of_ble_eq_true rfl) (by exact Nat.le_of_ble_eq_true rfl) dX4_init_96 ?_
  refine aw_putr h fl_X4_46 ft_X4_46 (fun _ => hi rfl) (SHP.old (⟨by have := hg10.1; omega, hg10.2.1⟩ : SHP _ 161 4 44)) dX4_init_98 rfl rfl ?_
  refine GM0.go hg10 (i := 10) (f := 23) rfl rfl (by decide) (fun G11 I11 L11 hg11 => ?_)
  refine aw_aload0 h dX4_init_101 ?_
  refine aw_iconst h _ ci_4 dX4_init_102 ?_
  refine aw_newa h (k := 100) (ty := .int) rfl (by simp) q256 (by exact Nat.le_of_ble_eq_true rfl) (by exact Nat.le_of_ble_eq_true rfl) (by exact Nat.le_of_ble_eq_true rfl) dX4_init_103 ?_
  refine aw_putr h fl_X4_49 ft_X4_49 (fun _ => hi rfl) (SHP.old (⟨by have := hg11.1; omega, hg11.2.1⟩ : SHP _ 161 4 44)) dX4_init_105 rfl rfl ?_
  refine GM0.go hg11 (i := 11) (f := 24) rfl rfl (by decide) (fun G12 I12 L12 hg12 => ?_)
  refine aw_aload0 h dX4_init_108 ?_
  refine aw_iconst h _ ci_4 dX4_init_109 ?_
  refine aw_newa h (k := 103) (ty := .boolean) rfl (by simp) q469 (by exact Nat.le_of_ble_eq_true rfl) (by exact Nat.le_of_ble_eq_true rfl) (by exact Nat.le_of_ble_eq_true rfl) dX4_init_110 ?_
  refine aw_putr h fl_X4_52 ft_X4_52 (fun _ => hi rfl) (SHP.old (⟨by have := hg12.1; omega, hg12.2.1⟩ : SHP _ 161 4 44)) dX4_init_112 rfl rfl ?_
  refine GM0.go hg12 (i := 12) (f := 25) rfl rfl (by decide) (fun G13 I13 L13 hg13 => ?_)
  refine aw_aload0 h dX4_init_115 ?_
  refine aw_sipush h _ cs_680 dX4_init_116 ?_
  refine aw_newa h (k := 100) (ty := .int) rfl (by simp) q256 (by exact Nat.le_of_ble_eq_true rfl) (by exact Nat.le_of_ble_eq_true rfl) (by exact Nat.le_of_ble_eq_true rfl) dX4_init_119 ?_
  refine aw_putr h fl_X4_56 ft_X4_56 (fun _ => hi rfl) (SHP.old (⟨by have := hg13.1; omega, hg13.2.1⟩ : SHP _ 161 4 44)) dX4_init_121 rfl rfl ?_
  refine GM0.go hg13 (i := 13) (f := 26) rfl rfl (by decide) (fun G14 I14 L14 hg14 => ?_)
  refine aw_aload0 h dX4_init_124 ?_
  refine aw_bipush h _ cb_34 dX4_init_125 ?_
  refine aw_newa h (k := 100) (ty := .int) rfl (by simp) q256 (by exact Nat.le_of_ble_eq_true rfl) (by exact Nat.le_of_ble_eq_true rfl) (by exact Nat.le_of_ble_eq_true rfl) dX4_init_127 ?_
  refine aw_putr h fl_X4_59 ft_X4_59 (fun _ => hi rfl) (SHP.old (⟨by have := hg14.1; omega, hg14.2.1⟩ : SHP _ 161 4 44)) dX4_init_129 rfl rfl ?_
  refine GM0.go hg14 (i := 14) (f := 28) rfl rfl (by decide) (fun G15 I15 L15 hg15 => ?_)
  refine aw_aload0 h dX4_init_132 ?_
  refine aw_ldc h (v := nI 32768) q1357 dX4_init_133 ?_
  refine aw_newa h (k := 100) (ty := .int) rfl (by simp) q256 (by exact Nat.le_of_ble_eq_true rfl) (by exact Nat.le_of_ble_eq_true rfl) (by exact Nat.le_of_ble_eq_true rfl) dX4_init_135 ?_
  refine aw_putr h fl_X4_63 ft_X4_63 (fun _ => hi rfl) (SHP.old (⟨by have := hg15.1; omega, hg15.2.1⟩ : SHP _ 161 4 44)) dX4_init_137 rfl rfl ?_
  refine GM0.go hg15 (i := 15) (f := 29) rfl rfl (by decide) (fun G16 I16 L16 hg16 => ?_)
  refine aw_aload0 h dX4_init_140 ?_
  refine aw_ldc h (v := nI 32768) q1357 dX4_init_141 ?_
  refine aw_newa h (k := 100) (ty := .int) rfl (by simp) q256 (by exact Nat.le_of_ble_eq_true rfl) (by exact Nat.le_of_ble_eq_true rfl) (by exact Nat.le_of_ble_eq_true rfl) dX4_init_143 ?_
  refine aw_putr h fl_X4_66 ft_X4_66 (fun _ => hi rfl) (SHP.old (⟨by have := hg16.1; omega, hg16.2.1⟩ : SHP _ 161 4 44)) dX4_init_145 rfl rfl ?_
  refine GM0.go hg16 (i := 16) (f := 30) rfl rfl (by decide) (fun G17 I17 L17 hg17 => ?_)
  refine aw_aload0 h dX4_init_148 ?_
  refine aw_sipush h _ cs_4096 dX4_init_149 ?_
  refine aw_newa h (k := 100) (ty := .int) rfl (by simp) q256 (by exact Nat.le_of_ble_eq_true rfl) (by exact Nat.le_of_ble_eq_true rfl) (by exact Nat.le_of_ble_eq_true rfl) dX4_init_152 ?_
  refine aw_putr h fl_X4_69 ft_X4_69 (fun _ => hi rfl) (SHP.old (⟨by have := hg17.1; omega, hg17.2.1⟩ : SHP _ 161 4 44)) dX4_init_154 rfl rfl ?_
  refine GM0.go hg17 (i := 17) (f := 36) rfl rfl (by decide) (fun G18 I18 L18 hg18 => ?_)
  refine aw_aload0 h dX4_init_157 ?_
  refine aw_bipush h _ cb_7 dX4_init_158 ?_
  refine aw_newa h (k := 103) (ty := .boolean) rfl (by simp) q469 (by exact Nat.le_of_ble_eq_true rfl) (by exact Nat.le_of_ble_eq_true rfl) (by exact Nat.le_of_ble_eq_true rfl) dX4_init_160 ?_
  refine aw_putr h fl_X4_72 ft_X4_72 (fun _ => hi rfl) (SHP.old (⟨by have := hg18.1; omega, hg18.2.1⟩ : SHP _ 161 4 44)) dX4_init_162 rfl rfl ?_
  refine GM0.go hg18 (i := 18) (f := 37) rfl rfl (by decide) (fun G19 I19 L19 hg19 => ?_)
  refine aw_aload0 h dX4_init_165 ?_
  refine aw_bipush h _ cb_28 dX4_init_166 ?_
  refine aw_newa h (k := 100) (ty := .int) rfl (by simp) q256 (by exact Nat.le_of_ble_eq_true rfl) (by exact Nat.le_of_ble_eq_true rfl) (by exact Nat.le_of_ble_eq_true rfl) dX4_init_168 ?_
  refine aw_putr h fl_X4_75 ft_X4_75 (fun _ => hi rfl) (SHP.old (⟨by have := hg19.1; omega, hg19.2.1⟩ : SHP _ 161 4 44)) dX4_init_170 rfl rfl ?_
  refine GM0.go hg19 (i := 19) (f := 38) rfl rfl (by decide) (fun G20 I20 L20 hg20 => ?_)
  refine aw_aload0 h dX4_init_173 ?_
  refine aw_sipush h _ cs_492 dX4_init_174 ?_
  refine aw_newa h (k := 100) (ty := .int) rfl (by simp) q256 (by exact Nat.le_of_ble_eq_true rfl) (by exact Nat.le_of_ble_eq_true rfl) (by exact Nat.le_of_ble_eq_true rfl) dX4_init_177 ?_
  refine aw_putr h fl_X4_78 ft_X4_78 (fun _ => hi rfl) (SHP.old (⟨by have := hg20.1; omega, hg20.2.1⟩ : SHP _ 161 4 44)) dX4_init_179 rfl rfl ?_
  refine GM0.go hg20 (i := 20) (f := 40) rfl rfl (by decide) (fun G21 I21 L21 hg21 => ?_)
  refine aw_aload0 h dX4_init_182 ?_
  refine aw_iconst h _ ci_4 dX4_init_183 ?_
  refine aw_newa h (k := 100) (ty := .int) rfl (by simp) q256 (by exact Nat.le_of_ble_eq_true rfl) (by exact Nat.le_of_ble_eq_true rfl) (by exact Nat.le_of_ble_eq_true rfl) dX4_init_184 ?_
  refine aw_putr h fl_X4_81 ft_X4_81 (fun _ => hi rfl) (SHP.old (⟨by have := hg21.1; omega, hg21.2.1⟩ : SHP _ 161 4 44)) dX4_init_186 rfl rfl ?_
  refine GM0.go hg21 (i := 21) (f := 41) rfl rfl (by decide) (fun G22 I22 L22 hg22 => ?_)
  refine aw_aload0 h dX4_init_189 ?_
  refine aw_iconst h _ ci_4 dX4_init_190 ?_
  refine aw_newa h (k := 100) (ty := .int) rfl (by simp) q256 (by exact Nat.le_of_ble_eq_true rfl) (by exact Nat.le_of_ble_eq_true rfl) (by exact Nat.le_of_ble_eq_true rfl) dX4_init_191 ?_
  refine aw_putr h fl_X4_84 ft_X4_84 (fun _ => hi rfl) (SHP.old (⟨by have := hg22.1; omega, hg22.2.1⟩ : SHP _ 161 4 44)) dX4_init_193 rfl rfl ?_
  refine GM0.go hg22 (i := 22) (f := 42) rfl rfl (by decide) (fun G23 I23 L23 hg23 => ?_)
  refine aw_aload0 h dX4_init_196 ?_
  refine aw_iconst h _ ci_4 dX4_init_197 ?_
  refine aw_newa h (k := 103) (ty := .boolean) rfl (by simp) q469 (by exact Nat.le_of_ble_eq_true rfl) (by exact Nat.le_of_ble_eq_true rfl) (by exact Nat.le_of_ble_eq_true rfl) dX4_init_198 ?_
  refine aw_putr h fl_X4_87 ft_X4_87 (fun _ => hi rfl) (SHP.old (⟨by have := hg23.1; omega, hg23.2.1⟩ : SHP _ 161 4 44)) dX4_init_200 rfl rfl ?_
  refine GM0.go hg23 (i := 23) (f := 43) rfl rfl (by decide) (fun G24 I24 L24 hg24 => ?_)
  exact aw_vret h hr dX4_init_203 (⟨rfl, hg24⟩) (by exact Nat.le_of_ble_eq_true rfl) (by exact Nat.le_of_ble_eq_true rfl)
