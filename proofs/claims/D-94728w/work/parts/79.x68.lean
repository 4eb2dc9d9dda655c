set_option maxRecDepth 100000
/-! operations, 30: copyIn, the loops, 2 -/
theorem L_m_ci1 {ct : Int → Int → Int} {a b c : Int} {w : Int → Int} {Q : aPost} {d kc ks : Nat} (hd : 3 ≤ d) (ha : 0 ≤ a ∧ a < 4) (hw : ∀ j, 0 ≤ j → j < 16 → ct 5 (60 * a + j) = w j) (K : (∀ j, 0 ≤ j → j < 16 → 0 ≤ w j ∧ w j ≤ 121) → AW (mq Q) md_X7_copyIn d kc ks 99 [some (vR 0), some (vI a), some (vI b), some (vI c), some (vI 16), none] [] (gM ct)) (KB : ¬ (∀ j, 0 ≤ j → j < 16 → 0 ≤ w j ∧ w j ≤ 121) → ∀ k : Int, AW (mq Q) md_X7_copyIn d kc ks 87 [some (vR 0), some (vI a), some (vI b), some (vI c), some (vI k), none] [] (gM ct)) : ∀ (r9 : Nat) (k : Int), k + r9 = 16 → 0 ≤ k → (∀ j, 0 ≤ j → j < k → 0 ≤ w j ∧ w j ≤ 121) → AW (mq Q) md_X7_copyIn d kc ks 58 [some (vR 0), some (vI a), some (vI b), some (vI c), some (vI k), none] [] (gM ct) := by
  intro r9
  induction r9 with
  | zero =>
    intro k h1 h2 h3
    have ek : k = 16 := by omega
    subst ek
    refine aw_iload dX7_copyIn_58 rfl ?_
    refine aw_bipush dX7_copyIn_60 (by decide) ?_
    refine aw_icmpge (tgt := 99) dX7_copyIn_62 (by decide) (fun h62 => ?_) (fun h62 => ?_)
    · exact K h3
    · exfalso; omega
  | succ r9 ih =>
    intro k h1 h2 h3
    have hwk := hw k h2 (by omega)
    refine aw_iload dX7_copyIn_58 rfl ?_
    refine aw_bipush dX7_copyIn_60 (by decide) ?_
    refine aw_icmpge (tgt := 99) dX7_copyIn_62 (by decide) (fun h62 => ?_) (fun h62 => ?_)
    · exfalso; omega
    · refine gm_27 rfl dX7_copyIn_65 dX7_copyIn_66 rfl ?_
      refine aw_bipush dX7_copyIn_69 (by decide) ?_
      refine aw_iload_n dX7_copyIn_71 rfl ?_
      refine aw_imulr dX7_copyIn_72 (by omega) ?_
      refine aw_iload dX7_copyIn_73 rfl ?_
      refine aw_iaddr dX7_copyIn_75 (by omega) ?_
      refine aw_laload dX7_copyIn_76 m_a5 (by omega) (by omega) ?_
      rw [hwk]
      refine aw_lconst0 dX7_copyIn_77 ?_
      refine aw_ldc2 (x := 121) dX7_copyIn_78 q1814 (by decide) ?_
      refine c_X7_306 rfl dX7_copyIn_81  (Nat.le_of_ble_eq_true rfl) (by omega) (C_m_isFrom (fun hfr => ?_) (fun hfr => ?_))
      · refine aK_i ?_
        refine aw_ifne (tgt := 93) dX7_copyIn_84 (by decide) (fun _ => ?_) (fun h => absurd h (by decide))
        refine aw_iinc4r dX7_copyIn_93 (by decide) (by decide) rfl (by omega) ?_
        refine aw_goto (tgt := 58) dX7_copyIn_96 (by decide) ?_
        exact ih (k + 1) (by omega) (by omega) (fun j j0 j1 => by
          by_cases z : j = k
          · subst z; exact hfr
          · exact h3 j j0 (by omega))
      · refine aK_i ?_
        refine aw_ifne (tgt := 93) dX7_copyIn_84 (by decide) (fun h => absurd h (by decide)) (fun _ => ?_)
        exact KB (fun z => hfr (z k (by omega) (by omega))) k
theorem L_x_ci2 {own : Int → Int} {sz : Int} {im : Int → aIm} {ct : Int → Int → Int} {a b c r nn u dd : Int} {s N : Int → Int} {t : Nat} {w : Int → Int} {Q : aPost} {d kc ks : Nat} (hd : 162 ≤ d) (hR : RT own sz im ct) (ht : t < 4) (ya : aar sz im r t nn) (hnn : nn ≤ 60) (h16 : 16 ≤ nn) (hw : ∀ j, 0 ≤ j → j < 16 → ct r j = w j) (hok : (∀ j, 0 ≤ j → j < 16 → 0 ≤ w j ∧ w j ≤ 121)) (a0 : 0 ≤ a ∧ a < 4) (yo : own r = -10 - a) (HY : YR own 0 sz im ct 10 s dd N) (hP : PI s) (xf : (0 ≤ b ∧ b < s 0) ∧ 0 ≤ c ∧ c < s (64 + 198 * b)) (K : ∀ ct1 : Int → Int → Int, YR own 0 sz im ct1 10 (inS s (64 + 198 * b + 6 + 16 * c) w 16) dd N → (∀ x j, own x ≠ b → ct1 x j = ct x j) → AW (mq Q) md_X0_copyIn d kc ks 149 [some (vR 0), some (vI a), some (vI b), some (vI c), some (vR r), some (vI u), some (vI 16)] [] (sz, im, ct1)) : ∀ (r9 : Nat) (k : Int) (ct1 : Int → Int → Int), k + r9 = 16 → 0 ≤ k → YR own 0 sz im ct1 10 (inS s (64 + 198 * b + 6 + 16 * c) w k) dd N → (∀ x j, own x ≠ b → ct1 x j = ct x j) → AW (mq Q) md_X0_copyIn d (3 * r9 + kc) (222 * r9 + ks) 114 [some (vR 0), some (vI a), some (vI b), some (vI c), some (vR r), some (vI u), some (vI k)] [] (sz, im, ct1) := by
  have hp := hP.1
  have hb12 := (hP.2.2.1 b xf.1.1 xf.1.2).1
  intro r9
  induction r9 with
  | zero =>
    intro k ct1 h1 h2 g1 g2
    have ek : k = 16 := by omega
    subst ek
    refine AW.widen (kc' := kc) (ks' := ks) (by omega) (by omega) ?_
    refine aw_iload dX0_copyIn_114 rfl ?_
    refine aw_bipush dX0_copyIn_116 (by decide) ?_
    refine aw_icmpge (tgt := 149) dX0_copyIn_118 (by decide) (fun h118 => ?_) (fun h118 => ?_)
    · exact K ct1 g1 g2
    · exfalso; omega
  | succ r9 ih =>
    intro k ct1 h1 h2 g1 g2
    have hwk : ct1 r k = w k := by rw [g2 r k (by omega)]; exact hw k h2 (by omega)
    have hbk := hok k h2 (by omega)
    have hR1 : RT own sz im ct1 := hR.frame fun t _ _ => g2 1 t (by rw [hR.2.2.1.2.1]; omega)
    have e0 : inS s (64 + 198 * b + 6 + 16 * c) w k 0 = s 0 := inS_n (by omega)
    have eb : inS s (64 + 198 * b + 6 + 16 * c) w k (64 + 198 * b) = s (64 + 198 * b) := inS_n (by omega)
    have HY2 := g1.cell1 (k := b) (f := c) (i := k) (v := w k) xf.1.1 (by rw [e0]; exact xf.1.2) (by rw [eb]; exact hb12) xf.2.1 (by rw [eb]; exact xf.2.2) h2 (by omega)
    obtain ⟨q1, q2, -, -, qo, -, -, q8⟩ := g1.2.2.2.2.2.2.2 b xf.1.1 (by rw [e0]; exact xf.1.2)
    have q4 := q2.2.1 c xf.2.1 (by rw [eb]; exact xf.2.2)
    have qf := q8 c xf.2.1 (by rw [eb]; exact xf.2.2)
    have q3 := q1.2.2.2
    rw [eb] at q1
    refine aw_iload dX0_copyIn_114 rfl ?_
    refine aw_bipush dX0_copyIn_116 (by decide) ?_
    refine aw_icmpge (tgt := 149) dX0_copyIn_118 (by decide) (fun h118 => ?_) (fun h118 => ?_)
    · exfalso; omega
    · refine aw_aload_n dX0_copyIn_121 rfl ?_
      refine aw_iload_n dX0_copyIn_122 rfl ?_
      refine c_X0_172 rfl dX0_copyIn_123 hR.o0 (Nat.le_of_ble_eq_true rfl) (by omega) (C_x_xat hR1 g1 (by omega) ?_)
      refine aK_i ?_
      refine g_X0_176_9 rfl dX0_copyIn_126 q1.1 ?_
      refine aw_iload_n dX0_copyIn_129 rfl ?_
      refine aw_aaload dX0_copyIn_130 q1.2.1 (by decide) (by omega) (by omega) ?_
      refine aw_iload dX0_copyIn_131 rfl ?_
      refine aw_aload dX0_copyIn_133 rfl ?_
      refine aw_iload dX0_copyIn_135 rfl ?_
      refine c_X0_125a (kc1 := 3) (ks1 := 222) (kc2 := 3 * r9 + kc) (ks2 := 222 * r9 + ks) (by omega) (by omega) rfl dX0_copyIn_137  (Nat.le_of_ble_eq_true rfl) (by omega) (C_x_number ht ya (by omega) (fun j0 j1 => ?_) (fun hj => ?_))
      · rw [hwk]
        refine aK_i ?_
        refine aw_l2ir dX0_copyIn_140 (by omega) ?_
        refine aw_i2sr dX0_copyIn_141 (by omega) ?_
        refine aw_sastore dX0_copyIn_142 q4 (by omega) (by omega) ?_
        refine aw_iinc6r dX0_copyIn_143 (by decide) (by decide) rfl (by omega) ?_
        refine aw_goto (tgt := 114) dX0_copyIn_146 (by decide) ?_
        rw [w16_id (by omega) (by omega)]
        rw [inS_put h2] at HY2
        exact ih (k + 1) _ (by omega) (by omega) HY2 (fun x j hx => by rw [aup_rn (fun z => hx (by rw [z]; omega))]; exact g2 x j hx)
      · exfalso; omega
theorem L_m_ci2 {ct : Int → Int → Int} {a b c u : Int} {w : Int → Int} {Q : aPost} {d kc ks : Nat} (hd : 3 ≤ d) (ha : 0 ≤ a ∧ a < 4) (hb : 0 ≤ b ∧ b < 4) (hc : 0 ≤ c ∧ c < 12) (hw : ∀ j, 0 ≤ j → j < 16 → ct 5 (60 * a + j) = w j) (hok : (∀ j, 0 ≤ j → j < 16 → 0 ≤ w j ∧ w j ≤ 121)) (K : ∀ ct1 : Int → Int → Int, ct1 1 = inS (ct 1) (64 + 198 * b + 6 + 16 * c) w 16 → (∀ x, x ≠ 1 → ct1 x = ct x) → AW (mq Q) md_X7_copyIn d kc ks 153 [some (vR 0), some (vI a), some (vI b), some (vI c), some (vI u), some (vI 16)] [] (gM ct1)) : ∀ (r9 : Nat) (k : Int) (ct1 : Int → Int → Int), k + r9 = 16 → 0 ≤ k → ct1 1 = inS (ct 1) (64 + 198 * b + 6 + 16 * c) w k → (∀ x, x ≠ 1 → ct1 x = ct x) → AW (mq Q) md_X7_copyIn d kc ks 113 [some (vR 0), some (vI a), some (vI b), some (vI c), some (vI u), some (vI k)] [] (gM ct1) := by
  intro r9
  induction r9 with
  | zero =>
    intro k ct1 h1 h2 g1 g2
    have ek : k = 16 := by omega
    subst ek
    refine aw_iload dX7_copyIn_113 rfl ?_
    refine aw_bipush dX7_copyIn_115 (by decide) ?_
    refine aw_icmpge (tgt := 153) dX7_copyIn_117 (by decide) (fun h117 => ?_) (fun h117 => ?_)
    · exact K ct1 g1 g2
    · exfalso; omega
  | succ r9 ih =>
    intro k ct1 h1 h2 g1 g2
    have hwk : ct1 5 (60 * a + k) = w k := by rw [g2 5 (by decide)]; exact hw k h2 (by omega)
    have hbk := hok k h2 (by omega)
    refine aw_iload dX7_copyIn_113 rfl ?_
    refine aw_bipush dX7_copyIn_115 (by decide) ?_
    refine aw_icmpge (tgt := 153) dX7_copyIn_117 (by decide) (fun h117 => ?_) (fun h117 => ?_)
    · exfalso; omega
    · refine gm_7 rfl dX7_copyIn_120 dX7_copyIn_121 rfl ?_
      refine aw_aload_n dX7_copyIn_124 rfl ?_
      refine aw_iload_n dX7_copyIn_125 rfl ?_
      refine aw_iload_n dX7_copyIn_126 rfl ?_
      refine c_X7_301 rfl dX7_copyIn_127 m_ob (Nat.le_of_ble_eq_true rfl) (by omega) (C_m_frameRow (by omega) (by omega) ?_)
      refine aK_i ?_
      refine aw_iload dX7_copyIn_130 rfl ?_
      refine aw_iaddr dX7_copyIn_132 (by omega) ?_
      refine gm_27 rfl dX7_copyIn_133 dX7_copyIn_134 rfl ?_
      refine aw_bipush dX7_copyIn_137 (by decide) ?_
      refine aw_iload_n dX7_copyIn_139 rfl ?_
      refine aw_imulr dX7_copyIn_140 (by omega) ?_
      refine aw_iload dX7_copyIn_141 rfl ?_
      refine aw_iaddr dX7_copyIn_143 (by omega) ?_
      refine aw_laload dX7_copyIn_144 m_a5 (by omega) (by omega) ?_
      rw [hwk]
      refine aw_l2ir dX7_copyIn_145 (by omega) ?_
      refine aw_iastore dX7_copyIn_146 m_a1 (by omega) (by omega) ?_
      refine aw_iinc5r dX7_copyIn_147 (by decide) (by decide) rfl (by omega) ?_
      refine aw_goto (tgt := 113) dX7_copyIn_150 (by decide) ?_
      refine ih (k + 1) _ (by omega) (by omega) ?_ (fun x hx => by rw [aup_rn hx]; exact g2 x hx)
      rw [aup_r, g1]
      exact inS_put h2
