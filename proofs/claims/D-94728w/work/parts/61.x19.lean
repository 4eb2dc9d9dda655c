set_option maxRecDepth 100000
/-! operations, 12: frame, age -/
theorem L_x_frame {own : Int → Int} {sz : Int} {im : Int → aIm} {ct ct0 ct2 : Int → Int → Int} {a hv n dd : Int} {s N c : Int → Int} {Q : aPost} {d kc ks : Nat} {b e : Int} (hd : 4 ≤ d) (hR : RT own sz im ct0) (HY : YR own 0 sz im ct2 10 s dd N) (h4 : 0 ≤ a ∧ a < 4) (ehv : ct ((im 10).2.2 1) a = hv) (g1 : HvS sz im hv n) (g2 : HvC sz im ct hv n c) (rg : rgF n c) (b0 : 0 ≤ b ∧ b < n) (K : ∀ x6 : Option aV, AW (mq Q) md_X0_frame d kc ks 109 [some (vR 0), some (vI a), some (vI b), some (vI e), some (vI (isum (fun i => fso (c (16 * b + i)) e) 16)), some (vI 16), x6] [] (sz, im, ct)) : ∀ (r j : Nat) (x6 : Option aV), j + r = 16 → AW (mq Q) md_X0_frame d kc ks 45 [some (vR 0), some (vI a), some (vI b), some (vI e), some (vI (isum (fun i => fso (c (16 * b + i)) e) j)), some (vI j), x6] [] (sz, im, ct) := by
  have hn1 := g1.2.2.2.1
  have hn2 := g1.2.2.2.2
  have hA := g2.2.1 b b0.1 b0.2
  intro r
  induction r with
  | zero =>
    intro j x6 h1
    have ej : j = 16 := by omega
    subst ej
    refine aw_iload dX0_frame_45 rfl ?_
    refine aw_bipush dX0_frame_47 (by decide) ?_
    refine aw_icmpge (tgt := 109) dX0_frame_49 (by decide) (fun h49 => ?_) (fun h49 => ?_)
    · exact K _
    · exfalso; omega
  | succ r ih =>
    intro j x6 h1
    have hv9 := rg (16 * b + j) (by omega) (by omega)
    have e0 : ct (ct ((im hv).2.2 1) b) j = c (16 * b + j) := g2.2.2.2 b j b0.1 b0.2 (by omega) (by omega)
    have hb := isum_bd (g := fun i => fso (c (16 * b + i)) e) (B := 1) (n := j) fun i i0 i1 => fso_bd
    have es : isum (fun i => fso (c (16 * b + i)) e) (j + 1) = isum (fun i => fso (c (16 * b + i)) e) j + fso (c (16 * b + j)) e := rfl
    have ih := fun x6 => ih (j + 1) x6 (by omega)
    rw [es] at ih
    refine aw_iload dX0_frame_45 rfl ?_
    refine aw_bipush dX0_frame_47 (by decide) ?_
    refine aw_icmpge (tgt := 109) dX0_frame_49 (by decide) (fun h49 => ?_) (fun h49 => ?_)
    · exfalso; omega
    · first
        | (exfalso; omega)
        | skip
          refine aw_aload_n dX0_frame_52 rfl ?_
          refine aw_iload_n dX0_frame_53 rfl ?_
          refine c_X0_172 rfl dX0_frame_54 hR.o0 (Nat.le_of_ble_eq_true rfl) (by omega) (C_x_xat2 (a := hv) hR HY h4 ehv ?_)
          refine aK_i ?_
          refine g_X0_176_9 rfl dX0_frame_57 g1.1 ?_
          refine aw_iload_n dX0_frame_60 rfl ?_
          refine aw_aaload dX0_frame_61 g1.2.1 (by decide) (by omega) (by omega) ?_
          refine aw_iload dX0_frame_62 rfl ?_
          refine aw_saload dX0_frame_64 hA (by omega) (by omega) ?_
          rw [e0]
          refine aw_istore6 dX0_frame_65 (by decide) rfl ?_
          refine aw_iload dX0_frame_67 rfl ?_
          refine aw_iload_n dX0_frame_69 rfl ?_
          refine aw_iload dX0_frame_70 rfl ?_
          refine aw_ifne (tgt := 79) dX0_frame_72 (by decide) (fun h72 => ?_) (fun h72 => ?_)
          · first
              | (exfalso; omega)
              | skip
                refine aw_iload dX0_frame_79 rfl ?_
                refine c_X0_390 rfl dX0_frame_81  (Nat.le_of_ble_eq_true rfl) (by omega) (C_x_isHoney (fun hh => ?_) (fun hh => ?_))
                · first
                    | (exfalso; omega)
                    | skip
                      refine aK_i ?_
                      refine aw_ifeq (tgt := 91) dX0_frame_84 (by decide) (fun h => absurd h (by decide)) (fun _ => ?_)
                      refine aw_iconst dX0_frame_87 (by decide) ?_
                      refine aw_goto (tgt := 92) dX0_frame_88 (by decide) ?_
                      refine aw_icmpne (tgt := 99) dX0_frame_92 (by decide) (fun h92 => ?_) (fun h92 => ?_)
                      · first
                          | (exfalso; omega)
                          | skip
                            refine aw_iconst dX0_frame_99 (by decide) ?_
                            refine aw_iaddr dX0_frame_100 (by omega) ?_
                            refine aw_istore4 dX0_frame_101 (by decide) rfl ?_
                            refine aw_iinc5r dX0_frame_103 (by decide) (by decide) rfl (by omega) ?_
                            refine aw_goto (tgt := 45) dX0_frame_106 (by decide) ?_
                            first
                              | (rw [show fso (c (16 * b + j)) e = 1 by unfold fso; exact if_pos (by first | (rw [if_pos (by omega)]; omega) | (rw [if_neg (by omega), if_pos (by omega)]; omega) | (rw [if_neg (by omega), if_neg (by omega)]; omega))] at ih; exact ih _)
                              | (rw [show fso (c (16 * b + j)) e = 0 by unfold fso; exact if_neg (by first | (rw [if_pos (by omega)]; omega) | (rw [if_neg (by omega), if_pos (by omega)]; omega) | (rw [if_neg (by omega), if_neg (by omega)]; omega))] at ih; exact ih _)
                      · first
                          | (exfalso; omega)
                          | skip
                            refine aw_iconst dX0_frame_95 (by decide) ?_
                            refine aw_goto (tgt := 100) dX0_frame_96 (by decide) ?_
                            refine aw_iaddr dX0_frame_100 (by omega) ?_
                            refine aw_istore4 dX0_frame_101 (by decide) rfl ?_
                            refine aw_iinc5r dX0_frame_103 (by decide) (by decide) rfl (by omega) ?_
                            refine aw_goto (tgt := 45) dX0_frame_106 (by decide) ?_
                            first
                              | (rw [show fso (c (16 * b + j)) e = 1 by unfold fso; exact if_pos (by first | (rw [if_pos (by omega)]; omega) | (rw [if_neg (by omega), if_pos (by omega)]; omega) | (rw [if_neg (by omega), if_neg (by omega)]; omega))] at ih; exact ih _)
                              | (rw [show fso (c (16 * b + j)) e = 0 by unfold fso; exact if_neg (by first | (rw [if_pos (by omega)]; omega) | (rw [if_neg (by omega), if_pos (by omega)]; omega) | (rw [if_neg (by omega), if_neg (by omega)]; omega))] at ih; exact ih _)
                · first
                    | (exfalso; omega)
                    | skip
                      refine aK_i ?_
                      refine aw_ifeq (tgt := 91) dX0_frame_84 (by decide) (fun _ => ?_) (fun h => absurd h (by decide))
                      refine aw_iconst dX0_frame_91 (by decide) ?_
                      refine aw_icmpne (tgt := 99) dX0_frame_92 (by decide) (fun h92 => ?_) (fun h92 => ?_)
                      · first
                          | (exfalso; omega)
                          | skip
                            refine aw_iconst dX0_frame_99 (by decide) ?_
                            refine aw_iaddr dX0_frame_100 (by omega) ?_
                            refine aw_istore4 dX0_frame_101 (by decide) rfl ?_
                            refine aw_iinc5r dX0_frame_103 (by decide) (by decide) rfl (by omega) ?_
                            refine aw_goto (tgt := 45) dX0_frame_106 (by decide) ?_
                            first
                              | (rw [show fso (c (16 * b + j)) e = 1 by unfold fso; exact if_pos (by first | (rw [if_pos (by omega)]; omega) | (rw [if_neg (by omega), if_pos (by omega)]; omega) | (rw [if_neg (by omega), if_neg (by omega)]; omega))] at ih; exact ih _)
                              | (rw [show fso (c (16 * b + j)) e = 0 by unfold fso; exact if_neg (by first | (rw [if_pos (by omega)]; omega) | (rw [if_neg (by omega), if_pos (by omega)]; omega) | (rw [if_neg (by omega), if_neg (by omega)]; omega))] at ih; exact ih _)
                      · first
                          | (exfalso; omega)
                          | skip
                            refine aw_iconst dX0_frame_95 (by decide) ?_
                            refine aw_goto (tgt := 100) dX0_frame_96 (by decide) ?_
                            refine aw_iaddr dX0_frame_100 (by omega) ?_
                            refine aw_istore4 dX0_frame_101 (by decide) rfl ?_
                            refine aw_iinc5r dX0_frame_103 (by decide) (by decide) rfl (by omega) ?_
                            refine aw_goto (tgt := 45) dX0_frame_106 (by decide) ?_
                            first
                              | (rw [show fso (c (16 * b + j)) e = 1 by unfold fso; exact if_pos (by first | (rw [if_pos (by omega)]; omega) | (rw [if_neg (by omega), if_pos (by omega)]; omega) | (rw [if_neg (by omega), if_neg (by omega)]; omega))] at ih; exact ih _)
                              | (rw [show fso (c (16 * b + j)) e = 0 by unfold fso; exact if_neg (by first | (rw [if_pos (by omega)]; omega) | (rw [if_neg (by omega), if_pos (by omega)]; omega) | (rw [if_neg (by omega), if_neg (by omega)]; omega))] at ih; exact ih _)
          · first
              | (exfalso; omega)
              | skip
                refine aw_iconst dX0_frame_75 (by decide) ?_
                refine aw_goto (tgt := 92) dX0_frame_76 (by decide) ?_
                refine aw_icmpne (tgt := 99) dX0_frame_92 (by decide) (fun h92 => ?_) (fun h92 => ?_)
                · first
                    | (exfalso; omega)
                    | skip
                      refine aw_iconst dX0_frame_99 (by decide) ?_
                      refine aw_iaddr dX0_frame_100 (by omega) ?_
                      refine aw_istore4 dX0_frame_101 (by decide) rfl ?_
                      refine aw_iinc5r dX0_frame_103 (by decide) (by decide) rfl (by omega) ?_
                      refine aw_goto (tgt := 45) dX0_frame_106 (by decide) ?_
                      first
                        | (rw [show fso (c (16 * b + j)) e = 1 by unfold fso; exact if_pos (by first | (rw [if_pos (by omega)]; omega) | (rw [if_neg (by omega), if_pos (by omega)]; omega) | (rw [if_neg (by omega), if_neg (by omega)]; omega))] at ih; exact ih _)
                        | (rw [show fso (c (16 * b + j)) e = 0 by unfold fso; exact if_neg (by first | (rw [if_pos (by omega)]; omega) | (rw [if_neg (by omega), if_pos (by omega)]; omega) | (rw [if_neg (by omega), if_neg (by omega)]; omega))] at ih; exact ih _)
                · first
                    | (exfalso; omega)
                    | skip
                      refine aw_iconst dX0_frame_95 (by decide) ?_
                      refine aw_goto (tgt := 100) dX0_frame_96 (by decide) ?_
                      refine aw_iaddr dX0_frame_100 (by omega) ?_
                      refine aw_istore4 dX0_frame_101 (by decide) rfl ?_
                      refine aw_iinc5r dX0_frame_103 (by decide) (by decide) rfl (by omega) ?_
                      refine aw_goto (tgt := 45) dX0_frame_106 (by decide) ?_
                      first
                        | (rw [show fso (c (16 * b + j)) e = 1 by unfold fso; exact if_pos (by first | (rw [if_pos (by omega)]; omega) | (rw [if_neg (by omega), if_pos (by omega)]; omega) | (rw [if_neg (by omega), if_neg (by omega)]; omega))] at ih; exact ih _)
                        | (rw [show fso (c (16 * b + j)) e = 0 by unfold fso; exact if_neg (by first | (rw [if_pos (by omega)]; omega) | (rw [if_neg (by omega), if_pos (by omega)]; omega) | (rw [if_neg (by omega), if_neg (by omega)]; omega))] at ih; exact ih _)
theorem L_m_frame {ct : Int → Int → Int} {a b e n : Int} {Q : aPost} {d kc ks : Nat} (hd : 3 ≤ d) (ha : 0 ≤ a ∧ a < 4) (b0 : 0 ≤ b ∧ b < n) (hn : n ≤ 12) (rg : rgF n (sh (64 + 198 * a) (ct 1))) (K : ∀ x6 : Option aV, AW (mq Q) md_X7_frame d kc ks 94 [some (vR 0), some (vI a), some (vI b), some (vI e), some (vI (isum (fun i => fso (sh (64 + 198 * a) (ct 1) (16 * b + i)) e) 16)), some (vI 16), x6] [] (gM ct)) : ∀ (r j : Nat) (x6 : Option aV), j + r = 16 → AW (mq Q) md_X7_frame d kc ks 30 [some (vR 0), some (vI a), some (vI b), some (vI e), some (vI (isum (fun i => fso (sh (64 + 198 * a) (ct 1) (16 * b + i)) e) j)), some (vI j), x6] [] (gM ct) := by
  intro r
  induction r with
  | zero =>
    intro j x6 h1
    have ej : j = 16 := by omega
    subst ej
    refine aw_iload dX7_frame_30 rfl ?_
    refine aw_bipush dX7_frame_32 (by decide) ?_
    refine aw_icmpge (tgt := 94) dX7_frame_34 (by decide) (fun h34 => ?_) (fun h34 => ?_)
    · exact K _
    · exfalso; omega
  | succ r ih =>
    intro j x6 h1
    have hv9 := rg (16 * b + j) (by omega) (by omega)
    have e0 : ct 1 (64 + 198 * a + 6 + 16 * b + j) = sh (64 + 198 * a) (ct 1) (16 * b + j) := by unfold sh; rw [show 64 + 198 * a + 6 + 16 * b + (j : Int) = 64 + 198 * a + 6 + (16 * b + j) by omega]
    have hb := isum_bd (g := fun i => fso (sh (64 + 198 * a) (ct 1) (16 * b + i)) e) (B := 1) (n := j) fun i i0 i1 => fso_bd
    have es : isum (fun i => fso (sh (64 + 198 * a) (ct 1) (16 * b + i)) e) (j + 1) = isum (fun i => fso (sh (64 + 198 * a) (ct 1) (16 * b + i)) e) j + fso (sh (64 + 198 * a) (ct 1) (16 * b + j)) e := rfl
    have ih := fun x6 => ih (j + 1) x6 (by omega)
    rw [es] at ih
    refine aw_iload dX7_frame_30 rfl ?_
    refine aw_bipush dX7_frame_32 (by decide) ?_
    refine aw_icmpge (tgt := 94) dX7_frame_34 (by decide) (fun h34 => ?_) (fun h34 => ?_)
    · exfalso; omega
    · first
        | (exfalso; omega)
        | skip
          refine gm_7 rfl dX7_frame_37 dX7_frame_38 rfl ?_
          refine aw_aload_n dX7_frame_41 rfl ?_
          refine aw_iload_n dX7_frame_42 rfl ?_
          refine aw_iload_n dX7_frame_43 rfl ?_
          refine c_X7_301 rfl dX7_frame_44 m_ob (Nat.le_of_ble_eq_true rfl) (by omega) (C_m_frameRow (by omega) (by omega) ?_)
          refine aK_i ?_
          refine aw_iload dX7_frame_47 rfl ?_
          refine aw_iaddr dX7_frame_49 (by omega) ?_
          refine aw_iaload dX7_frame_50 m_a1 (by omega) (by omega) ?_
          rw [e0]
          refine aw_istore6 dX7_frame_51 (by decide) rfl ?_
          refine aw_iload dX7_frame_53 rfl ?_
          refine aw_iload dX7_frame_55 rfl ?_
          refine aw_ifne (tgt := 64) dX7_frame_57 (by decide) (fun h57 => ?_) (fun h57 => ?_)
          · first
              | (exfalso; omega)
              | skip
                refine aw_iload dX7_frame_64 rfl ?_
                refine aw_bipush dX7_frame_66 (by decide) ?_
                refine aw_icmpgt (tgt := 75) dX7_frame_68 (by decide) (fun h68 => ?_) (fun h68 => ?_)
                · first
                    | (exfalso; omega)
                    | skip
                      refine aw_iconst dX7_frame_75 (by decide) ?_
                      refine aw_iload_n dX7_frame_76 rfl ?_
                      refine aw_icmpne (tgt := 84) dX7_frame_77 (by decide) (fun h77 => ?_) (fun h77 => ?_)
                      · first
                          | (exfalso; omega)
                          | skip
                            refine aw_iconst dX7_frame_84 (by decide) ?_
                            refine aw_iaddr dX7_frame_85 (by omega) ?_
                            refine aw_istore4 dX7_frame_86 (by decide) rfl ?_
                            refine aw_iinc5r dX7_frame_88 (by decide) (by decide) rfl (by omega) ?_
                            refine aw_goto (tgt := 30) dX7_frame_91 (by decide) ?_
                            first
                              | (rw [show fso (sh (64 + 198 * a) (ct 1) (16 * b + j)) e = 1 by unfold fso; exact if_pos (by first | (rw [if_pos (by omega)]; omega) | (rw [if_neg (by omega), if_pos (by omega)]; omega) | (rw [if_neg (by omega), if_neg (by omega)]; omega))] at ih; exact ih _)
                              | (rw [show fso (sh (64 + 198 * a) (ct 1) (16 * b + j)) e = 0 by unfold fso; exact if_neg (by first | (rw [if_pos (by omega)]; omega) | (rw [if_neg (by omega), if_pos (by omega)]; omega) | (rw [if_neg (by omega), if_neg (by omega)]; omega))] at ih; exact ih _)
                      · first
                          | (exfalso; omega)
                          | skip
                            refine aw_iconst dX7_frame_80 (by decide) ?_
                            refine aw_goto (tgt := 85) dX7_frame_81 (by decide) ?_
                            refine aw_iaddr dX7_frame_85 (by omega) ?_
                            refine aw_istore4 dX7_frame_86 (by decide) rfl ?_
                            refine aw_iinc5r dX7_frame_88 (by decide) (by decide) rfl (by omega) ?_
                            refine aw_goto (tgt := 30) dX7_frame_91 (by decide) ?_
                            first
                              | (rw [show fso (sh (64 + 198 * a) (ct 1) (16 * b + j)) e = 1 by unfold fso; exact if_pos (by first | (rw [if_pos (by omega)]; omega) | (rw [if_neg (by omega), if_pos (by omega)]; omega) | (rw [if_neg (by omega), if_neg (by omega)]; omega))] at ih; exact ih _)
                              | (rw [show fso (sh (64 + 198 * a) (ct 1) (16 * b + j)) e = 0 by unfold fso; exact if_neg (by first | (rw [if_pos (by omega)]; omega) | (rw [if_neg (by omega), if_pos (by omega)]; omega) | (rw [if_neg (by omega), if_neg (by omega)]; omega))] at ih; exact ih _)
                · first
                    | (exfalso; omega)
                    | skip
                      refine aw_iconst dX7_frame_71 (by decide) ?_
                      refine aw_goto (tgt := 76) dX7_frame_72 (by decide) ?_
                      refine aw_iload_n dX7_frame_76 rfl ?_
                      refine aw_icmpne (tgt := 84) dX7_frame_77 (by decide) (fun h77 => ?_) (fun h77 => ?_)
                      · first
                          | (exfalso; omega)
                          | skip
                            refine aw_iconst dX7_frame_84 (by decide) ?_
                            refine aw_iaddr dX7_frame_85 (by omega) ?_
                            refine aw_istore4 dX7_frame_86 (by decide) rfl ?_
                            refine aw_iinc5r dX7_frame_88 (by decide) (by decide) rfl (by omega) ?_
                            refine aw_goto (tgt := 30) dX7_frame_91 (by decide) ?_
                            first
                              | (rw [show fso (sh (64 + 198 * a) (ct 1) (16 * b + j)) e = 1 by unfold fso; exact if_pos (by first | (rw [if_pos (by omega)]; omega) | (rw [if_neg (by omega), if_pos (by omega)]; omega) | (rw [if_neg (by omega), if_neg (by omega)]; omega))] at ih; exact ih _)
                              | (rw [show fso (sh (64 + 198 * a) (ct 1) (16 * b + j)) e = 0 by unfold fso; exact if_neg (by first | (rw [if_pos (by omega)]; omega) | (rw [if_neg (by omega), if_pos (by omega)]; omega) | (rw [if_neg (by omega), if_neg (by omega)]; omega))] at ih; exact ih _)
                      · first
                          | (exfalso; omega)
                          | skip
                            refine aw_iconst dX7_frame_80 (by decide) ?_
                            refine aw_goto (tgt := 85) dX7_frame_81 (by decide) ?_
                            refine aw_iaddr dX7_frame_85 (by omega) ?_
                            refine aw_istore4 dX7_frame_86 (by decide) rfl ?_
                            refine aw_iinc5r dX7_frame_88 (by decide) (by decide) rfl (by omega) ?_
                            refine aw_goto (tgt := 30) dX7_frame_91 (by decide) ?_
                            first
                              | (rw [show fso (sh (64 + 198 * a) (ct 1) (16 * b + j)) e = 1 by unfold fso; exact if_pos (by first | (rw [if_pos (by omega)]; omega) | (rw [if_neg (by omega), if_pos (by omega)]; omega) | (rw [if_neg (by omega), if_neg (by omega)]; omega))] at ih; exact ih _)
                              | (rw [show fso (sh (64 + 198 * a) (ct 1) (16 * b + j)) e = 0 by unfold fso; exact if_neg (by first | (rw [if_pos (by omega)]; omega) | (rw [if_neg (by omega), if_pos (by omega)]; omega) | (rw [if_neg (by omega), if_neg (by omega)]; omega))] at ih; exact ih _)
          · first
              | (exfalso; omega)
              | skip
                refine aw_iconst dX7_frame_60 (by decide) ?_
                refine aw_goto (tgt := 76) dX7_frame_61 (by decide) ?_
                refine aw_iload_n dX7_frame_76 rfl ?_
                refine aw_icmpne (tgt := 84) dX7_frame_77 (by decide) (fun h77 => ?_) (fun h77 => ?_)
                · first
                    | (exfalso; omega)
                    | skip
                      refine aw_iconst dX7_frame_84 (by decide) ?_
                      refine aw_iaddr dX7_frame_85 (by omega) ?_
                      refine aw_istore4 dX7_frame_86 (by decide) rfl ?_
                      refine aw_iinc5r dX7_frame_88 (by decide) (by decide) rfl (by omega) ?_
                      refine aw_goto (tgt := 30) dX7_frame_91 (by decide) ?_
                      first
                        | (rw [show fso (sh (64 + 198 * a) (ct 1) (16 * b + j)) e = 1 by unfold fso; exact if_pos (by first | (rw [if_pos (by omega)]; omega) | (rw [if_neg (by omega), if_pos (by omega)]; omega) | (rw [if_neg (by omega), if_neg (by omega)]; omega))] at ih; exact ih _)
                        | (rw [show fso (sh (64 + 198 * a) (ct 1) (16 * b + j)) e = 0 by unfold fso; exact if_neg (by first | (rw [if_pos (by omega)]; omega) | (rw [if_neg (by omega), if_pos (by omega)]; omega) | (rw [if_neg (by omega), if_neg (by omega)]; omega))] at ih; exact ih _)
                · first
                    | (exfalso; omega)
                    | skip
                      refine aw_iconst dX7_frame_80 (by decide) ?_
                      refine aw_goto (tgt := 85) dX7_frame_81 (by decide) ?_
                      refine aw_iaddr dX7_frame_85 (by omega) ?_
                      refine aw_istore4 dX7_frame_86 (by decide) rfl ?_
                      refine aw_iinc5r dX7_frame_88 (by decide) (by decide) rfl (by omega) ?_
                      refine aw_goto (tgt := 30) dX7_frame_91 (by decide) ?_
                      first
                        | (rw [show fso (sh (64 + 198 * a) (ct 1) (16 * b + j)) e = 1 by unfold fso; exact if_pos (by first | (rw [if_pos (by omega)]; omega) | (rw [if_neg (by omega), if_pos (by omega)]; omega) | (rw [if_neg (by omega), if_neg (by omega)]; omega))] at ih; exact ih _)
                        | (rw [show fso (sh (64 + 198 * a) (ct 1) (16 * b + j)) e = 0 by unfold fso; exact if_neg (by first | (rw [if_pos (by omega)]; omega) | (rw [if_neg (by omega), if_pos (by omega)]; omega) | (rw [if_neg (by omega), if_neg (by omega)]; omega))] at ih; exact ih _)
theorem OP_frame {sz : Int} {im : Int → aIm} {ct cm : Int → Int → Int} (h : XR (sz, im, ct) cm) {a b c : Int} (r0 : -2147483648 ≤ a ∧ a < 2147483648) (r1 : -2147483648 ≤ b ∧ b < 2147483648) (r2 : -2147483648 ≤ c ∧ c < 2147483648)  : AMet md_X0_frame 4 0 0 [vR 0, vI a, vI b, vI c] (sz, im, ct) (XQ md_X7_frame 4 [vR 0, vI a, vI b, vI c] cm) := by
  obtain ⟨own, N, hR, HY, HL, HN, HS, HP, HF, HX, hv2, hv3, hv4⟩ := id h
  dsimp only at hR HY HL HS HX hv2 hv3 hv4
  have hp0 := HP.1
  have hp3 := HP.2.1
  have hpq := HP.2.2.2.1.1
  have hps := HP.2.2.2.2.2
  refine AMet.go (L := [some (vR 0), some (vI a), some (vI b), some (vI c), none, none, none]) mok_X0_frame (Nat.le_of_ble_eq_true rfl) rfl ?_
  refine aw_aload_n dX0_frame_0 rfl ?_
  refine aw_aload_n dX0_frame_1 rfl ?_
  refine aw_iload_n dX0_frame_2 rfl ?_
  refine aw_iload_n dX0_frame_3 rfl ?_
  refine c_X0_301 rfl dX0_frame_4 hR.o0 (Nat.le_of_ble_eq_true rfl) (by omega) (C_x_isFrame hR HY (fun xf => ?_) (fun xf => ?_))
  · refine aK_i ?_
    refine aw_ifeq (tgt := 26) dX0_frame_7 (by decide) (fun h => absurd h (by decide)) (fun _ => ?_)
    refine aw_iload_n dX0_frame_10 rfl ?_
    refine aw_i2l dX0_frame_11 ?_
    refine aw_lconst0 dX0_frame_12 ?_
    refine aw_ldc2 (x := 2) dX0_frame_13 q1039 (by decide) ?_
    refine c_X0_164 rfl dX0_frame_16  (Nat.le_of_ble_eq_true rfl) (by omega) (C_x_isIn (fun hi => ?_) (fun hi => ?_))
    · refine aK_i ?_
      refine aw_ifeq (tgt := 26) dX0_frame_19 (by decide) (fun h => absurd h (by decide)) (fun _ => ?_)
      refine aw_iconst dX0_frame_22 (by decide) ?_
      refine aw_goto (tgt := 27) dX0_frame_23 (by decide) ?_
      refine p_X0_73_0 rfl dX0_frame_27 hR.o0 ?_
      refine aw_aload_n dX0_frame_30 rfl ?_
      refine g_X0_73_0 rfl dX0_frame_31 hR.o0 ?_
      repeat (first | rw [aup_s] | rw [aup_n (by omega)])
      refine aw_ifle (tgt := 39) dX0_frame_34 (by decide) (fun _ => ?_) (fun h => absurd h (by decide))
      obtain ⟨hv, ehv, ⟨g1, g2, ⟨g3, g4, g5, g6, g7⟩, g8, g9, -⟩, nhv0, nhv10, nhv9, nv0, nvhv, nv10, ohv⟩ := (HY.up0 (j := 7) (v := 0) hR.1.2 (by decide)).hv (hR.up0 (j := 7) (v := 0)) (k := a) (by omega) (by omega)
      have gn := g1.2.2.2
      have gh := HP.2.2.1 a (by omega) (by omega)
      have gq := gh.2.2.2.2.1
      have gp := HP.pd.2.1 a (by omega) (by omega)
      refine aw_iconst dX0_frame_39 (by decide) ?_
      refine aw_istore4 dX0_frame_40 (by decide) rfl ?_
      refine aw_iconst dX0_frame_42 (by decide) ?_
      refine aw_istore5 dX0_frame_43 (by decide) rfl ?_
      refine L_x_frame (a := a) (b := b) (e := c) (by omega) hR HY (by omega) ehv g1 g2 gh.2.1 (by omega) (fun x6 => ?_) 16 0 _ (by omega)
      refine aw_iload dX0_frame_109 rfl ?_
      refine aw_ireturn dX0_frame_111 rfl ?_
      refine ⟨_, rfl, ?_⟩
      refine AMet.go (L := [some (vR 0), some (vI a), some (vI b), some (vI c), none, none, none]) mok_X7_frame (Nat.le_of_ble_eq_true rfl) rfl ?_
      refine aw_aload_n dX7_frame_0 rfl ?_
      refine aw_iload_n dX7_frame_1 rfl ?_
      refine aw_iload_n dX7_frame_2 rfl ?_
      refine c_X7_298 rfl dX7_frame_3 m_ob (Nat.le_of_ble_eq_true rfl) (by omega) (C_m_isFrame (by omega) (fun hff => ?_) (fun hff => ?_))
      · first
          | (exfalso; omega)
          | skip
            refine aK_i ?_
            refine aw_ifeq (tgt := 18) dX7_frame_6 (by decide) (fun h => absurd h (by decide)) (fun _ => ?_)
            refine aw_iload_n dX7_frame_9 rfl ?_
            refine aw_iflt (tgt := 18) dX7_frame_10 (by decide) (fun h10 => ?_) (fun h10 => ?_)
            · first
                | (exfalso; omega)
                | skip
                  refine aw_aload_n dX7_frame_18 rfl ?_
                  refine aw_iconst dX7_frame_19 (by decide) ?_
                  refine c_X7_72 rfl dX7_frame_20 m_ob (Nat.le_of_ble_eq_true rfl) (by omega) (C_m_refuse ?_)
                  refine aK_i ?_
                  refine aw_ireturn dX7_frame_23 rfl ?_
                  first
                    | (exfalso; omega)
                    | (refine XR.sameE h ?_ ?_ ?_ ?_ ?_ ?_
                       · first
                           | rfl
                           | omega
                       · repeat (first | exact xs.rf | refine xs.up ?_ (by decide))
                       · repeat (first | exact mss.rf | refine mss.up0 ?_ (by decide))
                       · first
                           | (simp [aup, hv2, hv3, hv4]; done)
                           | (simp [aup, hv2, hv3, hv4]; omega)
                       · simp [aup, hv2, hv3, hv4]
                       · simp [aup, hv2, hv3, hv4])
            · first
                | (exfalso; omega)
                | skip
                  refine aw_iload_n dX7_frame_13 rfl ?_
                  refine aw_iconst dX7_frame_14 (by decide) ?_
                  refine aw_icmple (tgt := 24) dX7_frame_15 (by decide) (fun h15 => ?_) (fun h15 => ?_)
                  · first
                      | (exfalso; omega)
                      | skip
                        refine aw_iconst dX7_frame_24 (by decide) ?_
                        refine aw_istore4 dX7_frame_25 (by decide) rfl ?_
                        refine aw_iconst dX7_frame_27 (by decide) ?_
                        refine aw_istore5 dX7_frame_28 (by decide) rfl ?_
                        refine L_m_frame (a := a) (b := b) (e := c) (by omega) (by omega) (by omega) gh.1.2 gh.2.1 (fun x6 => ?_) 16 0 _ (by omega)
                        refine aw_aload_n dX7_frame_94 rfl ?_
                        refine aw_iload dX7_frame_95 rfl ?_
                        refine c_X7_76 rfl dX7_frame_97 m_ob (Nat.le_of_ble_eq_true rfl) (by omega) (C_m_gives ?_)
                        refine aK_i ?_
                        refine aw_ireturn dX7_frame_100 rfl ?_
                        first
                          | (exfalso; omega)
                          | (refine XR.sameE h ?_ ?_ ?_ ?_ ?_ ?_
                             · first
                                 | rfl
                                 | omega
                             · repeat (first | exact xs.rf | refine xs.up ?_ (by decide))
                             · repeat (first | exact mss.rf | refine mss.up0 ?_ (by decide))
                             · first
                                 | (simp [aup, hv2, hv3, hv4]; done)
                                 | (simp [aup, hv2, hv3, hv4]; omega)
                             · simp [aup, hv2, hv3, hv4]
                             · simp [aup, hv2, hv3, hv4])
                  · first
                      | (exfalso; omega)
                      | skip
                        refine aw_aload_n dX7_frame_18 rfl ?_
                        refine aw_iconst dX7_frame_19 (by decide) ?_
                        refine c_X7_72 rfl dX7_frame_20 m_ob (Nat.le_of_ble_eq_true rfl) (by omega) (C_m_refuse ?_)
                        refine aK_i ?_
                        refine aw_ireturn dX7_frame_23 rfl ?_
                        first
                          | (exfalso; omega)
                          | (refine XR.sameE h ?_ ?_ ?_ ?_ ?_ ?_
                             · first
                                 | rfl
                                 | omega
                             · repeat (first | exact xs.rf | refine xs.up ?_ (by decide))
                             · repeat (first | exact mss.rf | refine mss.up0 ?_ (by decide))
                             · first
                                 | (simp [aup, hv2, hv3, hv4]; done)
                                 | (simp [aup, hv2, hv3, hv4]; omega)
                             · simp [aup, hv2, hv3, hv4]
                             · simp [aup, hv2, hv3, hv4])
      · first
          | (exfalso; omega)
          | skip
            refine aK_i ?_
            refine aw_ifeq (tgt := 18) dX7_frame_6 (by decide) (fun _ => ?_) (fun h => absurd h (by decide))
            refine aw_aload_n dX7_frame_18 rfl ?_
            refine aw_iconst dX7_frame_19 (by decide) ?_
            refine c_X7_72 rfl dX7_frame_20 m_ob (Nat.le_of_ble_eq_true rfl) (by omega) (C_m_refuse ?_)
            refine aK_i ?_
            refine aw_ireturn dX7_frame_23 rfl ?_
            first
              | (exfalso; omega)
              | (refine XR.sameE h ?_ ?_ ?_ ?_ ?_ ?_
                 · first
                     | rfl
                     | omega
                 · repeat (first | exact xs.rf | refine xs.up ?_ (by decide))
                 · repeat (first | exact mss.rf | refine mss.up0 ?_ (by decide))
                 · first
                     | (simp [aup, hv2, hv3, hv4]; done)
                     | (simp [aup, hv2, hv3, hv4]; omega)
                 · simp [aup, hv2, hv3, hv4]
                 · simp [aup, hv2, hv3, hv4])
    · refine aK_i ?_
      refine aw_ifeq (tgt := 26) dX0_frame_19 (by decide) (fun _ => ?_) (fun h => absurd h (by decide))
      refine aw_iconst dX0_frame_26 (by decide) ?_
      refine p_X0_73_0 rfl dX0_frame_27 hR.o0 ?_
      refine aw_aload_n dX0_frame_30 rfl ?_
      refine g_X0_73_0 rfl dX0_frame_31 hR.o0 ?_
      repeat (first | rw [aup_s] | rw [aup_n (by omega)])
      refine aw_ifle (tgt := 39) dX0_frame_34 (by decide) (fun h => absurd h (by decide)) (fun _ => ?_)
      refine aw_iconst dX0_frame_37 (by decide) ?_
      refine aw_ireturn dX0_frame_38 rfl ?_
      refine ⟨_, rfl, ?_⟩
      refine AMet.go (L := [some (vR 0), some (vI a), some (vI b), some (vI c), none, none, none]) mok_X7_frame (Nat.le_of_ble_eq_true rfl) rfl ?_
      refine aw_aload_n dX7_frame_0 rfl ?_
      refine aw_iload_n dX7_frame_1 rfl ?_
      refine aw_iload_n dX7_frame_2 rfl ?_
      refine c_X7_298 rfl dX7_frame_3 m_ob (Nat.le_of_ble_eq_true rfl) (by omega) (C_m_isFrame (by omega) (fun hff => ?_) (fun hff => ?_))
      · first
          | (exfalso; omega)
          | skip
            refine aK_i ?_
            refine aw_ifeq (tgt := 18) dX7_frame_6 (by decide) (fun h => absurd h (by decide)) (fun _ => ?_)
            refine aw_iload_n dX7_frame_9 rfl ?_
            refine aw_iflt (tgt := 18) dX7_frame_10 (by decide) (fun h10 => ?_) (fun h10 => ?_)
            · first
                | (exfalso; omega)
                | skip
                  refine aw_aload_n dX7_frame_18 rfl ?_
                  refine aw_iconst dX7_frame_19 (by decide) ?_
                  refine c_X7_72 rfl dX7_frame_20 m_ob (Nat.le_of_ble_eq_true rfl) (by omega) (C_m_refuse ?_)
                  refine aK_i ?_
                  refine aw_ireturn dX7_frame_23 rfl ?_
                  first
                    | (exfalso; omega)
                    | (refine XR.sameE h ?_ ?_ ?_ ?_ ?_ ?_
                       · first
                           | rfl
                           | omega
                       · repeat (first | exact xs.rf | refine xs.up ?_ (by decide))
                       · repeat (first | exact mss.rf | refine mss.up0 ?_ (by decide))
                       · first
                           | (simp [aup, hv2, hv3, hv4]; done)
                           | (simp [aup, hv2, hv3, hv4]; omega)
                       · simp [aup, hv2, hv3, hv4]
                       · simp [aup, hv2, hv3, hv4])
            · first
                | (exfalso; omega)
                | skip
                  refine aw_iload_n dX7_frame_13 rfl ?_
                  refine aw_iconst dX7_frame_14 (by decide) ?_
                  refine aw_icmple (tgt := 24) dX7_frame_15 (by decide) (fun h15 => ?_) (fun h15 => ?_)
                  · first
                      | (exfalso; omega)
                      | skip
                        refine aw_iconst dX7_frame_24 (by decide) ?_
                        refine aw_istore4 dX7_frame_25 (by decide) rfl ?_
                        refine aw_iconst dX7_frame_27 (by decide) ?_
                        refine aw_istore5 dX7_frame_28 (by decide) rfl ?_
                        refine L_m_frame (a := a) (b := b) (e := c) (by omega) (by omega) (by omega) gh.1.2 gh.2.1 (fun x6 => ?_) 16 0 _ (by omega)
                        refine aw_aload_n dX7_frame_94 rfl ?_
                        refine aw_iload dX7_frame_95 rfl ?_
                        refine c_X7_76 rfl dX7_frame_97 m_ob (Nat.le_of_ble_eq_true rfl) (by omega) (C_m_gives ?_)
                        refine aK_i ?_
                        refine aw_ireturn dX7_frame_100 rfl ?_
                        first
                          | (exfalso; omega)
                          | (refine XR.sameE h ?_ ?_ ?_ ?_ ?_ ?_
                             · first
                                 | rfl
                                 | omega
                             · repeat (first | exact xs.rf | refine xs.up ?_ (by decide))
                             · repeat (first | exact mss.rf | refine mss.up0 ?_ (by decide))
                             · first
                                 | (simp [aup, hv2, hv3, hv4]; done)
                                 | (simp [aup, hv2, hv3, hv4]; omega)
                             · simp [aup, hv2, hv3, hv4]
                             · simp [aup, hv2, hv3, hv4])
                  · first
                      | (exfalso; omega)
                      | skip
                        refine aw_aload_n dX7_frame_18 rfl ?_
                        refine aw_iconst dX7_frame_19 (by decide) ?_
                        refine c_X7_72 rfl dX7_frame_20 m_ob (Nat.le_of_ble_eq_true rfl) (by omega) (C_m_refuse ?_)
                        refine aK_i ?_
                        refine aw_ireturn dX7_frame_23 rfl ?_
                        first
                          | (exfalso; omega)
                          | (refine XR.sameE h ?_ ?_ ?_ ?_ ?_ ?_
                             · first
                                 | rfl
                                 | omega
                             · repeat (first | exact xs.rf | refine xs.up ?_ (by decide))
                             · repeat (first | exact mss.rf | refine mss.up0 ?_ (by decide))
                             · first
                                 | (simp [aup, hv2, hv3, hv4]; done)
                                 | (simp [aup, hv2, hv3, hv4]; omega)
                             · simp [aup, hv2, hv3, hv4]
                             · simp [aup, hv2, hv3, hv4])
      · first
          | (exfalso; omega)
          | skip
            refine aK_i ?_
            refine aw_ifeq (tgt := 18) dX7_frame_6 (by decide) (fun _ => ?_) (fun h => absurd h (by decide))
            refine aw_aload_n dX7_frame_18 rfl ?_
            refine aw_iconst dX7_frame_19 (by decide) ?_
            refine c_X7_72 rfl dX7_frame_20 m_ob (Nat.le_of_ble_eq_true rfl) (by omega) (C_m_refuse ?_)
            refine aK_i ?_
            refine aw_ireturn dX7_frame_23 rfl ?_
            first
              | (exfalso; omega)
              | (refine XR.sameE h ?_ ?_ ?_ ?_ ?_ ?_
                 · first
                     | rfl
                     | omega
                 · repeat (first | exact xs.rf | refine xs.up ?_ (by decide))
                 · repeat (first | exact mss.rf | refine mss.up0 ?_ (by decide))
                 · first
                     | (simp [aup, hv2, hv3, hv4]; done)
                     | (simp [aup, hv2, hv3, hv4]; omega)
                 · simp [aup, hv2, hv3, hv4]
                 · simp [aup, hv2, hv3, hv4])
  · refine aK_i ?_
    refine aw_ifeq (tgt := 26) dX0_frame_7 (by decide) (fun _ => ?_) (fun h => absurd h (by decide))
    refine aw_iconst dX0_frame_26 (by decide) ?_
    refine p_X0_73_0 rfl dX0_frame_27 hR.o0 ?_
    refine aw_aload_n dX0_frame_30 rfl ?_
    refine g_X0_73_0 rfl dX0_frame_31 hR.o0 ?_
    repeat (first | rw [aup_s] | rw [aup_n (by omega)])
    refine aw_ifle (tgt := 39) dX0_frame_34 (by decide) (fun h => absurd h (by decide)) (fun _ => ?_)
    refine aw_iconst dX0_frame_37 (by decide) ?_
    refine aw_ireturn dX0_frame_38 rfl ?_
    refine ⟨_, rfl, ?_⟩
    refine AMet.go (L := [some (vR 0), some (vI a), some (vI b), some (vI c), none, none, none]) mok_X7_frame (Nat.le_of_ble_eq_true rfl) rfl ?_
    refine aw_aload_n dX7_frame_0 rfl ?_
    refine aw_iload_n dX7_frame_1 rfl ?_
    refine aw_iload_n dX7_frame_2 rfl ?_
    refine c_X7_298 rfl dX7_frame_3 m_ob (Nat.le_of_ble_eq_true rfl) (by omega) (C_m_isFrame (by omega) (fun hff => ?_) (fun hff => ?_))
    · first
        | (exfalso; omega)
        | skip
          refine aK_i ?_
          refine aw_ifeq (tgt := 18) dX7_frame_6 (by decide) (fun h => absurd h (by decide)) (fun _ => ?_)
          refine aw_iload_n dX7_frame_9 rfl ?_
          refine aw_iflt (tgt := 18) dX7_frame_10 (by decide) (fun h10 => ?_) (fun h10 => ?_)
          · first
              | (exfalso; omega)
              | skip
                refine aw_aload_n dX7_frame_18 rfl ?_
                refine aw_iconst dX7_frame_19 (by decide) ?_
                refine c_X7_72 rfl dX7_frame_20 m_ob (Nat.le_of_ble_eq_true rfl) (by omega) (C_m_refuse ?_)
                refine aK_i ?_
                refine aw_ireturn dX7_frame_23 rfl ?_
                first
                  | (exfalso; omega)
                  | (refine XR.sameE h ?_ ?_ ?_ ?_ ?_ ?_
                     · first
                         | rfl
                         | omega
                     · repeat (first | exact xs.rf | refine xs.up ?_ (by decide))
                     · repeat (first | exact mss.rf | refine mss.up0 ?_ (by decide))
                     · first
                         | (simp [aup, hv2, hv3, hv4]; done)
                         | (simp [aup, hv2, hv3, hv4]; omega)
                     · simp [aup, hv2, hv3, hv4]
                     · simp [aup, hv2, hv3, hv4])
          · first
              | (exfalso; omega)
              | skip
                refine aw_iload_n dX7_frame_13 rfl ?_
                refine aw_iconst dX7_frame_14 (by decide) ?_
                refine aw_icmple (tgt := 24) dX7_frame_15 (by decide) (fun h15 => ?_) (fun h15 => ?_)
                · first
                    | (exfalso; omega)
                    | skip
                      refine aw_iconst dX7_frame_24 (by decide) ?_
                      refine aw_istore4 dX7_frame_25 (by decide) rfl ?_
                      refine aw_iconst dX7_frame_27 (by decide) ?_
                      refine aw_istore5 dX7_frame_28 (by decide) rfl ?_
                      refine L_m_frame (a := a) (b := b) (e := c) (by omega) (by omega) (by omega) gh.1.2 gh.2.1 (fun x6 => ?_) 16 0 _ (by omega)
                      refine aw_aload_n dX7_frame_94 rfl ?_
                      refine aw_iload dX7_frame_95 rfl ?_
                      refine c_X7_76 rfl dX7_frame_97 m_ob (Nat.le_of_ble_eq_true rfl) (by omega) (C_m_gives ?_)
                      refine aK_i ?_
                      refine aw_ireturn dX7_frame_100 rfl ?_
                      first
                        | (exfalso; omega)
                        | (refine XR.sameE h ?_ ?_ ?_ ?_ ?_ ?_
                           · first
                               | rfl
                               | omega
                           · repeat (first | exact xs.rf | refine xs.up ?_ (by decide))
                           · repeat (first | exact mss.rf | refine mss.up0 ?_ (by decide))
                           · first
                               | (simp [aup, hv2, hv3, hv4]; done)
                               | (simp [aup, hv2, hv3, hv4]; omega)
                           · simp [aup, hv2, hv3, hv4]
                           · simp [aup, hv2, hv3, hv4])
                · first
                    | (exfalso; omega)
                    | skip
                      refine aw_aload_n dX7_frame_18 rfl ?_
                      refine aw_iconst dX7_frame_19 (by decide) ?_
                      refine c_X7_72 rfl dX7_frame_20 m_ob (Nat.le_of_ble_eq_true rfl) (by omega) (C_m_refuse ?_)
                      refine aK_i ?_
                      refine aw_ireturn dX7_frame_23 rfl ?_
                      first
                        | (exfalso; omega)
                        | (refine XR.sameE h ?_ ?_ ?_ ?_ ?_ ?_
                           · first
                               | rfl
                               | omega
                           · repeat (first | exact xs.rf | refine xs.up ?_ (by decide))
                           · repeat (first | exact mss.rf | refine mss.up0 ?_ (by decide))
                           · first
                               | (simp [aup, hv2, hv3, hv4]; done)
                               | (simp [aup, hv2, hv3, hv4]; omega)
                           · simp [aup, hv2, hv3, hv4]
                           · simp [aup, hv2, hv3, hv4])
    · first
        | (exfalso; omega)
        | skip
          refine aK_i ?_
          refine aw_ifeq (tgt := 18) dX7_frame_6 (by decide) (fun _ => ?_) (fun h => absurd h (by decide))
          refine aw_aload_n dX7_frame_18 rfl ?_
          refine aw_iconst dX7_frame_19 (by decide) ?_
          refine c_X7_72 rfl dX7_frame_20 m_ob (Nat.le_of_ble_eq_true rfl) (by omega) (C_m_refuse ?_)
          refine aK_i ?_
          refine aw_ireturn dX7_frame_23 rfl ?_
          first
            | (exfalso; omega)
            | (refine XR.sameE h ?_ ?_ ?_ ?_ ?_ ?_
               · first
                   | rfl
                   | omega
               · repeat (first | exact xs.rf | refine xs.up ?_ (by decide))
               · repeat (first | exact mss.rf | refine mss.up0 ?_ (by decide))
               · first
                   | (simp [aup, hv2, hv3, hv4]; done)
                   | (simp [aup, hv2, hv3, hv4]; omega)
               · simp [aup, hv2, hv3, hv4]
               · simp [aup, hv2, hv3, hv4])
theorem L_x_age2 {own : Int → Int} {sz : Int} {im : Int → aIm} {ct ct0 ct2 : Int → Int → Int} {a hv n dd : Int} {s N c : Int → Int} {Q : aPost} {d kc ks : Nat} {b : Int} (hd : 4 ≤ d) (hR : RT own sz im ct0) (HY : YR own 0 sz im ct2 10 s dd N) (h4 : 0 ≤ a ∧ a < 4) (ehv : ct ((im 10).2.2 1) a = hv) (g1 : HvS sz im hv n) (g2 : HvC sz im ct hv n c) (rg : rgF n c) (K : ∀ (R : Int) (k : Int) (x5 : Option aV), agT c (16 * n) b R → AW (mq Q) md_X0_age d kc ks 106 [some (vR 0), some (vI a), some (vI b), some (vI R), some (vI k), x5] [] (sz, im, ct)) : ∀ (r j : Nat) (R : Int) (x5 : Option aV), (j : Int) + r = 16 * n → agT (fun k => c (fld n k)) j b R → AW (mq Q) md_X0_age d kc ks 41 [some (vR 0), some (vI a), some (vI b), some (vI R), some (vI j), x5] [] (sz, im, ct) := by
  have hn1 := g1.2.2.2.1
  have hn2 := g1.2.2.2.2
  intro r
  induction r with
  | zero =>
    intro j R x5 h1 h2
    have ej : (j : Int) = 16 * n := by omega
    refine aw_iload dX0_age_41 rfl ?_
    refine aw_aload_n dX0_age_43 rfl ?_
    refine aw_iload_n dX0_age_44 rfl ?_
    refine c_X0_172 rfl dX0_age_45 hR.o0 (Nat.le_of_ble_eq_true rfl) (by omega) (C_x_xat2 (a := hv) hR HY h4 ehv ?_)
    refine aK_i ?_
    refine c_X0_344 rfl dX0_age_48 g1.1 (Nat.le_of_ble_eq_true rfl) (by omega) (C_x_fields g1 ?_)
    refine aK_i ?_
    refine aw_icmpge (tgt := 106) dX0_age_51 (by decide) (fun h51 => ?_) (fun h51 => ?_)
    · rw [ej] at h2
      exact K R _ _ h2.fldE
    · exfalso; omega
  | succ r ih =>
    intro j R x5 h1 h2
    have hf := fld_in (n := n) (k := j) (by omega) (by omega)
    have hv9 := rg _ hf.1 hf.2
    have hbd := h2.bd
    have ih := fun R x5 h => ih (j + 1) R x5 (by omega) h
    refine aw_iload dX0_age_41 rfl ?_
    refine aw_aload_n dX0_age_43 rfl ?_
    refine aw_iload_n dX0_age_44 rfl ?_
    refine c_X0_172 rfl dX0_age_45 hR.o0 (Nat.le_of_ble_eq_true rfl) (by omega) (C_x_xat2 (a := hv) hR HY h4 ehv ?_)
    refine aK_i ?_
    refine c_X0_344 rfl dX0_age_48 g1.1 (Nat.le_of_ble_eq_true rfl) (by omega) (C_x_fields g1 ?_)
    refine aK_i ?_
    refine aw_icmpge (tgt := 106) dX0_age_51 (by decide) (fun h51 => ?_) (fun h51 => ?_)
    · exfalso; omega
    · refine aw_aload_n dX0_age_54 rfl ?_
      refine aw_iload_n dX0_age_55 rfl ?_
      refine c_X0_172 rfl dX0_age_56 hR.o0 (Nat.le_of_ble_eq_true rfl) (by omega) (C_x_xat2 (a := hv) hR HY h4 ehv ?_)
      refine aK_i ?_
      refine aw_iload dX0_age_59 rfl ?_
      refine c_X0_385 rfl dX0_age_61 g1.1 (Nat.le_of_ble_eq_true rfl) (by omega) (C_x_at g1 g2 (by omega) (by omega) ?_)
      refine aK_i ?_
      refine aw_bipush dX0_age_64 (by decide) ?_
      refine aw_isubr dX0_age_66 (by omega) ?_
      refine aw_istore5 dX0_age_67 (by decide) rfl ?_
      refine aw_iload dX0_age_69 rfl ?_
      refine aw_iflt (tgt := 100) dX0_age_71 (by decide) (fun h71 => ?_) (fun h71 => ?_)
      · refine aw_iinc4r dX0_age_100 (by decide) (by decide) rfl (by omega) ?_
        refine aw_goto (tgt := 41) dX0_age_103 (by decide) ?_
        first
          | exact ih _ _ (h2.skip (by show c (fld n j) < 101; omega))
          | exact ih _ _ (h2.keep (by omega) (fun z => by show R ≤ c (fld n j) - 101; omega) (fun z => by show c (fld n j) - 101 ≤ R; omega))
          | exact ih _ _ (agT.new (c := fun k => c (fld n k)) (by omega) h2 (by show 101 ≤ c (fld n j); omega) (fun y z => by show c (fld n j) - 101 ≤ R; omega) (fun y z => by show R ≤ c (fld n j) - 101; omega))
      · refine aw_iload_n dX0_age_74 rfl ?_
        refine aw_iflt (tgt := 97) dX0_age_75 (by decide) (fun h75 => ?_) (fun h75 => ?_)
        · refine aw_iload dX0_age_97 rfl ?_
          refine aw_istore3 dX0_age_99 (by decide) rfl ?_
          refine aw_iinc4r dX0_age_100 (by decide) (by decide) rfl (by omega) ?_
          refine aw_goto (tgt := 41) dX0_age_103 (by decide) ?_
          first
            | exact ih _ _ (h2.skip (by show c (fld n j) < 101; omega))
            | exact ih _ _ (h2.keep (by omega) (fun z => by show R ≤ c (fld n j) - 101; omega) (fun z => by show c (fld n j) - 101 ≤ R; omega))
            | exact ih _ _ (agT.new (c := fun k => c (fld n k)) (by omega) h2 (by show 101 ≤ c (fld n j); omega) (fun y z => by show c (fld n j) - 101 ≤ R; omega) (fun y z => by show R ≤ c (fld n j) - 101; omega))
        · refine aw_iload_n dX0_age_78 rfl ?_
          refine aw_ifne (tgt := 91) dX0_age_79 (by decide) (fun h79 => ?_) (fun h79 => ?_)
          · refine aw_iload dX0_age_91 rfl ?_
            refine aw_iload_n dX0_age_93 rfl ?_
            refine aw_icmple (tgt := 100) dX0_age_94 (by decide) (fun h94 => ?_) (fun h94 => ?_)
            · refine aw_iinc4r dX0_age_100 (by decide) (by decide) rfl (by omega) ?_
              refine aw_goto (tgt := 41) dX0_age_103 (by decide) ?_
              first
                | exact ih _ _ (h2.skip (by show c (fld n j) < 101; omega))
                | exact ih _ _ (h2.keep (by omega) (fun z => by show R ≤ c (fld n j) - 101; omega) (fun z => by show c (fld n j) - 101 ≤ R; omega))
                | exact ih _ _ (agT.new (c := fun k => c (fld n k)) (by omega) h2 (by show 101 ≤ c (fld n j); omega) (fun y z => by show c (fld n j) - 101 ≤ R; omega) (fun y z => by show R ≤ c (fld n j) - 101; omega))
            · refine aw_iload dX0_age_97 rfl ?_
              refine aw_istore3 dX0_age_99 (by decide) rfl ?_
              refine aw_iinc4r dX0_age_100 (by decide) (by decide) rfl (by omega) ?_
              refine aw_goto (tgt := 41) dX0_age_103 (by decide) ?_
              first
                | exact ih _ _ (h2.skip (by show c (fld n j) < 101; omega))
                | exact ih _ _ (h2.keep (by omega) (fun z => by show R ≤ c (fld n j) - 101; omega) (fun z => by show c (fld n j) - 101 ≤ R; omega))
                | exact ih _ _ (agT.new (c := fun k => c (fld n k)) (by omega) h2 (by show 101 ≤ c (fld n j); omega) (fun y z => by show c (fld n j) - 101 ≤ R; omega) (fun y z => by show R ≤ c (fld n j) - 101; omega))
          · refine aw_iload dX0_age_82 rfl ?_
            refine aw_iload_n dX0_age_84 rfl ?_
            refine aw_icmpge (tgt := 100) dX0_age_85 (by decide) (fun h85 => ?_) (fun h85 => ?_)
            · refine aw_iinc4r dX0_age_100 (by decide) (by decide) rfl (by omega) ?_
              refine aw_goto (tgt := 41) dX0_age_103 (by decide) ?_
              first
                | exact ih _ _ (h2.skip (by show c (fld n j) < 101; omega))
                | exact ih _ _ (h2.keep (by omega) (fun z => by show R ≤ c (fld n j) - 101; omega) (fun z => by show c (fld n j) - 101 ≤ R; omega))
                | exact ih _ _ (agT.new (c := fun k => c (fld n k)) (by omega) h2 (by show 101 ≤ c (fld n j); omega) (fun y z => by show c (fld n j) - 101 ≤ R; omega) (fun y z => by show R ≤ c (fld n j) - 101; omega))
            · refine aw_goto (tgt := 97) dX0_age_88 (by decide) ?_
              refine aw_iload dX0_age_97 rfl ?_
              refine aw_istore3 dX0_age_99 (by decide) rfl ?_
              refine aw_iinc4r dX0_age_100 (by decide) (by decide) rfl (by omega) ?_
              refine aw_goto (tgt := 41) dX0_age_103 (by decide) ?_
              first
                | exact ih _ _ (h2.skip (by show c (fld n j) < 101; omega))
                | exact ih _ _ (h2.keep (by omega) (fun z => by show R ≤ c (fld n j) - 101; omega) (fun z => by show c (fld n j) - 101 ≤ R; omega))
                | exact ih _ _ (agT.new (c := fun k => c (fld n k)) (by omega) h2 (by show 101 ≤ c (fld n j); omega) (fun y z => by show c (fld n j) - 101 ≤ R; omega) (fun y z => by show R ≤ c (fld n j) - 101; omega))
theorem L_m_age2 {ct : Int → Int → Int} {a b h n : Int} {Q : aPost} {d kc ks : Nat} (e : ct 1 h = n) (hn : 1 ≤ n ∧ n ≤ 12) (hh : 0 ≤ h ∧ h + 6 + 16 * n ≤ 7578) (rg : rgF n (sh h (ct 1))) (K : ∀ (R f : Int) (x6 : Option aV), agT (sh h (ct 1)) (16 * n) b R → AW (mq Q) md_X7_age d kc ks 113 [some (vR 0), some (vI a), some (vI b), some (vI h), some (vI R), some (vI f), x6] [] (gM ct)) : ∀ (r j : Nat) (R f : Int) (x6 : Option aV), f = h + 6 + j → (j : Int) + r = 16 * n → agT (sh h (ct 1)) j b R → AW (mq Q) md_X7_age d kc ks 37 [some (vR 0), some (vI a), some (vI b), some (vI h), some (vI R), some (vI f), x6] [] (gM ct) := by
  intro r
  induction r with
  | zero =>
    intro j R f x6 h0 h1 h2
    have ej : (j : Int) = 16 * n := by omega
    refine aw_iload dX7_age_37 rfl ?_
    refine aw_iload_n dX7_age_39 rfl ?_
    refine aw_bipush dX7_age_40 (by decide) ?_
    refine aw_iaddr dX7_age_42 (by omega) ?_
    refine aw_bipush dX7_age_43 (by decide) ?_
    refine gm_7 rfl dX7_age_45 dX7_age_46 rfl ?_
    refine aw_iload_n dX7_age_49 rfl ?_
    refine aw_iaload dX7_age_50 m_a1 (by omega) (by omega) ?_
    rw [e]
    refine aw_imulr dX7_age_51 (by omega) ?_
    refine aw_iaddr dX7_age_52 (by omega) ?_
    refine aw_icmpge (tgt := 113) dX7_age_53 (by decide) (fun h53 => ?_) (fun h53 => ?_)
    · rw [ej] at h2
      exact K R _ _ h2
    · exfalso; omega
  | succ r ih =>
    intro j R f x6 h0 h1 h2
    subst h0
    have hv9 : 0 ≤ ct 1 (h + 6 + j) ∧ ct 1 (h + 6 + j) ≤ 121 := rg j (by omega) (by omega)
    have hbd := h2.bd
    have ih := fun R x6 h9 => ih (j + 1) R (h + 6 + j + 1) x6 (by omega) (by omega) h9
    refine aw_iload dX7_age_37 rfl ?_
    refine aw_iload_n dX7_age_39 rfl ?_
    refine aw_bipush dX7_age_40 (by decide) ?_
    refine aw_iaddr dX7_age_42 (by omega) ?_
    refine aw_bipush dX7_age_43 (by decide) ?_
    refine gm_7 rfl dX7_age_45 dX7_age_46 rfl ?_
    refine aw_iload_n dX7_age_49 rfl ?_
    refine aw_iaload dX7_age_50 m_a1 (by omega) (by omega) ?_
    rw [e]
    refine aw_imulr dX7_age_51 (by omega) ?_
    refine aw_iaddr dX7_age_52 (by omega) ?_
    refine aw_icmpge (tgt := 113) dX7_age_53 (by decide) (fun h53 => ?_) (fun h53 => ?_)
    · exfalso; omega
    · refine gm_7 rfl dX7_age_56 dX7_age_57 rfl ?_
      refine aw_iload dX7_age_60 rfl ?_
      refine aw_iaload dX7_age_62 m_a1 (by omega) (by omega) ?_
      refine aw_bipush dX7_age_63 (by decide) ?_
      refine aw_isubr dX7_age_65 (by omega) ?_
      refine aw_istore6 dX7_age_66 (by decide) rfl ?_
      refine aw_iload dX7_age_68 rfl ?_
      refine aw_iflt (tgt := 107) dX7_age_70 (by decide) (fun h70 => ?_) (fun h70 => ?_)
      · refine aw_iinc5r dX7_age_107 (by decide) (by decide) rfl (by omega) ?_
        refine aw_goto (tgt := 37) dX7_age_110 (by decide) ?_
        first
          | exact ih _ _ (h2.skip (by show ct 1 (h + 6 + j) < 101; omega))
          | exact ih _ _ (h2.keep (by omega) (fun z => by show R ≤ ct 1 (h + 6 + j) - 101; omega) (fun z => by show ct 1 (h + 6 + j) - 101 ≤ R; omega))
          | exact ih _ _ (agT.new (c := sh h (ct 1)) (by omega) h2 (by show 101 ≤ ct 1 (h + 6 + j); omega) (fun y z => by show ct 1 (h + 6 + j) - 101 ≤ R; omega) (fun y z => by show R ≤ ct 1 (h + 6 + j) - 101; omega))
      · refine aw_iload dX7_age_73 rfl ?_
        refine aw_iconst dX7_age_75 (by decide) ?_
        refine aw_icmpeq (tgt := 103) dX7_age_76 (by decide) (fun h76 => ?_) (fun h76 => ?_)
        · refine aw_iload dX7_age_103 rfl ?_
          refine aw_istore4 dX7_age_105 (by decide) rfl ?_
          refine aw_iinc5r dX7_age_107 (by decide) (by decide) rfl (by omega) ?_
          refine aw_goto (tgt := 37) dX7_age_110 (by decide) ?_
          first
            | exact ih _ _ (h2.skip (by show ct 1 (h + 6 + j) < 101; omega))
            | exact ih _ _ (h2.keep (by omega) (fun z => by show R ≤ ct 1 (h + 6 + j) - 101; omega) (fun z => by show ct 1 (h + 6 + j) - 101 ≤ R; omega))
            | exact ih _ _ (agT.new (c := sh h (ct 1)) (by omega) h2 (by show 101 ≤ ct 1 (h + 6 + j); omega) (fun y z => by show ct 1 (h + 6 + j) - 101 ≤ R; omega) (fun y z => by show R ≤ ct 1 (h + 6 + j) - 101; omega))
        · refine aw_iload_n dX7_age_79 rfl ?_
          refine aw_ifne (tgt := 93) dX7_age_80 (by decide) (fun h80 => ?_) (fun h80 => ?_)
          · refine aw_iload dX7_age_93 rfl ?_
            refine aw_iload dX7_age_95 rfl ?_
            refine aw_icmpgt (tgt := 103) dX7_age_97 (by decide) (fun h97 => ?_) (fun h97 => ?_)
            · refine aw_iload dX7_age_103 rfl ?_
              refine aw_istore4 dX7_age_105 (by decide) rfl ?_
              refine aw_iinc5r dX7_age_107 (by decide) (by decide) rfl (by omega) ?_
              refine aw_goto (tgt := 37) dX7_age_110 (by decide) ?_
              first
                | exact ih _ _ (h2.skip (by show ct 1 (h + 6 + j) < 101; omega))
                | exact ih _ _ (h2.keep (by omega) (fun z => by show R ≤ ct 1 (h + 6 + j) - 101; omega) (fun z => by show ct 1 (h + 6 + j) - 101 ≤ R; omega))
                | exact ih _ _ (agT.new (c := sh h (ct 1)) (by omega) h2 (by show 101 ≤ ct 1 (h + 6 + j); omega) (fun y z => by show ct 1 (h + 6 + j) - 101 ≤ R; omega) (fun y z => by show R ≤ ct 1 (h + 6 + j) - 101; omega))
            · refine aw_goto (tgt := 107) dX7_age_100 (by decide) ?_
              refine aw_iinc5r dX7_age_107 (by decide) (by decide) rfl (by omega) ?_
              refine aw_goto (tgt := 37) dX7_age_110 (by decide) ?_
              first
                | exact ih _ _ (h2.skip (by show ct 1 (h + 6 + j) < 101; omega))
                | exact ih _ _ (h2.keep (by omega) (fun z => by show R ≤ ct 1 (h + 6 + j) - 101; omega) (fun z => by show ct 1 (h + 6 + j) - 101 ≤ R; omega))
                | exact ih _ _ (agT.new (c := sh h (ct 1)) (by omega) h2 (by show 101 ≤ ct 1 (h + 6 + j); omega) (fun y z => by show ct 1 (h + 6 + j) - 101 ≤ R; omega) (fun y z => by show R ≤ ct 1 (h + 6 + j) - 101; omega))
          · refine aw_iload dX7_age_83 rfl ?_
            refine aw_iload dX7_age_85 rfl ?_
            refine aw_icmplt (tgt := 103) dX7_age_87 (by decide) (fun h87 => ?_) (fun h87 => ?_)
            · refine aw_iload dX7_age_103 rfl ?_
              refine aw_istore4 dX7_age_105 (by decide) rfl ?_
              refine aw_iinc5r dX7_age_107 (by decide) (by decide) rfl (by omega) ?_
              refine aw_goto (tgt := 37) dX7_age_110 (by decide) ?_
              first
                | exact ih _ _ (h2.skip (by show ct 1 (h + 6 + j) < 101; omega))
                | exact ih _ _ (h2.keep (by omega) (fun z => by show R ≤ ct 1 (h + 6 + j) - 101; omega) (fun z => by show ct 1 (h + 6 + j) - 101 ≤ R; omega))
                | exact ih _ _ (agT.new (c := sh h (ct 1)) (by omega) h2 (by show 101 ≤ ct 1 (h + 6 + j); omega) (fun y z => by show ct 1 (h + 6 + j) - 101 ≤ R; omega) (fun y z => by show R ≤ ct 1 (h + 6 + j) - 101; omega))
            · refine aw_goto (tgt := 107) dX7_age_90 (by decide) ?_
              refine aw_iinc5r dX7_age_107 (by decide) (by decide) rfl (by omega) ?_
              refine aw_goto (tgt := 37) dX7_age_110 (by decide) ?_
              first
                | exact ih _ _ (h2.skip (by show ct 1 (h + 6 + j) < 101; omega))
                | exact ih _ _ (h2.keep (by omega) (fun z => by show R ≤ ct 1 (h + 6 + j) - 101; omega) (fun z => by show ct 1 (h + 6 + j) - 101 ≤ R; omega))
                | exact ih _ _ (agT.new (c := sh h (ct 1)) (by omega) h2 (by show 101 ≤ ct 1 (h + 6 + j); omega) (fun y z => by show ct 1 (h + 6 + j) - 101 ≤ R; omega) (fun y z => by show R ≤ ct 1 (h + 6 + j) - 101; omega))
theorem OP_age {sz : Int} {im : Int → aIm} {ct cm : Int → Int → Int} (h : XR (sz, im, ct) cm) {a b : Int} (r0 : -2147483648 ≤ a ∧ a < 2147483648) (r1 : -2147483648 ≤ b ∧ b < 2147483648)  : AMet md_X0_age 4 0 0 [vR 0, vI a, vI b] (sz, im, ct) (XQ md_X7_age 4 [vR 0, vI a, vI b] cm) := by
  obtain ⟨own, N, hR, HY, HL, HN, HS, HP, HF, HX, hv2, hv3, hv4⟩ := id h
  dsimp only at hR HY HL HS HX hv2 hv3 hv4
  have hp0 := HP.1
  have hp3 := HP.2.1
  have hpq := HP.2.2.2.1.1
  have hps := HP.2.2.2.2.2
  refine AMet.go (L := [some (vR 0), some (vI a), some (vI b), none, none, none]) mok_X0_age (Nat.le_of_ble_eq_true rfl) rfl ?_
  refine aw_aload_n dX0_age_0 rfl ?_
  refine aw_aload_n dX0_age_1 rfl ?_
  refine aw_iload_n dX0_age_2 rfl ?_
  refine c_X0_168 rfl dX0_age_3 hR.o0 (Nat.le_of_ble_eq_true rfl) (by omega) (C_x_isHive hR HY (fun xh => ?_) (fun xh => ?_))
  · refine aK_i ?_
    refine aw_ifeq (tgt := 23) dX0_age_6 (by decide) (fun h => absurd h (by decide)) (fun _ => ?_)
    refine aw_iload_n dX0_age_9 rfl ?_
    refine aw_i2l dX0_age_10 ?_
    refine aw_lconst0 dX0_age_11 ?_
    refine aw_lconst1 dX0_age_12 ?_
    refine c_X0_164 rfl dX0_age_13  (Nat.le_of_ble_eq_true rfl) (by omega) (C_x_isIn (fun hi => ?_) (fun hi => ?_))
    · refine aK_i ?_
      refine aw_ifeq (tgt := 23) dX0_age_16 (by decide) (fun h => absurd h (by decide)) (fun _ => ?_)
      refine aw_iconst dX0_age_19 (by decide) ?_
      refine aw_goto (tgt := 24) dX0_age_20 (by decide) ?_
      refine p_X0_73_0 rfl dX0_age_24 hR.o0 ?_
      refine aw_aload_n dX0_age_27 rfl ?_
      refine g_X0_73_0 rfl dX0_age_28 hR.o0 ?_
      repeat (first | rw [aup_s] | rw [aup_n (by omega)])
      refine aw_ifle (tgt := 36) dX0_age_31 (by decide) (fun _ => ?_) (fun h => absurd h (by decide))
      obtain ⟨hv, ehv, ⟨g1, g2, ⟨g3, g4, g5, g6, g7⟩, g8, g9, -⟩, nhv0, nhv10, nhv9, nv0, nvhv, nv10, ohv⟩ := (HY.up0 (j := 7) (v := 0) hR.1.2 (by decide)).hv (hR.up0 (j := 7) (v := 0)) (k := a) (by omega) (by omega)
      have gn := g1.2.2.2
      have gh := HP.2.2.1 a (by omega) (by omega)
      have gq := gh.2.2.2.2.1
      have gp := HP.pd.2.1 a (by omega) (by omega)
      refine aw_iconst dX0_age_36 (by decide) ?_
      refine aw_istore3 dX0_age_37 (by decide) rfl ?_
      refine aw_iconst dX0_age_38 (by decide) ?_
      refine aw_istore4 dX0_age_39 (by decide) rfl ?_
      refine L_x_age2 (a := a) (b := b) (by omega) hR HY (by omega) ehv g1 g2 gh.2.1 (fun R k x5 hag => ?_) (16 * cm 1 (64 + 198 * a)).toNat 0 (-1) _ (by omega) agT_0
      have hbd := hag.bd
      refine aw_aload_n dX0_age_106 rfl ?_
      refine aw_iload_n dX0_age_107 rfl ?_
      refine c_X0_283 rfl dX0_age_108 hR.o0 (Nat.le_of_ble_eq_true rfl) (by omega) (C_x_answer (hR.up0 (j := 7) (v := 0)) (fun u hu => ?_))
      refine aK_i ?_
      refine aw_ireturn dX0_age_111 rfl ?_
      refine ⟨_, rfl, ?_⟩
      refine AMet.go (L := [some (vR 0), some (vI a), some (vI b), none, none, none, none]) mok_X7_age (Nat.le_of_ble_eq_true rfl) rfl ?_
      refine aw_aload_n dX7_age_0 rfl ?_
      refine aw_iload_n dX7_age_1 rfl ?_
      refine c_X7_274 rfl dX7_age_2 m_ob (Nat.le_of_ble_eq_true rfl) (by omega) (C_m_isHive (fun hh => ?_) (fun hh => ?_))
      · first
          | (exfalso; omega)
          | skip
            refine aK_i ?_
            refine aw_ifeq (tgt := 17) dX7_age_5 (by decide) (fun h => absurd h (by decide)) (fun _ => ?_)
            refine aw_iload_n dX7_age_8 rfl ?_
            refine aw_iflt (tgt := 17) dX7_age_9 (by decide) (fun h9 => ?_) (fun h9 => ?_)
            · first
                | (exfalso; omega)
                | skip
                  refine aw_aload_n dX7_age_17 rfl ?_
                  refine aw_iconst dX7_age_18 (by decide) ?_
                  refine c_X7_72 rfl dX7_age_19 m_ob (Nat.le_of_ble_eq_true rfl) (by omega) (C_m_refuse ?_)
                  refine aK_i ?_
                  refine aw_ireturn dX7_age_22 rfl ?_
                  first
                    | (exfalso; omega)
                    | (refine XR.sameE h ?_ ?_ ?_ ?_ ?_ ?_
                       · first
                           | rfl
                           | omega
                       · repeat (first | exact xs.rf | refine xs.up ?_ (by decide))
                       · repeat (first | exact mss.rf | refine mss.up0 ?_ (by decide))
                       · first
                           | (simp [aup, hv2, hv3, hv4]; done)
                           | (simp [aup, hv2, hv3, hv4]; omega)
                           | (rw [aup_s, aup_s, hu]; split <;> omega)
                       · simp [aup, hv2, hv3, hv4]
                       · simp [aup, hv2, hv3, hv4])
            · first
                | (exfalso; omega)
                | skip
                  refine aw_iload_n dX7_age_12 rfl ?_
                  refine aw_iconst dX7_age_13 (by decide) ?_
                  refine aw_icmple (tgt := 23) dX7_age_14 (by decide) (fun h14 => ?_) (fun h14 => ?_)
                  · first
                      | (exfalso; omega)
                      | skip
                        refine aw_iload_n dX7_age_23 rfl ?_
                        refine c_X7_217 rfl dX7_age_24  (Nat.le_of_ble_eq_true rfl) (by omega) (C_m_hiveRow (by omega) ?_)
                        refine aK_i ?_
                        refine aw_istore3 dX7_age_27 (by decide) rfl ?_
                        refine aw_iconst dX7_age_28 (by decide) ?_
                        refine aw_istore4 dX7_age_29 (by decide) rfl ?_
                        refine aw_iload_n dX7_age_31 rfl ?_
                        refine aw_bipush dX7_age_32 (by decide) ?_
                        refine aw_iaddr dX7_age_34 (by omega) ?_
                        refine aw_istore5 dX7_age_35 (by decide) rfl ?_
                        refine L_m_age2 (a := a) (b := b) (h := 64 + 198 * a) rfl gh.1 (by omega) gh.2.1 (fun R2 f2 x6 hag2 => ?_) (16 * cm 1 (64 + 198 * a)).toNat 0 (-1) _ _ (by omega) (by omega) agT_0
                        have hRR := hag.uniq hag2
                        subst hRR
                        refine aw_aload_n dX7_age_113 rfl ?_
                        refine aw_iload dX7_age_114 rfl ?_
                        refine c_X7_280 rfl dX7_age_116 m_ob (Nat.le_of_ble_eq_true rfl) (by omega) (C_m_orNone (fun hz => ?_) (fun hz => ?_))
                        · refine aK_i ?_
                          refine aw_ireturn dX7_age_119 rfl ?_
                          first
                            | (exfalso; omega)
                            | (refine XR.sameE h ?_ ?_ ?_ ?_ ?_ ?_
                               · first
                                   | rfl
                                   | omega
                               · repeat (first | exact xs.rf | refine xs.up ?_ (by decide))
                               · repeat (first | exact mss.rf | refine mss.up0 ?_ (by decide))
                               · first
                                   | (simp [aup, hv2, hv3, hv4]; done)
                                   | (simp [aup, hv2, hv3, hv4]; omega)
                                   | (rw [aup_s, aup_s, hu]; split <;> omega)
                               · simp [aup, hv2, hv3, hv4]
                               · simp [aup, hv2, hv3, hv4])
                        · refine aK_i ?_
                          refine aw_ireturn dX7_age_119 rfl ?_
                          first
                            | (exfalso; omega)
                            | (refine XR.sameE h ?_ ?_ ?_ ?_ ?_ ?_
                               · first
                                   | rfl
                                   | omega
                               · repeat (first | exact xs.rf | refine xs.up ?_ (by decide))
                               · repeat (first | exact mss.rf | refine mss.up0 ?_ (by decide))
                               · first
                                   | (simp [aup, hv2, hv3, hv4]; done)
                                   | (simp [aup, hv2, hv3, hv4]; omega)
                                   | (rw [aup_s, aup_s, hu]; split <;> omega)
                               · simp [aup, hv2, hv3, hv4]
                               · simp [aup, hv2, hv3, hv4])
                  · first
                      | (exfalso; omega)
                      | skip
                        refine aw_aload_n dX7_age_17 rfl ?_
                        refine aw_iconst dX7_age_18 (by decide) ?_
                        refine c_X7_72 rfl dX7_age_19 m_ob (Nat.le_of_ble_eq_true rfl) (by omega) (C_m_refuse ?_)
                        refine aK_i ?_
                        refine aw_ireturn dX7_age_22 rfl ?_
                        first
                          | (exfalso; omega)
                          | (refine XR.sameE h ?_ ?_ ?_ ?_ ?_ ?_
                             · first
                                 | rfl
                                 | omega
                             · repeat (first | exact xs.rf | refine xs.up ?_ (by decide))
                             · repeat (first | exact mss.rf | refine mss.up0 ?_ (by decide))
                             · first
                                 | (simp [aup, hv2, hv3, hv4]; done)
                                 | (simp [aup, hv2, hv3, hv4]; omega)
                                 | (rw [aup_s, aup_s, hu]; split <;> omega)
                             · simp [aup, hv2, hv3, hv4]
                             · simp [aup, hv2, hv3, hv4])
      · first
          | (exfalso; omega)
          | skip
            refine aK_i ?_
            refine aw_ifeq (tgt := 17) dX7_age_5 (by decide) (fun _ => ?_) (fun h => absurd h (by decide))
            refine aw_aload_n dX7_age_17 rfl ?_
            refine aw_iconst dX7_age_18 (by decide) ?_
            refine c_X7_72 rfl dX7_age_19 m_ob (Nat.le_of_ble_eq_true rfl) (by omega) (C_m_refuse ?_)
            refine aK_i ?_
            refine aw_ireturn dX7_age_22 rfl ?_
            first
              | (exfalso; omega)
              | (refine XR.sameE h ?_ ?_ ?_ ?_ ?_ ?_
                 · first
                     | rfl
                     | omega
                 · repeat (first | exact xs.rf | refine xs.up ?_ (by decide))
                 · repeat (first | exact mss.rf | refine mss.up0 ?_ (by decide))
                 · first
                     | (simp [aup, hv2, hv3, hv4]; done)
                     | (simp [aup, hv2, hv3, hv4]; omega)
                     | (rw [aup_s, aup_s, hu]; split <;> omega)
                 · simp [aup, hv2, hv3, hv4]
                 · simp [aup, hv2, hv3, hv4])
    · refine aK_i ?_
      refine aw_ifeq (tgt := 23) dX0_age_16 (by decide) (fun _ => ?_) (fun h => absurd h (by decide))
      refine aw_iconst dX0_age_23 (by decide) ?_
      refine p_X0_73_0 rfl dX0_age_24 hR.o0 ?_
      refine aw_aload_n dX0_age_27 rfl ?_
      refine g_X0_73_0 rfl dX0_age_28 hR.o0 ?_
      repeat (first | rw [aup_s] | rw [aup_n (by omega)])
      refine aw_ifle (tgt := 36) dX0_age_31 (by decide) (fun h => absurd h (by decide)) (fun _ => ?_)
      refine aw_iconst dX0_age_34 (by decide) ?_
      refine aw_ireturn dX0_age_35 rfl ?_
      refine ⟨_, rfl, ?_⟩
      refine AMet.go (L := [some (vR 0), some (vI a), some (vI b), none, none, none, none]) mok_X7_age (Nat.le_of_ble_eq_true rfl) rfl ?_
      refine aw_aload_n dX7_age_0 rfl ?_
      refine aw_iload_n dX7_age_1 rfl ?_
      refine c_X7_274 rfl dX7_age_2 m_ob (Nat.le_of_ble_eq_true rfl) (by omega) (C_m_isHive (fun hh => ?_) (fun hh => ?_))
      · first
          | (exfalso; omega)
          | skip
            refine aK_i ?_
            refine aw_ifeq (tgt := 17) dX7_age_5 (by decide) (fun h => absurd h (by decide)) (fun _ => ?_)
            refine aw_iload_n dX7_age_8 rfl ?_
            refine aw_iflt (tgt := 17) dX7_age_9 (by decide) (fun h9 => ?_) (fun h9 => ?_)
            · first
                | (exfalso; omega)
                | skip
                  refine aw_aload_n dX7_age_17 rfl ?_
                  refine aw_iconst dX7_age_18 (by decide) ?_
                  refine c_X7_72 rfl dX7_age_19 m_ob (Nat.le_of_ble_eq_true rfl) (by omega) (C_m_refuse ?_)
                  refine aK_i ?_
                  refine aw_ireturn dX7_age_22 rfl ?_
                  first
                    | (exfalso; omega)
                    | (refine XR.sameE h ?_ ?_ ?_ ?_ ?_ ?_
                       · first
                           | rfl
                           | omega
                       · repeat (first | exact xs.rf | refine xs.up ?_ (by decide))
                       · repeat (first | exact mss.rf | refine mss.up0 ?_ (by decide))
                       · first
                           | (simp [aup, hv2, hv3, hv4]; done)
                           | (simp [aup, hv2, hv3, hv4]; omega)
                           | (rw [aup_s, aup_s, hu]; split <;> omega)
                       · simp [aup, hv2, hv3, hv4]
                       · simp [aup, hv2, hv3, hv4])
            · first
                | (exfalso; omega)
                | skip
                  refine aw_iload_n dX7_age_12 rfl ?_
                  refine aw_iconst dX7_age_13 (by decide) ?_
                  refine aw_icmple (tgt := 23) dX7_age_14 (by decide) (fun h14 => ?_) (fun h14 => ?_)
                  · first
                      | (exfalso; omega)
                      | skip
                        refine aw_iload_n dX7_age_23 rfl ?_
                        refine c_X7_217 rfl dX7_age_24  (Nat.le_of_ble_eq_true rfl) (by omega) (C_m_hiveRow (by omega) ?_)
                        refine aK_i ?_
                        refine aw_istore3 dX7_age_27 (by decide) rfl ?_
                        refine aw_iconst dX7_age_28 (by decide) ?_
                        refine aw_istore4 dX7_age_29 (by decide) rfl ?_
                        refine aw_iload_n dX7_age_31 rfl ?_
                        refine aw_bipush dX7_age_32 (by decide) ?_
                        refine aw_iaddr dX7_age_34 (by omega) ?_
                        refine aw_istore5 dX7_age_35 (by decide) rfl ?_
                        refine L_m_age2 (a := a) (b := b) (h := 64 + 198 * a) rfl gh.1 (by omega) gh.2.1 (fun R2 f2 x6 hag2 => ?_) (16 * cm 1 (64 + 198 * a)).toNat 0 (-1) _ _ (by omega) (by omega) agT_0
                        have hRR := hag.uniq hag2
                        subst hRR
                        refine aw_aload_n dX7_age_113 rfl ?_
                        refine aw_iload dX7_age_114 rfl ?_
                        refine c_X7_280 rfl dX7_age_116 m_ob (Nat.le_of_ble_eq_true rfl) (by omega) (C_m_orNone (fun hz => ?_) (fun hz => ?_))
                        · refine aK_i ?_
                          refine aw_ireturn dX7_age_119 rfl ?_
                          first
                            | (exfalso; omega)
                            | (refine XR.sameE h ?_ ?_ ?_ ?_ ?_ ?_
                               · first
                                   | rfl
                                   | omega
                               · repeat (first | exact xs.rf | refine xs.up ?_ (by decide))
                               · repeat (first | exact mss.rf | refine mss.up0 ?_ (by decide))
                               · first
                                   | (simp [aup, hv2, hv3, hv4]; done)
                                   | (simp [aup, hv2, hv3, hv4]; omega)
                                   | (rw [aup_s, aup_s, hu]; split <;> omega)
                               · simp [aup, hv2, hv3, hv4]
                               · simp [aup, hv2, hv3, hv4])
                        · refine aK_i ?_
                          refine aw_ireturn dX7_age_119 rfl ?_
                          first
                            | (exfalso; omega)
                            | (refine XR.sameE h ?_ ?_ ?_ ?_ ?_ ?_
                               · first
                                   | rfl
                                   | omega
                               · repeat (first | exact xs.rf | refine xs.up ?_ (by decide))
                               · repeat (first | exact mss.rf | refine mss.up0 ?_ (by decide))
                               · first
                                   | (simp [aup, hv2, hv3, hv4]; done)
                                   | (simp [aup, hv2, hv3, hv4]; omega)
                                   | (rw [aup_s, aup_s, hu]; split <;> omega)
                               · simp [aup, hv2, hv3, hv4]
                               · simp [aup, hv2, hv3, hv4])
                  · first
                      | (exfalso; omega)
                      | skip
                        refine aw_aload_n dX7_age_17 rfl ?_
                        refine aw_iconst dX7_age_18 (by decide) ?_
                        refine c_X7_72 rfl dX7_age_19 m_ob (Nat.le_of_ble_eq_true rfl) (by omega) (C_m_refuse ?_)
                        refine aK_i ?_
                        refine aw_ireturn dX7_age_22 rfl ?_
                        first
                          | (exfalso; omega)
                          | (refine XR.sameE h ?_ ?_ ?_ ?_ ?_ ?_
                             · first
                                 | rfl
                                 | omega
                             · repeat (first | exact xs.rf | refine xs.up ?_ (by decide))
                             · repeat (first | exact mss.rf | refine mss.up0 ?_ (by decide))
                             · first
                                 | (simp [aup, hv2, hv3, hv4]; done)
                                 | (simp [aup, hv2, hv3, hv4]; omega)
                                 | (rw [aup_s, aup_s, hu]; split <;> omega)
                             · simp [aup, hv2, hv3, hv4]
                             · simp [aup, hv2, hv3, hv4])
      · first
          | (exfalso; omega)
          | skip
            refine aK_i ?_
            refine aw_ifeq (tgt := 17) dX7_age_5 (by decide) (fun _ => ?_) (fun h => absurd h (by decide))
            refine aw_aload_n dX7_age_17 rfl ?_
            refine aw_iconst dX7_age_18 (by decide) ?_
            refine c_X7_72 rfl dX7_age_19 m_ob (Nat.le_of_ble_eq_true rfl) (by omega) (C_m_refuse ?_)
            refine aK_i ?_
            refine aw_ireturn dX7_age_22 rfl ?_
            first
              | (exfalso; omega)
              | (refine XR.sameE h ?_ ?_ ?_ ?_ ?_ ?_
                 · first
                     | rfl
                     | omega
                 · repeat (first | exact xs.rf | refine xs.up ?_ (by decide))
                 · repeat (first | exact mss.rf | refine mss.up0 ?_ (by decide))
                 · first
                     | (simp [aup, hv2, hv3, hv4]; done)
                     | (simp [aup, hv2, hv3, hv4]; omega)
                     | (rw [aup_s, aup_s, hu]; split <;> omega)
                 · simp [aup, hv2, hv3, hv4]
                 · simp [aup, hv2, hv3, hv4])
  · refine aK_i ?_
    refine aw_ifeq (tgt := 23) dX0_age_6 (by decide) (fun _ => ?_) (fun h => absurd h (by decide))
    refine aw_iconst dX0_age_23 (by decide) ?_
    refine p_X0_73_0 rfl dX0_age_24 hR.o0 ?_
    refine aw_aload_n dX0_age_27 rfl ?_
    refine g_X0_73_0 rfl dX0_age_28 hR.o0 ?_
    repeat (first | rw [aup_s] | rw [aup_n (by omega)])
    refine aw_ifle (tgt := 36) dX0_age_31 (by decide) (fun h => absurd h (by decide)) (fun _ => ?_)
    refine aw_iconst dX0_age_34 (by decide) ?_
    refine aw_ireturn dX0_age_35 rfl ?_
    refine ⟨_, rfl, ?_⟩
    refine AMet.go (L := [some (vR 0), some (vI a), some (vI b), none, none, none, none]) mok_X7_age (Nat.le_of_ble_eq_true rfl) rfl ?_
    refine aw_aload_n dX7_age_0 rfl ?_
    refine aw_iload_n dX7_age_1 rfl ?_
    refine c_X7_274 rfl dX7_age_2 m_ob (Nat.le_of_ble_eq_true rfl) (by omega) (C_m_isHive (fun hh => ?_) (fun hh => ?_))
    · first
        | (exfalso; omega)
        | skip
          refine aK_i ?_
          refine aw_ifeq (tgt := 17) dX7_age_5 (by decide) (fun h => absurd h (by decide)) (fun _ => ?_)
          refine aw_iload_n dX7_age_8 rfl ?_
          refine aw_iflt (tgt := 17) dX7_age_9 (by decide) (fun h9 => ?_) (fun h9 => ?_)
          · first
              | (exfalso; omega)
              | skip
                refine aw_aload_n dX7_age_17 rfl ?_
                refine aw_iconst dX7_age_18 (by decide) ?_
                refine c_X7_72 rfl dX7_age_19 m_ob (Nat.le_of_ble_eq_true rfl) (by omega) (C_m_refuse ?_)
                refine aK_i ?_
                refine aw_ireturn dX7_age_22 rfl ?_
                first
                  | (exfalso; omega)
                  | (refine XR.sameE h ?_ ?_ ?_ ?_ ?_ ?_
                     · first
                         | rfl
                         | omega
                     · repeat (first | exact xs.rf | refine xs.up ?_ (by decide))
                     · repeat (first | exact mss.rf | refine mss.up0 ?_ (by decide))
                     · first
                         | (simp [aup, hv2, hv3, hv4]; done)
                         | (simp [aup, hv2, hv3, hv4]; omega)
                         | (rw [aup_s, aup_s, hu]; split <;> omega)
                     · simp [aup, hv2, hv3, hv4]
                     · simp [aup, hv2, hv3, hv4])
          · first
              | (exfalso; omega)
              | skip
                refine aw_iload_n dX7_age_12 rfl ?_
                refine aw_iconst dX7_age_13 (by decide) ?_
                refine aw_icmple (tgt := 23) dX7_age_14 (by decide) (fun h14 => ?_) (fun h14 => ?_)
                · first
                    | (exfalso; omega)
                    | skip
                      refine aw_iload_n dX7_age_23 rfl ?_
                      refine c_X7_217 rfl dX7_age_24  (Nat.le_of_ble_eq_true rfl) (by omega) (C_m_hiveRow (by omega) ?_)
                      refine aK_i ?_
                      refine aw_istore3 dX7_age_27 (by decide) rfl ?_
                      refine aw_iconst dX7_age_28 (by decide) ?_
                      refine aw_istore4 dX7_age_29 (by decide) rfl ?_
                      refine aw_iload_n dX7_age_31 rfl ?_
                      refine aw_bipush dX7_age_32 (by decide) ?_
                      refine aw_iaddr dX7_age_34 (by omega) ?_
                      refine aw_istore5 dX7_age_35 (by decide) rfl ?_
                      refine L_m_age2 (a := a) (b := b) (h := 64 + 198 * a) rfl gh.1 (by omega) gh.2.1 (fun R2 f2 x6 hag2 => ?_) (16 * cm 1 (64 + 198 * a)).toNat 0 (-1) _ _ (by omega) (by omega) agT_0
                      have hRR := hag.uniq hag2
                      subst hRR
                      refine aw_aload_n dX7_age_113 rfl ?_
                      refine aw_iload dX7_age_114 rfl ?_
                      refine c_X7_280 rfl dX7_age_116 m_ob (Nat.le_of_ble_eq_true rfl) (by omega) (C_m_orNone (fun hz => ?_) (fun hz => ?_))
                      · refine aK_i ?_
                        refine aw_ireturn dX7_age_119 rfl ?_
                        first
                          | (exfalso; omega)
                          | (refine XR.sameE h ?_ ?_ ?_ ?_ ?_ ?_
                             · first
                                 | rfl
                                 | omega
                             · repeat (first | exact xs.rf | refine xs.up ?_ (by decide))
                             · repeat (first | exact mss.rf | refine mss.up0 ?_ (by decide))
                             · first
                                 | (simp [aup, hv2, hv3, hv4]; done)
                                 | (simp [aup, hv2, hv3, hv4]; omega)
                                 | (rw [aup_s, aup_s, hu]; split <;> omega)
                             · simp [aup, hv2, hv3, hv4]
                             · simp [aup, hv2, hv3, hv4])
                      · refine aK_i ?_
                        refine aw_ireturn dX7_age_119 rfl ?_
                        first
                          | (exfalso; omega)
                          | (refine XR.sameE h ?_ ?_ ?_ ?_ ?_ ?_
                             · first
                                 | rfl
                                 | omega
                             · repeat (first | exact xs.rf | refine xs.up ?_ (by decide))
                             · repeat (first | exact mss.rf | refine mss.up0 ?_ (by decide))
                             · first
                                 | (simp [aup, hv2, hv3, hv4]; done)
                                 | (simp [aup, hv2, hv3, hv4]; omega)
                                 | (rw [aup_s, aup_s, hu]; split <;> omega)
                             · simp [aup, hv2, hv3, hv4]
                             · simp [aup, hv2, hv3, hv4])
                · first
                    | (exfalso; omega)
                    | skip
                      refine aw_aload_n dX7_age_17 rfl ?_
                      refine aw_iconst dX7_age_18 (by decide) ?_
                      refine c_X7_72 rfl dX7_age_19 m_ob (Nat.le_of_ble_eq_true rfl) (by omega) (C_m_refuse ?_)
                      refine aK_i ?_
                      refine aw_ireturn dX7_age_22 rfl ?_
                      first
                        | (exfalso; omega)
                        | (refine XR.sameE h ?_ ?_ ?_ ?_ ?_ ?_
                           · first
                               | rfl
                               | omega
                           · repeat (first | exact xs.rf | refine xs.up ?_ (by decide))
                           · repeat (first | exact mss.rf | refine mss.up0 ?_ (by decide))
                           · first
                               | (simp [aup, hv2, hv3, hv4]; done)
                               | (simp [aup, hv2, hv3, hv4]; omega)
                               | (rw [aup_s, aup_s, hu]; split <;> omega)
                           · simp [aup, hv2, hv3, hv4]
                           · simp [aup, hv2, hv3, hv4])
    · first
        | (exfalso; omega)
        | skip
          refine aK_i ?_
          refine aw_ifeq (tgt := 17) dX7_age_5 (by decide) (fun _ => ?_) (fun h => absurd h (by decide))
          refine aw_aload_n dX7_age_17 rfl ?_
          refine aw_iconst dX7_age_18 (by decide) ?_
          refine c_X7_72 rfl dX7_age_19 m_ob (Nat.le_of_ble_eq_true rfl) (by omega) (C_m_refuse ?_)
          refine aK_i ?_
          refine aw_ireturn dX7_age_22 rfl ?_
          first
            | (exfalso; omega)
            | (refine XR.sameE h ?_ ?_ ?_ ?_ ?_ ?_
               · first
                   | rfl
                   | omega
               · repeat (first | exact xs.rf | refine xs.up ?_ (by decide))
               · repeat (first | exact mss.rf | refine mss.up0 ?_ (by decide))
               · first
                   | (simp [aup, hv2, hv3, hv4]; done)
                   | (simp [aup, hv2, hv3, hv4]; omega)
                   | (rw [aup_s, aup_s, hu]; split <;> omega)
               · simp [aup, hv2, hv3, hv4]
               · simp [aup, hv2, hv3, hv4])
