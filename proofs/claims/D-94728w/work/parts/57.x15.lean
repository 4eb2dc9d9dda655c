set_option maxRecDepth 100000
/-! operations, 8: strongest, worst, share, even -/
theorem L_x_worst {own : Int → Int} {sz : Int} {im : Int → aIm} {ct : Int → Int → Int} {s N : Int → Int} {dd : Int} {Q : aPost} {d kc ks : Nat} (hd : 3 ≤ d) (hR : RT own sz im ct) (HY : YR own 0 sz im ct 10 s dd N) (HP : PI s) (K : ∀ x2 : Int, AW (mq Q) md_X0_worst d kc ks 83 [some (vR 0), some (vI (worF s (s 0).toNat)), some (vI x2)] [] (sz, im, ct)) : ∀ (r k : Nat), (k : Int) + r = s 0 → AW (mq Q) md_X0_worst d kc ks 4 [some (vR 0), some (vI (worF s k)), some (vI k)] [] (sz, im, ct) := by
  have b0 := HP.1
  intro r
  induction r with
  | zero =>
    intro k h1
    have ek : (s 0).toNat = k := by omega
    rw [ek] at K
    refine aw_iload_n dX0_worst_4 rfl ?_
    refine aw_aload_n dX0_worst_5 rfl ?_
    refine c_X0_158 rfl dX0_worst_6 hR.o0 (Nat.le_of_ble_eq_true rfl) (by omega) (C_x_yard2 hR ?_)
    refine aK_i ?_
    refine g_X0_161_5 rfl dX0_worst_9 HY.1 ?_
    rw [HY.2.2.2.2.2.1.1]
    refine aw_icmpge (tgt := 83) dX0_worst_12 (by decide) (fun h12 => ?_) (fun h12 => ?_)
    · exact K _
    · exfalso; omega
  | succ r ih =>
    intro k h1
    have hbd := worF_bd (s := s) (k := k)
    obtain ⟨va, eva, ⟨u1, u2, ⟨u3, u4, u5, u6, u7⟩, -⟩, -⟩ := HY.hv hR (k := k) (by omega) (by omega)
    have hbk := HP.2.2.1 k (by omega) (by omega)
    obtain ⟨qk1, qk2, qk3, qk4, qk5, qk6, qk7⟩ := hbk
    have ih := ih (k + 1) (by omega)
    have es : worF s (k + 1) = if s (64 + 198 * k + 4) ≠ 0 ∧ (worF s k = -1 ∨ w64 (s (64 + 198 * worF s k + 5) * s (64 + 198 * k + 4)) < w64 (s (64 + 198 * k + 5) * s (64 + 198 * worF s k + 4))) then (k : Int) else worF s k := rfl
    by_cases hb : worF s k = -1
    · have ut : True := trivial
      refine aw_iload_n dX0_worst_4 rfl ?_
      refine aw_aload_n dX0_worst_5 rfl ?_
      refine c_X0_158 rfl dX0_worst_6 hR.o0 (Nat.le_of_ble_eq_true rfl) (by omega) (C_x_yard2 hR ?_)
      refine aK_i ?_
      refine g_X0_161_5 rfl dX0_worst_9 HY.1 ?_
      rw [HY.2.2.2.2.2.1.1]
      refine aw_icmpge (tgt := 83) dX0_worst_12 (by decide) (fun h12 => ?_) (fun h12 => ?_)
      · exfalso; omega
      · first
          | (exfalso; omega)
          | skip
            refine aw_aload_n dX0_worst_15 rfl ?_
            refine aw_iload_n dX0_worst_16 rfl ?_
            refine c_X0_172 rfl dX0_worst_17 hR.o0 (Nat.le_of_ble_eq_true rfl) (by omega) (C_x_xat2 (a := va) hR HY (by omega) eva ?_)
            refine aK_i ?_
            refine g_X0_408_9 rfl dX0_worst_20 u1.1 ?_
            first | rw [u6] | rw [w6]
            refine aw_ifne (tgt := 29) dX0_worst_23 (by decide) (fun h23 => ?_) (fun h23 => ?_)
            · first
                | (exfalso; omega)
                | skip
                  refine aw_iload_n dX0_worst_29 rfl ?_
                  refine aw_iflt (tgt := 75) dX0_worst_30 (by decide) (fun h30 => ?_) (fun h30 => ?_)
                  · first
                      | (exfalso; omega)
                      | skip
                        refine aw_iload_n dX0_worst_75 rfl ?_
                        refine aw_istore1 dX0_worst_76 (by decide) rfl ?_
                        refine aw_iinc2r dX0_worst_77 (by decide) (by decide) rfl (by omega) ?_
                        refine aw_goto (tgt := 4) dX0_worst_80 (by decide) ?_
                        first
                          | (rw [es, if_pos (by first | omega | (refine ⟨by omega, Or.inl hb⟩))] at ih; exact ih)
                          | (rw [es, if_neg (by omega)] at ih; exact ih)
                  · first
                      | (exfalso; omega)
                      | skip
                        refine aw_aload_n dX0_worst_33 rfl ?_
                        refine aw_iload_n dX0_worst_34 rfl ?_
                        refine c_X0_172 rfl dX0_worst_35 hR.o0 (Nat.le_of_ble_eq_true rfl) (by omega) (C_x_xat2 (a := va) hR HY (by omega) eva ?_)
                        refine aK_i ?_
                        refine g_X0_411_9 rfl dX0_worst_38 u1.1 ?_
                        first | rw [u7] | rw [w7]
                        refine aw_i2l dX0_worst_41 ?_
                        refine aw_aload_n dX0_worst_42 rfl ?_
                        refine aw_iload_n dX0_worst_43 rfl ?_
                        refine c_X0_172 rfl dX0_worst_44 hR.o0 (Nat.le_of_ble_eq_true rfl) (by omega) (C_x_xat2 (a := vb) hR HY (by omega) evb ?_)
                        refine aK_i ?_
                        refine g_X0_408_9 rfl dX0_worst_47 u1.1 ?_
                        first | rw [u6] | rw [w6]
                        refine aw_i2l dX0_worst_50 ?_
                        refine aw_lmul dX0_worst_51 ?_
                        refine aw_aload_n dX0_worst_52 rfl ?_
                        refine aw_iload_n dX0_worst_53 rfl ?_
                        refine c_X0_172 rfl dX0_worst_54 hR.o0 (Nat.le_of_ble_eq_true rfl) (by omega) (C_x_xat2 (a := vb) hR HY (by omega) evb ?_)
                        refine aK_i ?_
                        refine g_X0_411_9 rfl dX0_worst_57 u1.1 ?_
                        first | rw [u7] | rw [w7]
                        refine aw_i2l dX0_worst_60 ?_
                        refine aw_aload_n dX0_worst_61 rfl ?_
                        refine aw_iload_n dX0_worst_62 rfl ?_
                        refine c_X0_172 rfl dX0_worst_63 hR.o0 (Nat.le_of_ble_eq_true rfl) (by omega) (C_x_xat2 (a := va) hR HY (by omega) eva ?_)
                        refine aK_i ?_
                        refine g_X0_408_9 rfl dX0_worst_66 u1.1 ?_
                        first | rw [u6] | rw [w6]
                        refine aw_i2l dX0_worst_69 ?_
                        refine aw_lmul dX0_worst_70 ?_
                        refine aw_lcmple (tgt := 77) dX0_worst_71 dX0_worst_72 (by decide) (fun h71 => ?_) (fun h71 => ?_)
                        · first
                            | (exfalso; omega)
                            | skip
                              refine aw_iinc2r dX0_worst_77 (by decide) (by decide) rfl (by omega) ?_
                              refine aw_goto (tgt := 4) dX0_worst_80 (by decide) ?_
                              first
                                | (rw [es, if_pos (by first | omega | (refine ⟨by omega, Or.inl hb⟩))] at ih; exact ih)
                                | (rw [es, if_neg (by omega)] at ih; exact ih)
                        · first
                            | (exfalso; omega)
                            | skip
                              refine aw_iload_n dX0_worst_75 rfl ?_
                              refine aw_istore1 dX0_worst_76 (by decide) rfl ?_
                              refine aw_iinc2r dX0_worst_77 (by decide) (by decide) rfl (by omega) ?_
                              refine aw_goto (tgt := 4) dX0_worst_80 (by decide) ?_
                              first
                                | (rw [es, if_pos (by first | omega | (refine ⟨by omega, Or.inl hb⟩))] at ih; exact ih)
                                | (rw [es, if_neg (by omega)] at ih; exact ih)
            · first
                | (exfalso; omega)
                | skip
                  refine aw_goto (tgt := 77) dX0_worst_26 (by decide) ?_
                  refine aw_iinc2r dX0_worst_77 (by decide) (by decide) rfl (by omega) ?_
                  refine aw_goto (tgt := 4) dX0_worst_80 (by decide) ?_
                  first
                    | (rw [es, if_pos (by first | omega | (refine ⟨by omega, Or.inl hb⟩))] at ih; exact ih)
                    | (rw [es, if_neg (by omega)] at ih; exact ih)
    · obtain ⟨vb, evb, ⟨w1, w2, ⟨w3, w4, w5, w6, w7⟩, -⟩, -⟩ := HY.hv hR (k := worF s k) (by omega) (by omega)
      refine aw_iload_n dX0_worst_4 rfl ?_
      refine aw_aload_n dX0_worst_5 rfl ?_
      refine c_X0_158 rfl dX0_worst_6 hR.o0 (Nat.le_of_ble_eq_true rfl) (by omega) (C_x_yard2 hR ?_)
      refine aK_i ?_
      refine g_X0_161_5 rfl dX0_worst_9 HY.1 ?_
      rw [HY.2.2.2.2.2.1.1]
      refine aw_icmpge (tgt := 83) dX0_worst_12 (by decide) (fun h12 => ?_) (fun h12 => ?_)
      · exfalso; omega
      · first
          | (exfalso; omega)
          | skip
            refine aw_aload_n dX0_worst_15 rfl ?_
            refine aw_iload_n dX0_worst_16 rfl ?_
            refine c_X0_172 rfl dX0_worst_17 hR.o0 (Nat.le_of_ble_eq_true rfl) (by omega) (C_x_xat2 (a := va) hR HY (by omega) eva ?_)
            refine aK_i ?_
            refine g_X0_408_9 rfl dX0_worst_20 u1.1 ?_
            first | rw [u6] | rw [w6]
            refine aw_ifne (tgt := 29) dX0_worst_23 (by decide) (fun h23 => ?_) (fun h23 => ?_)
            · first
                | (exfalso; omega)
                | skip
                  refine aw_iload_n dX0_worst_29 rfl ?_
                  refine aw_iflt (tgt := 75) dX0_worst_30 (by decide) (fun h30 => ?_) (fun h30 => ?_)
                  · first
                      | (exfalso; omega)
                      | skip
                        refine aw_iload_n dX0_worst_75 rfl ?_
                        refine aw_istore1 dX0_worst_76 (by decide) rfl ?_
                        refine aw_iinc2r dX0_worst_77 (by decide) (by decide) rfl (by omega) ?_
                        refine aw_goto (tgt := 4) dX0_worst_80 (by decide) ?_
                        first
                          | (rw [es, if_pos (by omega)] at ih; exact ih)
                          | (rw [es, if_neg (by omega)] at ih; exact ih)
                  · first
                      | (exfalso; omega)
                      | skip
                        refine aw_aload_n dX0_worst_33 rfl ?_
                        refine aw_iload_n dX0_worst_34 rfl ?_
                        refine c_X0_172 rfl dX0_worst_35 hR.o0 (Nat.le_of_ble_eq_true rfl) (by omega) (C_x_xat2 (a := va) hR HY (by omega) eva ?_)
                        refine aK_i ?_
                        refine g_X0_411_9 rfl dX0_worst_38 u1.1 ?_
                        first | rw [u7] | rw [w7]
                        refine aw_i2l dX0_worst_41 ?_
                        refine aw_aload_n dX0_worst_42 rfl ?_
                        refine aw_iload_n dX0_worst_43 rfl ?_
                        refine c_X0_172 rfl dX0_worst_44 hR.o0 (Nat.le_of_ble_eq_true rfl) (by omega) (C_x_xat2 (a := vb) hR HY (by omega) evb ?_)
                        refine aK_i ?_
                        refine g_X0_408_9 rfl dX0_worst_47 w1.1 ?_
                        first | rw [u6] | rw [w6]
                        refine aw_i2l dX0_worst_50 ?_
                        refine aw_lmul dX0_worst_51 ?_
                        refine aw_aload_n dX0_worst_52 rfl ?_
                        refine aw_iload_n dX0_worst_53 rfl ?_
                        refine c_X0_172 rfl dX0_worst_54 hR.o0 (Nat.le_of_ble_eq_true rfl) (by omega) (C_x_xat2 (a := vb) hR HY (by omega) evb ?_)
                        refine aK_i ?_
                        refine g_X0_411_9 rfl dX0_worst_57 w1.1 ?_
                        first | rw [u7] | rw [w7]
                        refine aw_i2l dX0_worst_60 ?_
                        refine aw_aload_n dX0_worst_61 rfl ?_
                        refine aw_iload_n dX0_worst_62 rfl ?_
                        refine c_X0_172 rfl dX0_worst_63 hR.o0 (Nat.le_of_ble_eq_true rfl) (by omega) (C_x_xat2 (a := va) hR HY (by omega) eva ?_)
                        refine aK_i ?_
                        refine g_X0_408_9 rfl dX0_worst_66 u1.1 ?_
                        first | rw [u6] | rw [w6]
                        refine aw_i2l dX0_worst_69 ?_
                        refine aw_lmul dX0_worst_70 ?_
                        refine aw_lcmple (tgt := 77) dX0_worst_71 dX0_worst_72 (by decide) (fun h71 => ?_) (fun h71 => ?_)
                        · first
                            | (exfalso; omega)
                            | skip
                              refine aw_iinc2r dX0_worst_77 (by decide) (by decide) rfl (by omega) ?_
                              refine aw_goto (tgt := 4) dX0_worst_80 (by decide) ?_
                              first
                                | (rw [es, if_pos (by omega)] at ih; exact ih)
                                | (rw [es, if_neg (by omega)] at ih; exact ih)
                        · first
                            | (exfalso; omega)
                            | skip
                              refine aw_iload_n dX0_worst_75 rfl ?_
                              refine aw_istore1 dX0_worst_76 (by decide) rfl ?_
                              refine aw_iinc2r dX0_worst_77 (by decide) (by decide) rfl (by omega) ?_
                              refine aw_goto (tgt := 4) dX0_worst_80 (by decide) ?_
                              first
                                | (rw [es, if_pos (by omega)] at ih; exact ih)
                                | (rw [es, if_neg (by omega)] at ih; exact ih)
            · first
                | (exfalso; omega)
                | skip
                  refine aw_goto (tgt := 77) dX0_worst_26 (by decide) ?_
                  refine aw_iinc2r dX0_worst_77 (by decide) (by decide) rfl (by omega) ?_
                  refine aw_goto (tgt := 4) dX0_worst_80 (by decide) ?_
                  first
                    | (rw [es, if_pos (by omega)] at ih; exact ih)
                    | (rw [es, if_neg (by omega)] at ih; exact ih)
theorem L_m_worst {ct : Int → Int → Int} {Q : aPost} {d kc ks : Nat}  (hd : 2 ≤ d) (HP : PI (ct 1)) (K : ∀ (x2 : Int) (x3 x4 : Option aV), AW (mq Q) md_X7_worst d kc ks 105 [some (vR 0), some (vI (worF (ct 1) (ct 1 0).toNat)), some (vI x2), x3, x4] [] (gM ct)) : ∀ (r k : Nat) (x3 x4 : Option aV), (k : Int) + r = ct 1 0 → AW (mq Q) md_X7_worst d kc ks 4 [some (vR 0), some (vI (worF (ct 1) k)), some (vI k), x3, x4] [] (gM ct) := by
  have b0 := HP.1
  intro r
  induction r with
  | zero =>
    intro k x3 x4 h1
    have ek : (ct 1 0).toNat = k := by omega
    rw [ek] at K
    refine aw_iload_n dX7_worst_4 rfl ?_
    refine gm_7 rfl dX7_worst_5 dX7_worst_6 rfl ?_
    refine aw_iconst dX7_worst_9 (by decide) ?_
    refine aw_iaload dX7_worst_10 m_a1 (by omega) (by omega) ?_
    refine aw_icmpge (tgt := 105) dX7_worst_11 (by decide) (fun h11 => ?_) (fun h11 => ?_)
    · exact K _ _ _
    · exfalso; omega
  | succ r ih =>
    intro k x3 x4 h1
    have hbd := worF_bd (s := ct 1) (k := k)
    have hbk := HP.2.2.1 k (by omega) (by omega)
    obtain ⟨qk1, qk2, qk3, qk4, qk5, qk6, qk7⟩ := hbk
    have ih := fun x3 x4 => ih (k + 1) x3 x4 (by omega)
    have es : worF (ct 1) (k + 1) = if ct 1 (64 + 198 * k + 4) ≠ 0 ∧ (worF (ct 1) k = -1 ∨ w64 (ct 1 (64 + 198 * worF (ct 1) k + 5) * ct 1 (64 + 198 * k + 4)) < w64 (ct 1 (64 + 198 * k + 5) * ct 1 (64 + 198 * worF (ct 1) k + 4))) then (k : Int) else worF (ct 1) k := rfl
    refine aw_iload_n dX7_worst_4 rfl ?_
    refine gm_7 rfl dX7_worst_5 dX7_worst_6 rfl ?_
    refine aw_iconst dX7_worst_9 (by decide) ?_
    refine aw_iaload dX7_worst_10 m_a1 (by omega) (by omega) ?_
    refine aw_icmpge (tgt := 105) dX7_worst_11 (by decide) (fun h11 => ?_) (fun h11 => ?_)
    · exfalso; omega
    · refine aw_iload_n dX7_worst_14 rfl ?_
      refine c_X7_217 rfl dX7_worst_15  (Nat.le_of_ble_eq_true rfl) (by omega) (C_m_hiveRow (by omega) ?_)
      refine aK_i ?_
      refine aw_istore3 dX7_worst_18 (by decide) rfl ?_
      refine gm_7 rfl dX7_worst_19 dX7_worst_20 rfl ?_
      refine aw_iload_n dX7_worst_23 rfl ?_
      refine aw_iconst dX7_worst_24 (by decide) ?_
      refine aw_iaddr dX7_worst_25 (by omega) ?_
      refine aw_iaload dX7_worst_26 m_a1 (by omega) (by omega) ?_
      refine aw_ifne (tgt := 33) dX7_worst_27 (by decide) (fun h27 => ?_) (fun h27 => ?_)
      · refine aw_iload_n dX7_worst_33 rfl ?_
        refine aw_iconst dX7_worst_34 (by decide) ?_
        refine aw_icmpne (tgt := 42) dX7_worst_35 (by decide) (fun h35 => ?_) (fun h35 => ?_)
        · refine aw_iload_n dX7_worst_42 rfl ?_
          refine c_X7_217 rfl dX7_worst_43  (Nat.le_of_ble_eq_true rfl) (by omega) (C_m_hiveRow (by omega) ?_)
          refine aK_i ?_
          refine aw_istore4 dX7_worst_46 (by decide) rfl ?_
          refine aw_iload_n dX7_worst_48 rfl ?_
          refine aw_iconst dX7_worst_49 (by decide) ?_
          refine aw_icmpeq (tgt := 97) dX7_worst_50 (by decide) (fun h50 => ?_) (fun h50 => ?_)
          · refine aw_iload_n dX7_worst_97 rfl ?_
            refine aw_istore1 dX7_worst_98 (by decide) rfl ?_
            refine aw_iinc2r dX7_worst_99 (by decide) (by decide) rfl (by omega) ?_
            refine aw_goto (tgt := 4) dX7_worst_102 (by decide) ?_
            first
              | (rw [es, if_pos (by omega)] at ih; exact ih _ _)
              | (rw [es, if_neg (by omega)] at ih; exact ih _ _)
          · refine gm_7 rfl dX7_worst_53 dX7_worst_54 rfl ?_
            refine aw_iload_n dX7_worst_57 rfl ?_
            refine aw_iconst dX7_worst_58 (by decide) ?_
            refine aw_iaddr dX7_worst_59 (by omega) ?_
            refine aw_iaload dX7_worst_60 m_a1 (by omega) (by omega) ?_
            refine aw_i2l dX7_worst_61 ?_
            refine gm_7 rfl dX7_worst_62 dX7_worst_63 rfl ?_
            refine aw_iload dX7_worst_66 rfl ?_
            refine aw_iconst dX7_worst_68 (by decide) ?_
            refine aw_iaddr dX7_worst_69 (by omega) ?_
            refine aw_iaload dX7_worst_70 m_a1 (by omega) (by omega) ?_
            refine aw_i2l dX7_worst_71 ?_
            refine aw_lmul dX7_worst_72 ?_
            refine gm_7 rfl dX7_worst_73 dX7_worst_74 rfl ?_
            refine aw_iload dX7_worst_77 rfl ?_
            refine aw_iconst dX7_worst_79 (by decide) ?_
            refine aw_iaddr dX7_worst_80 (by omega) ?_
            refine aw_iaload dX7_worst_81 m_a1 (by omega) (by omega) ?_
            refine aw_i2l dX7_worst_82 ?_
            refine gm_7 rfl dX7_worst_83 dX7_worst_84 rfl ?_
            refine aw_iload_n dX7_worst_87 rfl ?_
            refine aw_iconst dX7_worst_88 (by decide) ?_
            refine aw_iaddr dX7_worst_89 (by omega) ?_
            refine aw_iaload dX7_worst_90 m_a1 (by omega) (by omega) ?_
            refine aw_i2l dX7_worst_91 ?_
            refine aw_lmul dX7_worst_92 ?_
            refine aw_lcmple (tgt := 99) dX7_worst_93 dX7_worst_94 (by decide) (fun h93 => ?_) (fun h93 => ?_)
            · refine aw_iinc2r dX7_worst_99 (by decide) (by decide) rfl (by omega) ?_
              refine aw_goto (tgt := 4) dX7_worst_102 (by decide) ?_
              first
                | (rw [es, if_pos (by omega)] at ih; exact ih _ _)
                | (rw [es, if_neg (by omega)] at ih; exact ih _ _)
            · refine aw_iload_n dX7_worst_97 rfl ?_
              refine aw_istore1 dX7_worst_98 (by decide) rfl ?_
              refine aw_iinc2r dX7_worst_99 (by decide) (by decide) rfl (by omega) ?_
              refine aw_goto (tgt := 4) dX7_worst_102 (by decide) ?_
              first
                | (rw [es, if_pos (by omega)] at ih; exact ih _ _)
                | (rw [es, if_neg (by omega)] at ih; exact ih _ _)
        · refine aw_iload_n dX7_worst_38 rfl ?_
          refine aw_goto (tgt := 46) dX7_worst_39 (by decide) ?_
          refine aw_istore4 dX7_worst_46 (by decide) rfl ?_
          refine aw_iload_n dX7_worst_48 rfl ?_
          refine aw_iconst dX7_worst_49 (by decide) ?_
          refine aw_icmpeq (tgt := 97) dX7_worst_50 (by decide) (fun h50 => ?_) (fun h50 => ?_)
          · refine aw_iload_n dX7_worst_97 rfl ?_
            refine aw_istore1 dX7_worst_98 (by decide) rfl ?_
            refine aw_iinc2r dX7_worst_99 (by decide) (by decide) rfl (by omega) ?_
            refine aw_goto (tgt := 4) dX7_worst_102 (by decide) ?_
            first
              | (rw [es, if_pos (by omega)] at ih; exact ih _ _)
              | (rw [es, if_neg (by omega)] at ih; exact ih _ _)
          · refine gm_7 rfl dX7_worst_53 dX7_worst_54 rfl ?_
            refine aw_iload_n dX7_worst_57 rfl ?_
            refine aw_iconst dX7_worst_58 (by decide) ?_
            refine aw_iaddr dX7_worst_59 (by omega) ?_
            refine aw_iaload dX7_worst_60 m_a1 (by omega) (by omega) ?_
            refine aw_i2l dX7_worst_61 ?_
            refine gm_7 rfl dX7_worst_62 dX7_worst_63 rfl ?_
            refine aw_iload dX7_worst_66 rfl ?_
            refine aw_iconst dX7_worst_68 (by decide) ?_
            refine aw_iaddr dX7_worst_69 (by omega) ?_
            refine aw_iaload dX7_worst_70 m_a1 (by omega) (by omega) ?_
            refine aw_i2l dX7_worst_71 ?_
            refine aw_lmul dX7_worst_72 ?_
            refine gm_7 rfl dX7_worst_73 dX7_worst_74 rfl ?_
            refine aw_iload dX7_worst_77 rfl ?_
            refine aw_iconst dX7_worst_79 (by decide) ?_
            refine aw_iaddr dX7_worst_80 (by omega) ?_
            refine aw_iaload dX7_worst_81 m_a1 (by omega) (by omega) ?_
            refine aw_i2l dX7_worst_82 ?_
            refine gm_7 rfl dX7_worst_83 dX7_worst_84 rfl ?_
            refine aw_iload_n dX7_worst_87 rfl ?_
            refine aw_iconst dX7_worst_88 (by decide) ?_
            refine aw_iaddr dX7_worst_89 (by omega) ?_
            refine aw_iaload dX7_worst_90 m_a1 (by omega) (by omega) ?_
            refine aw_i2l dX7_worst_91 ?_
            refine aw_lmul dX7_worst_92 ?_
            refine aw_lcmple (tgt := 99) dX7_worst_93 dX7_worst_94 (by decide) (fun h93 => ?_) (fun h93 => ?_)
            · refine aw_iinc2r dX7_worst_99 (by decide) (by decide) rfl (by omega) ?_
              refine aw_goto (tgt := 4) dX7_worst_102 (by decide) ?_
              first
                | (rw [es, if_pos (by omega)] at ih; exact ih _ _)
                | (rw [es, if_neg (by omega)] at ih; exact ih _ _)
            · refine aw_iload_n dX7_worst_97 rfl ?_
              refine aw_istore1 dX7_worst_98 (by decide) rfl ?_
              refine aw_iinc2r dX7_worst_99 (by decide) (by decide) rfl (by omega) ?_
              refine aw_goto (tgt := 4) dX7_worst_102 (by decide) ?_
              first
                | (rw [es, if_pos (by omega)] at ih; exact ih _ _)
                | (rw [es, if_neg (by omega)] at ih; exact ih _ _)
      · refine aw_goto (tgt := 99) dX7_worst_30 (by decide) ?_
        refine aw_iinc2r dX7_worst_99 (by decide) (by decide) rfl (by omega) ?_
        refine aw_goto (tgt := 4) dX7_worst_102 (by decide) ?_
        first
          | (rw [es, if_pos (by omega)] at ih; exact ih _ _)
          | (rw [es, if_neg (by omega)] at ih; exact ih _ _)
theorem OP_strongest {sz : Int} {im : Int → aIm} {ct cm : Int → Int → Int} (h : XR (sz, im, ct) cm)   : AMet md_X0_strongest 3 0 0 [vR 0] (sz, im, ct) (XQ md_X7_strongest 4 [vR 0] cm) := by
  obtain ⟨own, N, hR, HY, HL, HN, HS, HP, HF, HX, hv2, hv3, hv4⟩ := id h
  dsimp only at hR HY HL HS HX hv2 hv3 hv4
  have hp0 := HP.1
  have hp3 := HP.2.1
  have hpq := HP.2.2.2.1.1
  have hps := HP.2.2.2.2.2
  refine AMet.go (L := [some (vR 0), none, none]) mok_X0_strongest (Nat.le_of_ble_eq_true rfl) rfl ?_
  refine aw_iconst dX0_strongest_0 (by decide) ?_
  refine aw_istore1 dX0_strongest_1 (by decide) rfl ?_
  refine aw_iconst dX0_strongest_2 (by decide) ?_
  refine aw_istore2 dX0_strongest_3 (by decide) rfl ?_
  have hbd := strF_bd (s := cm 1) (k := (cm 1 0).toNat)
  refine L_x_strongest (by omega) hR HY HP (fun x2 => ?_) (cm 1 0).toNat 0 (by omega)
  refine aw_aload_n dX0_strongest_57 rfl ?_
  refine aw_iload_n dX0_strongest_58 rfl ?_
  refine c_X0_283 rfl dX0_strongest_59 hR.o0 (Nat.le_of_ble_eq_true rfl) (by omega) (C_x_answer hR (fun u hu => ?_))
  refine aK_i ?_
  refine aw_ireturn dX0_strongest_62 rfl ?_
  refine ⟨_, rfl, ?_⟩
  refine AMet.go (L := [some (vR 0), none, none]) mok_X7_strongest (Nat.le_of_ble_eq_true rfl) rfl ?_
  refine aw_iconst dX7_strongest_0 (by decide) ?_
  refine aw_istore1 dX7_strongest_1 (by decide) rfl ?_
  refine aw_iconst dX7_strongest_2 (by decide) ?_
  refine aw_istore2 dX7_strongest_3 (by decide) rfl ?_
  refine L_m_strongest (by omega) HP (fun x2 => ?_) (cm 1 0).toNat 0 (by omega)
  refine aw_aload_n dX7_strongest_67 rfl ?_
  refine aw_iload_n dX7_strongest_68 rfl ?_
  refine c_X7_280 rfl dX7_strongest_69 m_ob (Nat.le_of_ble_eq_true rfl) (by omega) (C_m_orNone (fun hz => ?_) (fun hz => ?_))
  · refine aK_i ?_
    refine aw_ireturn dX7_strongest_72 rfl ?_
    first
      | (exfalso; omega)
      | (refine XR.sameE h ?_ ?_ ?_ ?_ ?_ ?_
         · first
             | rfl
             | omega
         · repeat (first | exact xs.rf | refine xs.up ?_ (by decide))
         · repeat (first | exact mss.rf | refine mss.up0 ?_ (by decide))
         · first
             | (simp [aup, hv2, hv3, hv4]; done)
             | (simp [aup, hv2, hv3, hv4]; omega)
             | (rw [aup_s, aup_s, hu]; split <;> omega)
         · simp [aup, hv2, hv3, hv4]
         · simp [aup, hv2, hv3, hv4])
  · refine aK_i ?_
    refine aw_ireturn dX7_strongest_72 rfl ?_
    first
      | (exfalso; omega)
      | (refine XR.sameE h ?_ ?_ ?_ ?_ ?_ ?_
         · first
             | rfl
             | omega
         · repeat (first | exact xs.rf | refine xs.up ?_ (by decide))
         · repeat (first | exact mss.rf | refine mss.up0 ?_ (by decide))
         · first
             | (simp [aup, hv2, hv3, hv4]; done)
             | (simp [aup, hv2, hv3, hv4]; omega)
             | (rw [aup_s, aup_s, hu]; split <;> omega)
         · simp [aup, hv2, hv3, hv4]
         · simp [aup, hv2, hv3, hv4])
theorem OP_worst {sz : Int} {im : Int → aIm} {ct cm : Int → Int → Int} (h : XR (sz, im, ct) cm)   : AMet md_X0_worst 3 0 0 [vR 0] (sz, im, ct) (XQ md_X7_worst 4 [vR 0] cm) := by
  obtain ⟨own, N, hR, HY, HL, HN, HS, HP, HF, HX, hv2, hv3, hv4⟩ := id h
  dsimp only at hR HY HL HS HX hv2 hv3 hv4
  have hp0 := HP.1
  have hp3 := HP.2.1
  have hpq := HP.2.2.2.1.1
  have hps := HP.2.2.2.2.2
  refine AMet.go (L := [some (vR 0), none, none]) mok_X0_worst (Nat.le_of_ble_eq_true rfl) rfl ?_
  refine aw_iconst dX0_worst_0 (by decide) ?_
  refine aw_istore1 dX0_worst_1 (by decide) rfl ?_
  refine aw_iconst dX0_worst_2 (by decide) ?_
  refine aw_istore2 dX0_worst_3 (by decide) rfl ?_
  have hbd := worF_bd (s := cm 1) (k := (cm 1 0).toNat)
  refine L_x_worst (by omega) hR HY HP (fun x2 => ?_) (cm 1 0).toNat 0 (by omega)
  refine aw_aload_n dX0_worst_83 rfl ?_
  refine aw_iload_n dX0_worst_84 rfl ?_
  refine c_X0_283 rfl dX0_worst_85 hR.o0 (Nat.le_of_ble_eq_true rfl) (by omega) (C_x_answer hR (fun u hu => ?_))
  refine aK_i ?_
  refine aw_ireturn dX0_worst_88 rfl ?_
  refine ⟨_, rfl, ?_⟩
  refine AMet.go (L := [some (vR 0), none, none, none, none]) mok_X7_worst (Nat.le_of_ble_eq_true rfl) rfl ?_
  refine aw_iconst dX7_worst_0 (by decide) ?_
  refine aw_istore1 dX7_worst_1 (by decide) rfl ?_
  refine aw_iconst dX7_worst_2 (by decide) ?_
  refine aw_istore2 dX7_worst_3 (by decide) rfl ?_
  refine L_m_worst (by omega) HP (fun x2 x3 x4 => ?_) (cm 1 0).toNat 0 _ _ (by omega)
  refine aw_aload_n dX7_worst_105 rfl ?_
  refine aw_iload_n dX7_worst_106 rfl ?_
  refine c_X7_280 rfl dX7_worst_107 m_ob (Nat.le_of_ble_eq_true rfl) (by omega) (C_m_orNone (fun hz => ?_) (fun hz => ?_))
  · refine aK_i ?_
    refine aw_ireturn dX7_worst_110 rfl ?_
    first
      | (exfalso; omega)
      | (refine XR.sameE h ?_ ?_ ?_ ?_ ?_ ?_
         · first
             | rfl
             | omega
         · repeat (first | exact xs.rf | refine xs.up ?_ (by decide))
         · repeat (first | exact mss.rf | refine mss.up0 ?_ (by decide))
         · first
             | (simp [aup, hv2, hv3, hv4]; done)
             | (simp [aup, hv2, hv3, hv4]; omega)
             | (rw [aup_s, aup_s, hu]; split <;> omega)
         · simp [aup, hv2, hv3, hv4]
         · simp [aup, hv2, hv3, hv4])
  · refine aK_i ?_
    refine aw_ireturn dX7_worst_110 rfl ?_
    first
      | (exfalso; omega)
      | (refine XR.sameE h ?_ ?_ ?_ ?_ ?_ ?_
         · first
             | rfl
             | omega
         · repeat (first | exact xs.rf | refine xs.up ?_ (by decide))
         · repeat (first | exact mss.rf | refine mss.up0 ?_ (by decide))
         · first
             | (simp [aup, hv2, hv3, hv4]; done)
             | (simp [aup, hv2, hv3, hv4]; omega)
             | (rw [aup_s, aup_s, hu]; split <;> omega)
         · simp [aup, hv2, hv3, hv4]
         · simp [aup, hv2, hv3, hv4])
theorem L_x_share {own : Int → Int} {sz : Int} {im : Int → aIm} {ct ct0 : Int → Int → Int} {s N : Int → Int} {a dd : Int} {Q : aPost} {d kc ks : Nat} (hd : 3 ≤ d) (hR : RT own sz im ct0) (HY : YR own 0 sz im ct 10 s dd N) (hRc : RT own sz im ct) (HP : PI s) (ha : a = -1 ∨ 0 ≤ a) (K : ∀ k : Int, AW (mq Q) md_X0_share d kc ks 98 [some (vR 0), some (vI a), some (vL (isum (shF s 4 a) (s 0).toNat)), none, some (vL (isum (shF s 5 a) (s 0).toNat)), none, some (vI k)] [] (sz, im, ct)) : ∀ (r k : Nat), (k : Int) + r = s 0 → AW (mq Q) md_X0_share d kc ks 39 [some (vR 0), some (vI a), some (vL (isum (shF s 4 a) k)), none, some (vL (isum (shF s 5 a) k)), none, some (vI k)] [] (sz, im, ct) := by
  have b0 := HP.1
  intro r
  induction r with
  | zero =>
    intro k h1
    have ek : (s 0).toNat = k := by omega
    rw [ek] at K
    refine aw_iload dX0_share_39 rfl ?_
    refine aw_aload_n dX0_share_41 rfl ?_
    refine c_X0_158 rfl dX0_share_42 hR.o0 (Nat.le_of_ble_eq_true rfl) (by omega) (C_x_yard2 hR ?_)
    refine aK_i ?_
    refine g_X0_161_5 rfl dX0_share_45 HY.1 ?_
    rw [HY.2.2.2.2.2.1.1]
    refine aw_icmpge (tgt := 98) dX0_share_48 (by decide) (fun h48 => ?_) (fun h48 => ?_)
    · exact K _
    · exfalso; omega
  | succ r ih =>
    intro k h1
    have hb4 := isum_bd (g := shF s 4 a) (B := 999890001) (n := k) fun i i0 i1 => by
      have q := (HP.2.2.1 i i0 (by omega)).2.2.2.2.2
      unfold shF
      split <;> omega
    have hb5 := isum_bd (g := shF s 5 a) (B := 999890001) (n := k) fun i i0 i1 => by
      have q := (HP.2.2.1 i i0 (by omega)).2.2.2.2.2
      unfold shF
      split <;> omega
    obtain ⟨va, eva, ⟨u1, u2, ⟨u3, u4, u5, u6, u7⟩, -⟩, -⟩ := HY.hv hRc (k := k) (by omega) (by omega)
    have q9 := (HP.2.2.1 k (by omega) (by omega)).2.2.2.2.2
    have e4 : isum (shF s 4 a) (k + 1) = isum (shF s 4 a) k + shF s 4 a k := rfl
    have e5 : isum (shF s 5 a) (k + 1) = isum (shF s 5 a) k + shF s 5 a k := rfl
    have ih := ih (k + 1) (by omega)
    rw [e4, e5] at ih
    refine aw_iload dX0_share_39 rfl ?_
    refine aw_aload_n dX0_share_41 rfl ?_
    refine c_X0_158 rfl dX0_share_42 hR.o0 (Nat.le_of_ble_eq_true rfl) (by omega) (C_x_yard2 hR ?_)
    refine aK_i ?_
    refine g_X0_161_5 rfl dX0_share_45 HY.1 ?_
    rw [HY.2.2.2.2.2.1.1]
    refine aw_icmpge (tgt := 98) dX0_share_48 (by decide) (fun h48 => ?_) (fun h48 => ?_)
    · exfalso; omega
    · refine aw_iload_n dX0_share_51 rfl ?_
      refine aw_iflt (tgt := 64) dX0_share_52 (by decide) (fun h52 => ?_) (fun h52 => ?_)
      · refine aw_lload_n dX0_share_64 rfl ?_
        refine aw_aload_n dX0_share_65 rfl ?_
        refine aw_iload dX0_share_66 rfl ?_
        refine c_X0_172 rfl dX0_share_68 hR.o0 (Nat.le_of_ble_eq_true rfl) (by omega) (C_x_xat2 (a := va) hR HY (by omega) eva ?_)
        refine aK_i ?_
        refine g_X0_408_9 rfl dX0_share_71 u1.1 ?_
        rw [u6]
        refine aw_i2l dX0_share_74 ?_
        refine aw_laddr dX0_share_75 (by omega) ?_
        refine aw_lstore2 dX0_share_76 (by decide) rfl ?_
        refine aw_lload dX0_share_77 rfl ?_
        refine aw_aload_n dX0_share_79 rfl ?_
        refine aw_iload dX0_share_80 rfl ?_
        refine c_X0_172 rfl dX0_share_82 hR.o0 (Nat.le_of_ble_eq_true rfl) (by omega) (C_x_xat2 (a := va) hR HY (by omega) eva ?_)
        refine aK_i ?_
        refine g_X0_411_9 rfl dX0_share_85 u1.1 ?_
        rw [u7]
        refine aw_i2l dX0_share_88 ?_
        refine aw_laddr dX0_share_89 (by omega) ?_
        refine aw_lstore4 dX0_share_90 (by decide) rfl ?_
        refine aw_iinc6r dX0_share_92 (by decide) (by decide) rfl (by omega) ?_
        refine aw_goto (tgt := 39) dX0_share_95 (by decide) ?_
        first
          | (rw [show shF s 4 a k = 0 by unfold shF; exact if_neg (by omega), show shF s 5 a k = 0 by unfold shF; exact if_neg (by omega), Int.add_zero, Int.add_zero] at ih; exact ih)
          | (rw [show shF s 4 a k = s (64 + 198 * k + 4) by unfold shF; exact if_pos (by omega), show shF s 5 a k = s (64 + 198 * k + 5) by unfold shF; exact if_pos (by omega)] at ih; exact ih)
      · refine aw_iload dX0_share_55 rfl ?_
        refine aw_iload_n dX0_share_57 rfl ?_
        refine aw_icmpeq (tgt := 64) dX0_share_58 (by decide) (fun h58 => ?_) (fun h58 => ?_)
        · refine aw_lload_n dX0_share_64 rfl ?_
          refine aw_aload_n dX0_share_65 rfl ?_
          refine aw_iload dX0_share_66 rfl ?_
          refine c_X0_172 rfl dX0_share_68 hR.o0 (Nat.le_of_ble_eq_true rfl) (by omega) (C_x_xat2 (a := va) hR HY (by omega) eva ?_)
          refine aK_i ?_
          refine g_X0_408_9 rfl dX0_share_71 u1.1 ?_
          rw [u6]
          refine aw_i2l dX0_share_74 ?_
          refine aw_laddr dX0_share_75 (by omega) ?_
          refine aw_lstore2 dX0_share_76 (by decide) rfl ?_
          refine aw_lload dX0_share_77 rfl ?_
          refine aw_aload_n dX0_share_79 rfl ?_
          refine aw_iload dX0_share_80 rfl ?_
          refine c_X0_172 rfl dX0_share_82 hR.o0 (Nat.le_of_ble_eq_true rfl) (by omega) (C_x_xat2 (a := va) hR HY (by omega) eva ?_)
          refine aK_i ?_
          refine g_X0_411_9 rfl dX0_share_85 u1.1 ?_
          rw [u7]
          refine aw_i2l dX0_share_88 ?_
          refine aw_laddr dX0_share_89 (by omega) ?_
          refine aw_lstore4 dX0_share_90 (by decide) rfl ?_
          refine aw_iinc6r dX0_share_92 (by decide) (by decide) rfl (by omega) ?_
          refine aw_goto (tgt := 39) dX0_share_95 (by decide) ?_
          first
            | (rw [show shF s 4 a k = 0 by unfold shF; exact if_neg (by omega), show shF s 5 a k = 0 by unfold shF; exact if_neg (by omega), Int.add_zero, Int.add_zero] at ih; exact ih)
            | (rw [show shF s 4 a k = s (64 + 198 * k + 4) by unfold shF; exact if_pos (by omega), show shF s 5 a k = s (64 + 198 * k + 5) by unfold shF; exact if_pos (by omega)] at ih; exact ih)
        · refine aw_goto (tgt := 92) dX0_share_61 (by decide) ?_
          refine aw_iinc6r dX0_share_92 (by decide) (by decide) rfl (by omega) ?_
          refine aw_goto (tgt := 39) dX0_share_95 (by decide) ?_
          first
            | (rw [show shF s 4 a k = 0 by unfold shF; exact if_neg (by omega), show shF s 5 a k = 0 by unfold shF; exact if_neg (by omega), Int.add_zero, Int.add_zero] at ih; exact ih)
            | (rw [show shF s 4 a k = s (64 + 198 * k + 4) by unfold shF; exact if_pos (by omega), show shF s 5 a k = s (64 + 198 * k + 5) by unfold shF; exact if_pos (by omega)] at ih; exact ih)
theorem L_m_share {ct : Int → Int → Int} {a : Int} {Q : aPost} {d kc ks : Nat} (hd : 2 ≤ d) (HP : PI (ct 1)) (ha : a = -1 ∨ 0 ≤ a) (K : ∀ k : Int, AW (mq Q) md_X7_share d kc ks 92 [some (vR 0), some (vI a), some (vL (isum (shF (ct 1) 5 a) (ct 1 0).toNat)), none, some (vL (isum (shF (ct 1) 4 a) (ct 1 0).toNat)), none, some (vI k)] [] (gM ct)) : ∀ (r k : Nat), (k : Int) + r = ct 1 0 → AW (mq Q) md_X7_share d kc ks 27 [some (vR 0), some (vI a), some (vL (isum (shF (ct 1) 5 a) k)), none, some (vL (isum (shF (ct 1) 4 a) k)), none, some (vI k)] [] (gM ct) := by
  have b0 := HP.1
  intro r
  induction r with
  | zero =>
    intro k h1
    have ek : (ct 1 0).toNat = k := by omega
    rw [ek] at K
    refine aw_iload dX7_share_27 rfl ?_
    refine gm_7 rfl dX7_share_29 dX7_share_30 rfl ?_
    refine aw_iconst dX7_share_33 (by decide) ?_
    refine aw_iaload dX7_share_34 m_a1 (by omega) (by omega) ?_
    refine aw_icmpge (tgt := 92) dX7_share_35 (by decide) (fun h35 => ?_) (fun h35 => ?_)
    · exact K _
    · exfalso; omega
  | succ r ih =>
    intro k h1
    have hb4 := isum_bd (g := shF (ct 1) 4 a) (B := 999890001) (n := k) fun i i0 i1 => by
      have q := (HP.2.2.1 i i0 (by omega)).2.2.2.2.2
      unfold shF
      split <;> omega
    have hb5 := isum_bd (g := shF (ct 1) 5 a) (B := 999890001) (n := k) fun i i0 i1 => by
      have q := (HP.2.2.1 i i0 (by omega)).2.2.2.2.2
      unfold shF
      split <;> omega
    have q9 := (HP.2.2.1 k (by omega) (by omega)).2.2.2.2.2
    have e4 : isum (shF (ct 1) 4 a) (k + 1) = isum (shF (ct 1) 4 a) k + shF (ct 1) 4 a k := rfl
    have e5 : isum (shF (ct 1) 5 a) (k + 1) = isum (shF (ct 1) 5 a) k + shF (ct 1) 5 a k := rfl
    have ih := ih (k + 1) (by omega)
    rw [e4, e5] at ih
    refine aw_iload dX7_share_27 rfl ?_
    refine gm_7 rfl dX7_share_29 dX7_share_30 rfl ?_
    refine aw_iconst dX7_share_33 (by decide) ?_
    refine aw_iaload dX7_share_34 m_a1 (by omega) (by omega) ?_
    refine aw_icmpge (tgt := 92) dX7_share_35 (by decide) (fun h35 => ?_) (fun h35 => ?_)
    · exfalso; omega
    · refine aw_iload_n dX7_share_38 rfl ?_
      refine aw_iconst dX7_share_39 (by decide) ?_
      refine aw_icmpeq (tgt := 52) dX7_share_40 (by decide) (fun h40 => ?_) (fun h40 => ?_)
      · refine aw_lload_n dX7_share_52 rfl ?_
        refine gm_7 rfl dX7_share_53 dX7_share_54 rfl ?_
        refine aw_iload dX7_share_57 rfl ?_
        refine c_X7_217 rfl dX7_share_59  (Nat.le_of_ble_eq_true rfl) (by omega) (C_m_hiveRow (by omega) ?_)
        refine aK_i ?_
        refine aw_iconst dX7_share_62 (by decide) ?_
        refine aw_iaddr dX7_share_63 (by omega) ?_
        refine aw_iaload dX7_share_64 m_a1 (by omega) (by omega) ?_
        refine aw_i2l dX7_share_65 ?_
        refine aw_laddr dX7_share_66 (by omega) ?_
        refine aw_lstore2 dX7_share_67 (by decide) rfl ?_
        refine aw_lload dX7_share_68 rfl ?_
        refine gm_7 rfl dX7_share_70 dX7_share_71 rfl ?_
        refine aw_iload dX7_share_74 rfl ?_
        refine c_X7_217 rfl dX7_share_76  (Nat.le_of_ble_eq_true rfl) (by omega) (C_m_hiveRow (by omega) ?_)
        refine aK_i ?_
        refine aw_iconst dX7_share_79 (by decide) ?_
        refine aw_iaddr dX7_share_80 (by omega) ?_
        refine aw_iaload dX7_share_81 m_a1 (by omega) (by omega) ?_
        refine aw_i2l dX7_share_82 ?_
        refine aw_laddr dX7_share_83 (by omega) ?_
        refine aw_lstore4 dX7_share_84 (by decide) rfl ?_
        refine aw_iinc6r dX7_share_86 (by decide) (by decide) rfl (by omega) ?_
        refine aw_goto (tgt := 27) dX7_share_89 (by decide) ?_
        first
          | (rw [show shF (ct 1) 4 a k = 0 by unfold shF; exact if_neg (by omega), show shF (ct 1) 5 a k = 0 by unfold shF; exact if_neg (by omega), Int.add_zero, Int.add_zero] at ih; exact ih)
          | (rw [show shF (ct 1) 4 a k = ct 1 (64 + 198 * k + 4) by unfold shF; exact if_pos (by omega), show shF (ct 1) 5 a k = ct 1 (64 + 198 * k + 5) by unfold shF; exact if_pos (by omega)] at ih; exact ih)
      · refine aw_iload_n dX7_share_43 rfl ?_
        refine aw_iload dX7_share_44 rfl ?_
        refine aw_icmpeq (tgt := 52) dX7_share_46 (by decide) (fun h46 => ?_) (fun h46 => ?_)
        · refine aw_lload_n dX7_share_52 rfl ?_
          refine gm_7 rfl dX7_share_53 dX7_share_54 rfl ?_
          refine aw_iload dX7_share_57 rfl ?_
          refine c_X7_217 rfl dX7_share_59  (Nat.le_of_ble_eq_true rfl) (by omega) (C_m_hiveRow (by omega) ?_)
          refine aK_i ?_
          refine aw_iconst dX7_share_62 (by decide) ?_
          refine aw_iaddr dX7_share_63 (by omega) ?_
          refine aw_iaload dX7_share_64 m_a1 (by omega) (by omega) ?_
          refine aw_i2l dX7_share_65 ?_
          refine aw_laddr dX7_share_66 (by omega) ?_
          refine aw_lstore2 dX7_share_67 (by decide) rfl ?_
          refine aw_lload dX7_share_68 rfl ?_
          refine gm_7 rfl dX7_share_70 dX7_share_71 rfl ?_
          refine aw_iload dX7_share_74 rfl ?_
          refine c_X7_217 rfl dX7_share_76  (Nat.le_of_ble_eq_true rfl) (by omega) (C_m_hiveRow (by omega) ?_)
          refine aK_i ?_
          refine aw_iconst dX7_share_79 (by decide) ?_
          refine aw_iaddr dX7_share_80 (by omega) ?_
          refine aw_iaload dX7_share_81 m_a1 (by omega) (by omega) ?_
          refine aw_i2l dX7_share_82 ?_
          refine aw_laddr dX7_share_83 (by omega) ?_
          refine aw_lstore4 dX7_share_84 (by decide) rfl ?_
          refine aw_iinc6r dX7_share_86 (by decide) (by decide) rfl (by omega) ?_
          refine aw_goto (tgt := 27) dX7_share_89 (by decide) ?_
          first
            | (rw [show shF (ct 1) 4 a k = 0 by unfold shF; exact if_neg (by omega), show shF (ct 1) 5 a k = 0 by unfold shF; exact if_neg (by omega), Int.add_zero, Int.add_zero] at ih; exact ih)
            | (rw [show shF (ct 1) 4 a k = ct 1 (64 + 198 * k + 4) by unfold shF; exact if_pos (by omega), show shF (ct 1) 5 a k = ct 1 (64 + 198 * k + 5) by unfold shF; exact if_pos (by omega)] at ih; exact ih)
        · refine aw_goto (tgt := 86) dX7_share_49 (by decide) ?_
          refine aw_iinc6r dX7_share_86 (by decide) (by decide) rfl (by omega) ?_
          refine aw_goto (tgt := 27) dX7_share_89 (by decide) ?_
          first
            | (rw [show shF (ct 1) 4 a k = 0 by unfold shF; exact if_neg (by omega), show shF (ct 1) 5 a k = 0 by unfold shF; exact if_neg (by omega), Int.add_zero, Int.add_zero] at ih; exact ih)
            | (rw [show shF (ct 1) 4 a k = ct 1 (64 + 198 * k + 4) by unfold shF; exact if_pos (by omega), show shF (ct 1) 5 a k = ct 1 (64 + 198 * k + 5) by unfold shF; exact if_pos (by omega)] at ih; exact ih)
theorem OP_share {sz : Int} {im : Int → aIm} {ct cm : Int → Int → Int} (h : XR (sz, im, ct) cm) {a : Int} (r0 : -2147483648 ≤ a ∧ a < 2147483648)  : AMet md_X0_share 3 0 0 [vR 0, vI a] (sz, im, ct) (XQ md_X7_share 4 [vR 0, vI a] cm) := by
  obtain ⟨own, N, hR, HY, HL, HN, HS, HP, HF, HX, hv2, hv3, hv4⟩ := id h
  dsimp only at hR HY HL HS HX hv2 hv3 hv4
  have hp0 := HP.1
  have hp3 := HP.2.1
  have hpq := HP.2.2.2.1.1
  have hps := HP.2.2.2.2.2
  refine AMet.go (L := [some (vR 0), some (vI a), none, none, none, none, none]) mok_X0_share (Nat.le_of_ble_eq_true rfl) rfl ?_
  refine aw_aload_n dX0_share_0 rfl ?_
  refine aw_iload_n dX0_share_1 rfl ?_
  refine aw_iconst dX0_share_2 (by decide) ?_
  refine aw_icmpeq (tgt := 14) dX0_share_3 (by decide) (fun h3 => ?_) (fun h3 => ?_)
  · refine aw_iconst dX0_share_14 (by decide) ?_
    refine aw_goto (tgt := 19) dX0_share_15 (by decide) ?_
    refine p_X0_73_0 rfl dX0_share_19 hR.o0 ?_
    refine aw_aload_n dX0_share_22 rfl ?_
    refine g_X0_73_0 rfl dX0_share_23 hR.o0 ?_
    repeat (first | rw [aup_s] | rw [aup_n (by omega)])
    refine aw_ifle (tgt := 31) dX0_share_26 (by decide) (fun _ => ?_) (fun h => absurd h (by decide))
    refine aw_lconst0 dX0_share_31 ?_
    refine aw_lstore2 dX0_share_32 (by decide) rfl ?_
    refine aw_lconst0 dX0_share_33 ?_
    refine aw_lstore4 dX0_share_34 (by decide) rfl ?_
    refine aw_iconst dX0_share_36 (by decide) ?_
    refine aw_istore6 dX0_share_37 (by decide) rfl ?_
    have hb4 := isum_bd (g := shF (cm 1) 4 a) (B := 999890001) (n := (cm 1 0).toNat) fun i i0 i1 => by
      have q := (HP.2.2.1 i i0 (by omega)).2.2.2.2.2
      unfold shF
      split <;> omega
    have hb5 := isum_bd (g := shF (cm 1) 5 a) (B := 999890001) (n := (cm 1 0).toNat) fun i i0 i1 => by
      have q := (HP.2.2.1 i i0 (by omega)).2.2.2.2.2
      unfold shF
      split <;> omega
    refine L_x_share (by omega) hR (HY.up0 (j := 7) (v := 0) hR.1.2 (by decide)) (hR.up0 (j := 7) (v := 0)) HP (by omega) (fun k => ?_) (cm 1 0).toNat 0 (by omega)
    refine aw_aload_n dX0_share_98 rfl ?_
    refine aw_lload_n dX0_share_99 rfl ?_
    refine aw_lconst0 dX0_share_100 ?_
    refine aw_lcmpne (tgt := 110) dX0_share_101 dX0_share_102 (by decide) (fun h101 => ?_) (fun h101 => ?_)
    · refine aw_iconst dX0_share_110 (by decide) ?_
      refine p_X0_73_0 rfl dX0_share_111 hR.o0 ?_
      refine aw_aload_n dX0_share_114 rfl ?_
      refine g_X0_73_0 rfl dX0_share_115 hR.o0 ?_
      repeat (first | rw [aup_s] | rw [aup_n (by omega)])
      refine aw_ifne (tgt := 129) dX0_share_118 (by decide) (fun h => absurd h (by decide)) (fun _ => ?_)
      refine aw_aload_n dX0_share_121 rfl ?_
      refine aw_lload dX0_share_122 rfl ?_
      refine aw_lload_n dX0_share_124 rfl ?_
      refine c_X0_378 rfl dX0_share_125 hR.o0 (Nat.le_of_ble_eq_true rfl) (by omega) (C_x_fraction hR (by omega) (by omega) (fun v9 => ?_))
      refine aK_i ?_
      refine aw_pop dX0_share_128 rfl ?_
      refine aw_aload_n dX0_share_129 rfl ?_
      refine g_X0_73_0 rfl dX0_share_130 hR.o0 ?_
      repeat (first | rw [aup_s] | rw [aup_n (by omega)])
      refine aw_ifne (tgt := 140) dX0_share_133 (by decide) (fun h => absurd h (by decide)) (fun _ => ?_)
      refine aw_iconst dX0_share_136 (by decide) ?_
      refine aw_goto (tgt := 141) dX0_share_137 (by decide) ?_
      refine aw_zreturn dX0_share_141 rfl (Or.inr rfl) ?_
      refine ⟨_, rfl, ?_⟩
      refine AMet.go (L := [some (vR 0), some (vI a), none, none, none, none, none]) mok_X7_share (Nat.le_of_ble_eq_true rfl) rfl ?_
      refine aw_iload_n dX7_share_0 rfl ?_
      refine aw_iconst dX7_share_1 (by decide) ?_
      refine aw_icmpeq (tgt := 19) dX7_share_2 (by decide) (fun h2 => ?_) (fun h2 => ?_)
      · first
          | (exfalso; omega)
          | skip
            refine aw_lconst0 dX7_share_19 ?_
            refine aw_lstore2 dX7_share_20 (by decide) rfl ?_
            refine aw_lconst0 dX7_share_21 ?_
            refine aw_lstore4 dX7_share_22 (by decide) rfl ?_
            refine aw_iconst dX7_share_24 (by decide) ?_
            refine aw_istore6 dX7_share_25 (by decide) rfl ?_
            refine L_m_share (by omega) HP (by omega) (fun k => ?_) (cm 1 0).toNat 0 (by omega)
            refine aw_lload dX7_share_92 rfl ?_
            refine aw_lconst0 dX7_share_94 ?_
            refine aw_lcmpne (tgt := 108) dX7_share_95 dX7_share_96 (by decide) (fun h95 => ?_) (fun h95 => ?_)
            · first
                | (exfalso; omega)
                | skip
                  refine aw_aload_n dX7_share_108 rfl ?_
                  refine aw_lload_n dX7_share_109 rfl ?_
                  refine aw_lload dX7_share_110 rfl ?_
                  refine c_X7_354 rfl dX7_share_112 m_ob (Nat.le_of_ble_eq_true rfl) (by omega) (C_m_tellsBy (by omega) (by omega) ?_)
                  refine aK_i ?_
                  refine aw_zreturn dX7_share_115 rfl (by omega) ?_
                  first
                    | (exfalso; omega)
                    | (refine XR.sameE h ?_ ?_ ?_ ?_ ?_ ?_
                       · first
                           | rfl
                           | omega
                       · repeat (first | exact xs.rf | refine xs.up ?_ (by decide))
                       · repeat (first | exact mss.rf | refine mss.up0 ?_ (by decide))
                       · first
                           | (simp [aup, hv2, hv3, hv4]; done)
                           | (simp [aup, hv2, hv3, hv4]; omega)
                       · simp [aup, hv2, hv3, hv4]
                       · simp [aup, hv2, hv3, hv4])
            · first
                | (exfalso; omega)
                | skip
                  refine aw_aload_n dX7_share_99 rfl ?_
                  refine aw_bipush dX7_share_100 (by decide) ?_
                  refine c_X7_79 rfl dX7_share_102 m_ob (Nat.le_of_ble_eq_true rfl) (by omega) (C_m_is (fun hz => ?_) (fun hz => ?_))
                  · first
                      | (exfalso; omega)
                      | skip
                        refine aK_i ?_
                        refine aw_goto (tgt := 115) dX7_share_105 (by decide) ?_
                        refine aw_zreturn dX7_share_115 rfl (by omega) ?_
                        first
                          | (exfalso; omega)
                          | (refine XR.sameE h ?_ ?_ ?_ ?_ ?_ ?_
                             · first
                                 | rfl
                                 | omega
                             · repeat (first | exact xs.rf | refine xs.up ?_ (by decide))
                             · repeat (first | exact mss.rf | refine mss.up0 ?_ (by decide))
                             · first
                                 | (simp [aup, hv2, hv3, hv4]; done)
                                 | (simp [aup, hv2, hv3, hv4]; omega)
                             · simp [aup, hv2, hv3, hv4]
                             · simp [aup, hv2, hv3, hv4])
                  · first
                      | (exfalso; omega)
                      | skip
                        refine aK_i ?_
                        refine aw_goto (tgt := 115) dX7_share_105 (by decide) ?_
                        refine aw_zreturn dX7_share_115 rfl (by omega) ?_
                        first
                          | (exfalso; omega)
                          | (refine XR.sameE h ?_ ?_ ?_ ?_ ?_ ?_
                             · first
                                 | rfl
                                 | omega
                             · repeat (first | exact xs.rf | refine xs.up ?_ (by decide))
                             · repeat (first | exact mss.rf | refine mss.up0 ?_ (by decide))
                             · first
                                 | (simp [aup, hv2, hv3, hv4]; done)
                                 | (simp [aup, hv2, hv3, hv4]; omega)
                             · simp [aup, hv2, hv3, hv4]
                             · simp [aup, hv2, hv3, hv4])
      · first
          | (exfalso; omega)
          | skip
            refine aw_aload_n dX7_share_5 rfl ?_
            refine aw_iload_n dX7_share_6 rfl ?_
            refine c_X7_274 rfl dX7_share_7 m_ob (Nat.le_of_ble_eq_true rfl) (by omega) (C_m_isHive (fun hh => ?_) (fun hh => ?_))
            · first
                | (exfalso; omega)
                | skip
                  refine aK_i ?_
                  refine aw_ifne (tgt := 19) dX7_share_10 (by decide) (fun _ => ?_) (fun h => absurd h (by decide))
                  refine aw_lconst0 dX7_share_19 ?_
                  refine aw_lstore2 dX7_share_20 (by decide) rfl ?_
                  refine aw_lconst0 dX7_share_21 ?_
                  refine aw_lstore4 dX7_share_22 (by decide) rfl ?_
                  refine aw_iconst dX7_share_24 (by decide) ?_
                  refine aw_istore6 dX7_share_25 (by decide) rfl ?_
                  refine L_m_share (by omega) HP (by omega) (fun k => ?_) (cm 1 0).toNat 0 (by omega)
                  refine aw_lload dX7_share_92 rfl ?_
                  refine aw_lconst0 dX7_share_94 ?_
                  refine aw_lcmpne (tgt := 108) dX7_share_95 dX7_share_96 (by decide) (fun h95 => ?_) (fun h95 => ?_)
                  · first
                      | (exfalso; omega)
                      | skip
                        refine aw_aload_n dX7_share_108 rfl ?_
                        refine aw_lload_n dX7_share_109 rfl ?_
                        refine aw_lload dX7_share_110 rfl ?_
                        refine c_X7_354 rfl dX7_share_112 m_ob (Nat.le_of_ble_eq_true rfl) (by omega) (C_m_tellsBy (by omega) (by omega) ?_)
                        refine aK_i ?_
                        refine aw_zreturn dX7_share_115 rfl (by omega) ?_
                        first
                          | (exfalso; omega)
                          | (refine XR.sameE h ?_ ?_ ?_ ?_ ?_ ?_
                             · first
                                 | rfl
                                 | omega
                             · repeat (first | exact xs.rf | refine xs.up ?_ (by decide))
                             · repeat (first | exact mss.rf | refine mss.up0 ?_ (by decide))
                             · first
                                 | (simp [aup, hv2, hv3, hv4]; done)
                                 | (simp [aup, hv2, hv3, hv4]; omega)
                             · simp [aup, hv2, hv3, hv4]
                             · simp [aup, hv2, hv3, hv4])
                  · first
                      | (exfalso; omega)
                      | skip
                        refine aw_aload_n dX7_share_99 rfl ?_
                        refine aw_bipush dX7_share_100 (by decide) ?_
                        refine c_X7_79 rfl dX7_share_102 m_ob (Nat.le_of_ble_eq_true rfl) (by omega) (C_m_is (fun hz => ?_) (fun hz => ?_))
                        · first
                            | (exfalso; omega)
                            | skip
                              refine aK_i ?_
                              refine aw_goto (tgt := 115) dX7_share_105 (by decide) ?_
                              refine aw_zreturn dX7_share_115 rfl (by omega) ?_
                              first
                                | (exfalso; omega)
                                | (refine XR.sameE h ?_ ?_ ?_ ?_ ?_ ?_
                                   · first
                                       | rfl
                                       | omega
                                   · repeat (first | exact xs.rf | refine xs.up ?_ (by decide))
                                   · repeat (first | exact mss.rf | refine mss.up0 ?_ (by decide))
                                   · first
                                       | (simp [aup, hv2, hv3, hv4]; done)
                                       | (simp [aup, hv2, hv3, hv4]; omega)
                                   · simp [aup, hv2, hv3, hv4]
                                   · simp [aup, hv2, hv3, hv4])
                        · first
                            | (exfalso; omega)
                            | skip
                              refine aK_i ?_
                              refine aw_goto (tgt := 115) dX7_share_105 (by decide) ?_
                              refine aw_zreturn dX7_share_115 rfl (by omega) ?_
                              first
                                | (exfalso; omega)
                                | (refine XR.sameE h ?_ ?_ ?_ ?_ ?_ ?_
                                   · first
                                       | rfl
                                       | omega
                                   · repeat (first | exact xs.rf | refine xs.up ?_ (by decide))
                                   · repeat (first | exact mss.rf | refine mss.up0 ?_ (by decide))
                                   · first
                                       | (simp [aup, hv2, hv3, hv4]; done)
                                       | (simp [aup, hv2, hv3, hv4]; omega)
                                   · simp [aup, hv2, hv3, hv4]
                                   · simp [aup, hv2, hv3, hv4])
            · first
                | (exfalso; omega)
                | skip
                  refine aK_i ?_
                  refine aw_ifne (tgt := 19) dX7_share_10 (by decide) (fun h => absurd h (by decide)) (fun _ => ?_)
                  refine aw_aload_n dX7_share_13 rfl ?_
                  refine aw_iconst dX7_share_14 (by decide) ?_
                  refine c_X7_79 rfl dX7_share_15 m_ob (Nat.le_of_ble_eq_true rfl) (by omega) (C_m_is (fun hz => ?_) (fun hz => ?_))
                  · first
                      | (exfalso; omega)
                      | skip
                        refine aK_i ?_
                        refine aw_zreturn dX7_share_18 rfl (by omega) ?_
                        first
                          | (exfalso; omega)
                          | (refine XR.sameE h ?_ ?_ ?_ ?_ ?_ ?_
                             · first
                                 | rfl
                                 | omega
                             · repeat (first | exact xs.rf | refine xs.up ?_ (by decide))
                             · repeat (first | exact mss.rf | refine mss.up0 ?_ (by decide))
                             · first
                                 | (simp [aup, hv2, hv3, hv4]; done)
                                 | (simp [aup, hv2, hv3, hv4]; omega)
                             · simp [aup, hv2, hv3, hv4]
                             · simp [aup, hv2, hv3, hv4])
                  · first
                      | (exfalso; omega)
                      | skip
                        refine aK_i ?_
                        refine aw_zreturn dX7_share_18 rfl (by omega) ?_
                        first
                          | (exfalso; omega)
                          | (refine XR.sameE h ?_ ?_ ?_ ?_ ?_ ?_
                             · first
                                 | rfl
                                 | omega
                             · repeat (first | exact xs.rf | refine xs.up ?_ (by decide))
                             · repeat (first | exact mss.rf | refine mss.up0 ?_ (by decide))
                             · first
                                 | (simp [aup, hv2, hv3, hv4]; done)
                                 | (simp [aup, hv2, hv3, hv4]; omega)
                             · simp [aup, hv2, hv3, hv4]
                             · simp [aup, hv2, hv3, hv4])
    · refine aw_bipush dX0_share_105 (by decide) ?_
      refine aw_goto (tgt := 111) dX0_share_107 (by decide) ?_
      refine p_X0_73_0 rfl dX0_share_111 hR.o0 ?_
      refine aw_aload_n dX0_share_114 rfl ?_
      refine g_X0_73_0 rfl dX0_share_115 hR.o0 ?_
      repeat (first | rw [aup_s] | rw [aup_n (by omega)])
      refine aw_ifne (tgt := 129) dX0_share_118 (by decide) (fun _ => ?_) (fun h => absurd h (by decide))
      refine aw_aload_n dX0_share_129 rfl ?_
      refine g_X0_73_0 rfl dX0_share_130 hR.o0 ?_
      repeat (first | rw [aup_s] | rw [aup_n (by omega)])
      refine aw_ifne (tgt := 140) dX0_share_133 (by decide) (fun _ => ?_) (fun h => absurd h (by decide))
      refine aw_iconst dX0_share_140 (by decide) ?_
      refine aw_zreturn dX0_share_141 rfl (Or.inl rfl) ?_
      refine ⟨_, rfl, ?_⟩
      refine AMet.go (L := [some (vR 0), some (vI a), none, none, none, none, none]) mok_X7_share (Nat.le_of_ble_eq_true rfl) rfl ?_
      refine aw_iload_n dX7_share_0 rfl ?_
      refine aw_iconst dX7_share_1 (by decide) ?_
      refine aw_icmpeq (tgt := 19) dX7_share_2 (by decide) (fun h2 => ?_) (fun h2 => ?_)
      · first
          | (exfalso; omega)
          | skip
            refine aw_lconst0 dX7_share_19 ?_
            refine aw_lstore2 dX7_share_20 (by decide) rfl ?_
            refine aw_lconst0 dX7_share_21 ?_
            refine aw_lstore4 dX7_share_22 (by decide) rfl ?_
            refine aw_iconst dX7_share_24 (by decide) ?_
            refine aw_istore6 dX7_share_25 (by decide) rfl ?_
            refine L_m_share (by omega) HP (by omega) (fun k => ?_) (cm 1 0).toNat 0 (by omega)
            refine aw_lload dX7_share_92 rfl ?_
            refine aw_lconst0 dX7_share_94 ?_
            refine aw_lcmpne (tgt := 108) dX7_share_95 dX7_share_96 (by decide) (fun h95 => ?_) (fun h95 => ?_)
            · first
                | (exfalso; omega)
                | skip
                  refine aw_aload_n dX7_share_108 rfl ?_
                  refine aw_lload_n dX7_share_109 rfl ?_
                  refine aw_lload dX7_share_110 rfl ?_
                  refine c_X7_354 rfl dX7_share_112 m_ob (Nat.le_of_ble_eq_true rfl) (by omega) (C_m_tellsBy (by omega) (by omega) ?_)
                  refine aK_i ?_
                  refine aw_zreturn dX7_share_115 rfl (by omega) ?_
                  first
                    | (exfalso; omega)
                    | (refine XR.sameE h ?_ ?_ ?_ ?_ ?_ ?_
                       · first
                           | rfl
                           | omega
                       · repeat (first | exact xs.rf | refine xs.up ?_ (by decide))
                       · repeat (first | exact mss.rf | refine mss.up0 ?_ (by decide))
                       · first
                           | (simp [aup, hv2, hv3, hv4]; done)
                           | (simp [aup, hv2, hv3, hv4]; omega)
                       · simp [aup, hv2, hv3, hv4]
                       · simp [aup, hv2, hv3, hv4])
            · first
                | (exfalso; omega)
                | skip
                  refine aw_aload_n dX7_share_99 rfl ?_
                  refine aw_bipush dX7_share_100 (by decide) ?_
                  refine c_X7_79 rfl dX7_share_102 m_ob (Nat.le_of_ble_eq_true rfl) (by omega) (C_m_is (fun hz => ?_) (fun hz => ?_))
                  · first
                      | (exfalso; omega)
                      | skip
                        refine aK_i ?_
                        refine aw_goto (tgt := 115) dX7_share_105 (by decide) ?_
                        refine aw_zreturn dX7_share_115 rfl (by omega) ?_
                        first
                          | (exfalso; omega)
                          | (refine XR.sameE h ?_ ?_ ?_ ?_ ?_ ?_
                             · first
                                 | rfl
                                 | omega
                             · repeat (first | exact xs.rf | refine xs.up ?_ (by decide))
                             · repeat (first | exact mss.rf | refine mss.up0 ?_ (by decide))
                             · first
                                 | (simp [aup, hv2, hv3, hv4]; done)
                                 | (simp [aup, hv2, hv3, hv4]; omega)
                             · simp [aup, hv2, hv3, hv4]
                             · simp [aup, hv2, hv3, hv4])
                  · first
                      | (exfalso; omega)
                      | skip
                        refine aK_i ?_
                        refine aw_goto (tgt := 115) dX7_share_105 (by decide) ?_
                        refine aw_zreturn dX7_share_115 rfl (by omega) ?_
                        first
                          | (exfalso; omega)
                          | (refine XR.sameE h ?_ ?_ ?_ ?_ ?_ ?_
                             · first
                                 | rfl
                                 | omega
                             · repeat (first | exact xs.rf | refine xs.up ?_ (by decide))
                             · repeat (first | exact mss.rf | refine mss.up0 ?_ (by decide))
                             · first
                                 | (simp [aup, hv2, hv3, hv4]; done)
                                 | (simp [aup, hv2, hv3, hv4]; omega)
                             · simp [aup, hv2, hv3, hv4]
                             · simp [aup, hv2, hv3, hv4])
      · first
          | (exfalso; omega)
          | skip
            refine aw_aload_n dX7_share_5 rfl ?_
            refine aw_iload_n dX7_share_6 rfl ?_
            refine c_X7_274 rfl dX7_share_7 m_ob (Nat.le_of_ble_eq_true rfl) (by omega) (C_m_isHive (fun hh => ?_) (fun hh => ?_))
            · first
                | (exfalso; omega)
                | skip
                  refine aK_i ?_
                  refine aw_ifne (tgt := 19) dX7_share_10 (by decide) (fun _ => ?_) (fun h => absurd h (by decide))
                  refine aw_lconst0 dX7_share_19 ?_
                  refine aw_lstore2 dX7_share_20 (by decide) rfl ?_
                  refine aw_lconst0 dX7_share_21 ?_
                  refine aw_lstore4 dX7_share_22 (by decide) rfl ?_
                  refine aw_iconst dX7_share_24 (by decide) ?_
                  refine aw_istore6 dX7_share_25 (by decide) rfl ?_
                  refine L_m_share (by omega) HP (by omega) (fun k => ?_) (cm 1 0).toNat 0 (by omega)
                  refine aw_lload dX7_share_92 rfl ?_
                  refine aw_lconst0 dX7_share_94 ?_
                  refine aw_lcmpne (tgt := 108) dX7_share_95 dX7_share_96 (by decide) (fun h95 => ?_) (fun h95 => ?_)
                  · first
                      | (exfalso; omega)
                      | skip
                        refine aw_aload_n dX7_share_108 rfl ?_
                        refine aw_lload_n dX7_share_109 rfl ?_
                        refine aw_lload dX7_share_110 rfl ?_
                        refine c_X7_354 rfl dX7_share_112 m_ob (Nat.le_of_ble_eq_true rfl) (by omega) (C_m_tellsBy (by omega) (by omega) ?_)
                        refine aK_i ?_
                        refine aw_zreturn dX7_share_115 rfl (by omega) ?_
                        first
                          | (exfalso; omega)
                          | (refine XR.sameE h ?_ ?_ ?_ ?_ ?_ ?_
                             · first
                                 | rfl
                                 | omega
                             · repeat (first | exact xs.rf | refine xs.up ?_ (by decide))
                             · repeat (first | exact mss.rf | refine mss.up0 ?_ (by decide))
                             · first
                                 | (simp [aup, hv2, hv3, hv4]; done)
                                 | (simp [aup, hv2, hv3, hv4]; omega)
                             · simp [aup, hv2, hv3, hv4]
                             · simp [aup, hv2, hv3, hv4])
                  · first
                      | (exfalso; omega)
                      | skip
                        refine aw_aload_n dX7_share_99 rfl ?_
                        refine aw_bipush dX7_share_100 (by decide) ?_
                        refine c_X7_79 rfl dX7_share_102 m_ob (Nat.le_of_ble_eq_true rfl) (by omega) (C_m_is (fun hz => ?_) (fun hz => ?_))
                        · first
                            | (exfalso; omega)
                            | skip
                              refine aK_i ?_
                              refine aw_goto (tgt := 115) dX7_share_105 (by decide) ?_
                              refine aw_zreturn dX7_share_115 rfl (by omega) ?_
                              first
                                | (exfalso; omega)
                                | (refine XR.sameE h ?_ ?_ ?_ ?_ ?_ ?_
                                   · first
                                       | rfl
                                       | omega
                                   · repeat (first | exact xs.rf | refine xs.up ?_ (by decide))
                                   · repeat (first | exact mss.rf | refine mss.up0 ?_ (by decide))
                                   · first
                                       | (simp [aup, hv2, hv3, hv4]; done)
                                       | (simp [aup, hv2, hv3, hv4]; omega)
                                   · simp [aup, hv2, hv3, hv4]
                                   · simp [aup, hv2, hv3, hv4])
                        · first
                            | (exfalso; omega)
                            | skip
                              refine aK_i ?_
                              refine aw_goto (tgt := 115) dX7_share_105 (by decide) ?_
                              refine aw_zreturn dX7_share_115 rfl (by omega) ?_
                              first
                                | (exfalso; omega)
                                | (refine XR.sameE h ?_ ?_ ?_ ?_ ?_ ?_
                                   · first
                                       | rfl
                                       | omega
                                   · repeat (first | exact xs.rf | refine xs.up ?_ (by decide))
                                   · repeat (first | exact mss.rf | refine mss.up0 ?_ (by decide))
                                   · first
                                       | (simp [aup, hv2, hv3, hv4]; done)
                                       | (simp [aup, hv2, hv3, hv4]; omega)
                                   · simp [aup, hv2, hv3, hv4]
                                   · simp [aup, hv2, hv3, hv4])
            · first
                | (exfalso; omega)
                | skip
                  refine aK_i ?_
                  refine aw_ifne (tgt := 19) dX7_share_10 (by decide) (fun h => absurd h (by decide)) (fun _ => ?_)
                  refine aw_aload_n dX7_share_13 rfl ?_
                  refine aw_iconst dX7_share_14 (by decide) ?_
                  refine c_X7_79 rfl dX7_share_15 m_ob (Nat.le_of_ble_eq_true rfl) (by omega) (C_m_is (fun hz => ?_) (fun hz => ?_))
                  · first
                      | (exfalso; omega)
                      | skip
                        refine aK_i ?_
                        refine aw_zreturn dX7_share_18 rfl (by omega) ?_
                        first
                          | (exfalso; omega)
                          | (refine XR.sameE h ?_ ?_ ?_ ?_ ?_ ?_
                             · first
                                 | rfl
                                 | omega
                             · repeat (first | exact xs.rf | refine xs.up ?_ (by decide))
                             · repeat (first | exact mss.rf | refine mss.up0 ?_ (by decide))
                             · first
                                 | (simp [aup, hv2, hv3, hv4]; done)
                                 | (simp [aup, hv2, hv3, hv4]; omega)
                             · simp [aup, hv2, hv3, hv4]
                             · simp [aup, hv2, hv3, hv4])
                  · first
                      | (exfalso; omega)
                      | skip
                        refine aK_i ?_
                        refine aw_zreturn dX7_share_18 rfl (by omega) ?_
                        first
                          | (exfalso; omega)
                          | (refine XR.sameE h ?_ ?_ ?_ ?_ ?_ ?_
                             · first
                                 | rfl
                                 | omega
                             · repeat (first | exact xs.rf | refine xs.up ?_ (by decide))
                             · repeat (first | exact mss.rf | refine mss.up0 ?_ (by decide))
                             · first
                                 | (simp [aup, hv2, hv3, hv4]; done)
                                 | (simp [aup, hv2, hv3, hv4]; omega)
                             · simp [aup, hv2, hv3, hv4]
                             · simp [aup, hv2, hv3, hv4])
  · refine aw_aload_n dX0_share_6 rfl ?_
    refine aw_iload_n dX0_share_7 rfl ?_
    refine c_X0_168 rfl dX0_share_8 hR.o0 (Nat.le_of_ble_eq_true rfl) (by omega) (C_x_isHive hR HY (fun xh => ?_) (fun xh => ?_))
    · refine aK_i ?_
      refine aw_ifeq (tgt := 18) dX0_share_11 (by decide) (fun h => absurd h (by decide)) (fun _ => ?_)
      refine aw_iconst dX0_share_14 (by decide) ?_
      refine aw_goto (tgt := 19) dX0_share_15 (by decide) ?_
      refine p_X0_73_0 rfl dX0_share_19 hR.o0 ?_
      refine aw_aload_n dX0_share_22 rfl ?_
      refine g_X0_73_0 rfl dX0_share_23 hR.o0 ?_
      repeat (first | rw [aup_s] | rw [aup_n (by omega)])
      refine aw_ifle (tgt := 31) dX0_share_26 (by decide) (fun _ => ?_) (fun h => absurd h (by decide))
      refine aw_lconst0 dX0_share_31 ?_
      refine aw_lstore2 dX0_share_32 (by decide) rfl ?_
      refine aw_lconst0 dX0_share_33 ?_
      refine aw_lstore4 dX0_share_34 (by decide) rfl ?_
      refine aw_iconst dX0_share_36 (by decide) ?_
      refine aw_istore6 dX0_share_37 (by decide) rfl ?_
      have hb4 := isum_bd (g := shF (cm 1) 4 a) (B := 999890001) (n := (cm 1 0).toNat) fun i i0 i1 => by
        have q := (HP.2.2.1 i i0 (by omega)).2.2.2.2.2
        unfold shF
        split <;> omega
      have hb5 := isum_bd (g := shF (cm 1) 5 a) (B := 999890001) (n := (cm 1 0).toNat) fun i i0 i1 => by
        have q := (HP.2.2.1 i i0 (by omega)).2.2.2.2.2
        unfold shF
        split <;> omega
      refine L_x_share (by omega) hR (HY.up0 (j := 7) (v := 0) hR.1.2 (by decide)) (hR.up0 (j := 7) (v := 0)) HP (by omega) (fun k => ?_) (cm 1 0).toNat 0 (by omega)
      refine aw_aload_n dX0_share_98 rfl ?_
      refine aw_lload_n dX0_share_99 rfl ?_
      refine aw_lconst0 dX0_share_100 ?_
      refine aw_lcmpne (tgt := 110) dX0_share_101 dX0_share_102 (by decide) (fun h101 => ?_) (fun h101 => ?_)
      · refine aw_iconst dX0_share_110 (by decide) ?_
        refine p_X0_73_0 rfl dX0_share_111 hR.o0 ?_
        refine aw_aload_n dX0_share_114 rfl ?_
        refine g_X0_73_0 rfl dX0_share_115 hR.o0 ?_
        repeat (first | rw [aup_s] | rw [aup_n (by omega)])
        refine aw_ifne (tgt := 129) dX0_share_118 (by decide) (fun h => absurd h (by decide)) (fun _ => ?_)
        refine aw_aload_n dX0_share_121 rfl ?_
        refine aw_lload dX0_share_122 rfl ?_
        refine aw_lload_n dX0_share_124 rfl ?_
        refine c_X0_378 rfl dX0_share_125 hR.o0 (Nat.le_of_ble_eq_true rfl) (by omega) (C_x_fraction hR (by omega) (by omega) (fun v9 => ?_))
        refine aK_i ?_
        refine aw_pop dX0_share_128 rfl ?_
        refine aw_aload_n dX0_share_129 rfl ?_
        refine g_X0_73_0 rfl dX0_share_130 hR.o0 ?_
        repeat (first | rw [aup_s] | rw [aup_n (by omega)])
        refine aw_ifne (tgt := 140) dX0_share_133 (by decide) (fun h => absurd h (by decide)) (fun _ => ?_)
        refine aw_iconst dX0_share_136 (by decide) ?_
        refine aw_goto (tgt := 141) dX0_share_137 (by decide) ?_
        refine aw_zreturn dX0_share_141 rfl (Or.inr rfl) ?_
        refine ⟨_, rfl, ?_⟩
        refine AMet.go (L := [some (vR 0), some (vI a), none, none, none, none, none]) mok_X7_share (Nat.le_of_ble_eq_true rfl) rfl ?_
        refine aw_iload_n dX7_share_0 rfl ?_
        refine aw_iconst dX7_share_1 (by decide) ?_
        refine aw_icmpeq (tgt := 19) dX7_share_2 (by decide) (fun h2 => ?_) (fun h2 => ?_)
        · first
            | (exfalso; omega)
            | skip
              refine aw_lconst0 dX7_share_19 ?_
              refine aw_lstore2 dX7_share_20 (by decide) rfl ?_
              refine aw_lconst0 dX7_share_21 ?_
              refine aw_lstore4 dX7_share_22 (by decide) rfl ?_
              refine aw_iconst dX7_share_24 (by decide) ?_
              refine aw_istore6 dX7_share_25 (by decide) rfl ?_
              refine L_m_share (by omega) HP (by omega) (fun k => ?_) (cm 1 0).toNat 0 (by omega)
              refine aw_lload dX7_share_92 rfl ?_
              refine aw_lconst0 dX7_share_94 ?_
              refine aw_lcmpne (tgt := 108) dX7_share_95 dX7_share_96 (by decide) (fun h95 => ?_) (fun h95 => ?_)
              · first
                  | (exfalso; omega)
                  | skip
                    refine aw_aload_n dX7_share_108 rfl ?_
                    refine aw_lload_n dX7_share_109 rfl ?_
                    refine aw_lload dX7_share_110 rfl ?_
                    refine c_X7_354 rfl dX7_share_112 m_ob (Nat.le_of_ble_eq_true rfl) (by omega) (C_m_tellsBy (by omega) (by omega) ?_)
                    refine aK_i ?_
                    refine aw_zreturn dX7_share_115 rfl (by omega) ?_
                    first
                      | (exfalso; omega)
                      | (refine XR.sameE h ?_ ?_ ?_ ?_ ?_ ?_
                         · first
                             | rfl
                             | omega
                         · repeat (first | exact xs.rf | refine xs.up ?_ (by decide))
                         · repeat (first | exact mss.rf | refine mss.up0 ?_ (by decide))
                         · first
                             | (simp [aup, hv2, hv3, hv4]; done)
                             | (simp [aup, hv2, hv3, hv4]; omega)
                         · simp [aup, hv2, hv3, hv4]
                         · simp [aup, hv2, hv3, hv4])
              · first
                  | (exfalso; omega)
                  | skip
                    refine aw_aload_n dX7_share_99 rfl ?_
                    refine aw_bipush dX7_share_100 (by decide) ?_
                    refine c_X7_79 rfl dX7_share_102 m_ob (Nat.le_of_ble_eq_true rfl) (by omega) (C_m_is (fun hz => ?_) (fun hz => ?_))
                    · first
                        | (exfalso; omega)
                        | skip
                          refine aK_i ?_
                          refine aw_goto (tgt := 115) dX7_share_105 (by decide) ?_
                          refine aw_zreturn dX7_share_115 rfl (by omega) ?_
                          first
                            | (exfalso; omega)
                            | (refine XR.sameE h ?_ ?_ ?_ ?_ ?_ ?_
                               · first
                                   | rfl
                                   | omega
                               · repeat (first | exact xs.rf | refine xs.up ?_ (by decide))
                               · repeat (first | exact mss.rf | refine mss.up0 ?_ (by decide))
                               · first
                                   | (simp [aup, hv2, hv3, hv4]; done)
                                   | (simp [aup, hv2, hv3, hv4]; omega)
                               · simp [aup, hv2, hv3, hv4]
                               · simp [aup, hv2, hv3, hv4])
                    · first
                        | (exfalso; omega)
                        | skip
                          refine aK_i ?_
                          refine aw_goto (tgt := 115) dX7_share_105 (by decide) ?_
                          refine aw_zreturn dX7_share_115 rfl (by omega) ?_
                          first
                            | (exfalso; omega)
                            | (refine XR.sameE h ?_ ?_ ?_ ?_ ?_ ?_
                               · first
                                   | rfl
                                   | omega
                               · repeat (first | exact xs.rf | refine xs.up ?_ (by decide))
                               · repeat (first | exact mss.rf | refine mss.up0 ?_ (by decide))
                               · first
                                   | (simp [aup, hv2, hv3, hv4]; done)
                                   | (simp [aup, hv2, hv3, hv4]; omega)
                               · simp [aup, hv2, hv3, hv4]
                               · simp [aup, hv2, hv3, hv4])
        · first
            | (exfalso; omega)
            | skip
              refine aw_aload_n dX7_share_5 rfl ?_
              refine aw_iload_n dX7_share_6 rfl ?_
              refine c_X7_274 rfl dX7_share_7 m_ob (Nat.le_of_ble_eq_true rfl) (by omega) (C_m_isHive (fun hh => ?_) (fun hh => ?_))
              · first
                  | (exfalso; omega)
                  | skip
                    refine aK_i ?_
                    refine aw_ifne (tgt := 19) dX7_share_10 (by decide) (fun _ => ?_) (fun h => absurd h (by decide))
                    refine aw_lconst0 dX7_share_19 ?_
                    refine aw_lstore2 dX7_share_20 (by decide) rfl ?_
                    refine aw_lconst0 dX7_share_21 ?_
                    refine aw_lstore4 dX7_share_22 (by decide) rfl ?_
                    refine aw_iconst dX7_share_24 (by decide) ?_
                    refine aw_istore6 dX7_share_25 (by decide) rfl ?_
                    refine L_m_share (by omega) HP (by omega) (fun k => ?_) (cm 1 0).toNat 0 (by omega)
                    refine aw_lload dX7_share_92 rfl ?_
                    refine aw_lconst0 dX7_share_94 ?_
                    refine aw_lcmpne (tgt := 108) dX7_share_95 dX7_share_96 (by decide) (fun h95 => ?_) (fun h95 => ?_)
                    · first
                        | (exfalso; omega)
                        | skip
                          refine aw_aload_n dX7_share_108 rfl ?_
                          refine aw_lload_n dX7_share_109 rfl ?_
                          refine aw_lload dX7_share_110 rfl ?_
                          refine c_X7_354 rfl dX7_share_112 m_ob (Nat.le_of_ble_eq_true rfl) (by omega) (C_m_tellsBy (by omega) (by omega) ?_)
                          refine aK_i ?_
                          refine aw_zreturn dX7_share_115 rfl (by omega) ?_
                          first
                            | (exfalso; omega)
                            | (refine XR.sameE h ?_ ?_ ?_ ?_ ?_ ?_
                               · first
                                   | rfl
                                   | omega
                               · repeat (first | exact xs.rf | refine xs.up ?_ (by decide))
                               · repeat (first | exact mss.rf | refine mss.up0 ?_ (by decide))
                               · first
                                   | (simp [aup, hv2, hv3, hv4]; done)
                                   | (simp [aup, hv2, hv3, hv4]; omega)
                               · simp [aup, hv2, hv3, hv4]
                               · simp [aup, hv2, hv3, hv4])
                    · first
                        | (exfalso; omega)
                        | skip
                          refine aw_aload_n dX7_share_99 rfl ?_
                          refine aw_bipush dX7_share_100 (by decide) ?_
                          refine c_X7_79 rfl dX7_share_102 m_ob (Nat.le_of_ble_eq_true rfl) (by omega) (C_m_is (fun hz => ?_) (fun hz => ?_))
                          · first
                              | (exfalso; omega)
                              | skip
                                refine aK_i ?_
                                refine aw_goto (tgt := 115) dX7_share_105 (by decide) ?_
                                refine aw_zreturn dX7_share_115 rfl (by omega) ?_
                                first
                                  | (exfalso; omega)
                                  | (refine XR.sameE h ?_ ?_ ?_ ?_ ?_ ?_
                                     · first
                                         | rfl
                                         | omega
                                     · repeat (first | exact xs.rf | refine xs.up ?_ (by decide))
                                     · repeat (first | exact mss.rf | refine mss.up0 ?_ (by decide))
                                     · first
                                         | (simp [aup, hv2, hv3, hv4]; done)
                                         | (simp [aup, hv2, hv3, hv4]; omega)
                                     · simp [aup, hv2, hv3, hv4]
                                     · simp [aup, hv2, hv3, hv4])
                          · first
                              | (exfalso; omega)
                              | skip
                                refine aK_i ?_
                                refine aw_goto (tgt := 115) dX7_share_105 (by decide) ?_
                                refine aw_zreturn dX7_share_115 rfl (by omega) ?_
                                first
                                  | (exfalso; omega)
                                  | (refine XR.sameE h ?_ ?_ ?_ ?_ ?_ ?_
                                     · first
                                         | rfl
                                         | omega
                                     · repeat (first | exact xs.rf | refine xs.up ?_ (by decide))
                                     · repeat (first | exact mss.rf | refine mss.up0 ?_ (by decide))
                                     · first
                                         | (simp [aup, hv2, hv3, hv4]; done)
                                         | (simp [aup, hv2, hv3, hv4]; omega)
                                     · simp [aup, hv2, hv3, hv4]
                                     · simp [aup, hv2, hv3, hv4])
              · first
                  | (exfalso; omega)
                  | skip
                    refine aK_i ?_
                    refine aw_ifne (tgt := 19) dX7_share_10 (by decide) (fun h => absurd h (by decide)) (fun _ => ?_)
                    refine aw_aload_n dX7_share_13 rfl ?_
                    refine aw_iconst dX7_share_14 (by decide) ?_
                    refine c_X7_79 rfl dX7_share_15 m_ob (Nat.le_of_ble_eq_true rfl) (by omega) (C_m_is (fun hz => ?_) (fun hz => ?_))
                    · first
                        | (exfalso; omega)
                        | skip
                          refine aK_i ?_
                          refine aw_zreturn dX7_share_18 rfl (by omega) ?_
                          first
                            | (exfalso; omega)
                            | (refine XR.sameE h ?_ ?_ ?_ ?_ ?_ ?_
                               · first
                                   | rfl
                                   | omega
                               · repeat (first | exact xs.rf | refine xs.up ?_ (by decide))
                               · repeat (first | exact mss.rf | refine mss.up0 ?_ (by decide))
                               · first
                                   | (simp [aup, hv2, hv3, hv4]; done)
                                   | (simp [aup, hv2, hv3, hv4]; omega)
                               · simp [aup, hv2, hv3, hv4]
                               · simp [aup, hv2, hv3, hv4])
                    · first
                        | (exfalso; omega)
                        | skip
                          refine aK_i ?_
                          refine aw_zreturn dX7_share_18 rfl (by omega) ?_
                          first
                            | (exfalso; omega)
                            | (refine XR.sameE h ?_ ?_ ?_ ?_ ?_ ?_
                               · first
                                   | rfl
                                   | omega
                               · repeat (first | exact xs.rf | refine xs.up ?_ (by decide))
                               · repeat (first | exact mss.rf | refine mss.up0 ?_ (by decide))
                               · first
                                   | (simp [aup, hv2, hv3, hv4]; done)
                                   | (simp [aup, hv2, hv3, hv4]; omega)
                               · simp [aup, hv2, hv3, hv4]
                               · simp [aup, hv2, hv3, hv4])
      · refine aw_bipush dX0_share_105 (by decide) ?_
        refine aw_goto (tgt := 111) dX0_share_107 (by decide) ?_
        refine p_X0_73_0 rfl dX0_share_111 hR.o0 ?_
        refine aw_aload_n dX0_share_114 rfl ?_
        refine g_X0_73_0 rfl dX0_share_115 hR.o0 ?_
        repeat (first | rw [aup_s] | rw [aup_n (by omega)])
        refine aw_ifne (tgt := 129) dX0_share_118 (by decide) (fun _ => ?_) (fun h => absurd h (by decide))
        refine aw_aload_n dX0_share_129 rfl ?_
        refine g_X0_73_0 rfl dX0_share_130 hR.o0 ?_
        repeat (first | rw [aup_s] | rw [aup_n (by omega)])
        refine aw_ifne (tgt := 140) dX0_share_133 (by decide) (fun _ => ?_) (fun h => absurd h (by decide))
        refine aw_iconst dX0_share_140 (by decide) ?_
        refine aw_zreturn dX0_share_141 rfl (Or.inl rfl) ?_
        refine ⟨_, rfl, ?_⟩
        refine AMet.go (L := [some (vR 0), some (vI a), none, none, none, none, none]) mok_X7_share (Nat.le_of_ble_eq_true rfl) rfl ?_
        refine aw_iload_n dX7_share_0 rfl ?_
        refine aw_iconst dX7_share_1 (by decide) ?_
        refine aw_icmpeq (tgt := 19) dX7_share_2 (by decide) (fun h2 => ?_) (fun h2 => ?_)
        · first
            | (exfalso; omega)
            | skip
              refine aw_lconst0 dX7_share_19 ?_
              refine aw_lstore2 dX7_share_20 (by decide) rfl ?_
              refine aw_lconst0 dX7_share_21 ?_
              refine aw_lstore4 dX7_share_22 (by decide) rfl ?_
              refine aw_iconst dX7_share_24 (by decide) ?_
              refine aw_istore6 dX7_share_25 (by decide) rfl ?_
              refine L_m_share (by omega) HP (by omega) (fun k => ?_) (cm 1 0).toNat 0 (by omega)
              refine aw_lload dX7_share_92 rfl ?_
              refine aw_lconst0 dX7_share_94 ?_
              refine aw_lcmpne (tgt := 108) dX7_share_95 dX7_share_96 (by decide) (fun h95 => ?_) (fun h95 => ?_)
              · first
                  | (exfalso; omega)
                  | skip
                    refine aw_aload_n dX7_share_108 rfl ?_
                    refine aw_lload_n dX7_share_109 rfl ?_
                    refine aw_lload dX7_share_110 rfl ?_
                    refine c_X7_354 rfl dX7_share_112 m_ob (Nat.le_of_ble_eq_true rfl) (by omega) (C_m_tellsBy (by omega) (by omega) ?_)
                    refine aK_i ?_
                    refine aw_zreturn dX7_share_115 rfl (by omega) ?_
                    first
                      | (exfalso; omega)
                      | (refine XR.sameE h ?_ ?_ ?_ ?_ ?_ ?_
                         · first
                             | rfl
                             | omega
                         · repeat (first | exact xs.rf | refine xs.up ?_ (by decide))
                         · repeat (first | exact mss.rf | refine mss.up0 ?_ (by decide))
                         · first
                             | (simp [aup, hv2, hv3, hv4]; done)
                             | (simp [aup, hv2, hv3, hv4]; omega)
                         · simp [aup, hv2, hv3, hv4]
                         · simp [aup, hv2, hv3, hv4])
              · first
                  | (exfalso; omega)
                  | skip
                    refine aw_aload_n dX7_share_99 rfl ?_
                    refine aw_bipush dX7_share_100 (by decide) ?_
                    refine c_X7_79 rfl dX7_share_102 m_ob (Nat.le_of_ble_eq_true rfl) (by omega) (C_m_is (fun hz => ?_) (fun hz => ?_))
                    · first
                        | (exfalso; omega)
                        | skip
                          refine aK_i ?_
                          refine aw_goto (tgt := 115) dX7_share_105 (by decide) ?_
                          refine aw_zreturn dX7_share_115 rfl (by omega) ?_
                          first
                            | (exfalso; omega)
                            | (refine XR.sameE h ?_ ?_ ?_ ?_ ?_ ?_
                               · first
                                   | rfl
                                   | omega
                               · repeat (first | exact xs.rf | refine xs.up ?_ (by decide))
                               · repeat (first | exact mss.rf | refine mss.up0 ?_ (by decide))
                               · first
                                   | (simp [aup, hv2, hv3, hv4]; done)
                                   | (simp [aup, hv2, hv3, hv4]; omega)
                               · simp [aup, hv2, hv3, hv4]
                               · simp [aup, hv2, hv3, hv4])
                    · first
                        | (exfalso; omega)
                        | skip
                          refine aK_i ?_
                          refine aw_goto (tgt := 115) dX7_share_105 (by decide) ?_
                          refine aw_zreturn dX7_share_115 rfl (by omega) ?_
                          first
                            | (exfalso; omega)
                            | (refine XR.sameE h ?_ ?_ ?_ ?_ ?_ ?_
                               · first
                                   | rfl
                                   | omega
                               · repeat (first | exact xs.rf | refine xs.up ?_ (by decide))
                               · repeat (first | exact mss.rf | refine mss.up0 ?_ (by decide))
                               · first
                                   | (simp [aup, hv2, hv3, hv4]; done)
                                   | (simp [aup, hv2, hv3, hv4]; omega)
                               · simp [aup, hv2, hv3, hv4]
                               · simp [aup, hv2, hv3, hv4])
        · first
            | (exfalso; omega)
            | skip
              refine aw_aload_n dX7_share_5 rfl ?_
              refine aw_iload_n dX7_share_6 rfl ?_
              refine c_X7_274 rfl dX7_share_7 m_ob (Nat.le_of_ble_eq_true rfl) (by omega) (C_m_isHive (fun hh => ?_) (fun hh => ?_))
              · first
                  | (exfalso; omega)
                  | skip
                    refine aK_i ?_
                    refine aw_ifne (tgt := 19) dX7_share_10 (by decide) (fun _ => ?_) (fun h => absurd h (by decide))
                    refine aw_lconst0 dX7_share_19 ?_
                    refine aw_lstore2 dX7_share_20 (by decide) rfl ?_
                    refine aw_lconst0 dX7_share_21 ?_
                    refine aw_lstore4 dX7_share_22 (by decide) rfl ?_
                    refine aw_iconst dX7_share_24 (by decide) ?_
                    refine aw_istore6 dX7_share_25 (by decide) rfl ?_
                    refine L_m_share (by omega) HP (by omega) (fun k => ?_) (cm 1 0).toNat 0 (by omega)
                    refine aw_lload dX7_share_92 rfl ?_
                    refine aw_lconst0 dX7_share_94 ?_
                    refine aw_lcmpne (tgt := 108) dX7_share_95 dX7_share_96 (by decide) (fun h95 => ?_) (fun h95 => ?_)
                    · first
                        | (exfalso; omega)
                        | skip
                          refine aw_aload_n dX7_share_108 rfl ?_
                          refine aw_lload_n dX7_share_109 rfl ?_
                          refine aw_lload dX7_share_110 rfl ?_
                          refine c_X7_354 rfl dX7_share_112 m_ob (Nat.le_of_ble_eq_true rfl) (by omega) (C_m_tellsBy (by omega) (by omega) ?_)
                          refine aK_i ?_
                          refine aw_zreturn dX7_share_115 rfl (by omega) ?_
                          first
                            | (exfalso; omega)
                            | (refine XR.sameE h ?_ ?_ ?_ ?_ ?_ ?_
                               · first
                                   | rfl
                                   | omega
                               · repeat (first | exact xs.rf | refine xs.up ?_ (by decide))
                               · repeat (first | exact mss.rf | refine mss.up0 ?_ (by decide))
                               · first
                                   | (simp [aup, hv2, hv3, hv4]; done)
                                   | (simp [aup, hv2, hv3, hv4]; omega)
                               · simp [aup, hv2, hv3, hv4]
                               · simp [aup, hv2, hv3, hv4])
                    · first
                        | (exfalso; omega)
                        | skip
                          refine aw_aload_n dX7_share_99 rfl ?_
                          refine aw_bipush dX7_share_100 (by decide) ?_
                          refine c_X7_79 rfl dX7_share_102 m_ob (Nat.le_of_ble_eq_true rfl) (by omega) (C_m_is (fun hz => ?_) (fun hz => ?_))
                          · first
                              | (exfalso; omega)
                              | skip
                                refine aK_i ?_
                                refine aw_goto (tgt := 115) dX7_share_105 (by decide) ?_
                                refine aw_zreturn dX7_share_115 rfl (by omega) ?_
                                first
                                  | (exfalso; omega)
                                  | (refine XR.sameE h ?_ ?_ ?_ ?_ ?_ ?_
                                     · first
                                         | rfl
                                         | omega
                                     · repeat (first | exact xs.rf | refine xs.up ?_ (by decide))
                                     · repeat (first | exact mss.rf | refine mss.up0 ?_ (by decide))
                                     · first
                                         | (simp [aup, hv2, hv3, hv4]; done)
                                         | (simp [aup, hv2, hv3, hv4]; omega)
                                     · simp [aup, hv2, hv3, hv4]
                                     · simp [aup, hv2, hv3, hv4])
                          · first
                              | (exfalso; omega)
                              | skip
                                refine aK_i ?_
                                refine aw_goto (tgt := 115) dX7_share_105 (by decide) ?_
                                refine aw_zreturn dX7_share_115 rfl (by omega) ?_
                                first
                                  | (exfalso; omega)
                                  | (refine XR.sameE h ?_ ?_ ?_ ?_ ?_ ?_
                                     · first
                                         | rfl
                                         | omega
                                     · repeat (first | exact xs.rf | refine xs.up ?_ (by decide))
                                     · repeat (first | exact mss.rf | refine mss.up0 ?_ (by decide))
                                     · first
                                         | (simp [aup, hv2, hv3, hv4]; done)
                                         | (simp [aup, hv2, hv3, hv4]; omega)
                                     · simp [aup, hv2, hv3, hv4]
                                     · simp [aup, hv2, hv3, hv4])
              · first
                  | (exfalso; omega)
                  | skip
                    refine aK_i ?_
                    refine aw_ifne (tgt := 19) dX7_share_10 (by decide) (fun h => absurd h (by decide)) (fun _ => ?_)
                    refine aw_aload_n dX7_share_13 rfl ?_
                    refine aw_iconst dX7_share_14 (by decide) ?_
                    refine c_X7_79 rfl dX7_share_15 m_ob (Nat.le_of_ble_eq_true rfl) (by omega) (C_m_is (fun hz => ?_) (fun hz => ?_))
                    · first
                        | (exfalso; omega)
                        | skip
                          refine aK_i ?_
                          refine aw_zreturn dX7_share_18 rfl (by omega) ?_
                          first
                            | (exfalso; omega)
                            | (refine XR.sameE h ?_ ?_ ?_ ?_ ?_ ?_
                               · first
                                   | rfl
                                   | omega
                               · repeat (first | exact xs.rf | refine xs.up ?_ (by decide))
                               · repeat (first | exact mss.rf | refine mss.up0 ?_ (by decide))
                               · first
                                   | (simp [aup, hv2, hv3, hv4]; done)
                                   | (simp [aup, hv2, hv3, hv4]; omega)
                               · simp [aup, hv2, hv3, hv4]
                               · simp [aup, hv2, hv3, hv4])
                    · first
                        | (exfalso; omega)
                        | skip
                          refine aK_i ?_
                          refine aw_zreturn dX7_share_18 rfl (by omega) ?_
                          first
                            | (exfalso; omega)
                            | (refine XR.sameE h ?_ ?_ ?_ ?_ ?_ ?_
                               · first
                                   | rfl
                                   | omega
                               · repeat (first | exact xs.rf | refine xs.up ?_ (by decide))
                               · repeat (first | exact mss.rf | refine mss.up0 ?_ (by decide))
                               · first
                                   | (simp [aup, hv2, hv3, hv4]; done)
                                   | (simp [aup, hv2, hv3, hv4]; omega)
                               · simp [aup, hv2, hv3, hv4]
                               · simp [aup, hv2, hv3, hv4])
    · refine aK_i ?_
      refine aw_ifeq (tgt := 18) dX0_share_11 (by decide) (fun _ => ?_) (fun h => absurd h (by decide))
      refine aw_iconst dX0_share_18 (by decide) ?_
      refine p_X0_73_0 rfl dX0_share_19 hR.o0 ?_
      refine aw_aload_n dX0_share_22 rfl ?_
      refine g_X0_73_0 rfl dX0_share_23 hR.o0 ?_
      repeat (first | rw [aup_s] | rw [aup_n (by omega)])
      refine aw_ifle (tgt := 31) dX0_share_26 (by decide) (fun h => absurd h (by decide)) (fun _ => ?_)
      refine aw_iconst dX0_share_29 (by decide) ?_
      refine aw_zreturn dX0_share_30 rfl (Or.inl rfl) ?_
      refine ⟨_, rfl, ?_⟩
      refine AMet.go (L := [some (vR 0), some (vI a), none, none, none, none, none]) mok_X7_share (Nat.le_of_ble_eq_true rfl) rfl ?_
      refine aw_iload_n dX7_share_0 rfl ?_
      refine aw_iconst dX7_share_1 (by decide) ?_
      refine aw_icmpeq (tgt := 19) dX7_share_2 (by decide) (fun h2 => ?_) (fun h2 => ?_)
      · first
          | (exfalso; omega)
          | skip
            refine aw_lconst0 dX7_share_19 ?_
            refine aw_lstore2 dX7_share_20 (by decide) rfl ?_
            refine aw_lconst0 dX7_share_21 ?_
            refine aw_lstore4 dX7_share_22 (by decide) rfl ?_
            refine aw_iconst dX7_share_24 (by decide) ?_
            refine aw_istore6 dX7_share_25 (by decide) rfl ?_
            refine L_m_share (by omega) HP (by omega) (fun k => ?_) (cm 1 0).toNat 0 (by omega)
            refine aw_lload dX7_share_92 rfl ?_
            refine aw_lconst0 dX7_share_94 ?_
            refine aw_lcmpne (tgt := 108) dX7_share_95 dX7_share_96 (by decide) (fun h95 => ?_) (fun h95 => ?_)
            · first
                | (exfalso; omega)
                | skip
                  refine aw_aload_n dX7_share_108 rfl ?_
                  refine aw_lload_n dX7_share_109 rfl ?_
                  refine aw_lload dX7_share_110 rfl ?_
                  refine c_X7_354 rfl dX7_share_112 m_ob (Nat.le_of_ble_eq_true rfl) (by omega) (C_m_tellsBy (by omega) (by omega) ?_)
                  refine aK_i ?_
                  refine aw_zreturn dX7_share_115 rfl (by omega) ?_
                  first
                    | (exfalso; omega)
                    | (refine XR.sameE h ?_ ?_ ?_ ?_ ?_ ?_
                       · first
                           | rfl
                           | omega
                       · repeat (first | exact xs.rf | refine xs.up ?_ (by decide))
                       · repeat (first | exact mss.rf | refine mss.up0 ?_ (by decide))
                       · first
                           | (simp [aup, hv2, hv3, hv4]; done)
                           | (simp [aup, hv2, hv3, hv4]; omega)
                       · simp [aup, hv2, hv3, hv4]
                       · simp [aup, hv2, hv3, hv4])
            · first
                | (exfalso; omega)
                | skip
                  refine aw_aload_n dX7_share_99 rfl ?_
                  refine aw_bipush dX7_share_100 (by decide) ?_
                  refine c_X7_79 rfl dX7_share_102 m_ob (Nat.le_of_ble_eq_true rfl) (by omega) (C_m_is (fun hz => ?_) (fun hz => ?_))
                  · first
                      | (exfalso; omega)
                      | skip
                        refine aK_i ?_
                        refine aw_goto (tgt := 115) dX7_share_105 (by decide) ?_
                        refine aw_zreturn dX7_share_115 rfl (by omega) ?_
                        first
                          | (exfalso; omega)
                          | (refine XR.sameE h ?_ ?_ ?_ ?_ ?_ ?_
                             · first
                                 | rfl
                                 | omega
                             · repeat (first | exact xs.rf | refine xs.up ?_ (by decide))
                             · repeat (first | exact mss.rf | refine mss.up0 ?_ (by decide))
                             · first
                                 | (simp [aup, hv2, hv3, hv4]; done)
                                 | (simp [aup, hv2, hv3, hv4]; omega)
                             · simp [aup, hv2, hv3, hv4]
                             · simp [aup, hv2, hv3, hv4])
                  · first
                      | (exfalso; omega)
                      | skip
                        refine aK_i ?_
                        refine aw_goto (tgt := 115) dX7_share_105 (by decide) ?_
                        refine aw_zreturn dX7_share_115 rfl (by omega) ?_
                        first
                          | (exfalso; omega)
                          | (refine XR.sameE h ?_ ?_ ?_ ?_ ?_ ?_
                             · first
                                 | rfl
                                 | omega
                             · repeat (first | exact xs.rf | refine xs.up ?_ (by decide))
                             · repeat (first | exact mss.rf | refine mss.up0 ?_ (by decide))
                             · first
                                 | (simp [aup, hv2, hv3, hv4]; done)
                                 | (simp [aup, hv2, hv3, hv4]; omega)
                             · simp [aup, hv2, hv3, hv4]
                             · simp [aup, hv2, hv3, hv4])
      · first
          | (exfalso; omega)
          | skip
            refine aw_aload_n dX7_share_5 rfl ?_
            refine aw_iload_n dX7_share_6 rfl ?_
            refine c_X7_274 rfl dX7_share_7 m_ob (Nat.le_of_ble_eq_true rfl) (by omega) (C_m_isHive (fun hh => ?_) (fun hh => ?_))
            · first
                | (exfalso; omega)
                | skip
                  refine aK_i ?_
                  refine aw_ifne (tgt := 19) dX7_share_10 (by decide) (fun _ => ?_) (fun h => absurd h (by decide))
                  refine aw_lconst0 dX7_share_19 ?_
                  refine aw_lstore2 dX7_share_20 (by decide) rfl ?_
                  refine aw_lconst0 dX7_share_21 ?_
                  refine aw_lstore4 dX7_share_22 (by decide) rfl ?_
                  refine aw_iconst dX7_share_24 (by decide) ?_
                  refine aw_istore6 dX7_share_25 (by decide) rfl ?_
                  refine L_m_share (by omega) HP (by omega) (fun k => ?_) (cm 1 0).toNat 0 (by omega)
                  refine aw_lload dX7_share_92 rfl ?_
                  refine aw_lconst0 dX7_share_94 ?_
                  refine aw_lcmpne (tgt := 108) dX7_share_95 dX7_share_96 (by decide) (fun h95 => ?_) (fun h95 => ?_)
                  · first
                      | (exfalso; omega)
                      | skip
                        refine aw_aload_n dX7_share_108 rfl ?_
                        refine aw_lload_n dX7_share_109 rfl ?_
                        refine aw_lload dX7_share_110 rfl ?_
                        refine c_X7_354 rfl dX7_share_112 m_ob (Nat.le_of_ble_eq_true rfl) (by omega) (C_m_tellsBy (by omega) (by omega) ?_)
                        refine aK_i ?_
                        refine aw_zreturn dX7_share_115 rfl (by omega) ?_
                        first
                          | (exfalso; omega)
                          | (refine XR.sameE h ?_ ?_ ?_ ?_ ?_ ?_
                             · first
                                 | rfl
                                 | omega
                             · repeat (first | exact xs.rf | refine xs.up ?_ (by decide))
                             · repeat (first | exact mss.rf | refine mss.up0 ?_ (by decide))
                             · first
                                 | (simp [aup, hv2, hv3, hv4]; done)
                                 | (simp [aup, hv2, hv3, hv4]; omega)
                             · simp [aup, hv2, hv3, hv4]
                             · simp [aup, hv2, hv3, hv4])
                  · first
                      | (exfalso; omega)
                      | skip
                        refine aw_aload_n dX7_share_99 rfl ?_
                        refine aw_bipush dX7_share_100 (by decide) ?_
                        refine c_X7_79 rfl dX7_share_102 m_ob (Nat.le_of_ble_eq_true rfl) (by omega) (C_m_is (fun hz => ?_) (fun hz => ?_))
                        · first
                            | (exfalso; omega)
                            | skip
                              refine aK_i ?_
                              refine aw_goto (tgt := 115) dX7_share_105 (by decide) ?_
                              refine aw_zreturn dX7_share_115 rfl (by omega) ?_
                              first
                                | (exfalso; omega)
                                | (refine XR.sameE h ?_ ?_ ?_ ?_ ?_ ?_
                                   · first
                                       | rfl
                                       | omega
                                   · repeat (first | exact xs.rf | refine xs.up ?_ (by decide))
                                   · repeat (first | exact mss.rf | refine mss.up0 ?_ (by decide))
                                   · first
                                       | (simp [aup, hv2, hv3, hv4]; done)
                                       | (simp [aup, hv2, hv3, hv4]; omega)
                                   · simp [aup, hv2, hv3, hv4]
                                   · simp [aup, hv2, hv3, hv4])
                        · first
                            | (exfalso; omega)
                            | skip
                              refine aK_i ?_
                              refine aw_goto (tgt := 115) dX7_share_105 (by decide) ?_
                              refine aw_zreturn dX7_share_115 rfl (by omega) ?_
                              first
                                | (exfalso; omega)
                                | (refine XR.sameE h ?_ ?_ ?_ ?_ ?_ ?_
                                   · first
                                       | rfl
                                       | omega
                                   · repeat (first | exact xs.rf | refine xs.up ?_ (by decide))
                                   · repeat (first | exact mss.rf | refine mss.up0 ?_ (by decide))
                                   · first
                                       | (simp [aup, hv2, hv3, hv4]; done)
                                       | (simp [aup, hv2, hv3, hv4]; omega)
                                   · simp [aup, hv2, hv3, hv4]
                                   · simp [aup, hv2, hv3, hv4])
            · first
                | (exfalso; omega)
                | skip
                  refine aK_i ?_
                  refine aw_ifne (tgt := 19) dX7_share_10 (by decide) (fun h => absurd h (by decide)) (fun _ => ?_)
                  refine aw_aload_n dX7_share_13 rfl ?_
                  refine aw_iconst dX7_share_14 (by decide) ?_
                  refine c_X7_79 rfl dX7_share_15 m_ob (Nat.le_of_ble_eq_true rfl) (by omega) (C_m_is (fun hz => ?_) (fun hz => ?_))
                  · first
                      | (exfalso; omega)
                      | skip
                        refine aK_i ?_
                        refine aw_zreturn dX7_share_18 rfl (by omega) ?_
                        first
                          | (exfalso; omega)
                          | (refine XR.sameE h ?_ ?_ ?_ ?_ ?_ ?_
                             · first
                                 | rfl
                                 | omega
                             · repeat (first | exact xs.rf | refine xs.up ?_ (by decide))
                             · repeat (first | exact mss.rf | refine mss.up0 ?_ (by decide))
                             · first
                                 | (simp [aup, hv2, hv3, hv4]; done)
                                 | (simp [aup, hv2, hv3, hv4]; omega)
                             · simp [aup, hv2, hv3, hv4]
                             · simp [aup, hv2, hv3, hv4])
                  · first
                      | (exfalso; omega)
                      | skip
                        refine aK_i ?_
                        refine aw_zreturn dX7_share_18 rfl (by omega) ?_
                        first
                          | (exfalso; omega)
                          | (refine XR.sameE h ?_ ?_ ?_ ?_ ?_ ?_
                             · first
                                 | rfl
                                 | omega
                             · repeat (first | exact xs.rf | refine xs.up ?_ (by decide))
                             · repeat (first | exact mss.rf | refine mss.up0 ?_ (by decide))
                             · first
                                 | (simp [aup, hv2, hv3, hv4]; done)
                                 | (simp [aup, hv2, hv3, hv4]; omega)
                             · simp [aup, hv2, hv3, hv4]
                             · simp [aup, hv2, hv3, hv4])
