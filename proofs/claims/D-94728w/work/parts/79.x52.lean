set_option maxRecDepth 100000
/-! seasons: tests, ends and the run, BeeYardModel -/
theorem L_m_ho74 {ct : Int → Int → Int} {s : Int → Int} {r v : Int} {Q : aPost} {d kc ks : Nat} {x2 x3 x4 : Option aV} (ec : ct 1 = s) (hr : 860 ≤ r ∧ r ≤ 1220) (h3 : nl (some x3) = true) (hT : hldV s r v → Q (.inl (some (vI 1))) (gM ct)) (hF : ¬ hldV s r v → Q (.inl (some (vI 0))) (gM ct)) : AW (mq Q) md_X7_holds d kc ks 74 [some (vR 0), some (vI r), x2, x3, x4] [vI v] (gM ct) := by
  refine aw_istore4 dX7_holds_74 (by decide) h3 ?_
  refine gm_7 rfl dX7_holds_76 dX7_holds_77 rfl ?_
  refine aw_iload_n dX7_holds_80 rfl ?_
  refine aw_iconst dX7_holds_81 (by decide) ?_
  refine aw_iaddr dX7_holds_82 (by omega) ?_
  refine aw_iaload dX7_holds_83 m_a1 (by omega) (by omega) ?_
  rw [ec]
  refine aw_bipush dX7_holds_84 (by decide) ?_
  refine aw_icmpne (tgt := 110) dX7_holds_86 (by decide) (fun h86 => ?_) (fun h86 => ?_)
  · refine gm_7 rfl dX7_holds_110 dX7_holds_111 rfl ?_
    refine aw_iload_n dX7_holds_114 rfl ?_
    refine aw_iconst dX7_holds_115 (by decide) ?_
    refine aw_iaddr dX7_holds_116 (by omega) ?_
    refine aw_iaload dX7_holds_117 m_a1 (by omega) (by omega) ?_
    rw [ec]
    refine aw_bipush dX7_holds_118 (by decide) ?_
    refine aw_icmpne (tgt := 144) dX7_holds_120 (by decide) (fun h120 => ?_) (fun h120 => ?_)
    · refine aw_iload dX7_holds_144 rfl ?_
      refine gm_7 rfl dX7_holds_146 dX7_holds_147 rfl ?_
      refine aw_iload_n dX7_holds_150 rfl ?_
      refine aw_iconst dX7_holds_151 (by decide) ?_
      refine aw_iaddr dX7_holds_152 (by omega) ?_
      refine aw_iaload dX7_holds_153 m_a1 (by omega) (by omega) ?_
      rw [ec]
      refine aw_icmpne (tgt := 161) dX7_holds_154 (by decide) (fun h154 => ?_) (fun h154 => ?_)
      · refine aw_iconst dX7_holds_161 (by decide) ?_
        refine aw_zreturn dX7_holds_162 rfl (Or.inl rfl) ?_
        first
          | (exfalso; omega)
          | (refine hT ?_
             unfold hldV
             (repeat (first | rw [if_pos (by omega)] | rw [if_neg (by omega)]))
             omega)
          | (refine hF fun z => ?_
             unfold hldV at z
             (repeat (first | rw [if_pos (by omega)] at z | rw [if_neg (by omega)] at z))
             omega)
      · refine aw_iconst dX7_holds_157 (by decide) ?_
        refine aw_goto (tgt := 162) dX7_holds_158 (by decide) ?_
        refine aw_zreturn dX7_holds_162 rfl (Or.inr rfl) ?_
        first
          | (exfalso; omega)
          | (refine hT ?_
             unfold hldV
             (repeat (first | rw [if_pos (by omega)] | rw [if_neg (by omega)]))
             omega)
          | (refine hF fun z => ?_
             unfold hldV at z
             (repeat (first | rw [if_pos (by omega)] at z | rw [if_neg (by omega)] at z))
             omega)
    · refine aw_iload dX7_holds_123 rfl ?_
      refine gm_7 rfl dX7_holds_125 dX7_holds_126 rfl ?_
      refine aw_iload_n dX7_holds_129 rfl ?_
      refine aw_iconst dX7_holds_130 (by decide) ?_
      refine aw_iaddr dX7_holds_131 (by omega) ?_
      refine aw_iaload dX7_holds_132 m_a1 (by omega) (by omega) ?_
      rw [ec]
      refine aw_icmple (tgt := 140) dX7_holds_133 (by decide) (fun h133 => ?_) (fun h133 => ?_)
      · refine aw_iconst dX7_holds_140 (by decide) ?_
        refine aw_goto (tgt := 162) dX7_holds_141 (by decide) ?_
        refine aw_zreturn dX7_holds_162 rfl (Or.inl rfl) ?_
        first
          | (exfalso; omega)
          | (refine hT ?_
             unfold hldV
             (repeat (first | rw [if_pos (by omega)] | rw [if_neg (by omega)]))
             omega)
          | (refine hF fun z => ?_
             unfold hldV at z
             (repeat (first | rw [if_pos (by omega)] at z | rw [if_neg (by omega)] at z))
             omega)
      · refine aw_iconst dX7_holds_136 (by decide) ?_
        refine aw_goto (tgt := 162) dX7_holds_137 (by decide) ?_
        refine aw_zreturn dX7_holds_162 rfl (Or.inr rfl) ?_
        first
          | (exfalso; omega)
          | (refine hT ?_
             unfold hldV
             (repeat (first | rw [if_pos (by omega)] | rw [if_neg (by omega)]))
             omega)
          | (refine hF fun z => ?_
             unfold hldV at z
             (repeat (first | rw [if_pos (by omega)] at z | rw [if_neg (by omega)] at z))
             omega)
  · refine aw_iload dX7_holds_89 rfl ?_
    refine gm_7 rfl dX7_holds_91 dX7_holds_92 rfl ?_
    refine aw_iload_n dX7_holds_95 rfl ?_
    refine aw_iconst dX7_holds_96 (by decide) ?_
    refine aw_iaddr dX7_holds_97 (by omega) ?_
    refine aw_iaload dX7_holds_98 m_a1 (by omega) (by omega) ?_
    rw [ec]
    refine aw_icmpge (tgt := 106) dX7_holds_99 (by decide) (fun h99 => ?_) (fun h99 => ?_)
    · refine aw_iconst dX7_holds_106 (by decide) ?_
      refine aw_goto (tgt := 162) dX7_holds_107 (by decide) ?_
      refine aw_zreturn dX7_holds_162 rfl (Or.inl rfl) ?_
      first
        | (exfalso; omega)
        | (refine hT ?_
           unfold hldV
           (repeat (first | rw [if_pos (by omega)] | rw [if_neg (by omega)]))
           omega)
        | (refine hF fun z => ?_
           unfold hldV at z
           (repeat (first | rw [if_pos (by omega)] at z | rw [if_neg (by omega)] at z))
           omega)
    · refine aw_iconst dX7_holds_102 (by decide) ?_
      refine aw_goto (tgt := 162) dX7_holds_103 (by decide) ?_
      refine aw_zreturn dX7_holds_162 rfl (Or.inr rfl) ?_
      first
        | (exfalso; omega)
        | (refine hT ?_
           unfold hldV
           (repeat (first | rw [if_pos (by omega)] | rw [if_neg (by omega)]))
           omega)
        | (refine hF fun z => ?_
           unfold hldV at z
           (repeat (first | rw [if_pos (by omega)] at z | rw [if_neg (by omega)] at z))
           omega)
theorem C_m_holds {ct : Int → Int → Int} {s : Int → Int} {r : Int} {Q : aPost} (ec : ct 1 = s) (hr : 860 ≤ r ∧ r ≤ 1220) (hP : PI s) (hx : s r = 1721 ∨ s r = 1705 ∨ s r = 1706 ∨ s r = 1722) (hb : 0 ≤ s (r + 1) ∧ s (r + 1) < s 0) (hT : hldF s r → Q (.inl (some (vI 1))) (gM ct)) (hF : ¬ hldF s r → Q (.inl (some (vI 0))) (gM ct)) : AMet md_X7_holds 4 0 0 [vR 0, vI r] (gM ct) Q := by
  refine AMet.go (L := [some (vR 0), some (vI r), none, none, none]) mok_X7_holds (Nat.le_of_ble_eq_true rfl) rfl ?_
  have gk := hP.2.2.1 _ hb.1 hb.2
  have b0 := hP.1
  have gn := gk.1
  refine gm_7 rfl dX7_holds_0 dX7_holds_1 rfl ?_
  refine aw_iload_n dX7_holds_4 rfl ?_
  refine aw_iaload dX7_holds_5 m_a1 (by omega) (by omega) ?_
  rw [ec]
  refine aw_sipush dX7_holds_6 (by decide) ?_
  refine aw_isubr dX7_holds_9 (by omega) ?_
  refine aw_istore2 dX7_holds_10 (by decide) rfl ?_
  refine aw_iload_n dX7_holds_11 rfl ?_
  refine aw_bipush dX7_holds_12 (by decide) ?_
  refine aw_icmpne (tgt := 30) dX7_holds_14 (by decide) (fun h14 => ?_) (fun h14 => ?_)
  · first
      | (exfalso; omega)
      | skip
        refine gm_7 rfl dX7_holds_30 dX7_holds_31 rfl ?_
        refine aw_iload_n dX7_holds_34 rfl ?_
        refine aw_iconst dX7_holds_35 (by decide) ?_
        refine aw_iaddr dX7_holds_36 (by omega) ?_
        refine aw_iaload dX7_holds_37 m_a1 (by omega) (by omega) ?_
        rw [ec]
        refine c_X7_217 rfl dX7_holds_38  (Nat.le_of_ble_eq_true rfl) (by omega) (C_m_hiveRow (by omega) ?_)
        refine aK_i ?_
        refine aw_istore3 dX7_holds_41 (by decide) rfl ?_
        refine aw_iload_n dX7_holds_42 rfl ?_
        refine aw_iconst dX7_holds_43 (by decide) ?_
        refine aw_icmpne (tgt := 58) dX7_holds_44 (by decide) (fun h44 => ?_) (fun h44 => ?_)
        · first
            | (exfalso; omega)
            | skip
              refine aw_aload_n dX7_holds_58 rfl ?_
              refine aw_iload_n dX7_holds_59 rfl ?_
              refine aw_iload_n dX7_holds_60 rfl ?_
              refine aw_bipush dX7_holds_61 (by decide) ?_
              refine aw_icmpne (tgt := 70) dX7_holds_63 (by decide) (fun h63 => ?_) (fun h63 => ?_)
              · first
                  | (exfalso; omega)
                  | skip
                    refine aw_iconst dX7_holds_70 (by decide) ?_
                    refine c_X7_283 rfl dX7_holds_71 m_ob (Nat.le_of_ble_eq_true rfl) (by omega) (C_m_sumOf rfl (by rw [ec]; exact gk.1) (by rw [ec]; omega) (by rw [ec]; exact gk.2.1) ?_)
                    rw [ec]
                    refine aK_i ?_
                    first
                      | (exfalso; omega)
                      | (have hn := hldN_1 (s := s) (r := r) (by omega)
                         exact L_m_ho74 ec hr rfl (fun z => hT ((hldF_v (by omega)).mpr (by rw [hn]; exact z))) (fun z => hF (fun w9 => z (by have w8 := (hldF_v (by omega)).mp w9; rw [hn] at w8; exact w8))))
                      | (have hn := hldN_2 (s := s) (r := r) (by omega)
                         exact L_m_ho74 ec hr rfl (fun z => hT ((hldF_v (by omega)).mpr (by rw [hn]; exact z))) (fun z => hF (fun w9 => z (by have w8 := (hldF_v (by omega)).mp w9; rw [hn] at w8; exact w8))))
                      | (have hn := hldN_3 (s := s) (r := r) (by omega)
                         exact L_m_ho74 ec hr rfl (fun z => hT ((hldF_v (by omega)).mpr (by rw [hn]; exact z))) (fun z => hF (fun w9 => z (by have w8 := (hldF_v (by omega)).mp w9; rw [hn] at w8; exact w8))))
              · first
                  | (exfalso; omega)
                  | skip
                    refine aw_iconst dX7_holds_66 (by decide) ?_
                    refine aw_goto (tgt := 71) dX7_holds_67 (by decide) ?_
                    refine c_X7_283 rfl dX7_holds_71 m_ob (Nat.le_of_ble_eq_true rfl) (by omega) (C_m_sumOf rfl (by rw [ec]; exact gk.1) (by rw [ec]; omega) (by rw [ec]; exact gk.2.1) ?_)
                    rw [ec]
                    refine aK_i ?_
                    first
                      | (exfalso; omega)
                      | (have hn := hldN_1 (s := s) (r := r) (by omega)
                         exact L_m_ho74 ec hr rfl (fun z => hT ((hldF_v (by omega)).mpr (by rw [hn]; exact z))) (fun z => hF (fun w9 => z (by have w8 := (hldF_v (by omega)).mp w9; rw [hn] at w8; exact w8))))
                      | (have hn := hldN_2 (s := s) (r := r) (by omega)
                         exact L_m_ho74 ec hr rfl (fun z => hT ((hldF_v (by omega)).mpr (by rw [hn]; exact z))) (fun z => hF (fun w9 => z (by have w8 := (hldF_v (by omega)).mp w9; rw [hn] at w8; exact w8))))
                      | (have hn := hldN_3 (s := s) (r := r) (by omega)
                         exact L_m_ho74 ec hr rfl (fun z => hT ((hldF_v (by omega)).mpr (by rw [hn]; exact z))) (fun z => hF (fun w9 => z (by have w8 := (hldF_v (by omega)).mp w9; rw [hn] at w8; exact w8))))
        · first
            | (exfalso; omega)
            | skip
              refine gm_7 rfl dX7_holds_47 dX7_holds_48 rfl ?_
              refine aw_iload_n dX7_holds_51 rfl ?_
              refine aw_iconst dX7_holds_52 (by decide) ?_
              refine aw_iaddr dX7_holds_53 (by omega) ?_
              refine aw_iaload dX7_holds_54 m_a1 (by omega) (by omega) ?_
              rw [ec]
              refine aw_goto (tgt := 74) dX7_holds_55 (by decide) ?_
              first
                | (exfalso; omega)
                | (have hn := hldN_1 (s := s) (r := r) (by omega)
                   exact L_m_ho74 ec hr rfl (fun z => hT ((hldF_v (by omega)).mpr (by rw [hn]; exact z))) (fun z => hF (fun w9 => z (by have w8 := (hldF_v (by omega)).mp w9; rw [hn] at w8; exact w8))))
                | (have hn := hldN_2 (s := s) (r := r) (by omega)
                   exact L_m_ho74 ec hr rfl (fun z => hT ((hldF_v (by omega)).mpr (by rw [hn]; exact z))) (fun z => hF (fun w9 => z (by have w8 := (hldF_v (by omega)).mp w9; rw [hn] at w8; exact w8))))
                | (have hn := hldN_3 (s := s) (r := r) (by omega)
                   exact L_m_ho74 ec hr rfl (fun z => hT ((hldF_v (by omega)).mpr (by rw [hn]; exact z))) (fun z => hF (fun w9 => z (by have w8 := (hldF_v (by omega)).mp w9; rw [hn] at w8; exact w8))))
  · first
      | (exfalso; omega)
      | skip
        refine aw_aload_n dX7_holds_17 rfl ?_
        refine gm_7 rfl dX7_holds_18 dX7_holds_19 rfl ?_
        refine aw_iload_n dX7_holds_22 rfl ?_
        refine aw_iconst dX7_holds_23 (by decide) ?_
        refine aw_iaddr dX7_holds_24 (by omega) ?_
        refine aw_iaload dX7_holds_25 m_a1 (by omega) (by omega) ?_
        rw [ec]
        refine c_X7_334 rfl dX7_holds_26 m_ob (Nat.le_of_ble_eq_true rfl) (by omega) (C_m_isCrowded (by omega) (by rw [ec]; exact gk.1) (by rw [ec]; exact gk.2.1) (fun hc => ?_) (fun hc => ?_))
        · first
            | (exfalso; omega)
            | skip
              rw [ec] at hc
              refine aK_i ?_
              refine aw_zreturn dX7_holds_29 rfl (Or.inr rfl) ?_
              first
                | exact hT ((hldF_c (by omega)).mpr hc)
                | exact hF (fun z => hc ((hldF_c (by omega)).mp z))
        · first
            | (exfalso; omega)
            | skip
              rw [ec] at hc
              refine aK_i ?_
              refine aw_zreturn dX7_holds_29 rfl (Or.inl rfl) ?_
              first
                | exact hT ((hldF_c (by omega)).mpr hc)
                | exact hF (fun z => hc ((hldF_c (by omega)).mp z))
theorem L_m_be1 {ct : Int → Int → Int} {s : Int → Int} {k k0 : Int} {Q : aPost} {x3 x4 : Option aV} (ec : ct 1 = s) (hk : 0 ≤ k ∧ k ≤ 60) (hn : ¬ (k < s 10 ∧ s (860 + 6 * k) = 19)) (hQ : Q (.inl (some (vI k))) (gM ct)) : AW (mq Q) md_X7_behindEnds 1 0 0 2 [some (vR 0), some (vI k0), some (vI k), x3, x4] [] (gM ct) := by
  refine aw_iload_n dX7_behindEnds_2 rfl ?_
  refine gm_7 rfl dX7_behindEnds_3 dX7_behindEnds_4 rfl ?_
  refine aw_bipush dX7_behindEnds_7 (by decide) ?_
  refine aw_iaload dX7_behindEnds_9 m_a1 (by omega) (by omega) ?_
  rw [ec]
  refine aw_icmpge (tgt := 118) dX7_behindEnds_10 (by decide) (fun h10 => ?_) (fun h10 => ?_)
  · first
      | (exfalso; omega)
      | skip
        refine aw_iload_n dX7_behindEnds_118 rfl ?_
        refine aw_ireturn dX7_behindEnds_119 rfl ?_
        exact hQ
  · first
      | (exfalso; omega)
      | skip
        refine gm_7 rfl dX7_behindEnds_13 dX7_behindEnds_14 rfl ?_
        refine aw_sipush dX7_behindEnds_17 (by decide) ?_
        refine aw_bipush dX7_behindEnds_20 (by decide) ?_
        refine aw_iload_n dX7_behindEnds_22 rfl ?_
        refine aw_imulr dX7_behindEnds_23 (by omega) ?_
        refine aw_iaddr dX7_behindEnds_24 (by omega) ?_
        refine aw_iaload dX7_behindEnds_25 m_a1 (by omega) (by omega) ?_
        rw [ec]
        refine aw_bipush dX7_behindEnds_26 (by decide) ?_
        refine aw_icmpne (tgt := 118) dX7_behindEnds_28 (by decide) (fun h28 => ?_) (fun h28 => ?_)
        · first
            | (exfalso; omega)
            | skip
              refine aw_iload_n dX7_behindEnds_118 rfl ?_
              refine aw_ireturn dX7_behindEnds_119 rfl ?_
              exact hQ
        · first
            | (exfalso; omega)
            | skip
              exfalso; omega
theorem L_m_be2 {ct : Int → Int → Int} {s : Int → Int} {k k0 : Int} {Q : aPost} {x3 x4 : Option aV} (ec : ct 1 = s) (hk : 0 ≤ k ∧ k ≤ 60) {o : Int} (hk2 : k < s 10) (h19 : s (860 + 6 * k) = 19) (ho : s (864 + 6 * k) = o) (o0 : 0 ≤ o ∧ o < 60) (h18 : s (860 + 6 * o) = 18) (hr : 0 < ct 11 o ∧ ct 11 o ≤ 99) (K : ∀ y3 y4 : Option aV, nl (some y3) = true → AW (mq Q) md_X7_behindEnds 1 0 0 2 [some (vR 0), some (vI k0), some (vI (o + 1)), y3, y4] [] (gM (aup ct 11 o (ct 11 o - 1)))) (h3 : nl (some x3) = true) : AW (mq Q) md_X7_behindEnds 1 0 0 2 [some (vR 0), some (vI k0), some (vI k), x3, x4] [] (gM ct) := by
  refine aw_iload_n dX7_behindEnds_2 rfl ?_
  refine gm_7 rfl dX7_behindEnds_3 dX7_behindEnds_4 rfl ?_
  refine aw_bipush dX7_behindEnds_7 (by decide) ?_
  refine aw_iaload dX7_behindEnds_9 m_a1 (by omega) (by omega) ?_
  rw [ec]
  refine aw_icmpge (tgt := 118) dX7_behindEnds_10 (by decide) (fun h10 => ?_) (fun h10 => ?_)
  · exfalso; omega
  · first
      | (exfalso; omega)
      | skip
        refine gm_7 rfl dX7_behindEnds_13 dX7_behindEnds_14 rfl ?_
        refine aw_sipush dX7_behindEnds_17 (by decide) ?_
        refine aw_bipush dX7_behindEnds_20 (by decide) ?_
        refine aw_iload_n dX7_behindEnds_22 rfl ?_
        refine aw_imulr dX7_behindEnds_23 (by omega) ?_
        refine aw_iaddr dX7_behindEnds_24 (by omega) ?_
        refine aw_iaload dX7_behindEnds_25 m_a1 (by omega) (by omega) ?_
        rw [ec]
        refine aw_bipush dX7_behindEnds_26 (by decide) ?_
        refine aw_icmpne (tgt := 118) dX7_behindEnds_28 (by decide) (fun h28 => ?_) (fun h28 => ?_)
        · exfalso; omega
        · first
            | (exfalso; omega)
            | skip
              refine gm_7 rfl dX7_behindEnds_31 dX7_behindEnds_32 rfl ?_
              refine aw_sipush dX7_behindEnds_35 (by decide) ?_
              refine aw_bipush dX7_behindEnds_38 (by decide) ?_
              refine aw_iload_n dX7_behindEnds_40 rfl ?_
              refine aw_imulr dX7_behindEnds_41 (by omega) ?_
              refine aw_iaddr dX7_behindEnds_42 (by omega) ?_
              refine aw_iconst dX7_behindEnds_43 (by decide) ?_
              refine aw_iaddr dX7_behindEnds_44 (by omega) ?_
              refine aw_iaload dX7_behindEnds_45 m_a1 (by omega) (by omega) ?_
              rw [ec]
              try rw [show 860 + 6 * k + 4 = 864 + 6 * k by omega]
              try rw [ho]
              refine aw_istore3 dX7_behindEnds_46 (by decide) rfl ?_
              refine gm_7 rfl dX7_behindEnds_47 dX7_behindEnds_48 rfl ?_
              refine aw_sipush dX7_behindEnds_51 (by decide) ?_
              refine aw_bipush dX7_behindEnds_54 (by decide) ?_
              refine aw_iload_n dX7_behindEnds_56 rfl ?_
              refine aw_imulr dX7_behindEnds_57 (by omega) ?_
              refine aw_iaddr dX7_behindEnds_58 (by omega) ?_
              refine aw_iaload dX7_behindEnds_59 m_a1 (by omega) (by omega) ?_
              rw [ec]
              refine aw_bipush dX7_behindEnds_60 (by decide) ?_
              refine aw_icmpne (tgt := 78) dX7_behindEnds_62 (by decide) (fun h62 => ?_) (fun h62 => ?_)
              · exfalso; omega
              · first
                  | (exfalso; omega)
                  | skip
                    refine gm_53 rfl dX7_behindEnds_65 dX7_behindEnds_66 rfl ?_
                    refine aw_iload_n dX7_behindEnds_69 rfl ?_
                    refine aw_iaload dX7_behindEnds_70 m_a11 (by omega) (by omega) ?_
                    refine aw_ifle (tgt := 78) dX7_behindEnds_71 (by decide) (fun h71 => ?_) (fun h71 => ?_)
                    · exfalso; omega
                    · first
                        | (exfalso; omega)
                        | skip
                          refine aw_iconst dX7_behindEnds_74 (by decide) ?_
                          refine aw_goto (tgt := 79) dX7_behindEnds_75 (by decide) ?_
                          refine aw_istore4 dX7_behindEnds_79 (by decide) rfl ?_
                          refine gm_53 rfl dX7_behindEnds_81 dX7_behindEnds_82 rfl ?_
                          refine aw_iload_n dX7_behindEnds_85 rfl ?_
                          refine aw_dup2 dX7_behindEnds_86 rfl rfl ?_
                          refine aw_iaload dX7_behindEnds_87 m_a11 (by omega) (by omega) ?_
                          refine aw_iload dX7_behindEnds_88 rfl ?_
                          refine aw_ifeq (tgt := 97) dX7_behindEnds_90 (by decide) (fun h90 => ?_) (fun h90 => ?_)
                          · first
                              | (exfalso; omega)
                              | skip
                                refine aw_iconst dX7_behindEnds_97 (by decide) ?_
                                refine aw_isubr dX7_behindEnds_98 (by omega) ?_
                                refine aw_iastore dX7_behindEnds_99 m_a11 (by omega) (by omega) ?_
                                refine aw_iload dX7_behindEnds_100 rfl ?_
                                refine aw_ifeq (tgt := 111) dX7_behindEnds_102 (by decide) (fun h102 => ?_) (fun h102 => ?_)
                                · first
                                    | (exfalso; omega)
                                    | skip
                                      refine aw_iload_n dX7_behindEnds_111 rfl ?_
                                      refine aw_iconst dX7_behindEnds_112 (by decide) ?_
                                      refine aw_iaddr dX7_behindEnds_113 (by omega) ?_
                                      refine aw_istore2 dX7_behindEnds_114 (by decide) rfl ?_
                                      refine aw_goto (tgt := 2) dX7_behindEnds_115 (by decide) ?_
                                      refine K _ _ ?_
                                      rfl
                                · first
                                    | (exfalso; omega)
                                    | skip
                                      refine aw_iload_n dX7_behindEnds_105 rfl ?_
                                      refine aw_iconst dX7_behindEnds_106 (by decide) ?_
                                      refine aw_iaddr dX7_behindEnds_107 (by omega) ?_
                                      refine aw_goto (tgt := 114) dX7_behindEnds_108 (by decide) ?_
                                      refine aw_istore2 dX7_behindEnds_114 (by decide) rfl ?_
                                      refine aw_goto (tgt := 2) dX7_behindEnds_115 (by decide) ?_
                                      refine K _ _ ?_
                                      rfl
                          · first
                              | (exfalso; omega)
                              | skip
                                refine aw_iconst dX7_behindEnds_93 (by decide) ?_
                                refine aw_goto (tgt := 98) dX7_behindEnds_94 (by decide) ?_
                                refine aw_isubr dX7_behindEnds_98 (by omega) ?_
                                refine aw_iastore dX7_behindEnds_99 m_a11 (by omega) (by omega) ?_
                                refine aw_iload dX7_behindEnds_100 rfl ?_
                                refine aw_ifeq (tgt := 111) dX7_behindEnds_102 (by decide) (fun h102 => ?_) (fun h102 => ?_)
                                · first
                                    | (exfalso; omega)
                                    | skip
                                      refine aw_iload_n dX7_behindEnds_111 rfl ?_
                                      refine aw_iconst dX7_behindEnds_112 (by decide) ?_
                                      refine aw_iaddr dX7_behindEnds_113 (by omega) ?_
                                      refine aw_istore2 dX7_behindEnds_114 (by decide) rfl ?_
                                      refine aw_goto (tgt := 2) dX7_behindEnds_115 (by decide) ?_
                                      refine K _ _ ?_
                                      rfl
                                · first
                                    | (exfalso; omega)
                                    | skip
                                      refine aw_iload_n dX7_behindEnds_105 rfl ?_
                                      refine aw_iconst dX7_behindEnds_106 (by decide) ?_
                                      refine aw_iaddr dX7_behindEnds_107 (by omega) ?_
                                      refine aw_goto (tgt := 114) dX7_behindEnds_108 (by decide) ?_
                                      refine aw_istore2 dX7_behindEnds_114 (by decide) rfl ?_
                                      refine aw_goto (tgt := 2) dX7_behindEnds_115 (by decide) ?_
                                      refine K _ _ ?_
                                      rfl
theorem L_m_be3 {ct : Int → Int → Int} {s : Int → Int} {k k0 : Int} {Q : aPost} {x3 x4 : Option aV} (ec : ct 1 = s) (hk : 0 ≤ k ∧ k ≤ 60) {o : Int} (hk2 : k < s 10) (h19 : s (860 + 6 * k) = 19) (ho : s (864 + 6 * k) = o) (o0 : 0 ≤ o ∧ o < 60) (h18 : s (860 + 6 * o) ≠ 18 ∨ ct 11 o ≤ 0) (K : ∀ (v : Int) (y3 y4 : Option aV), nl (some y3) = true → AW (mq Q) md_X7_behindEnds 1 0 0 2 [some (vR 0), some (vI k0), some (vI (k + 1)), y3, y4] [] (gM (aup ct 11 o v))) (h3 : nl (some x3) = true) : AW (mq Q) md_X7_behindEnds 1 0 0 2 [some (vR 0), some (vI k0), some (vI k), x3, x4] [] (gM ct) := by
  refine aw_iload_n dX7_behindEnds_2 rfl ?_
  refine gm_7 rfl dX7_behindEnds_3 dX7_behindEnds_4 rfl ?_
  refine aw_bipush dX7_behindEnds_7 (by decide) ?_
  refine aw_iaload dX7_behindEnds_9 m_a1 (by omega) (by omega) ?_
  rw [ec]
  refine aw_icmpge (tgt := 118) dX7_behindEnds_10 (by decide) (fun h10 => ?_) (fun h10 => ?_)
  · exfalso; omega
  · first
      | (exfalso; omega)
      | skip
        refine gm_7 rfl dX7_behindEnds_13 dX7_behindEnds_14 rfl ?_
        refine aw_sipush dX7_behindEnds_17 (by decide) ?_
        refine aw_bipush dX7_behindEnds_20 (by decide) ?_
        refine aw_iload_n dX7_behindEnds_22 rfl ?_
        refine aw_imulr dX7_behindEnds_23 (by omega) ?_
        refine aw_iaddr dX7_behindEnds_24 (by omega) ?_
        refine aw_iaload dX7_behindEnds_25 m_a1 (by omega) (by omega) ?_
        rw [ec]
        refine aw_bipush dX7_behindEnds_26 (by decide) ?_
        refine aw_icmpne (tgt := 118) dX7_behindEnds_28 (by decide) (fun h28 => ?_) (fun h28 => ?_)
        · exfalso; omega
        · first
            | (exfalso; omega)
            | skip
              refine gm_7 rfl dX7_behindEnds_31 dX7_behindEnds_32 rfl ?_
              refine aw_sipush dX7_behindEnds_35 (by decide) ?_
              refine aw_bipush dX7_behindEnds_38 (by decide) ?_
              refine aw_iload_n dX7_behindEnds_40 rfl ?_
              refine aw_imulr dX7_behindEnds_41 (by omega) ?_
              refine aw_iaddr dX7_behindEnds_42 (by omega) ?_
              refine aw_iconst dX7_behindEnds_43 (by decide) ?_
              refine aw_iaddr dX7_behindEnds_44 (by omega) ?_
              refine aw_iaload dX7_behindEnds_45 m_a1 (by omega) (by omega) ?_
              rw [ec]
              try rw [show 860 + 6 * k + 4 = 864 + 6 * k by omega]
              try rw [ho]
              refine aw_istore3 dX7_behindEnds_46 (by decide) rfl ?_
              refine gm_7 rfl dX7_behindEnds_47 dX7_behindEnds_48 rfl ?_
              refine aw_sipush dX7_behindEnds_51 (by decide) ?_
              refine aw_bipush dX7_behindEnds_54 (by decide) ?_
              refine aw_iload_n dX7_behindEnds_56 rfl ?_
              refine aw_imulr dX7_behindEnds_57 (by omega) ?_
              refine aw_iaddr dX7_behindEnds_58 (by omega) ?_
              refine aw_iaload dX7_behindEnds_59 m_a1 (by omega) (by omega) ?_
              rw [ec]
              refine aw_bipush dX7_behindEnds_60 (by decide) ?_
              refine aw_icmpne (tgt := 78) dX7_behindEnds_62 (by decide) (fun h62 => ?_) (fun h62 => ?_)
              · first
                  | (exfalso; omega)
                  | skip
                    refine aw_iconst dX7_behindEnds_78 (by decide) ?_
                    refine aw_istore4 dX7_behindEnds_79 (by decide) rfl ?_
                    refine gm_53 rfl dX7_behindEnds_81 dX7_behindEnds_82 rfl ?_
                    refine aw_iload_n dX7_behindEnds_85 rfl ?_
                    refine aw_dup2 dX7_behindEnds_86 rfl rfl ?_
                    refine aw_iaload dX7_behindEnds_87 m_a11 (by omega) (by omega) ?_
                    refine aw_iload dX7_behindEnds_88 rfl ?_
                    refine aw_ifeq (tgt := 97) dX7_behindEnds_90 (by decide) (fun h90 => ?_) (fun h90 => ?_)
                    · first
                        | (exfalso; omega)
                        | skip
                          refine aw_iconst dX7_behindEnds_97 (by decide) ?_
                          refine aw_isub dX7_behindEnds_98 ?_
                          refine aw_iastore dX7_behindEnds_99 m_a11 (by omega) (by omega) ?_
                          refine aw_iload dX7_behindEnds_100 rfl ?_
                          refine aw_ifeq (tgt := 111) dX7_behindEnds_102 (by decide) (fun h102 => ?_) (fun h102 => ?_)
                          · first
                              | (exfalso; omega)
                              | skip
                                refine aw_iload_n dX7_behindEnds_111 rfl ?_
                                refine aw_iconst dX7_behindEnds_112 (by decide) ?_
                                refine aw_iaddr dX7_behindEnds_113 (by omega) ?_
                                refine aw_istore2 dX7_behindEnds_114 (by decide) rfl ?_
                                refine aw_goto (tgt := 2) dX7_behindEnds_115 (by decide) ?_
                                refine K _ _ _ ?_
                                rfl
                          · first
                              | (exfalso; omega)
                              | skip
                                refine aw_iload_n dX7_behindEnds_105 rfl ?_
                                refine aw_iconst dX7_behindEnds_106 (by decide) ?_
                                refine aw_iaddr dX7_behindEnds_107 (by omega) ?_
                                refine aw_goto (tgt := 114) dX7_behindEnds_108 (by decide) ?_
                                refine aw_istore2 dX7_behindEnds_114 (by decide) rfl ?_
                                refine aw_goto (tgt := 2) dX7_behindEnds_115 (by decide) ?_
                                refine K _ _ _ ?_
                                rfl
                    · first
                        | (exfalso; omega)
                        | skip
                          refine aw_iconst dX7_behindEnds_93 (by decide) ?_
                          refine aw_goto (tgt := 98) dX7_behindEnds_94 (by decide) ?_
                          refine aw_isub dX7_behindEnds_98 ?_
                          refine aw_iastore dX7_behindEnds_99 m_a11 (by omega) (by omega) ?_
                          refine aw_iload dX7_behindEnds_100 rfl ?_
                          refine aw_ifeq (tgt := 111) dX7_behindEnds_102 (by decide) (fun h102 => ?_) (fun h102 => ?_)
                          · first
                              | (exfalso; omega)
                              | skip
                                refine aw_iload_n dX7_behindEnds_111 rfl ?_
                                refine aw_iconst dX7_behindEnds_112 (by decide) ?_
                                refine aw_iaddr dX7_behindEnds_113 (by omega) ?_
                                refine aw_istore2 dX7_behindEnds_114 (by decide) rfl ?_
                                refine aw_goto (tgt := 2) dX7_behindEnds_115 (by decide) ?_
                                refine K _ _ _ ?_
                                rfl
                          · first
                              | (exfalso; omega)
                              | skip
                                refine aw_iload_n dX7_behindEnds_105 rfl ?_
                                refine aw_iconst dX7_behindEnds_106 (by decide) ?_
                                refine aw_iaddr dX7_behindEnds_107 (by omega) ?_
                                refine aw_goto (tgt := 114) dX7_behindEnds_108 (by decide) ?_
                                refine aw_istore2 dX7_behindEnds_114 (by decide) rfl ?_
                                refine aw_goto (tgt := 2) dX7_behindEnds_115 (by decide) ?_
                                refine K _ _ _ ?_
                                rfl
              · first
                  | (exfalso; omega)
                  | skip
                    refine gm_53 rfl dX7_behindEnds_65 dX7_behindEnds_66 rfl ?_
                    refine aw_iload_n dX7_behindEnds_69 rfl ?_
                    refine aw_iaload dX7_behindEnds_70 m_a11 (by omega) (by omega) ?_
                    refine aw_ifle (tgt := 78) dX7_behindEnds_71 (by decide) (fun h71 => ?_) (fun h71 => ?_)
                    · first
                        | (exfalso; omega)
                        | skip
                          refine aw_iconst dX7_behindEnds_78 (by decide) ?_
                          refine aw_istore4 dX7_behindEnds_79 (by decide) rfl ?_
                          refine gm_53 rfl dX7_behindEnds_81 dX7_behindEnds_82 rfl ?_
                          refine aw_iload_n dX7_behindEnds_85 rfl ?_
                          refine aw_dup2 dX7_behindEnds_86 rfl rfl ?_
                          refine aw_iaload dX7_behindEnds_87 m_a11 (by omega) (by omega) ?_
                          refine aw_iload dX7_behindEnds_88 rfl ?_
                          refine aw_ifeq (tgt := 97) dX7_behindEnds_90 (by decide) (fun h90 => ?_) (fun h90 => ?_)
                          · first
                              | (exfalso; omega)
                              | skip
                                refine aw_iconst dX7_behindEnds_97 (by decide) ?_
                                refine aw_isub dX7_behindEnds_98 ?_
                                refine aw_iastore dX7_behindEnds_99 m_a11 (by omega) (by omega) ?_
                                refine aw_iload dX7_behindEnds_100 rfl ?_
                                refine aw_ifeq (tgt := 111) dX7_behindEnds_102 (by decide) (fun h102 => ?_) (fun h102 => ?_)
                                · first
                                    | (exfalso; omega)
                                    | skip
                                      refine aw_iload_n dX7_behindEnds_111 rfl ?_
                                      refine aw_iconst dX7_behindEnds_112 (by decide) ?_
                                      refine aw_iaddr dX7_behindEnds_113 (by omega) ?_
                                      refine aw_istore2 dX7_behindEnds_114 (by decide) rfl ?_
                                      refine aw_goto (tgt := 2) dX7_behindEnds_115 (by decide) ?_
                                      refine K _ _ _ ?_
                                      rfl
                                · first
                                    | (exfalso; omega)
                                    | skip
                                      refine aw_iload_n dX7_behindEnds_105 rfl ?_
                                      refine aw_iconst dX7_behindEnds_106 (by decide) ?_
                                      refine aw_iaddr dX7_behindEnds_107 (by omega) ?_
                                      refine aw_goto (tgt := 114) dX7_behindEnds_108 (by decide) ?_
                                      refine aw_istore2 dX7_behindEnds_114 (by decide) rfl ?_
                                      refine aw_goto (tgt := 2) dX7_behindEnds_115 (by decide) ?_
                                      refine K _ _ _ ?_
                                      rfl
                          · first
                              | (exfalso; omega)
                              | skip
                                refine aw_iconst dX7_behindEnds_93 (by decide) ?_
                                refine aw_goto (tgt := 98) dX7_behindEnds_94 (by decide) ?_
                                refine aw_isub dX7_behindEnds_98 ?_
                                refine aw_iastore dX7_behindEnds_99 m_a11 (by omega) (by omega) ?_
                                refine aw_iload dX7_behindEnds_100 rfl ?_
                                refine aw_ifeq (tgt := 111) dX7_behindEnds_102 (by decide) (fun h102 => ?_) (fun h102 => ?_)
                                · first
                                    | (exfalso; omega)
                                    | skip
                                      refine aw_iload_n dX7_behindEnds_111 rfl ?_
                                      refine aw_iconst dX7_behindEnds_112 (by decide) ?_
                                      refine aw_iaddr dX7_behindEnds_113 (by omega) ?_
                                      refine aw_istore2 dX7_behindEnds_114 (by decide) rfl ?_
                                      refine aw_goto (tgt := 2) dX7_behindEnds_115 (by decide) ?_
                                      refine K _ _ _ ?_
                                      rfl
                                · first
                                    | (exfalso; omega)
                                    | skip
                                      refine aw_iload_n dX7_behindEnds_105 rfl ?_
                                      refine aw_iconst dX7_behindEnds_106 (by decide) ?_
                                      refine aw_iaddr dX7_behindEnds_107 (by omega) ?_
                                      refine aw_goto (tgt := 114) dX7_behindEnds_108 (by decide) ?_
                                      refine aw_istore2 dX7_behindEnds_114 (by decide) rfl ?_
                                      refine aw_goto (tgt := 2) dX7_behindEnds_115 (by decide) ?_
                                      refine K _ _ _ ?_
                                      rfl
                    · first
                        | (exfalso; omega)
                        | skip
                          refine aw_iconst dX7_behindEnds_74 (by decide) ?_
                          refine aw_goto (tgt := 79) dX7_behindEnds_75 (by decide) ?_
                          refine aw_istore4 dX7_behindEnds_79 (by decide) rfl ?_
                          refine gm_53 rfl dX7_behindEnds_81 dX7_behindEnds_82 rfl ?_
                          refine aw_iload_n dX7_behindEnds_85 rfl ?_
                          refine aw_dup2 dX7_behindEnds_86 rfl rfl ?_
                          refine aw_iaload dX7_behindEnds_87 m_a11 (by omega) (by omega) ?_
                          refine aw_iload dX7_behindEnds_88 rfl ?_
                          refine aw_ifeq (tgt := 97) dX7_behindEnds_90 (by decide) (fun h90 => ?_) (fun h90 => ?_)
                          · first
                              | (exfalso; omega)
                              | skip
                                refine aw_iconst dX7_behindEnds_97 (by decide) ?_
                                refine aw_isub dX7_behindEnds_98 ?_
                                refine aw_iastore dX7_behindEnds_99 m_a11 (by omega) (by omega) ?_
                                refine aw_iload dX7_behindEnds_100 rfl ?_
                                refine aw_ifeq (tgt := 111) dX7_behindEnds_102 (by decide) (fun h102 => ?_) (fun h102 => ?_)
                                · first
                                    | (exfalso; omega)
                                    | skip
                                      refine aw_iload_n dX7_behindEnds_111 rfl ?_
                                      refine aw_iconst dX7_behindEnds_112 (by decide) ?_
                                      refine aw_iaddr dX7_behindEnds_113 (by omega) ?_
                                      refine aw_istore2 dX7_behindEnds_114 (by decide) rfl ?_
                                      refine aw_goto (tgt := 2) dX7_behindEnds_115 (by decide) ?_
                                      refine K _ _ _ ?_
                                      rfl
                                · first
                                    | (exfalso; omega)
                                    | skip
                                      refine aw_iload_n dX7_behindEnds_105 rfl ?_
                                      refine aw_iconst dX7_behindEnds_106 (by decide) ?_
                                      refine aw_iaddr dX7_behindEnds_107 (by omega) ?_
                                      refine aw_goto (tgt := 114) dX7_behindEnds_108 (by decide) ?_
                                      refine aw_istore2 dX7_behindEnds_114 (by decide) rfl ?_
                                      refine aw_goto (tgt := 2) dX7_behindEnds_115 (by decide) ?_
                                      refine K _ _ _ ?_
                                      rfl
                          · first
                              | (exfalso; omega)
                              | skip
                                refine aw_iconst dX7_behindEnds_93 (by decide) ?_
                                refine aw_goto (tgt := 98) dX7_behindEnds_94 (by decide) ?_
                                refine aw_isub dX7_behindEnds_98 ?_
                                refine aw_iastore dX7_behindEnds_99 m_a11 (by omega) (by omega) ?_
                                refine aw_iload dX7_behindEnds_100 rfl ?_
                                refine aw_ifeq (tgt := 111) dX7_behindEnds_102 (by decide) (fun h102 => ?_) (fun h102 => ?_)
                                · first
                                    | (exfalso; omega)
                                    | skip
                                      refine aw_iload_n dX7_behindEnds_111 rfl ?_
                                      refine aw_iconst dX7_behindEnds_112 (by decide) ?_
                                      refine aw_iaddr dX7_behindEnds_113 (by omega) ?_
                                      refine aw_istore2 dX7_behindEnds_114 (by decide) rfl ?_
                                      refine aw_goto (tgt := 2) dX7_behindEnds_115 (by decide) ?_
                                      refine K _ _ _ ?_
                                      rfl
                                · first
                                    | (exfalso; omega)
                                    | skip
                                      refine aw_iload_n dX7_behindEnds_105 rfl ?_
                                      refine aw_iconst dX7_behindEnds_106 (by decide) ?_
                                      refine aw_iaddr dX7_behindEnds_107 (by omega) ?_
                                      refine aw_goto (tgt := 114) dX7_behindEnds_108 (by decide) ?_
                                      refine aw_istore2 dX7_behindEnds_114 (by decide) rfl ?_
                                      refine aw_goto (tgt := 2) dX7_behindEnds_115 (by decide) ?_
                                      refine K _ _ _ ?_
                                      rfl
def PEL (Q : aPost) (d : Nat) (sd k : Int) (ct : Int → Int → Int) : Prop := ∀ (ko ro k0 : Int) (x3 x4 : Option aV), nl (some x3) = true → AW (mq (aK (mq Q) md_X7_lives d 0 0 177 [some (vR 0), some (vI sd), some (vI ko), some (vI ro)] [])) md_X7_behindEnds 1 0 0 2 [some (vR 0), some (vI k0), some (vI k), x3, x4] [] (gM ct)
def HDL (Q : aPost) (d : Nat) (sd k : Int) (ct : Int → Int → Int) : Prop := ∀ x3 : Option aV, AW (mq Q) md_X7_lives d 0 0 32 [some (vR 0), some (vI sd), some (vI k), x3] [] (gM ct)
theorem PEL_1 {Q : aPost} {d : Nat} {sd k : Int} {ct : Int → Int → Int} {s : Int → Int} (ec : ct 1 = s) (hk : 0 ≤ k ∧ k ≤ 60) (hn : ¬ (k < s 10 ∧ s (860 + 6 * k) = 19)) (h : HDL Q d sd k ct) : PEL Q d sd k ct := by
  intro ko ro k0 x3 x4 h3
  refine L_m_be1 ec hk hn ?_
  refine aK_i ?_
  refine aw_istore2 dX7_lives_180 (by decide) rfl ?_
  refine aw_goto (tgt := 32) dX7_lives_181 (by decide) ?_
  exact h _
theorem PEL_2 {Q : aPost} {d : Nat} {sd k o : Int} {ct : Int → Int → Int} {s : Int → Int} (ec : ct 1 = s) (hk : 0 ≤ k ∧ k ≤ 60) (hk2 : k < s 10) (h19 : s (860 + 6 * k) = 19) (ho : s (864 + 6 * k) = o) (o0 : 0 ≤ o ∧ o < 60) (h18 : s (860 + 6 * o) = 18) (hr : 0 < ct 11 o ∧ ct 11 o ≤ 99) (h : PEL Q d sd (o + 1) (aup ct 11 o (ct 11 o - 1))) : PEL Q d sd k ct :=
  fun ko ro k0 x3 x4 h3 => L_m_be2 ec hk hk2 h19 ho o0 h18 hr (fun y3 y4 h4 => h ko ro k0 y3 y4 h4) h3
theorem PEL_3 {Q : aPost} {d : Nat} {sd k o : Int} {ct : Int → Int → Int} {s : Int → Int} (ec : ct 1 = s) (hk : 0 ≤ k ∧ k ≤ 60) (hk2 : k < s 10) (h19 : s (860 + 6 * k) = 19) (ho : s (864 + 6 * k) = o) (o0 : 0 ≤ o ∧ o < 60) (h18 : s (860 + 6 * o) ≠ 18 ∨ ct 11 o ≤ 0) (h : ∀ v, PEL Q d sd (k + 1) (aup ct 11 o v)) : PEL Q d sd k ct :=
  fun ko ro k0 x3 x4 h3 => L_m_be3 ec hk hk2 h19 ho o0 h18 (fun v y3 y4 h4 => h v ko ro k0 y3 y4 h4) h3
theorem HDL_end {c0 ct : Int → Int → Int} {q : lvS} {Q : aPost} {d : Nat} {sd k : Int} (ec : ct 1 = q.1) (h : ¬ k < q.1 10) (hQ : Q (.inl none) (gM ct)) : HDL Q d sd k ct := by
  intro x3
  refine aw_iload_n dX7_lives_32 rfl ?_
  refine gm_7 rfl dX7_lives_33 dX7_lives_34 rfl ?_
  refine aw_bipush dX7_lives_37 (by decide) ?_
  refine aw_iaload dX7_lives_39 m_a1 (by omega) (by omega) ?_
  rw [ec]
  refine aw_icmpge (tgt := 184) dX7_lives_40 (by decide) (fun h40 => ?_) (fun h40 => ?_)
  · refine aw_ret dX7_lives_184 rfl ?_
    exact hQ
  · exfalso; omega
theorem HDL_done {c0 ct : Int → Int → Int} {q : lvS} {Q : aPost} {d : Nat} {sd k : Int} (h : MLV c0 ct q) (hk : k < q.1 10) (hd : q.2.2.1 = 100) (hQ : Q (.inl none) (gM (aup ct 12 2 1))) : HDL Q d sd k ct := by
  intro x3
  have ec := h.2.1
  have e30 := h.2.2.1.2.1
  refine aw_iload_n dX7_lives_32 rfl ?_
  refine gm_7 rfl dX7_lives_33 dX7_lives_34 rfl ?_
  refine aw_bipush dX7_lives_37 (by decide) ?_
  refine aw_iaload dX7_lives_39 m_a1 (by omega) (by omega) ?_
  rw [ec]
  refine aw_icmpge (tgt := 184) dX7_lives_40 (by decide) (fun h40 => ?_) (fun h40 => ?_)
  · exfalso; omega
  · refine gm_380 rfl dX7_lives_43 dX7_lives_44 rfl ?_
    rw [e30]
    refine aw_bipush dX7_lives_47 (by decide) ?_
    refine aw_icmpne (tgt := 60) dX7_lives_49 (by decide) (fun h49 => ?_) (fun h49 => ?_)
    · exfalso; omega
    · refine gm_56 rfl dX7_lives_52 dX7_lives_53 rfl ?_
      refine aw_iconst dX7_lives_56 (by decide) ?_
      refine aw_iconst dX7_lives_57 (by decide) ?_
      refine aw_iastore dX7_lives_58 m_a12 (by omega) (by omega) ?_
      refine aw_ret dX7_lives_59 rfl ?_
      exact hQ
theorem HDL_stop {c0 ct : Int → Int → Int} {q : lvS} {Q : aPost} {d : Nat} {sd k : Int} (h : MLV c0 ct q) (hLq : LQ q) (hk0 : 0 ≤ k ∧ k < 60) (hk : k < q.1 10) (hd : q.2.2.1 ≠ 100) (h20 : q.1 (860 + 6 * k) = 20) (hQ : Q (.inl none) (gM (aup ct 0 30 (q.2.2.1 + 1)))) : HDL Q d sd k ct := by
  intro x3
  have ec := h.2.1
  have e30 := h.2.2.1.2.1
  have e120 := h.2.2.1.2.2.1
  have hI := h.num (i := 30) (v := q.2.2.1 + 1) (Or.inr rfl)
  have eI : aup ct 0 30 (q.2.2.1 + 1) 1 = q.1 := by rw [aup_rn (by decide)]; exact ec
  have hms := hLq.2.2.1
  refine aw_iload_n dX7_lives_32 rfl ?_
  refine gm_7 rfl dX7_lives_33 dX7_lives_34 rfl ?_
  refine aw_bipush dX7_lives_37 (by decide) ?_
  refine aw_iaload dX7_lives_39 m_a1 (by omega) (by omega) ?_
  rw [ec]
  refine aw_icmpge (tgt := 184) dX7_lives_40 (by decide) (fun h40 => ?_) (fun h40 => ?_)
  · exfalso; omega
  · refine gm_380 rfl dX7_lives_43 dX7_lives_44 rfl ?_
    rw [e30]
    refine aw_bipush dX7_lives_47 (by decide) ?_
    refine aw_icmpne (tgt := 60) dX7_lives_49 (by decide) (fun h49 => ?_) (fun h49 => ?_)
    · refine aw_sipush dX7_lives_60 (by decide) ?_
      refine aw_bipush dX7_lives_63 (by decide) ?_
      refine aw_iload_n dX7_lives_65 rfl ?_
      refine aw_imulr dX7_lives_66 (by omega) ?_
      refine aw_iaddr dX7_lives_67 (by omega) ?_
      refine aw_istore3 dX7_lives_68 (by decide) rfl ?_
      refine aw_aload_n dX7_lives_69 rfl ?_
      refine aw_dup dX7_lives_70 rfl ?_
      refine g_X7_380_7 rfl dX7_lives_71 m_ob ?_
      rw [e30]
      refine aw_iconst dX7_lives_74 (by decide) ?_
      refine aw_iaddr dX7_lives_75 (by omega) ?_
      refine p_X7_380_7 rfl dX7_lives_76 m_ob ?_
      refine gm_7 rfl dX7_lives_79 dX7_lives_80 rfl ?_
      refine aw_iload_n dX7_lives_83 rfl ?_
      refine aw_iaload dX7_lives_84 m_a1 (by omega) (by omega) ?_
      rw [eI]
      refine aw_bipush dX7_lives_85 (by decide) ?_
      refine aw_icmpne (tgt := 91) dX7_lives_87 (by decide) (fun h87 => ?_) (fun h87 => ?_)
      · exfalso; omega
      · refine aw_ret dX7_lives_90 rfl ?_
        exact hQ
    · exfalso; omega
theorem MLV.cg {c0 ct : Int → Int → Int} {q q2 : lvS} (h : MLV c0 ct q) (e1 : q.1 = q2.1) (e2 : q.2.1 = q2.2.1) (e3 : q2.2.2.1 = q.2.2.1) (e4 : q.2.2.2.1 = q2.2.2.2.1) (e5 : q.2.2.2.2.1 = q2.2.2.2.2.1) (e7 : q2.2.2.2.2.2.2 = q.2.2.2.2.2.2) : MLV c0 ct q2 := by
  obtain ⟨h1, h2, ⟨a1, a2, a3, a4, a5⟩, h3⟩ := h
  exact ⟨h1, h2.trans e1, ⟨a1.trans e2, a2.trans e3.symm, a3.trans e4, a4.trans e5, a5.trans e7.symm⟩, h3⟩
theorem canQ_ms {q : lvS} {r : Int} (h : q.1 r ≠ 20) : (canQ q r).2.2.2.1 = q.2.2.2.1 := by
  unfold canQ
  rw [if_neg h]
theorem HDL_act {c0 ct : Int → Int → Int} {q : lvS} {Q : aPost} {d : Nat} {sd k : Int} (h : MLV c0 ct q) (hLq : LQ q) (hk0 : 0 ≤ k ∧ k < 60) (hk : k < q.1 10) (hd : q.2.2.1 ≠ 100) (hrow : ROW q.1 (860 + 6 * k)) (h20 : q.1 (860 + 6 * k) ≠ 20) (hdd : 9 ≤ d) (K : ∀ ct2 : Int → Int → Int, MLV c0 ct2 (actQ (incQ q) (860 + 6 * k)) → (∀ u, ct2 11 u = ct 11 u) → PEL Q d sd (k + 1) ct2) : HDL Q d sd k ct := by
  intro x3
  have ec := h.2.1
  have e30 := h.2.2.1.2.1
  have e120 := h.2.2.1.2.2.1
  have hI := h.num (i := 30) (v := q.2.2.1 + 1) (Or.inr rfl)
  have eI : aup ct 0 30 (q.2.2.1 + 1) 1 = q.1 := by rw [aup_rn (by decide)]; exact ec
  have hms := hLq.2.2.1
  have hL1 := hLq.inc hd
  have h01 := canB_01 (q := incQ q) (r := 860 + 6 * k) hL1 hrow
  have hrr : (incQ q).1 (860 + 6 * k) = q.1 (860 + 6 * k) := rfl
  have hs9 : (canQ (incQ q) (860 + 6 * k)).1 (860 + 6 * k) = q.1 (860 + 6 * k) := by
    have a := (actF_ok hL1.1 hrow h20 hL1.2.1 hL1.2.2.2.1).2.1.1 (860 + 6 * k) (by omega)
    unfold canQ
    rw [if_neg (by show ¬ q.1 _ = 20; exact h20)]
    exact a
  have hlt : q.1 (860 + 6 * k) < 18 := by
    rcases hrow with b | b | b | b | b | b | b <;> omega
  refine aw_iload_n dX7_lives_32 rfl ?_
  refine gm_7 rfl dX7_lives_33 dX7_lives_34 rfl ?_
  refine aw_bipush dX7_lives_37 (by decide) ?_
  refine aw_iaload dX7_lives_39 m_a1 (by omega) (by omega) ?_
  rw [ec]
  refine aw_icmpge (tgt := 184) dX7_lives_40 (by decide) (fun h40 => ?_) (fun h40 => ?_)
  · exfalso; omega
  · first
      | (exfalso; omega)
      | skip
        refine gm_380 rfl dX7_lives_43 dX7_lives_44 rfl ?_
        rw [e30]
        refine aw_bipush dX7_lives_47 (by decide) ?_
        refine aw_icmpne (tgt := 60) dX7_lives_49 (by decide) (fun h49 => ?_) (fun h49 => ?_)
        · first
            | (exfalso; omega)
            | skip
              refine aw_sipush dX7_lives_60 (by decide) ?_
              refine aw_bipush dX7_lives_63 (by decide) ?_
              refine aw_iload_n dX7_lives_65 rfl ?_
              refine aw_imulr dX7_lives_66 (by omega) ?_
              refine aw_iaddr dX7_lives_67 (by omega) ?_
              refine aw_istore3 dX7_lives_68 (by decide) rfl ?_
              refine aw_aload_n dX7_lives_69 rfl ?_
              refine aw_dup dX7_lives_70 rfl ?_
              refine g_X7_380_7 rfl dX7_lives_71 m_ob ?_
              rw [e30]
              refine aw_iconst dX7_lives_74 (by decide) ?_
              refine aw_iaddr dX7_lives_75 (by omega) ?_
              refine p_X7_380_7 rfl dX7_lives_76 m_ob ?_
              refine gm_7 rfl dX7_lives_79 dX7_lives_80 rfl ?_
              refine aw_iload_n dX7_lives_83 rfl ?_
              refine aw_iaload dX7_lives_84 m_a1 (by omega) (by omega) ?_
              rw [eI]
              refine aw_bipush dX7_lives_85 (by decide) ?_
              refine aw_icmpne (tgt := 91) dX7_lives_87 (by decide) (fun h87 => ?_) (fun h87 => ?_)
              · first
                  | (exfalso; omega)
                  | skip
                    refine gm_56 rfl dX7_lives_91 dX7_lives_92 rfl ?_
                    refine aw_iconst dX7_lives_95 (by decide) ?_
                    refine aw_dup2 dX7_lives_96 rfl rfl ?_
                    refine aw_iaload dX7_lives_97 m_a12 (by omega) (by omega) ?_
                    rw [aup_rn (by decide), e120]
                    refine aw_aload_n dX7_lives_98 rfl ?_
                    refine aw_iload_n dX7_lives_99 rfl ?_
                    refine c_X7_383 rfl dX7_lives_100 m_ob (Nat.le_of_ble_eq_true rfl) (by omega) (C_m_act (q := incQ q) hI hL1 hrow h20 (by omega) (fun ct2 h2 hu => ?_))
                    have e12 : ct2 1 (860 + 6 * k) = q.1 (860 + 6 * k) := by rw [h2.2.1]; exact hs9
                    have h3 := h2.ran (i := 0) (v := q.2.2.2.1 + (1 - canB (incQ q) (860 + 6 * k)))
                    have hK := K (aup ct2 12 0 (q.2.2.2.1 + (1 - canB (incQ q) (860 + 6 * k)))) (by
                      rcases h01 with z | z
                      · rw [actQ_0 z]
                        have hc := canQ_0 z
                        rw [z] at h3 ⊢
                        exact MLV.cg h3 rfl rfl hc.1.symm rfl rfl hc.2.2.2.symm
                      · rw [actQ_1 z]
                        rw [z] at h3 ⊢
                        exact MLV.cg h3 rfl rfl rfl (by show q.2.2.2.1 + (1 - 1) = _; rw [canQ_ms (q := incQ q) h20]; show _ = q.2.2.2.1; omega) rfl rfl) (fun u => by rw [aup_rn (by decide), hu u, aup_rn (by decide)])
                    refine aK_i ?_
                    refine aw_ifeq (tgt := 110) dX7_lives_103 (by decide) (fun h103 => ?_) (fun h103 => ?_)
                    · first
                        | (exfalso; omega)
                        | skip
                          rw [show (canB (incQ q) (860 + 6 * k)) = 0 by omega] at hK
                          refine aw_iconst dX7_lives_110 (by decide) ?_
                          refine aw_iaddr dX7_lives_111 (by omega) ?_
                          refine aw_iastore dX7_lives_112 m_a12 (by omega) (by omega) ?_
                          refine gm_7 rfl dX7_lives_113 dX7_lives_114 rfl ?_
                          refine aw_iload_n dX7_lives_117 rfl ?_
                          refine aw_iaload dX7_lives_118 m_a1 (by omega) (by omega) ?_
                          rw [aup_rn (by decide), e12]
                          refine aw_bipush dX7_lives_119 (by decide) ?_
                          refine aw_icmpne (tgt := 140) dX7_lives_121 (by decide) (fun h121 => ?_) (fun h121 => ?_)
                          · first
                              | (exfalso; omega)
                              | skip
                                refine aw_aload_n dX7_lives_140 rfl ?_
                                refine gm_7 rfl dX7_lives_141 dX7_lives_142 rfl ?_
                                refine aw_iload_n dX7_lives_145 rfl ?_
                                refine aw_iaload dX7_lives_146 m_a1 (by omega) (by omega) ?_
                                rw [aup_rn (by decide), e12]
                                refine aw_sipush dX7_lives_147 (by decide) ?_
                                refine aw_icmplt (tgt := 174) dX7_lives_150 (by decide) (fun h150 => ?_) (fun h150 => ?_)
                                · first
                                    | (exfalso; omega)
                                    | skip
                                      refine aw_iload_n dX7_lives_174 rfl ?_
                                      refine aw_iconst dX7_lives_175 (by decide) ?_
                                      refine aw_iaddr dX7_lives_176 (by omega) ?_
                                      refine c_X7_389 rfl dX7_lives_177 m_ob (Nat.le_of_ble_eq_true rfl) (by omega) ((AMet.go (d := 1) (L := [some (vR 0), some (vI (k + 1)), none, none, none]) mok_X7_behindEnds (Nat.le_of_ble_eq_true rfl) rfl (aw_iload_n dX7_behindEnds_0 rfl (aw_istore2 dX7_behindEnds_1 (by decide) rfl ?_))))
                                      first
                                        | (refine hK _ _ _ _ _ ?_; rfl)
                                        | (rw [show q.2.2.2.1 + (1 - 1) = q.2.2.2.1 + 0 by omega] at hK; refine hK _ _ _ _ _ ?_; rfl)
                                        | (rw [show q.2.2.2.1 + (1 - 0) = q.2.2.2.1 + 1 by omega] at hK; refine hK _ _ _ _ _ ?_; rfl)
                                · exfalso; omega
                          · exfalso; omega
                    · first
                        | (exfalso; omega)
                        | skip
                          rw [show (canB (incQ q) (860 + 6 * k)) = 1 by omega] at hK
                          refine aw_iconst dX7_lives_106 (by decide) ?_
                          refine aw_goto (tgt := 111) dX7_lives_107 (by decide) ?_
                          refine aw_iaddr dX7_lives_111 (by omega) ?_
                          refine aw_iastore dX7_lives_112 m_a12 (by omega) (by omega) ?_
                          refine gm_7 rfl dX7_lives_113 dX7_lives_114 rfl ?_
                          refine aw_iload_n dX7_lives_117 rfl ?_
                          refine aw_iaload dX7_lives_118 m_a1 (by omega) (by omega) ?_
                          rw [aup_rn (by decide), e12]
                          refine aw_bipush dX7_lives_119 (by decide) ?_
                          refine aw_icmpne (tgt := 140) dX7_lives_121 (by decide) (fun h121 => ?_) (fun h121 => ?_)
                          · first
                              | (exfalso; omega)
                              | skip
                                refine aw_aload_n dX7_lives_140 rfl ?_
                                refine gm_7 rfl dX7_lives_141 dX7_lives_142 rfl ?_
                                refine aw_iload_n dX7_lives_145 rfl ?_
                                refine aw_iaload dX7_lives_146 m_a1 (by omega) (by omega) ?_
                                rw [aup_rn (by decide), e12]
                                refine aw_sipush dX7_lives_147 (by decide) ?_
                                refine aw_icmplt (tgt := 174) dX7_lives_150 (by decide) (fun h150 => ?_) (fun h150 => ?_)
                                · first
                                    | (exfalso; omega)
                                    | skip
                                      refine aw_iload_n dX7_lives_174 rfl ?_
                                      refine aw_iconst dX7_lives_175 (by decide) ?_
                                      refine aw_iaddr dX7_lives_176 (by omega) ?_
                                      refine c_X7_389 rfl dX7_lives_177 m_ob (Nat.le_of_ble_eq_true rfl) (by omega) ((AMet.go (d := 1) (L := [some (vR 0), some (vI (k + 1)), none, none, none]) mok_X7_behindEnds (Nat.le_of_ble_eq_true rfl) rfl (aw_iload_n dX7_behindEnds_0 rfl (aw_istore2 dX7_behindEnds_1 (by decide) rfl ?_))))
                                      first
                                        | (refine hK _ _ _ _ _ ?_; rfl)
                                        | (rw [show q.2.2.2.1 + (1 - 1) = q.2.2.2.1 + 0 by omega] at hK; refine hK _ _ _ _ _ ?_; rfl)
                                        | (rw [show q.2.2.2.1 + (1 - 0) = q.2.2.2.1 + 1 by omega] at hK; refine hK _ _ _ _ _ ?_; rfl)
                                · exfalso; omega
                          · exfalso; omega
              · exfalso; omega
        · exfalso; omega
