set_option maxRecDepth 100000
/-! BeeYardModel reads: a step of a season, whole -/
theorem stepP_eq {tp : Int → Int} {n p m dep cnt : Int} {s N R op : Int → Int} : stepP tp n s N (p, R, m, dep, op, cnt) = if tW tp n p < 11 ∨ 20 < tW tp n p ∨ (tW tp n p = 19 ∧ dep = 0) then .inl (wr tp n p, tF tp n p) else if tW tp n p ≠ 19 ∧ cnt = 30 then .inl (6, tF tp n p) else if (tW tp n p = 17 ∨ tW tp n p = 18) ∧ dep = 3 then .inl (7, tF tp n p) else bnd (ordP tp n (tE tp n p) s N (tW tp n p)) fun o => if sgn tp n o.1 59 then .inr (nxtP (tW tp n p) R m dep op cnt (tE tp n o.1) o) else .inl (wr tp n o.1, tF tp n o.1) := rfl
theorem C_m_step {cm : Int → Int → Int} {tp : Int → Int} {n p : Int} {s N R op : Int → Int} {m dep cnt : Int} {Q : aPost} (H : RM cm tp n p) (hSN : SN cm s N) (hSS : SS cm R m dep op cnt) (hF : ∀ (k9 pl : Int) (cm1 : Int → Int → Int), stepP tp n s N (p, R, m, dep, op, cnt) = .inl (k9, pl) → MB cm cm1 k9 pl → Q (.inl (some (vI 0))) (gM cm1)) (hQ : ∀ (t1 : ST) (cm1 : Int → Int → Int), stepP tp n s N (p, R, m, dep, op, cnt) = .inr t1 → RM cm1 tp n t1.1 → MF cm cm1 → SS cm1 t1.2.1 t1.2.2.1 t1.2.2.2.1 t1.2.2.2.2.1 t1.2.2.2.2.2 → Q (.inl (some (vI 1))) (gM cm1)) : AMet md_X7_step 11 0 0 [vR 0] (gM cm) Q := by
  refine AMet.go (L := [some (vR 0), none, none, none, none, none]) mok_X7_step (Nat.le_of_ble_eq_true rfl) rfl ?_
  obtain ⟨sR, ⟨sM, s21, s22⟩, s8, b1, b2, b3, b4⟩ := id hSS
  have hw9 := tW_bd (tp := tp) (n := n) (p := p)
  have hk1 : 11 ≤ tW tp n p → tK tp n p = 1 := fun h => tW_k (by omega)
  refine aw_aload_n dX7_step_0 rfl ?_
  refine aw_ldcS (k9 := 23) dX7_step_1 rfl rfl (by decide) ?_
  refine c_X7_157 rfl dX7_step_3 m_ob (Nat.le_of_ble_eq_true rfl) (by omega) (C_m_inWords H ?_)
  refine aK_i ?_
  refine aw_istore1 dX7_step_6 (by decide) rfl ?_
  refine gm_7 rfl dX7_step_7 dX7_step_8 rfl ?_
  refine aw_sipush dX7_step_11 (by decide) ?_
  refine aw_iaload dX7_step_14 m_a1 (by omega) (by omega) ?_
  rw [sM]
  refine aw_istore2 dX7_step_15 (by decide) rfl ?_
  refine aw_sipush dX7_step_16 (by decide) ?_
  refine aw_bipush dX7_step_19 (by decide) ?_
  refine aw_iload_n dX7_step_21 rfl ?_
  refine aw_imulr dX7_step_22 (by omega) ?_
  refine aw_iaddr dX7_step_23 (by omega) ?_
  refine aw_istore3 dX7_step_24 (by decide) rfl ?_
  refine aw_iload_n dX7_step_25 rfl ?_
  refine aw_bipush dX7_step_26 (by decide) ?_
  refine aw_icmpeq (tgt := 37) dX7_step_28 (by decide) (fun h28 => ?_) (fun h28 => ?_)
  · first
      | (exfalso; omega)
      | skip
        refine aw_iconst dX7_step_37 (by decide) ?_
        refine aw_goto (tgt := 42) dX7_step_38 (by decide) ?_
        refine aw_istore4 dX7_step_42 (by decide) rfl ?_
        refine aw_iload_n dX7_step_44 rfl ?_
        refine aw_bipush dX7_step_45 (by decide) ?_
        refine aw_icmplt (tgt := 69) dX7_step_47 (by decide) (fun h47 => ?_) (fun h47 => ?_)
        · first
            | (exfalso; omega)
            | skip
              refine aw_aload_n dX7_step_69 rfl ?_
              refine aw_iconst dX7_step_70 (by decide) ?_
              refine c_X7_154 rfl dX7_step_71 m_ob (Nat.le_of_ble_eq_true rfl) (by omega) (C_m_fails H (k := 2) (by decide) (fun cm1 hb => ?_))
              refine aK_i ?_
              refine aw_zreturn dX7_step_74 rfl (Or.inl rfl) ?_
              exact hF _ _ _ (by rw [stepP_eq]; exact if_pos (by omega)) (show MB cm cm1 (wr tp n p) (tF tp n p) from hb)
        · first
            | (exfalso; omega)
            | skip
              refine aw_iload_n dX7_step_50 rfl ?_
              refine aw_bipush dX7_step_51 (by decide) ?_
              refine aw_icmpgt (tgt := 69) dX7_step_53 (by decide) (fun h53 => ?_) (fun h53 => ?_)
              · first
                  | (exfalso; omega)
                  | skip
                    refine aw_aload_n dX7_step_69 rfl ?_
                    refine aw_iconst dX7_step_70 (by decide) ?_
                    refine c_X7_154 rfl dX7_step_71 m_ob (Nat.le_of_ble_eq_true rfl) (by omega) (C_m_fails H (k := 2) (by decide) (fun cm1 hb => ?_))
                    refine aK_i ?_
                    refine aw_zreturn dX7_step_74 rfl (Or.inl rfl) ?_
                    exact hF _ _ _ (by rw [stepP_eq]; exact if_pos (by omega)) (show MB cm cm1 (wr tp n p) (tF tp n p) from hb)
              · first
                  | (exfalso; omega)
                  | skip
                    refine aw_iload_n dX7_step_56 rfl ?_
                    refine aw_bipush dX7_step_57 (by decide) ?_
                    refine aw_icmpne (tgt := 75) dX7_step_59 (by decide) (fun h59 => ?_) (fun h59 => ?_)
                    · first
                        | (exfalso; omega)
                        | skip
                          refine aw_iload_n dX7_step_75 rfl ?_
                          refine aw_bipush dX7_step_76 (by decide) ?_
                          refine aw_icmpeq (tgt := 97) dX7_step_78 (by decide) (fun h78 => ?_) (fun h78 => ?_)
                          · first
                              | (exfalso; omega)
                              | skip
                                refine aw_iload dX7_step_97 rfl ?_
                                refine aw_ifeq (tgt := 117) dX7_step_99 (by decide) (fun h99 => ?_) (fun h99 => ?_)
                                · first
                                    | (exfalso; omega)
                                    | skip
                                      refine aw_aload_n dX7_step_117 rfl ?_
                                      refine aw_dup dX7_step_118 rfl ?_
                                      refine g_X7_232_7 rfl dX7_step_119 m_ob ?_
                                      rw [s22]
                                      refine aw_iload_n dX7_step_122 rfl ?_
                                      refine aw_bipush dX7_step_123 (by decide) ?_
                                      refine aw_icmpne (tgt := 132) dX7_step_125 (by decide) (fun h125 => ?_) (fun h125 => ?_)
                                      · first
                                          | (exfalso; omega)
                                          | skip
                                            refine aw_iconst dX7_step_132 (by decide) ?_
                                            refine aw_iaddr dX7_step_133 (by omega) ?_
                                            refine p_X7_232_7 rfl dX7_step_134 m_ob ?_
                                            refine gm_7 rfl dX7_step_137 dX7_step_138 rfl ?_
                                            refine aw_iload_n dX7_step_141 rfl ?_
                                            refine aw_iload_n dX7_step_142 rfl ?_
                                            refine aw_iastore dX7_step_143 m_a1 (by omega) (by omega) ?_
                                            refine aw_iconst dX7_step_144 (by decide) ?_
                                            refine aw_istore5 dX7_step_145 (by decide) rfl ?_
                                            refine L_m_stz (by decide) ⟨by omega, by omega⟩ (fun cm1 x5 c1 c2 c3 => ?_) 5 1 _ (by decide) (by decide) (fun i i0 i1 => by omega) (fun _ _ => rfl) (fun _ _ => rfl)
                                            have F : MF cm cm1 := (MF.up1 (i := 5780 + 6 * m) (MF.up0 (i := 22) MF.rf (by decide)) (by omega)).trans ⟨fun i _ => by rw [c3 0 (by decide)], fun b hb => c3 b (by omega), fun i hi => c2 i (Or.inl (by omega)), fun i _ => by rw [c3 2 (by decide)], fun f => f.eq (by rw [c3 0 (by decide)]) (c3 9 (by decide))⟩
                                            exact L_m_st170 (t := (p, R, m, dep, op, cnt)) (cnt := cnt) (dep := dep) (R := R) (op := op) (by decide) (H.fr (fun i hi => by rw [c3 0 (by decide), aup_rn (by decide), aup_n (by omega)]) (by rw [c3 7 (by decide), aup_rn (by decide), aup_rn (by decide)])) (hSN.mf F) F (by rw [c2 _ (Or.inl (Int.le_refl _))]; exact aup_s) c1 (fun i i0 i1 i2 => by rw [c2 _ (by omega), aup_n (by omega), aup_rn (by decide)]; exact sR i i0 i1) (by rw [c2 _ (by omega), aup_n (by omega), aup_rn (by decide)]; exact sM) (by rw [c3 0 (by decide), aup_rn (by decide), aup_n (by decide)]; exact s21) (by rw [c3 0 (by decide), aup_rn (by decide), aup_s]; first | rw [if_pos (by omega)] | rw [if_neg (by omega)]) (fun j j0 j1 => by rw [c3 8 (by decide), aup_rn (by decide), aup_rn (by decide)]; exact s8 j j0 j1) ⟨by omega, by omega⟩ (by omega) ⟨b1, b2, b3, b4⟩ (by omega) (by omega) (by omega) (by rw [stepP_eq, if_neg (by omega), if_neg (by omega), if_neg (by omega)]) hF hQ
                                      · first
                                          | (exfalso; omega)
                                          | skip
                                            refine aw_iconst dX7_step_128 (by decide) ?_
                                            refine aw_goto (tgt := 133) dX7_step_129 (by decide) ?_
                                            refine aw_iaddr dX7_step_133 (by omega) ?_
                                            refine p_X7_232_7 rfl dX7_step_134 m_ob ?_
                                            refine gm_7 rfl dX7_step_137 dX7_step_138 rfl ?_
                                            refine aw_iload_n dX7_step_141 rfl ?_
                                            refine aw_iload_n dX7_step_142 rfl ?_
                                            refine aw_iastore dX7_step_143 m_a1 (by omega) (by omega) ?_
                                            refine aw_iconst dX7_step_144 (by decide) ?_
                                            refine aw_istore5 dX7_step_145 (by decide) rfl ?_
                                            refine L_m_stz (by decide) ⟨by omega, by omega⟩ (fun cm1 x5 c1 c2 c3 => ?_) 5 1 _ (by decide) (by decide) (fun i i0 i1 => by omega) (fun _ _ => rfl) (fun _ _ => rfl)
                                            have F : MF cm cm1 := (MF.up1 (i := 5780 + 6 * m) (MF.up0 (i := 22) MF.rf (by decide)) (by omega)).trans ⟨fun i _ => by rw [c3 0 (by decide)], fun b hb => c3 b (by omega), fun i hi => c2 i (Or.inl (by omega)), fun i _ => by rw [c3 2 (by decide)], fun f => f.eq (by rw [c3 0 (by decide)]) (c3 9 (by decide))⟩
                                            exact L_m_st170 (t := (p, R, m, dep, op, cnt)) (cnt := cnt) (dep := dep) (R := R) (op := op) (by decide) (H.fr (fun i hi => by rw [c3 0 (by decide), aup_rn (by decide), aup_n (by omega)]) (by rw [c3 7 (by decide), aup_rn (by decide), aup_rn (by decide)])) (hSN.mf F) F (by rw [c2 _ (Or.inl (Int.le_refl _))]; exact aup_s) c1 (fun i i0 i1 i2 => by rw [c2 _ (by omega), aup_n (by omega), aup_rn (by decide)]; exact sR i i0 i1) (by rw [c2 _ (by omega), aup_n (by omega), aup_rn (by decide)]; exact sM) (by rw [c3 0 (by decide), aup_rn (by decide), aup_n (by decide)]; exact s21) (by rw [c3 0 (by decide), aup_rn (by decide), aup_s]; first | rw [if_pos (by omega)] | rw [if_neg (by omega)]) (fun j j0 j1 => by rw [c3 8 (by decide), aup_rn (by decide), aup_rn (by decide)]; exact s8 j j0 j1) ⟨by omega, by omega⟩ (by omega) ⟨b1, b2, b3, b4⟩ (by omega) (by omega) (by omega) (by rw [stepP_eq, if_neg (by omega), if_neg (by omega), if_neg (by omega)]) hF hQ
                                · first
                                    | (exfalso; omega)
                                    | skip
                                      refine gm_229 rfl dX7_step_102 dX7_step_103 rfl ?_
                                      rw [s21]
                                      refine aw_iconst dX7_step_106 (by decide) ?_
                                      refine aw_icmpne (tgt := 117) dX7_step_107 (by decide) (fun h107 => ?_) (fun h107 => ?_)
                                      · first
                                          | (exfalso; omega)
                                          | skip
                                            refine aw_aload_n dX7_step_117 rfl ?_
                                            refine aw_dup dX7_step_118 rfl ?_
                                            refine g_X7_232_7 rfl dX7_step_119 m_ob ?_
                                            rw [s22]
                                            refine aw_iload_n dX7_step_122 rfl ?_
                                            refine aw_bipush dX7_step_123 (by decide) ?_
                                            refine aw_icmpne (tgt := 132) dX7_step_125 (by decide) (fun h125 => ?_) (fun h125 => ?_)
                                            · first
                                                | (exfalso; omega)
                                                | skip
                                                  refine aw_iconst dX7_step_132 (by decide) ?_
                                                  refine aw_iaddr dX7_step_133 (by omega) ?_
                                                  refine p_X7_232_7 rfl dX7_step_134 m_ob ?_
                                                  refine gm_7 rfl dX7_step_137 dX7_step_138 rfl ?_
                                                  refine aw_iload_n dX7_step_141 rfl ?_
                                                  refine aw_iload_n dX7_step_142 rfl ?_
                                                  refine aw_iastore dX7_step_143 m_a1 (by omega) (by omega) ?_
                                                  refine aw_iconst dX7_step_144 (by decide) ?_
                                                  refine aw_istore5 dX7_step_145 (by decide) rfl ?_
                                                  refine L_m_stz (by decide) ⟨by omega, by omega⟩ (fun cm1 x5 c1 c2 c3 => ?_) 5 1 _ (by decide) (by decide) (fun i i0 i1 => by omega) (fun _ _ => rfl) (fun _ _ => rfl)
                                                  have F : MF cm cm1 := (MF.up1 (i := 5780 + 6 * m) (MF.up0 (i := 22) MF.rf (by decide)) (by omega)).trans ⟨fun i _ => by rw [c3 0 (by decide)], fun b hb => c3 b (by omega), fun i hi => c2 i (Or.inl (by omega)), fun i _ => by rw [c3 2 (by decide)], fun f => f.eq (by rw [c3 0 (by decide)]) (c3 9 (by decide))⟩
                                                  exact L_m_st170 (t := (p, R, m, dep, op, cnt)) (cnt := cnt) (dep := dep) (R := R) (op := op) (by decide) (H.fr (fun i hi => by rw [c3 0 (by decide), aup_rn (by decide), aup_n (by omega)]) (by rw [c3 7 (by decide), aup_rn (by decide), aup_rn (by decide)])) (hSN.mf F) F (by rw [c2 _ (Or.inl (Int.le_refl _))]; exact aup_s) c1 (fun i i0 i1 i2 => by rw [c2 _ (by omega), aup_n (by omega), aup_rn (by decide)]; exact sR i i0 i1) (by rw [c2 _ (by omega), aup_n (by omega), aup_rn (by decide)]; exact sM) (by rw [c3 0 (by decide), aup_rn (by decide), aup_n (by decide)]; exact s21) (by rw [c3 0 (by decide), aup_rn (by decide), aup_s]; first | rw [if_pos (by omega)] | rw [if_neg (by omega)]) (fun j j0 j1 => by rw [c3 8 (by decide), aup_rn (by decide), aup_rn (by decide)]; exact s8 j j0 j1) ⟨by omega, by omega⟩ (by omega) ⟨b1, b2, b3, b4⟩ (by omega) (by omega) (by omega) (by rw [stepP_eq, if_neg (by omega), if_neg (by omega), if_neg (by omega)]) hF hQ
                                            · first
                                                | (exfalso; omega)
                                                | skip
                                                  refine aw_iconst dX7_step_128 (by decide) ?_
                                                  refine aw_goto (tgt := 133) dX7_step_129 (by decide) ?_
                                                  refine aw_iaddr dX7_step_133 (by omega) ?_
                                                  refine p_X7_232_7 rfl dX7_step_134 m_ob ?_
                                                  refine gm_7 rfl dX7_step_137 dX7_step_138 rfl ?_
                                                  refine aw_iload_n dX7_step_141 rfl ?_
                                                  refine aw_iload_n dX7_step_142 rfl ?_
                                                  refine aw_iastore dX7_step_143 m_a1 (by omega) (by omega) ?_
                                                  refine aw_iconst dX7_step_144 (by decide) ?_
                                                  refine aw_istore5 dX7_step_145 (by decide) rfl ?_
                                                  refine L_m_stz (by decide) ⟨by omega, by omega⟩ (fun cm1 x5 c1 c2 c3 => ?_) 5 1 _ (by decide) (by decide) (fun i i0 i1 => by omega) (fun _ _ => rfl) (fun _ _ => rfl)
                                                  have F : MF cm cm1 := (MF.up1 (i := 5780 + 6 * m) (MF.up0 (i := 22) MF.rf (by decide)) (by omega)).trans ⟨fun i _ => by rw [c3 0 (by decide)], fun b hb => c3 b (by omega), fun i hi => c2 i (Or.inl (by omega)), fun i _ => by rw [c3 2 (by decide)], fun f => f.eq (by rw [c3 0 (by decide)]) (c3 9 (by decide))⟩
                                                  exact L_m_st170 (t := (p, R, m, dep, op, cnt)) (cnt := cnt) (dep := dep) (R := R) (op := op) (by decide) (H.fr (fun i hi => by rw [c3 0 (by decide), aup_rn (by decide), aup_n (by omega)]) (by rw [c3 7 (by decide), aup_rn (by decide), aup_rn (by decide)])) (hSN.mf F) F (by rw [c2 _ (Or.inl (Int.le_refl _))]; exact aup_s) c1 (fun i i0 i1 i2 => by rw [c2 _ (by omega), aup_n (by omega), aup_rn (by decide)]; exact sR i i0 i1) (by rw [c2 _ (by omega), aup_n (by omega), aup_rn (by decide)]; exact sM) (by rw [c3 0 (by decide), aup_rn (by decide), aup_n (by decide)]; exact s21) (by rw [c3 0 (by decide), aup_rn (by decide), aup_s]; first | rw [if_pos (by omega)] | rw [if_neg (by omega)]) (fun j j0 j1 => by rw [c3 8 (by decide), aup_rn (by decide), aup_rn (by decide)]; exact s8 j j0 j1) ⟨by omega, by omega⟩ (by omega) ⟨b1, b2, b3, b4⟩ (by omega) (by omega) (by omega) (by rw [stepP_eq, if_neg (by omega), if_neg (by omega), if_neg (by omega)]) hF hQ
                                      · first
                                          | (exfalso; omega)
                                          | skip
                                            refine aw_aload_n dX7_step_110 rfl ?_
                                            refine aw_bipush dX7_step_111 (by decide) ?_
                                            refine c_X7_154 rfl dX7_step_113 m_ob (Nat.le_of_ble_eq_true rfl) (by omega) (C_m_fails H (k := 7) (by decide) (fun cm1 hb => ?_))
                                            refine aK_i ?_
                                            refine aw_zreturn dX7_step_116 rfl (Or.inl rfl) ?_
                                            rw [if_neg (by have := hk1 (by omega); omega)] at hb
                                            exact hF _ _ _ (by rw [stepP_eq, if_neg (by omega), if_neg (by omega)]; exact if_pos (by omega)) hb
                          · first
                              | (exfalso; omega)
                              | skip
                                refine gm_232 rfl dX7_step_81 dX7_step_82 rfl ?_
                                rw [s22]
                                refine aw_bipush dX7_step_85 (by decide) ?_
                                refine aw_icmpne (tgt := 97) dX7_step_87 (by decide) (fun h87 => ?_) (fun h87 => ?_)
                                · first
                                    | (exfalso; omega)
                                    | skip
                                      refine aw_iload dX7_step_97 rfl ?_
                                      refine aw_ifeq (tgt := 117) dX7_step_99 (by decide) (fun h99 => ?_) (fun h99 => ?_)
                                      · first
                                          | (exfalso; omega)
                                          | skip
                                            refine aw_aload_n dX7_step_117 rfl ?_
                                            refine aw_dup dX7_step_118 rfl ?_
                                            refine g_X7_232_7 rfl dX7_step_119 m_ob ?_
                                            rw [s22]
                                            refine aw_iload_n dX7_step_122 rfl ?_
                                            refine aw_bipush dX7_step_123 (by decide) ?_
                                            refine aw_icmpne (tgt := 132) dX7_step_125 (by decide) (fun h125 => ?_) (fun h125 => ?_)
                                            · first
                                                | (exfalso; omega)
                                                | skip
                                                  refine aw_iconst dX7_step_132 (by decide) ?_
                                                  refine aw_iaddr dX7_step_133 (by omega) ?_
                                                  refine p_X7_232_7 rfl dX7_step_134 m_ob ?_
                                                  refine gm_7 rfl dX7_step_137 dX7_step_138 rfl ?_
                                                  refine aw_iload_n dX7_step_141 rfl ?_
                                                  refine aw_iload_n dX7_step_142 rfl ?_
                                                  refine aw_iastore dX7_step_143 m_a1 (by omega) (by omega) ?_
                                                  refine aw_iconst dX7_step_144 (by decide) ?_
                                                  refine aw_istore5 dX7_step_145 (by decide) rfl ?_
                                                  refine L_m_stz (by decide) ⟨by omega, by omega⟩ (fun cm1 x5 c1 c2 c3 => ?_) 5 1 _ (by decide) (by decide) (fun i i0 i1 => by omega) (fun _ _ => rfl) (fun _ _ => rfl)
                                                  have F : MF cm cm1 := (MF.up1 (i := 5780 + 6 * m) (MF.up0 (i := 22) MF.rf (by decide)) (by omega)).trans ⟨fun i _ => by rw [c3 0 (by decide)], fun b hb => c3 b (by omega), fun i hi => c2 i (Or.inl (by omega)), fun i _ => by rw [c3 2 (by decide)], fun f => f.eq (by rw [c3 0 (by decide)]) (c3 9 (by decide))⟩
                                                  exact L_m_st170 (t := (p, R, m, dep, op, cnt)) (cnt := cnt) (dep := dep) (R := R) (op := op) (by decide) (H.fr (fun i hi => by rw [c3 0 (by decide), aup_rn (by decide), aup_n (by omega)]) (by rw [c3 7 (by decide), aup_rn (by decide), aup_rn (by decide)])) (hSN.mf F) F (by rw [c2 _ (Or.inl (Int.le_refl _))]; exact aup_s) c1 (fun i i0 i1 i2 => by rw [c2 _ (by omega), aup_n (by omega), aup_rn (by decide)]; exact sR i i0 i1) (by rw [c2 _ (by omega), aup_n (by omega), aup_rn (by decide)]; exact sM) (by rw [c3 0 (by decide), aup_rn (by decide), aup_n (by decide)]; exact s21) (by rw [c3 0 (by decide), aup_rn (by decide), aup_s]; first | rw [if_pos (by omega)] | rw [if_neg (by omega)]) (fun j j0 j1 => by rw [c3 8 (by decide), aup_rn (by decide), aup_rn (by decide)]; exact s8 j j0 j1) ⟨by omega, by omega⟩ (by omega) ⟨b1, b2, b3, b4⟩ (by omega) (by omega) (by omega) (by rw [stepP_eq, if_neg (by omega), if_neg (by omega), if_neg (by omega)]) hF hQ
                                            · first
                                                | (exfalso; omega)
                                                | skip
                                                  refine aw_iconst dX7_step_128 (by decide) ?_
                                                  refine aw_goto (tgt := 133) dX7_step_129 (by decide) ?_
                                                  refine aw_iaddr dX7_step_133 (by omega) ?_
                                                  refine p_X7_232_7 rfl dX7_step_134 m_ob ?_
                                                  refine gm_7 rfl dX7_step_137 dX7_step_138 rfl ?_
                                                  refine aw_iload_n dX7_step_141 rfl ?_
                                                  refine aw_iload_n dX7_step_142 rfl ?_
                                                  refine aw_iastore dX7_step_143 m_a1 (by omega) (by omega) ?_
                                                  refine aw_iconst dX7_step_144 (by decide) ?_
                                                  refine aw_istore5 dX7_step_145 (by decide) rfl ?_
                                                  refine L_m_stz (by decide) ⟨by omega, by omega⟩ (fun cm1 x5 c1 c2 c3 => ?_) 5 1 _ (by decide) (by decide) (fun i i0 i1 => by omega) (fun _ _ => rfl) (fun _ _ => rfl)
                                                  have F : MF cm cm1 := (MF.up1 (i := 5780 + 6 * m) (MF.up0 (i := 22) MF.rf (by decide)) (by omega)).trans ⟨fun i _ => by rw [c3 0 (by decide)], fun b hb => c3 b (by omega), fun i hi => c2 i (Or.inl (by omega)), fun i _ => by rw [c3 2 (by decide)], fun f => f.eq (by rw [c3 0 (by decide)]) (c3 9 (by decide))⟩
                                                  exact L_m_st170 (t := (p, R, m, dep, op, cnt)) (cnt := cnt) (dep := dep) (R := R) (op := op) (by decide) (H.fr (fun i hi => by rw [c3 0 (by decide), aup_rn (by decide), aup_n (by omega)]) (by rw [c3 7 (by decide), aup_rn (by decide), aup_rn (by decide)])) (hSN.mf F) F (by rw [c2 _ (Or.inl (Int.le_refl _))]; exact aup_s) c1 (fun i i0 i1 i2 => by rw [c2 _ (by omega), aup_n (by omega), aup_rn (by decide)]; exact sR i i0 i1) (by rw [c2 _ (by omega), aup_n (by omega), aup_rn (by decide)]; exact sM) (by rw [c3 0 (by decide), aup_rn (by decide), aup_n (by decide)]; exact s21) (by rw [c3 0 (by decide), aup_rn (by decide), aup_s]; first | rw [if_pos (by omega)] | rw [if_neg (by omega)]) (fun j j0 j1 => by rw [c3 8 (by decide), aup_rn (by decide), aup_rn (by decide)]; exact s8 j j0 j1) ⟨by omega, by omega⟩ (by omega) ⟨b1, b2, b3, b4⟩ (by omega) (by omega) (by omega) (by rw [stepP_eq, if_neg (by omega), if_neg (by omega), if_neg (by omega)]) hF hQ
                                      · first
                                          | (exfalso; omega)
                                          | skip
                                            refine gm_229 rfl dX7_step_102 dX7_step_103 rfl ?_
                                            rw [s21]
                                            refine aw_iconst dX7_step_106 (by decide) ?_
                                            refine aw_icmpne (tgt := 117) dX7_step_107 (by decide) (fun h107 => ?_) (fun h107 => ?_)
                                            · first
                                                | (exfalso; omega)
                                                | skip
                                                  refine aw_aload_n dX7_step_117 rfl ?_
                                                  refine aw_dup dX7_step_118 rfl ?_
                                                  refine g_X7_232_7 rfl dX7_step_119 m_ob ?_
                                                  rw [s22]
                                                  refine aw_iload_n dX7_step_122 rfl ?_
                                                  refine aw_bipush dX7_step_123 (by decide) ?_
                                                  refine aw_icmpne (tgt := 132) dX7_step_125 (by decide) (fun h125 => ?_) (fun h125 => ?_)
                                                  · first
                                                      | (exfalso; omega)
                                                      | skip
                                                        refine aw_iconst dX7_step_132 (by decide) ?_
                                                        refine aw_iaddr dX7_step_133 (by omega) ?_
                                                        refine p_X7_232_7 rfl dX7_step_134 m_ob ?_
                                                        refine gm_7 rfl dX7_step_137 dX7_step_138 rfl ?_
                                                        refine aw_iload_n dX7_step_141 rfl ?_
                                                        refine aw_iload_n dX7_step_142 rfl ?_
                                                        refine aw_iastore dX7_step_143 m_a1 (by omega) (by omega) ?_
                                                        refine aw_iconst dX7_step_144 (by decide) ?_
                                                        refine aw_istore5 dX7_step_145 (by decide) rfl ?_
                                                        refine L_m_stz (by decide) ⟨by omega, by omega⟩ (fun cm1 x5 c1 c2 c3 => ?_) 5 1 _ (by decide) (by decide) (fun i i0 i1 => by omega) (fun _ _ => rfl) (fun _ _ => rfl)
                                                        have F : MF cm cm1 := (MF.up1 (i := 5780 + 6 * m) (MF.up0 (i := 22) MF.rf (by decide)) (by omega)).trans ⟨fun i _ => by rw [c3 0 (by decide)], fun b hb => c3 b (by omega), fun i hi => c2 i (Or.inl (by omega)), fun i _ => by rw [c3 2 (by decide)], fun f => f.eq (by rw [c3 0 (by decide)]) (c3 9 (by decide))⟩
                                                        exact L_m_st170 (t := (p, R, m, dep, op, cnt)) (cnt := cnt) (dep := dep) (R := R) (op := op) (by decide) (H.fr (fun i hi => by rw [c3 0 (by decide), aup_rn (by decide), aup_n (by omega)]) (by rw [c3 7 (by decide), aup_rn (by decide), aup_rn (by decide)])) (hSN.mf F) F (by rw [c2 _ (Or.inl (Int.le_refl _))]; exact aup_s) c1 (fun i i0 i1 i2 => by rw [c2 _ (by omega), aup_n (by omega), aup_rn (by decide)]; exact sR i i0 i1) (by rw [c2 _ (by omega), aup_n (by omega), aup_rn (by decide)]; exact sM) (by rw [c3 0 (by decide), aup_rn (by decide), aup_n (by decide)]; exact s21) (by rw [c3 0 (by decide), aup_rn (by decide), aup_s]; first | rw [if_pos (by omega)] | rw [if_neg (by omega)]) (fun j j0 j1 => by rw [c3 8 (by decide), aup_rn (by decide), aup_rn (by decide)]; exact s8 j j0 j1) ⟨by omega, by omega⟩ (by omega) ⟨b1, b2, b3, b4⟩ (by omega) (by omega) (by omega) (by rw [stepP_eq, if_neg (by omega), if_neg (by omega), if_neg (by omega)]) hF hQ
                                                  · first
                                                      | (exfalso; omega)
                                                      | skip
                                                        refine aw_iconst dX7_step_128 (by decide) ?_
                                                        refine aw_goto (tgt := 133) dX7_step_129 (by decide) ?_
                                                        refine aw_iaddr dX7_step_133 (by omega) ?_
                                                        refine p_X7_232_7 rfl dX7_step_134 m_ob ?_
                                                        refine gm_7 rfl dX7_step_137 dX7_step_138 rfl ?_
                                                        refine aw_iload_n dX7_step_141 rfl ?_
                                                        refine aw_iload_n dX7_step_142 rfl ?_
                                                        refine aw_iastore dX7_step_143 m_a1 (by omega) (by omega) ?_
                                                        refine aw_iconst dX7_step_144 (by decide) ?_
                                                        refine aw_istore5 dX7_step_145 (by decide) rfl ?_
                                                        refine L_m_stz (by decide) ⟨by omega, by omega⟩ (fun cm1 x5 c1 c2 c3 => ?_) 5 1 _ (by decide) (by decide) (fun i i0 i1 => by omega) (fun _ _ => rfl) (fun _ _ => rfl)
                                                        have F : MF cm cm1 := (MF.up1 (i := 5780 + 6 * m) (MF.up0 (i := 22) MF.rf (by decide)) (by omega)).trans ⟨fun i _ => by rw [c3 0 (by decide)], fun b hb => c3 b (by omega), fun i hi => c2 i (Or.inl (by omega)), fun i _ => by rw [c3 2 (by decide)], fun f => f.eq (by rw [c3 0 (by decide)]) (c3 9 (by decide))⟩
                                                        exact L_m_st170 (t := (p, R, m, dep, op, cnt)) (cnt := cnt) (dep := dep) (R := R) (op := op) (by decide) (H.fr (fun i hi => by rw [c3 0 (by decide), aup_rn (by decide), aup_n (by omega)]) (by rw [c3 7 (by decide), aup_rn (by decide), aup_rn (by decide)])) (hSN.mf F) F (by rw [c2 _ (Or.inl (Int.le_refl _))]; exact aup_s) c1 (fun i i0 i1 i2 => by rw [c2 _ (by omega), aup_n (by omega), aup_rn (by decide)]; exact sR i i0 i1) (by rw [c2 _ (by omega), aup_n (by omega), aup_rn (by decide)]; exact sM) (by rw [c3 0 (by decide), aup_rn (by decide), aup_n (by decide)]; exact s21) (by rw [c3 0 (by decide), aup_rn (by decide), aup_s]; first | rw [if_pos (by omega)] | rw [if_neg (by omega)]) (fun j j0 j1 => by rw [c3 8 (by decide), aup_rn (by decide), aup_rn (by decide)]; exact s8 j j0 j1) ⟨by omega, by omega⟩ (by omega) ⟨b1, b2, b3, b4⟩ (by omega) (by omega) (by omega) (by rw [stepP_eq, if_neg (by omega), if_neg (by omega), if_neg (by omega)]) hF hQ
                                            · first
                                                | (exfalso; omega)
                                                | skip
                                                  refine aw_aload_n dX7_step_110 rfl ?_
                                                  refine aw_bipush dX7_step_111 (by decide) ?_
                                                  refine c_X7_154 rfl dX7_step_113 m_ob (Nat.le_of_ble_eq_true rfl) (by omega) (C_m_fails H (k := 7) (by decide) (fun cm1 hb => ?_))
                                                  refine aK_i ?_
                                                  refine aw_zreturn dX7_step_116 rfl (Or.inl rfl) ?_
                                                  rw [if_neg (by have := hk1 (by omega); omega)] at hb
                                                  exact hF _ _ _ (by rw [stepP_eq, if_neg (by omega), if_neg (by omega)]; exact if_pos (by omega)) hb
                                · first
                                    | (exfalso; omega)
                                    | skip
                                      refine aw_aload_n dX7_step_90 rfl ?_
                                      refine aw_bipush dX7_step_91 (by decide) ?_
                                      refine c_X7_154 rfl dX7_step_93 m_ob (Nat.le_of_ble_eq_true rfl) (by omega) (C_m_fails H (k := 6) (by decide) (fun cm1 hb => ?_))
                                      refine aK_i ?_
                                      refine aw_zreturn dX7_step_96 rfl (Or.inl rfl) ?_
                                      rw [if_neg (by have := hk1 (by omega); omega)] at hb
                                      exact hF _ _ _ (by rw [stepP_eq, if_neg (by omega)]; exact if_pos (by omega)) hb
                    · first
                        | (exfalso; omega)
                        | skip
                          refine gm_229 rfl dX7_step_62 dX7_step_63 rfl ?_
                          rw [s21]
                          refine aw_ifne (tgt := 75) dX7_step_66 (by decide) (fun h66 => ?_) (fun h66 => ?_)
                          · first
                              | (exfalso; omega)
                              | skip
                                refine aw_iload_n dX7_step_75 rfl ?_
                                refine aw_bipush dX7_step_76 (by decide) ?_
                                refine aw_icmpeq (tgt := 97) dX7_step_78 (by decide) (fun h78 => ?_) (fun h78 => ?_)
                                · first
                                    | (exfalso; omega)
                                    | skip
                                      refine aw_iload dX7_step_97 rfl ?_
                                      refine aw_ifeq (tgt := 117) dX7_step_99 (by decide) (fun h99 => ?_) (fun h99 => ?_)
                                      · first
                                          | (exfalso; omega)
                                          | skip
                                            refine aw_aload_n dX7_step_117 rfl ?_
                                            refine aw_dup dX7_step_118 rfl ?_
                                            refine g_X7_232_7 rfl dX7_step_119 m_ob ?_
                                            rw [s22]
                                            refine aw_iload_n dX7_step_122 rfl ?_
                                            refine aw_bipush dX7_step_123 (by decide) ?_
                                            refine aw_icmpne (tgt := 132) dX7_step_125 (by decide) (fun h125 => ?_) (fun h125 => ?_)
                                            · first
                                                | (exfalso; omega)
                                                | skip
                                                  refine aw_iconst dX7_step_132 (by decide) ?_
                                                  refine aw_iaddr dX7_step_133 (by omega) ?_
                                                  refine p_X7_232_7 rfl dX7_step_134 m_ob ?_
                                                  refine gm_7 rfl dX7_step_137 dX7_step_138 rfl ?_
                                                  refine aw_iload_n dX7_step_141 rfl ?_
                                                  refine aw_iload_n dX7_step_142 rfl ?_
                                                  refine aw_iastore dX7_step_143 m_a1 (by omega) (by omega) ?_
                                                  refine aw_iconst dX7_step_144 (by decide) ?_
                                                  refine aw_istore5 dX7_step_145 (by decide) rfl ?_
                                                  refine L_m_stz (by decide) ⟨by omega, by omega⟩ (fun cm1 x5 c1 c2 c3 => ?_) 5 1 _ (by decide) (by decide) (fun i i0 i1 => by omega) (fun _ _ => rfl) (fun _ _ => rfl)
                                                  have F : MF cm cm1 := (MF.up1 (i := 5780 + 6 * m) (MF.up0 (i := 22) MF.rf (by decide)) (by omega)).trans ⟨fun i _ => by rw [c3 0 (by decide)], fun b hb => c3 b (by omega), fun i hi => c2 i (Or.inl (by omega)), fun i _ => by rw [c3 2 (by decide)], fun f => f.eq (by rw [c3 0 (by decide)]) (c3 9 (by decide))⟩
                                                  exact L_m_st170 (t := (p, R, m, dep, op, cnt)) (cnt := cnt) (dep := dep) (R := R) (op := op) (by decide) (H.fr (fun i hi => by rw [c3 0 (by decide), aup_rn (by decide), aup_n (by omega)]) (by rw [c3 7 (by decide), aup_rn (by decide), aup_rn (by decide)])) (hSN.mf F) F (by rw [c2 _ (Or.inl (Int.le_refl _))]; exact aup_s) c1 (fun i i0 i1 i2 => by rw [c2 _ (by omega), aup_n (by omega), aup_rn (by decide)]; exact sR i i0 i1) (by rw [c2 _ (by omega), aup_n (by omega), aup_rn (by decide)]; exact sM) (by rw [c3 0 (by decide), aup_rn (by decide), aup_n (by decide)]; exact s21) (by rw [c3 0 (by decide), aup_rn (by decide), aup_s]; first | rw [if_pos (by omega)] | rw [if_neg (by omega)]) (fun j j0 j1 => by rw [c3 8 (by decide), aup_rn (by decide), aup_rn (by decide)]; exact s8 j j0 j1) ⟨by omega, by omega⟩ (by omega) ⟨b1, b2, b3, b4⟩ (by omega) (by omega) (by omega) (by rw [stepP_eq, if_neg (by omega), if_neg (by omega), if_neg (by omega)]) hF hQ
                                            · first
                                                | (exfalso; omega)
                                                | skip
                                                  refine aw_iconst dX7_step_128 (by decide) ?_
                                                  refine aw_goto (tgt := 133) dX7_step_129 (by decide) ?_
                                                  refine aw_iaddr dX7_step_133 (by omega) ?_
                                                  refine p_X7_232_7 rfl dX7_step_134 m_ob ?_
                                                  refine gm_7 rfl dX7_step_137 dX7_step_138 rfl ?_
                                                  refine aw_iload_n dX7_step_141 rfl ?_
                                                  refine aw_iload_n dX7_step_142 rfl ?_
                                                  refine aw_iastore dX7_step_143 m_a1 (by omega) (by omega) ?_
                                                  refine aw_iconst dX7_step_144 (by decide) ?_
                                                  refine aw_istore5 dX7_step_145 (by decide) rfl ?_
                                                  refine L_m_stz (by decide) ⟨by omega, by omega⟩ (fun cm1 x5 c1 c2 c3 => ?_) 5 1 _ (by decide) (by decide) (fun i i0 i1 => by omega) (fun _ _ => rfl) (fun _ _ => rfl)
                                                  have F : MF cm cm1 := (MF.up1 (i := 5780 + 6 * m) (MF.up0 (i := 22) MF.rf (by decide)) (by omega)).trans ⟨fun i _ => by rw [c3 0 (by decide)], fun b hb => c3 b (by omega), fun i hi => c2 i (Or.inl (by omega)), fun i _ => by rw [c3 2 (by decide)], fun f => f.eq (by rw [c3 0 (by decide)]) (c3 9 (by decide))⟩
                                                  exact L_m_st170 (t := (p, R, m, dep, op, cnt)) (cnt := cnt) (dep := dep) (R := R) (op := op) (by decide) (H.fr (fun i hi => by rw [c3 0 (by decide), aup_rn (by decide), aup_n (by omega)]) (by rw [c3 7 (by decide), aup_rn (by decide), aup_rn (by decide)])) (hSN.mf F) F (by rw [c2 _ (Or.inl (Int.le_refl _))]; exact aup_s) c1 (fun i i0 i1 i2 => by rw [c2 _ (by omega), aup_n (by omega), aup_rn (by decide)]; exact sR i i0 i1) (by rw [c2 _ (by omega), aup_n (by omega), aup_rn (by decide)]; exact sM) (by rw [c3 0 (by decide), aup_rn (by decide), aup_n (by decide)]; exact s21) (by rw [c3 0 (by decide), aup_rn (by decide), aup_s]; first | rw [if_pos (by omega)] | rw [if_neg (by omega)]) (fun j j0 j1 => by rw [c3 8 (by decide), aup_rn (by decide), aup_rn (by decide)]; exact s8 j j0 j1) ⟨by omega, by omega⟩ (by omega) ⟨b1, b2, b3, b4⟩ (by omega) (by omega) (by omega) (by rw [stepP_eq, if_neg (by omega), if_neg (by omega), if_neg (by omega)]) hF hQ
                                      · first
                                          | (exfalso; omega)
                                          | skip
                                            refine gm_229 rfl dX7_step_102 dX7_step_103 rfl ?_
                                            rw [s21]
                                            refine aw_iconst dX7_step_106 (by decide) ?_
                                            refine aw_icmpne (tgt := 117) dX7_step_107 (by decide) (fun h107 => ?_) (fun h107 => ?_)
                                            · first
                                                | (exfalso; omega)
                                                | skip
                                                  refine aw_aload_n dX7_step_117 rfl ?_
                                                  refine aw_dup dX7_step_118 rfl ?_
                                                  refine g_X7_232_7 rfl dX7_step_119 m_ob ?_
                                                  rw [s22]
                                                  refine aw_iload_n dX7_step_122 rfl ?_
                                                  refine aw_bipush dX7_step_123 (by decide) ?_
                                                  refine aw_icmpne (tgt := 132) dX7_step_125 (by decide) (fun h125 => ?_) (fun h125 => ?_)
                                                  · first
                                                      | (exfalso; omega)
                                                      | skip
                                                        refine aw_iconst dX7_step_132 (by decide) ?_
                                                        refine aw_iaddr dX7_step_133 (by omega) ?_
                                                        refine p_X7_232_7 rfl dX7_step_134 m_ob ?_
                                                        refine gm_7 rfl dX7_step_137 dX7_step_138 rfl ?_
                                                        refine aw_iload_n dX7_step_141 rfl ?_
                                                        refine aw_iload_n dX7_step_142 rfl ?_
                                                        refine aw_iastore dX7_step_143 m_a1 (by omega) (by omega) ?_
                                                        refine aw_iconst dX7_step_144 (by decide) ?_
                                                        refine aw_istore5 dX7_step_145 (by decide) rfl ?_
                                                        refine L_m_stz (by decide) ⟨by omega, by omega⟩ (fun cm1 x5 c1 c2 c3 => ?_) 5 1 _ (by decide) (by decide) (fun i i0 i1 => by omega) (fun _ _ => rfl) (fun _ _ => rfl)
                                                        have F : MF cm cm1 := (MF.up1 (i := 5780 + 6 * m) (MF.up0 (i := 22) MF.rf (by decide)) (by omega)).trans ⟨fun i _ => by rw [c3 0 (by decide)], fun b hb => c3 b (by omega), fun i hi => c2 i (Or.inl (by omega)), fun i _ => by rw [c3 2 (by decide)], fun f => f.eq (by rw [c3 0 (by decide)]) (c3 9 (by decide))⟩
                                                        exact L_m_st170 (t := (p, R, m, dep, op, cnt)) (cnt := cnt) (dep := dep) (R := R) (op := op) (by decide) (H.fr (fun i hi => by rw [c3 0 (by decide), aup_rn (by decide), aup_n (by omega)]) (by rw [c3 7 (by decide), aup_rn (by decide), aup_rn (by decide)])) (hSN.mf F) F (by rw [c2 _ (Or.inl (Int.le_refl _))]; exact aup_s) c1 (fun i i0 i1 i2 => by rw [c2 _ (by omega), aup_n (by omega), aup_rn (by decide)]; exact sR i i0 i1) (by rw [c2 _ (by omega), aup_n (by omega), aup_rn (by decide)]; exact sM) (by rw [c3 0 (by decide), aup_rn (by decide), aup_n (by decide)]; exact s21) (by rw [c3 0 (by decide), aup_rn (by decide), aup_s]; first | rw [if_pos (by omega)] | rw [if_neg (by omega)]) (fun j j0 j1 => by rw [c3 8 (by decide), aup_rn (by decide), aup_rn (by decide)]; exact s8 j j0 j1) ⟨by omega, by omega⟩ (by omega) ⟨b1, b2, b3, b4⟩ (by omega) (by omega) (by omega) (by rw [stepP_eq, if_neg (by omega), if_neg (by omega), if_neg (by omega)]) hF hQ
                                                  · first
                                                      | (exfalso; omega)
                                                      | skip
                                                        refine aw_iconst dX7_step_128 (by decide) ?_
                                                        refine aw_goto (tgt := 133) dX7_step_129 (by decide) ?_
                                                        refine aw_iaddr dX7_step_133 (by omega) ?_
                                                        refine p_X7_232_7 rfl dX7_step_134 m_ob ?_
                                                        refine gm_7 rfl dX7_step_137 dX7_step_138 rfl ?_
                                                        refine aw_iload_n dX7_step_141 rfl ?_
                                                        refine aw_iload_n dX7_step_142 rfl ?_
                                                        refine aw_iastore dX7_step_143 m_a1 (by omega) (by omega) ?_
                                                        refine aw_iconst dX7_step_144 (by decide) ?_
                                                        refine aw_istore5 dX7_step_145 (by decide) rfl ?_
                                                        refine L_m_stz (by decide) ⟨by omega, by omega⟩ (fun cm1 x5 c1 c2 c3 => ?_) 5 1 _ (by decide) (by decide) (fun i i0 i1 => by omega) (fun _ _ => rfl) (fun _ _ => rfl)
                                                        have F : MF cm cm1 := (MF.up1 (i := 5780 + 6 * m) (MF.up0 (i := 22) MF.rf (by decide)) (by omega)).trans ⟨fun i _ => by rw [c3 0 (by decide)], fun b hb => c3 b (by omega), fun i hi => c2 i (Or.inl (by omega)), fun i _ => by rw [c3 2 (by decide)], fun f => f.eq (by rw [c3 0 (by decide)]) (c3 9 (by decide))⟩
                                                        exact L_m_st170 (t := (p, R, m, dep, op, cnt)) (cnt := cnt) (dep := dep) (R := R) (op := op) (by decide) (H.fr (fun i hi => by rw [c3 0 (by decide), aup_rn (by decide), aup_n (by omega)]) (by rw [c3 7 (by decide), aup_rn (by decide), aup_rn (by decide)])) (hSN.mf F) F (by rw [c2 _ (Or.inl (Int.le_refl _))]; exact aup_s) c1 (fun i i0 i1 i2 => by rw [c2 _ (by omega), aup_n (by omega), aup_rn (by decide)]; exact sR i i0 i1) (by rw [c2 _ (by omega), aup_n (by omega), aup_rn (by decide)]; exact sM) (by rw [c3 0 (by decide), aup_rn (by decide), aup_n (by decide)]; exact s21) (by rw [c3 0 (by decide), aup_rn (by decide), aup_s]; first | rw [if_pos (by omega)] | rw [if_neg (by omega)]) (fun j j0 j1 => by rw [c3 8 (by decide), aup_rn (by decide), aup_rn (by decide)]; exact s8 j j0 j1) ⟨by omega, by omega⟩ (by omega) ⟨b1, b2, b3, b4⟩ (by omega) (by omega) (by omega) (by rw [stepP_eq, if_neg (by omega), if_neg (by omega), if_neg (by omega)]) hF hQ
                                            · first
                                                | (exfalso; omega)
                                                | skip
                                                  refine aw_aload_n dX7_step_110 rfl ?_
                                                  refine aw_bipush dX7_step_111 (by decide) ?_
                                                  refine c_X7_154 rfl dX7_step_113 m_ob (Nat.le_of_ble_eq_true rfl) (by omega) (C_m_fails H (k := 7) (by decide) (fun cm1 hb => ?_))
                                                  refine aK_i ?_
                                                  refine aw_zreturn dX7_step_116 rfl (Or.inl rfl) ?_
                                                  rw [if_neg (by have := hk1 (by omega); omega)] at hb
                                                  exact hF _ _ _ (by rw [stepP_eq, if_neg (by omega), if_neg (by omega)]; exact if_pos (by omega)) hb
                                · first
                                    | (exfalso; omega)
                                    | skip
                                      refine gm_232 rfl dX7_step_81 dX7_step_82 rfl ?_
                                      rw [s22]
                                      refine aw_bipush dX7_step_85 (by decide) ?_
                                      refine aw_icmpne (tgt := 97) dX7_step_87 (by decide) (fun h87 => ?_) (fun h87 => ?_)
                                      · first
                                          | (exfalso; omega)
                                          | skip
                                            refine aw_iload dX7_step_97 rfl ?_
                                            refine aw_ifeq (tgt := 117) dX7_step_99 (by decide) (fun h99 => ?_) (fun h99 => ?_)
                                            · first
                                                | (exfalso; omega)
                                                | skip
                                                  refine aw_aload_n dX7_step_117 rfl ?_
                                                  refine aw_dup dX7_step_118 rfl ?_
                                                  refine g_X7_232_7 rfl dX7_step_119 m_ob ?_
                                                  rw [s22]
                                                  refine aw_iload_n dX7_step_122 rfl ?_
                                                  refine aw_bipush dX7_step_123 (by decide) ?_
                                                  refine aw_icmpne (tgt := 132) dX7_step_125 (by decide) (fun h125 => ?_) (fun h125 => ?_)
                                                  · first
                                                      | (exfalso; omega)
                                                      | skip
                                                        refine aw_iconst dX7_step_132 (by decide) ?_
                                                        refine aw_iaddr dX7_step_133 (by omega) ?_
                                                        refine p_X7_232_7 rfl dX7_step_134 m_ob ?_
                                                        refine gm_7 rfl dX7_step_137 dX7_step_138 rfl ?_
                                                        refine aw_iload_n dX7_step_141 rfl ?_
                                                        refine aw_iload_n dX7_step_142 rfl ?_
                                                        refine aw_iastore dX7_step_143 m_a1 (by omega) (by omega) ?_
                                                        refine aw_iconst dX7_step_144 (by decide) ?_
                                                        refine aw_istore5 dX7_step_145 (by decide) rfl ?_
                                                        refine L_m_stz (by decide) ⟨by omega, by omega⟩ (fun cm1 x5 c1 c2 c3 => ?_) 5 1 _ (by decide) (by decide) (fun i i0 i1 => by omega) (fun _ _ => rfl) (fun _ _ => rfl)
                                                        have F : MF cm cm1 := (MF.up1 (i := 5780 + 6 * m) (MF.up0 (i := 22) MF.rf (by decide)) (by omega)).trans ⟨fun i _ => by rw [c3 0 (by decide)], fun b hb => c3 b (by omega), fun i hi => c2 i (Or.inl (by omega)), fun i _ => by rw [c3 2 (by decide)], fun f => f.eq (by rw [c3 0 (by decide)]) (c3 9 (by decide))⟩
                                                        exact L_m_st170 (t := (p, R, m, dep, op, cnt)) (cnt := cnt) (dep := dep) (R := R) (op := op) (by decide) (H.fr (fun i hi => by rw [c3 0 (by decide), aup_rn (by decide), aup_n (by omega)]) (by rw [c3 7 (by decide), aup_rn (by decide), aup_rn (by decide)])) (hSN.mf F) F (by rw [c2 _ (Or.inl (Int.le_refl _))]; exact aup_s) c1 (fun i i0 i1 i2 => by rw [c2 _ (by omega), aup_n (by omega), aup_rn (by decide)]; exact sR i i0 i1) (by rw [c2 _ (by omega), aup_n (by omega), aup_rn (by decide)]; exact sM) (by rw [c3 0 (by decide), aup_rn (by decide), aup_n (by decide)]; exact s21) (by rw [c3 0 (by decide), aup_rn (by decide), aup_s]; first | rw [if_pos (by omega)] | rw [if_neg (by omega)]) (fun j j0 j1 => by rw [c3 8 (by decide), aup_rn (by decide), aup_rn (by decide)]; exact s8 j j0 j1) ⟨by omega, by omega⟩ (by omega) ⟨b1, b2, b3, b4⟩ (by omega) (by omega) (by omega) (by rw [stepP_eq, if_neg (by omega), if_neg (by omega), if_neg (by omega)]) hF hQ
                                                  · first
                                                      | (exfalso; omega)
                                                      | skip
                                                        refine aw_iconst dX7_step_128 (by decide) ?_
                                                        refine aw_goto (tgt := 133) dX7_step_129 (by decide) ?_
                                                        refine aw_iaddr dX7_step_133 (by omega) ?_
                                                        refine p_X7_232_7 rfl dX7_step_134 m_ob ?_
                                                        refine gm_7 rfl dX7_step_137 dX7_step_138 rfl ?_
                                                        refine aw_iload_n dX7_step_141 rfl ?_
                                                        refine aw_iload_n dX7_step_142 rfl ?_
                                                        refine aw_iastore dX7_step_143 m_a1 (by omega) (by omega) ?_
                                                        refine aw_iconst dX7_step_144 (by decide) ?_
                                                        refine aw_istore5 dX7_step_145 (by decide) rfl ?_
                                                        refine L_m_stz (by decide) ⟨by omega, by omega⟩ (fun cm1 x5 c1 c2 c3 => ?_) 5 1 _ (by decide) (by decide) (fun i i0 i1 => by omega) (fun _ _ => rfl) (fun _ _ => rfl)
                                                        have F : MF cm cm1 := (MF.up1 (i := 5780 + 6 * m) (MF.up0 (i := 22) MF.rf (by decide)) (by omega)).trans ⟨fun i _ => by rw [c3 0 (by decide)], fun b hb => c3 b (by omega), fun i hi => c2 i (Or.inl (by omega)), fun i _ => by rw [c3 2 (by decide)], fun f => f.eq (by rw [c3 0 (by decide)]) (c3 9 (by decide))⟩
                                                        exact L_m_st170 (t := (p, R, m, dep, op, cnt)) (cnt := cnt) (dep := dep) (R := R) (op := op) (by decide) (H.fr (fun i hi => by rw [c3 0 (by decide), aup_rn (by decide), aup_n (by omega)]) (by rw [c3 7 (by decide), aup_rn (by decide), aup_rn (by decide)])) (hSN.mf F) F (by rw [c2 _ (Or.inl (Int.le_refl _))]; exact aup_s) c1 (fun i i0 i1 i2 => by rw [c2 _ (by omega), aup_n (by omega), aup_rn (by decide)]; exact sR i i0 i1) (by rw [c2 _ (by omega), aup_n (by omega), aup_rn (by decide)]; exact sM) (by rw [c3 0 (by decide), aup_rn (by decide), aup_n (by decide)]; exact s21) (by rw [c3 0 (by decide), aup_rn (by decide), aup_s]; first | rw [if_pos (by omega)] | rw [if_neg (by omega)]) (fun j j0 j1 => by rw [c3 8 (by decide), aup_rn (by decide), aup_rn (by decide)]; exact s8 j j0 j1) ⟨by omega, by omega⟩ (by omega) ⟨b1, b2, b3, b4⟩ (by omega) (by omega) (by omega) (by rw [stepP_eq, if_neg (by omega), if_neg (by omega), if_neg (by omega)]) hF hQ
                                            · first
                                                | (exfalso; omega)
                                                | skip
                                                  refine gm_229 rfl dX7_step_102 dX7_step_103 rfl ?_
                                                  rw [s21]
                                                  refine aw_iconst dX7_step_106 (by decide) ?_
                                                  refine aw_icmpne (tgt := 117) dX7_step_107 (by decide) (fun h107 => ?_) (fun h107 => ?_)
                                                  · first
                                                      | (exfalso; omega)
                                                      | skip
                                                        refine aw_aload_n dX7_step_117 rfl ?_
                                                        refine aw_dup dX7_step_118 rfl ?_
                                                        refine g_X7_232_7 rfl dX7_step_119 m_ob ?_
                                                        rw [s22]
                                                        refine aw_iload_n dX7_step_122 rfl ?_
                                                        refine aw_bipush dX7_step_123 (by decide) ?_
                                                        refine aw_icmpne (tgt := 132) dX7_step_125 (by decide) (fun h125 => ?_) (fun h125 => ?_)
                                                        · first
                                                            | (exfalso; omega)
                                                            | skip
                                                              refine aw_iconst dX7_step_132 (by decide) ?_
                                                              refine aw_iaddr dX7_step_133 (by omega) ?_
                                                              refine p_X7_232_7 rfl dX7_step_134 m_ob ?_
                                                              refine gm_7 rfl dX7_step_137 dX7_step_138 rfl ?_
                                                              refine aw_iload_n dX7_step_141 rfl ?_
                                                              refine aw_iload_n dX7_step_142 rfl ?_
                                                              refine aw_iastore dX7_step_143 m_a1 (by omega) (by omega) ?_
                                                              refine aw_iconst dX7_step_144 (by decide) ?_
                                                              refine aw_istore5 dX7_step_145 (by decide) rfl ?_
                                                              refine L_m_stz (by decide) ⟨by omega, by omega⟩ (fun cm1 x5 c1 c2 c3 => ?_) 5 1 _ (by decide) (by decide) (fun i i0 i1 => by omega) (fun _ _ => rfl) (fun _ _ => rfl)
                                                              have F : MF cm cm1 := (MF.up1 (i := 5780 + 6 * m) (MF.up0 (i := 22) MF.rf (by decide)) (by omega)).trans ⟨fun i _ => by rw [c3 0 (by decide)], fun b hb => c3 b (by omega), fun i hi => c2 i (Or.inl (by omega)), fun i _ => by rw [c3 2 (by decide)], fun f => f.eq (by rw [c3 0 (by decide)]) (c3 9 (by decide))⟩
                                                              exact L_m_st170 (t := (p, R, m, dep, op, cnt)) (cnt := cnt) (dep := dep) (R := R) (op := op) (by decide) (H.fr (fun i hi => by rw [c3 0 (by decide), aup_rn (by decide), aup_n (by omega)]) (by rw [c3 7 (by decide), aup_rn (by decide), aup_rn (by decide)])) (hSN.mf F) F (by rw [c2 _ (Or.inl (Int.le_refl _))]; exact aup_s) c1 (fun i i0 i1 i2 => by rw [c2 _ (by omega), aup_n (by omega), aup_rn (by decide)]; exact sR i i0 i1) (by rw [c2 _ (by omega), aup_n (by omega), aup_rn (by decide)]; exact sM) (by rw [c3 0 (by decide), aup_rn (by decide), aup_n (by decide)]; exact s21) (by rw [c3 0 (by decide), aup_rn (by decide), aup_s]; first | rw [if_pos (by omega)] | rw [if_neg (by omega)]) (fun j j0 j1 => by rw [c3 8 (by decide), aup_rn (by decide), aup_rn (by decide)]; exact s8 j j0 j1) ⟨by omega, by omega⟩ (by omega) ⟨b1, b2, b3, b4⟩ (by omega) (by omega) (by omega) (by rw [stepP_eq, if_neg (by omega), if_neg (by omega), if_neg (by omega)]) hF hQ
                                                        · first
                                                            | (exfalso; omega)
                                                            | skip
                                                              refine aw_iconst dX7_step_128 (by decide) ?_
                                                              refine aw_goto (tgt := 133) dX7_step_129 (by decide) ?_
                                                              refine aw_iaddr dX7_step_133 (by omega) ?_
                                                              refine p_X7_232_7 rfl dX7_step_134 m_ob ?_
                                                              refine gm_7 rfl dX7_step_137 dX7_step_138 rfl ?_
                                                              refine aw_iload_n dX7_step_141 rfl ?_
                                                              refine aw_iload_n dX7_step_142 rfl ?_
                                                              refine aw_iastore dX7_step_143 m_a1 (by omega) (by omega) ?_
                                                              refine aw_iconst dX7_step_144 (by decide) ?_
                                                              refine aw_istore5 dX7_step_145 (by decide) rfl ?_
                                                              refine L_m_stz (by decide) ⟨by omega, by omega⟩ (fun cm1 x5 c1 c2 c3 => ?_) 5 1 _ (by decide) (by decide) (fun i i0 i1 => by omega) (fun _ _ => rfl) (fun _ _ => rfl)
                                                              have F : MF cm cm1 := (MF.up1 (i := 5780 + 6 * m) (MF.up0 (i := 22) MF.rf (by decide)) (by omega)).trans ⟨fun i _ => by rw [c3 0 (by decide)], fun b hb => c3 b (by omega), fun i hi => c2 i (Or.inl (by omega)), fun i _ => by rw [c3 2 (by decide)], fun f => f.eq (by rw [c3 0 (by decide)]) (c3 9 (by decide))⟩
                                                              exact L_m_st170 (t := (p, R, m, dep, op, cnt)) (cnt := cnt) (dep := dep) (R := R) (op := op) (by decide) (H.fr (fun i hi => by rw [c3 0 (by decide), aup_rn (by decide), aup_n (by omega)]) (by rw [c3 7 (by decide), aup_rn (by decide), aup_rn (by decide)])) (hSN.mf F) F (by rw [c2 _ (Or.inl (Int.le_refl _))]; exact aup_s) c1 (fun i i0 i1 i2 => by rw [c2 _ (by omega), aup_n (by omega), aup_rn (by decide)]; exact sR i i0 i1) (by rw [c2 _ (by omega), aup_n (by omega), aup_rn (by decide)]; exact sM) (by rw [c3 0 (by decide), aup_rn (by decide), aup_n (by decide)]; exact s21) (by rw [c3 0 (by decide), aup_rn (by decide), aup_s]; first | rw [if_pos (by omega)] | rw [if_neg (by omega)]) (fun j j0 j1 => by rw [c3 8 (by decide), aup_rn (by decide), aup_rn (by decide)]; exact s8 j j0 j1) ⟨by omega, by omega⟩ (by omega) ⟨b1, b2, b3, b4⟩ (by omega) (by omega) (by omega) (by rw [stepP_eq, if_neg (by omega), if_neg (by omega), if_neg (by omega)]) hF hQ
                                                  · first
                                                      | (exfalso; omega)
                                                      | skip
                                                        refine aw_aload_n dX7_step_110 rfl ?_
                                                        refine aw_bipush dX7_step_111 (by decide) ?_
                                                        refine c_X7_154 rfl dX7_step_113 m_ob (Nat.le_of_ble_eq_true rfl) (by omega) (C_m_fails H (k := 7) (by decide) (fun cm1 hb => ?_))
                                                        refine aK_i ?_
                                                        refine aw_zreturn dX7_step_116 rfl (Or.inl rfl) ?_
                                                        rw [if_neg (by have := hk1 (by omega); omega)] at hb
                                                        exact hF _ _ _ (by rw [stepP_eq, if_neg (by omega), if_neg (by omega)]; exact if_pos (by omega)) hb
                                      · first
                                          | (exfalso; omega)
                                          | skip
                                            refine aw_aload_n dX7_step_90 rfl ?_
                                            refine aw_bipush dX7_step_91 (by decide) ?_
                                            refine c_X7_154 rfl dX7_step_93 m_ob (Nat.le_of_ble_eq_true rfl) (by omega) (C_m_fails H (k := 6) (by decide) (fun cm1 hb => ?_))
                                            refine aK_i ?_
                                            refine aw_zreturn dX7_step_96 rfl (Or.inl rfl) ?_
                                            rw [if_neg (by have := hk1 (by omega); omega)] at hb
                                            exact hF _ _ _ (by rw [stepP_eq, if_neg (by omega)]; exact if_pos (by omega)) hb
                          · first
                              | (exfalso; omega)
                              | skip
                                refine aw_aload_n dX7_step_69 rfl ?_
                                refine aw_iconst dX7_step_70 (by decide) ?_
                                refine c_X7_154 rfl dX7_step_71 m_ob (Nat.le_of_ble_eq_true rfl) (by omega) (C_m_fails H (k := 2) (by decide) (fun cm1 hb => ?_))
                                refine aK_i ?_
                                refine aw_zreturn dX7_step_74 rfl (Or.inl rfl) ?_
                                exact hF _ _ _ (by rw [stepP_eq]; exact if_pos (by omega)) (show MB cm cm1 (wr tp n p) (tF tp n p) from hb)
  · first
      | (exfalso; omega)
      | skip
        refine aw_iload_n dX7_step_31 rfl ?_
        refine aw_bipush dX7_step_32 (by decide) ?_
        refine aw_icmpne (tgt := 41) dX7_step_34 (by decide) (fun h34 => ?_) (fun h34 => ?_)
        · first
            | (exfalso; omega)
            | skip
              refine aw_iconst dX7_step_41 (by decide) ?_
              refine aw_istore4 dX7_step_42 (by decide) rfl ?_
              refine aw_iload_n dX7_step_44 rfl ?_
              refine aw_bipush dX7_step_45 (by decide) ?_
              refine aw_icmplt (tgt := 69) dX7_step_47 (by decide) (fun h47 => ?_) (fun h47 => ?_)
              · first
                  | (exfalso; omega)
                  | skip
                    refine aw_aload_n dX7_step_69 rfl ?_
                    refine aw_iconst dX7_step_70 (by decide) ?_
                    refine c_X7_154 rfl dX7_step_71 m_ob (Nat.le_of_ble_eq_true rfl) (by omega) (C_m_fails H (k := 2) (by decide) (fun cm1 hb => ?_))
                    refine aK_i ?_
                    refine aw_zreturn dX7_step_74 rfl (Or.inl rfl) ?_
                    exact hF _ _ _ (by rw [stepP_eq]; exact if_pos (by omega)) (show MB cm cm1 (wr tp n p) (tF tp n p) from hb)
              · first
                  | (exfalso; omega)
                  | skip
                    refine aw_iload_n dX7_step_50 rfl ?_
                    refine aw_bipush dX7_step_51 (by decide) ?_
                    refine aw_icmpgt (tgt := 69) dX7_step_53 (by decide) (fun h53 => ?_) (fun h53 => ?_)
                    · first
                        | (exfalso; omega)
                        | skip
                          refine aw_aload_n dX7_step_69 rfl ?_
                          refine aw_iconst dX7_step_70 (by decide) ?_
                          refine c_X7_154 rfl dX7_step_71 m_ob (Nat.le_of_ble_eq_true rfl) (by omega) (C_m_fails H (k := 2) (by decide) (fun cm1 hb => ?_))
                          refine aK_i ?_
                          refine aw_zreturn dX7_step_74 rfl (Or.inl rfl) ?_
                          exact hF _ _ _ (by rw [stepP_eq]; exact if_pos (by omega)) (show MB cm cm1 (wr tp n p) (tF tp n p) from hb)
                    · first
                        | (exfalso; omega)
                        | skip
                          refine aw_iload_n dX7_step_56 rfl ?_
                          refine aw_bipush dX7_step_57 (by decide) ?_
                          refine aw_icmpne (tgt := 75) dX7_step_59 (by decide) (fun h59 => ?_) (fun h59 => ?_)
                          · first
                              | (exfalso; omega)
                              | skip
                                refine aw_iload_n dX7_step_75 rfl ?_
                                refine aw_bipush dX7_step_76 (by decide) ?_
                                refine aw_icmpeq (tgt := 97) dX7_step_78 (by decide) (fun h78 => ?_) (fun h78 => ?_)
                                · first
                                    | (exfalso; omega)
                                    | skip
                                      refine aw_iload dX7_step_97 rfl ?_
                                      refine aw_ifeq (tgt := 117) dX7_step_99 (by decide) (fun h99 => ?_) (fun h99 => ?_)
                                      · first
                                          | (exfalso; omega)
                                          | skip
                                            refine aw_aload_n dX7_step_117 rfl ?_
                                            refine aw_dup dX7_step_118 rfl ?_
                                            refine g_X7_232_7 rfl dX7_step_119 m_ob ?_
                                            rw [s22]
                                            refine aw_iload_n dX7_step_122 rfl ?_
                                            refine aw_bipush dX7_step_123 (by decide) ?_
                                            refine aw_icmpne (tgt := 132) dX7_step_125 (by decide) (fun h125 => ?_) (fun h125 => ?_)
                                            · first
                                                | (exfalso; omega)
                                                | skip
                                                  refine aw_iconst dX7_step_132 (by decide) ?_
                                                  refine aw_iaddr dX7_step_133 (by omega) ?_
                                                  refine p_X7_232_7 rfl dX7_step_134 m_ob ?_
                                                  refine gm_7 rfl dX7_step_137 dX7_step_138 rfl ?_
                                                  refine aw_iload_n dX7_step_141 rfl ?_
                                                  refine aw_iload_n dX7_step_142 rfl ?_
                                                  refine aw_iastore dX7_step_143 m_a1 (by omega) (by omega) ?_
                                                  refine aw_iconst dX7_step_144 (by decide) ?_
                                                  refine aw_istore5 dX7_step_145 (by decide) rfl ?_
                                                  refine L_m_stz (by decide) ⟨by omega, by omega⟩ (fun cm1 x5 c1 c2 c3 => ?_) 5 1 _ (by decide) (by decide) (fun i i0 i1 => by omega) (fun _ _ => rfl) (fun _ _ => rfl)
                                                  have F : MF cm cm1 := (MF.up1 (i := 5780 + 6 * m) (MF.up0 (i := 22) MF.rf (by decide)) (by omega)).trans ⟨fun i _ => by rw [c3 0 (by decide)], fun b hb => c3 b (by omega), fun i hi => c2 i (Or.inl (by omega)), fun i _ => by rw [c3 2 (by decide)], fun f => f.eq (by rw [c3 0 (by decide)]) (c3 9 (by decide))⟩
                                                  exact L_m_st170 (t := (p, R, m, dep, op, cnt)) (cnt := cnt) (dep := dep) (R := R) (op := op) (by decide) (H.fr (fun i hi => by rw [c3 0 (by decide), aup_rn (by decide), aup_n (by omega)]) (by rw [c3 7 (by decide), aup_rn (by decide), aup_rn (by decide)])) (hSN.mf F) F (by rw [c2 _ (Or.inl (Int.le_refl _))]; exact aup_s) c1 (fun i i0 i1 i2 => by rw [c2 _ (by omega), aup_n (by omega), aup_rn (by decide)]; exact sR i i0 i1) (by rw [c2 _ (by omega), aup_n (by omega), aup_rn (by decide)]; exact sM) (by rw [c3 0 (by decide), aup_rn (by decide), aup_n (by decide)]; exact s21) (by rw [c3 0 (by decide), aup_rn (by decide), aup_s]; first | rw [if_pos (by omega)] | rw [if_neg (by omega)]) (fun j j0 j1 => by rw [c3 8 (by decide), aup_rn (by decide), aup_rn (by decide)]; exact s8 j j0 j1) ⟨by omega, by omega⟩ (by omega) ⟨b1, b2, b3, b4⟩ (by omega) (by omega) (by omega) (by rw [stepP_eq, if_neg (by omega), if_neg (by omega), if_neg (by omega)]) hF hQ
                                            · first
                                                | (exfalso; omega)
                                                | skip
                                                  refine aw_iconst dX7_step_128 (by decide) ?_
                                                  refine aw_goto (tgt := 133) dX7_step_129 (by decide) ?_
                                                  refine aw_iaddr dX7_step_133 (by omega) ?_
                                                  refine p_X7_232_7 rfl dX7_step_134 m_ob ?_
                                                  refine gm_7 rfl dX7_step_137 dX7_step_138 rfl ?_
                                                  refine aw_iload_n dX7_step_141 rfl ?_
                                                  refine aw_iload_n dX7_step_142 rfl ?_
                                                  refine aw_iastore dX7_step_143 m_a1 (by omega) (by omega) ?_
                                                  refine aw_iconst dX7_step_144 (by decide) ?_
                                                  refine aw_istore5 dX7_step_145 (by decide) rfl ?_
                                                  refine L_m_stz (by decide) ⟨by omega, by omega⟩ (fun cm1 x5 c1 c2 c3 => ?_) 5 1 _ (by decide) (by decide) (fun i i0 i1 => by omega) (fun _ _ => rfl) (fun _ _ => rfl)
                                                  have F : MF cm cm1 := (MF.up1 (i := 5780 + 6 * m) (MF.up0 (i := 22) MF.rf (by decide)) (by omega)).trans ⟨fun i _ => by rw [c3 0 (by decide)], fun b hb => c3 b (by omega), fun i hi => c2 i (Or.inl (by omega)), fun i _ => by rw [c3 2 (by decide)], fun f => f.eq (by rw [c3 0 (by decide)]) (c3 9 (by decide))⟩
                                                  exact L_m_st170 (t := (p, R, m, dep, op, cnt)) (cnt := cnt) (dep := dep) (R := R) (op := op) (by decide) (H.fr (fun i hi => by rw [c3 0 (by decide), aup_rn (by decide), aup_n (by omega)]) (by rw [c3 7 (by decide), aup_rn (by decide), aup_rn (by decide)])) (hSN.mf F) F (by rw [c2 _ (Or.inl (Int.le_refl _))]; exact aup_s) c1 (fun i i0 i1 i2 => by rw [c2 _ (by omega), aup_n (by omega), aup_rn (by decide)]; exact sR i i0 i1) (by rw [c2 _ (by omega), aup_n (by omega), aup_rn (by decide)]; exact sM) (by rw [c3 0 (by decide), aup_rn (by decide), aup_n (by decide)]; exact s21) (by rw [c3 0 (by decide), aup_rn (by decide), aup_s]; first | rw [if_pos (by omega)] | rw [if_neg (by omega)]) (fun j j0 j1 => by rw [c3 8 (by decide), aup_rn (by decide), aup_rn (by decide)]; exact s8 j j0 j1) ⟨by omega, by omega⟩ (by omega) ⟨b1, b2, b3, b4⟩ (by omega) (by omega) (by omega) (by rw [stepP_eq, if_neg (by omega), if_neg (by omega), if_neg (by omega)]) hF hQ
                                      · first
                                          | (exfalso; omega)
                                          | skip
                                            refine gm_229 rfl dX7_step_102 dX7_step_103 rfl ?_
                                            rw [s21]
                                            refine aw_iconst dX7_step_106 (by decide) ?_
                                            refine aw_icmpne (tgt := 117) dX7_step_107 (by decide) (fun h107 => ?_) (fun h107 => ?_)
                                            · first
                                                | (exfalso; omega)
                                                | skip
                                                  refine aw_aload_n dX7_step_117 rfl ?_
                                                  refine aw_dup dX7_step_118 rfl ?_
                                                  refine g_X7_232_7 rfl dX7_step_119 m_ob ?_
                                                  rw [s22]
                                                  refine aw_iload_n dX7_step_122 rfl ?_
                                                  refine aw_bipush dX7_step_123 (by decide) ?_
                                                  refine aw_icmpne (tgt := 132) dX7_step_125 (by decide) (fun h125 => ?_) (fun h125 => ?_)
                                                  · first
                                                      | (exfalso; omega)
                                                      | skip
                                                        refine aw_iconst dX7_step_132 (by decide) ?_
                                                        refine aw_iaddr dX7_step_133 (by omega) ?_
                                                        refine p_X7_232_7 rfl dX7_step_134 m_ob ?_
                                                        refine gm_7 rfl dX7_step_137 dX7_step_138 rfl ?_
                                                        refine aw_iload_n dX7_step_141 rfl ?_
                                                        refine aw_iload_n dX7_step_142 rfl ?_
                                                        refine aw_iastore dX7_step_143 m_a1 (by omega) (by omega) ?_
                                                        refine aw_iconst dX7_step_144 (by decide) ?_
                                                        refine aw_istore5 dX7_step_145 (by decide) rfl ?_
                                                        refine L_m_stz (by decide) ⟨by omega, by omega⟩ (fun cm1 x5 c1 c2 c3 => ?_) 5 1 _ (by decide) (by decide) (fun i i0 i1 => by omega) (fun _ _ => rfl) (fun _ _ => rfl)
                                                        have F : MF cm cm1 := (MF.up1 (i := 5780 + 6 * m) (MF.up0 (i := 22) MF.rf (by decide)) (by omega)).trans ⟨fun i _ => by rw [c3 0 (by decide)], fun b hb => c3 b (by omega), fun i hi => c2 i (Or.inl (by omega)), fun i _ => by rw [c3 2 (by decide)], fun f => f.eq (by rw [c3 0 (by decide)]) (c3 9 (by decide))⟩
                                                        exact L_m_st170 (t := (p, R, m, dep, op, cnt)) (cnt := cnt) (dep := dep) (R := R) (op := op) (by decide) (H.fr (fun i hi => by rw [c3 0 (by decide), aup_rn (by decide), aup_n (by omega)]) (by rw [c3 7 (by decide), aup_rn (by decide), aup_rn (by decide)])) (hSN.mf F) F (by rw [c2 _ (Or.inl (Int.le_refl _))]; exact aup_s) c1 (fun i i0 i1 i2 => by rw [c2 _ (by omega), aup_n (by omega), aup_rn (by decide)]; exact sR i i0 i1) (by rw [c2 _ (by omega), aup_n (by omega), aup_rn (by decide)]; exact sM) (by rw [c3 0 (by decide), aup_rn (by decide), aup_n (by decide)]; exact s21) (by rw [c3 0 (by decide), aup_rn (by decide), aup_s]; first | rw [if_pos (by omega)] | rw [if_neg (by omega)]) (fun j j0 j1 => by rw [c3 8 (by decide), aup_rn (by decide), aup_rn (by decide)]; exact s8 j j0 j1) ⟨by omega, by omega⟩ (by omega) ⟨b1, b2, b3, b4⟩ (by omega) (by omega) (by omega) (by rw [stepP_eq, if_neg (by omega), if_neg (by omega), if_neg (by omega)]) hF hQ
                                                  · first
                                                      | (exfalso; omega)
                                                      | skip
                                                        refine aw_iconst dX7_step_128 (by decide) ?_
                                                        refine aw_goto (tgt := 133) dX7_step_129 (by decide) ?_
                                                        refine aw_iaddr dX7_step_133 (by omega) ?_
                                                        refine p_X7_232_7 rfl dX7_step_134 m_ob ?_
                                                        refine gm_7 rfl dX7_step_137 dX7_step_138 rfl ?_
                                                        refine aw_iload_n dX7_step_141 rfl ?_
                                                        refine aw_iload_n dX7_step_142 rfl ?_
                                                        refine aw_iastore dX7_step_143 m_a1 (by omega) (by omega) ?_
                                                        refine aw_iconst dX7_step_144 (by decide) ?_
                                                        refine aw_istore5 dX7_step_145 (by decide) rfl ?_
                                                        refine L_m_stz (by decide) ⟨by omega, by omega⟩ (fun cm1 x5 c1 c2 c3 => ?_) 5 1 _ (by decide) (by decide) (fun i i0 i1 => by omega) (fun _ _ => rfl) (fun _ _ => rfl)
                                                        have F : MF cm cm1 := (MF.up1 (i := 5780 + 6 * m) (MF.up0 (i := 22) MF.rf (by decide)) (by omega)).trans ⟨fun i _ => by rw [c3 0 (by decide)], fun b hb => c3 b (by omega), fun i hi => c2 i (Or.inl (by omega)), fun i _ => by rw [c3 2 (by decide)], fun f => f.eq (by rw [c3 0 (by decide)]) (c3 9 (by decide))⟩
                                                        exact L_m_st170 (t := (p, R, m, dep, op, cnt)) (cnt := cnt) (dep := dep) (R := R) (op := op) (by decide) (H.fr (fun i hi => by rw [c3 0 (by decide), aup_rn (by decide), aup_n (by omega)]) (by rw [c3 7 (by decide), aup_rn (by decide), aup_rn (by decide)])) (hSN.mf F) F (by rw [c2 _ (Or.inl (Int.le_refl _))]; exact aup_s) c1 (fun i i0 i1 i2 => by rw [c2 _ (by omega), aup_n (by omega), aup_rn (by decide)]; exact sR i i0 i1) (by rw [c2 _ (by omega), aup_n (by omega), aup_rn (by decide)]; exact sM) (by rw [c3 0 (by decide), aup_rn (by decide), aup_n (by decide)]; exact s21) (by rw [c3 0 (by decide), aup_rn (by decide), aup_s]; first | rw [if_pos (by omega)] | rw [if_neg (by omega)]) (fun j j0 j1 => by rw [c3 8 (by decide), aup_rn (by decide), aup_rn (by decide)]; exact s8 j j0 j1) ⟨by omega, by omega⟩ (by omega) ⟨b1, b2, b3, b4⟩ (by omega) (by omega) (by omega) (by rw [stepP_eq, if_neg (by omega), if_neg (by omega), if_neg (by omega)]) hF hQ
                                            · first
                                                | (exfalso; omega)
                                                | skip
                                                  refine aw_aload_n dX7_step_110 rfl ?_
                                                  refine aw_bipush dX7_step_111 (by decide) ?_
                                                  refine c_X7_154 rfl dX7_step_113 m_ob (Nat.le_of_ble_eq_true rfl) (by omega) (C_m_fails H (k := 7) (by decide) (fun cm1 hb => ?_))
                                                  refine aK_i ?_
                                                  refine aw_zreturn dX7_step_116 rfl (Or.inl rfl) ?_
                                                  rw [if_neg (by have := hk1 (by omega); omega)] at hb
                                                  exact hF _ _ _ (by rw [stepP_eq, if_neg (by omega), if_neg (by omega)]; exact if_pos (by omega)) hb
                                · first
                                    | (exfalso; omega)
                                    | skip
                                      refine gm_232 rfl dX7_step_81 dX7_step_82 rfl ?_
                                      rw [s22]
                                      refine aw_bipush dX7_step_85 (by decide) ?_
                                      refine aw_icmpne (tgt := 97) dX7_step_87 (by decide) (fun h87 => ?_) (fun h87 => ?_)
                                      · first
                                          | (exfalso; omega)
                                          | skip
                                            refine aw_iload dX7_step_97 rfl ?_
                                            refine aw_ifeq (tgt := 117) dX7_step_99 (by decide) (fun h99 => ?_) (fun h99 => ?_)
                                            · first
                                                | (exfalso; omega)
                                                | skip
                                                  refine aw_aload_n dX7_step_117 rfl ?_
                                                  refine aw_dup dX7_step_118 rfl ?_
                                                  refine g_X7_232_7 rfl dX7_step_119 m_ob ?_
                                                  rw [s22]
                                                  refine aw_iload_n dX7_step_122 rfl ?_
                                                  refine aw_bipush dX7_step_123 (by decide) ?_
                                                  refine aw_icmpne (tgt := 132) dX7_step_125 (by decide) (fun h125 => ?_) (fun h125 => ?_)
                                                  · first
                                                      | (exfalso; omega)
                                                      | skip
                                                        refine aw_iconst dX7_step_132 (by decide) ?_
                                                        refine aw_iaddr dX7_step_133 (by omega) ?_
                                                        refine p_X7_232_7 rfl dX7_step_134 m_ob ?_
                                                        refine gm_7 rfl dX7_step_137 dX7_step_138 rfl ?_
                                                        refine aw_iload_n dX7_step_141 rfl ?_
                                                        refine aw_iload_n dX7_step_142 rfl ?_
                                                        refine aw_iastore dX7_step_143 m_a1 (by omega) (by omega) ?_
                                                        refine aw_iconst dX7_step_144 (by decide) ?_
                                                        refine aw_istore5 dX7_step_145 (by decide) rfl ?_
                                                        refine L_m_stz (by decide) ⟨by omega, by omega⟩ (fun cm1 x5 c1 c2 c3 => ?_) 5 1 _ (by decide) (by decide) (fun i i0 i1 => by omega) (fun _ _ => rfl) (fun _ _ => rfl)
                                                        have F : MF cm cm1 := (MF.up1 (i := 5780 + 6 * m) (MF.up0 (i := 22) MF.rf (by decide)) (by omega)).trans ⟨fun i _ => by rw [c3 0 (by decide)], fun b hb => c3 b (by omega), fun i hi => c2 i (Or.inl (by omega)), fun i _ => by rw [c3 2 (by decide)], fun f => f.eq (by rw [c3 0 (by decide)]) (c3 9 (by decide))⟩
                                                        exact L_m_st170 (t := (p, R, m, dep, op, cnt)) (cnt := cnt) (dep := dep) (R := R) (op := op) (by decide) (H.fr (fun i hi => by rw [c3 0 (by decide), aup_rn (by decide), aup_n (by omega)]) (by rw [c3 7 (by decide), aup_rn (by decide), aup_rn (by decide)])) (hSN.mf F) F (by rw [c2 _ (Or.inl (Int.le_refl _))]; exact aup_s) c1 (fun i i0 i1 i2 => by rw [c2 _ (by omega), aup_n (by omega), aup_rn (by decide)]; exact sR i i0 i1) (by rw [c2 _ (by omega), aup_n (by omega), aup_rn (by decide)]; exact sM) (by rw [c3 0 (by decide), aup_rn (by decide), aup_n (by decide)]; exact s21) (by rw [c3 0 (by decide), aup_rn (by decide), aup_s]; first | rw [if_pos (by omega)] | rw [if_neg (by omega)]) (fun j j0 j1 => by rw [c3 8 (by decide), aup_rn (by decide), aup_rn (by decide)]; exact s8 j j0 j1) ⟨by omega, by omega⟩ (by omega) ⟨b1, b2, b3, b4⟩ (by omega) (by omega) (by omega) (by rw [stepP_eq, if_neg (by omega), if_neg (by omega), if_neg (by omega)]) hF hQ
                                                  · first
                                                      | (exfalso; omega)
                                                      | skip
                                                        refine aw_iconst dX7_step_128 (by decide) ?_
                                                        refine aw_goto (tgt := 133) dX7_step_129 (by decide) ?_
                                                        refine aw_iaddr dX7_step_133 (by omega) ?_
                                                        refine p_X7_232_7 rfl dX7_step_134 m_ob ?_
                                                        refine gm_7 rfl dX7_step_137 dX7_step_138 rfl ?_
                                                        refine aw_iload_n dX7_step_141 rfl ?_
                                                        refine aw_iload_n dX7_step_142 rfl ?_
                                                        refine aw_iastore dX7_step_143 m_a1 (by omega) (by omega) ?_
                                                        refine aw_iconst dX7_step_144 (by decide) ?_
                                                        refine aw_istore5 dX7_step_145 (by decide) rfl ?_
                                                        refine L_m_stz (by decide) ⟨by omega, by omega⟩ (fun cm1 x5 c1 c2 c3 => ?_) 5 1 _ (by decide) (by decide) (fun i i0 i1 => by omega) (fun _ _ => rfl) (fun _ _ => rfl)
                                                        have F : MF cm cm1 := (MF.up1 (i := 5780 + 6 * m) (MF.up0 (i := 22) MF.rf (by decide)) (by omega)).trans ⟨fun i _ => by rw [c3 0 (by decide)], fun b hb => c3 b (by omega), fun i hi => c2 i (Or.inl (by omega)), fun i _ => by rw [c3 2 (by decide)], fun f => f.eq (by rw [c3 0 (by decide)]) (c3 9 (by decide))⟩
                                                        exact L_m_st170 (t := (p, R, m, dep, op, cnt)) (cnt := cnt) (dep := dep) (R := R) (op := op) (by decide) (H.fr (fun i hi => by rw [c3 0 (by decide), aup_rn (by decide), aup_n (by omega)]) (by rw [c3 7 (by decide), aup_rn (by decide), aup_rn (by decide)])) (hSN.mf F) F (by rw [c2 _ (Or.inl (Int.le_refl _))]; exact aup_s) c1 (fun i i0 i1 i2 => by rw [c2 _ (by omega), aup_n (by omega), aup_rn (by decide)]; exact sR i i0 i1) (by rw [c2 _ (by omega), aup_n (by omega), aup_rn (by decide)]; exact sM) (by rw [c3 0 (by decide), aup_rn (by decide), aup_n (by decide)]; exact s21) (by rw [c3 0 (by decide), aup_rn (by decide), aup_s]; first | rw [if_pos (by omega)] | rw [if_neg (by omega)]) (fun j j0 j1 => by rw [c3 8 (by decide), aup_rn (by decide), aup_rn (by decide)]; exact s8 j j0 j1) ⟨by omega, by omega⟩ (by omega) ⟨b1, b2, b3, b4⟩ (by omega) (by omega) (by omega) (by rw [stepP_eq, if_neg (by omega), if_neg (by omega), if_neg (by omega)]) hF hQ
                                            · first
                                                | (exfalso; omega)
                                                | skip
                                                  refine gm_229 rfl dX7_step_102 dX7_step_103 rfl ?_
                                                  rw [s21]
                                                  refine aw_iconst dX7_step_106 (by decide) ?_
                                                  refine aw_icmpne (tgt := 117) dX7_step_107 (by decide) (fun h107 => ?_) (fun h107 => ?_)
                                                  · first
                                                      | (exfalso; omega)
                                                      | skip
                                                        refine aw_aload_n dX7_step_117 rfl ?_
                                                        refine aw_dup dX7_step_118 rfl ?_
                                                        refine g_X7_232_7 rfl dX7_step_119 m_ob ?_
                                                        rw [s22]
                                                        refine aw_iload_n dX7_step_122 rfl ?_
                                                        refine aw_bipush dX7_step_123 (by decide) ?_
                                                        refine aw_icmpne (tgt := 132) dX7_step_125 (by decide) (fun h125 => ?_) (fun h125 => ?_)
                                                        · first
                                                            | (exfalso; omega)
                                                            | skip
                                                              refine aw_iconst dX7_step_132 (by decide) ?_
                                                              refine aw_iaddr dX7_step_133 (by omega) ?_
                                                              refine p_X7_232_7 rfl dX7_step_134 m_ob ?_
                                                              refine gm_7 rfl dX7_step_137 dX7_step_138 rfl ?_
                                                              refine aw_iload_n dX7_step_141 rfl ?_
                                                              refine aw_iload_n dX7_step_142 rfl ?_
                                                              refine aw_iastore dX7_step_143 m_a1 (by omega) (by omega) ?_
                                                              refine aw_iconst dX7_step_144 (by decide) ?_
                                                              refine aw_istore5 dX7_step_145 (by decide) rfl ?_
                                                              refine L_m_stz (by decide) ⟨by omega, by omega⟩ (fun cm1 x5 c1 c2 c3 => ?_) 5 1 _ (by decide) (by decide) (fun i i0 i1 => by omega) (fun _ _ => rfl) (fun _ _ => rfl)
                                                              have F : MF cm cm1 := (MF.up1 (i := 5780 + 6 * m) (MF.up0 (i := 22) MF.rf (by decide)) (by omega)).trans ⟨fun i _ => by rw [c3 0 (by decide)], fun b hb => c3 b (by omega), fun i hi => c2 i (Or.inl (by omega)), fun i _ => by rw [c3 2 (by decide)], fun f => f.eq (by rw [c3 0 (by decide)]) (c3 9 (by decide))⟩
                                                              exact L_m_st170 (t := (p, R, m, dep, op, cnt)) (cnt := cnt) (dep := dep) (R := R) (op := op) (by decide) (H.fr (fun i hi => by rw [c3 0 (by decide), aup_rn (by decide), aup_n (by omega)]) (by rw [c3 7 (by decide), aup_rn (by decide), aup_rn (by decide)])) (hSN.mf F) F (by rw [c2 _ (Or.inl (Int.le_refl _))]; exact aup_s) c1 (fun i i0 i1 i2 => by rw [c2 _ (by omega), aup_n (by omega), aup_rn (by decide)]; exact sR i i0 i1) (by rw [c2 _ (by omega), aup_n (by omega), aup_rn (by decide)]; exact sM) (by rw [c3 0 (by decide), aup_rn (by decide), aup_n (by decide)]; exact s21) (by rw [c3 0 (by decide), aup_rn (by decide), aup_s]; first | rw [if_pos (by omega)] | rw [if_neg (by omega)]) (fun j j0 j1 => by rw [c3 8 (by decide), aup_rn (by decide), aup_rn (by decide)]; exact s8 j j0 j1) ⟨by omega, by omega⟩ (by omega) ⟨b1, b2, b3, b4⟩ (by omega) (by omega) (by omega) (by rw [stepP_eq, if_neg (by omega), if_neg (by omega), if_neg (by omega)]) hF hQ
                                                        · first
                                                            | (exfalso; omega)
                                                            | skip
                                                              refine aw_iconst dX7_step_128 (by decide) ?_
                                                              refine aw_goto (tgt := 133) dX7_step_129 (by decide) ?_
                                                              refine aw_iaddr dX7_step_133 (by omega) ?_
                                                              refine p_X7_232_7 rfl dX7_step_134 m_ob ?_
                                                              refine gm_7 rfl dX7_step_137 dX7_step_138 rfl ?_
                                                              refine aw_iload_n dX7_step_141 rfl ?_
                                                              refine aw_iload_n dX7_step_142 rfl ?_
                                                              refine aw_iastore dX7_step_143 m_a1 (by omega) (by omega) ?_
                                                              refine aw_iconst dX7_step_144 (by decide) ?_
                                                              refine aw_istore5 dX7_step_145 (by decide) rfl ?_
                                                              refine L_m_stz (by decide) ⟨by omega, by omega⟩ (fun cm1 x5 c1 c2 c3 => ?_) 5 1 _ (by decide) (by decide) (fun i i0 i1 => by omega) (fun _ _ => rfl) (fun _ _ => rfl)
                                                              have F : MF cm cm1 := (MF.up1 (i := 5780 + 6 * m) (MF.up0 (i := 22) MF.rf (by decide)) (by omega)).trans ⟨fun i _ => by rw [c3 0 (by decide)], fun b hb => c3 b (by omega), fun i hi => c2 i (Or.inl (by omega)), fun i _ => by rw [c3 2 (by decide)], fun f => f.eq (by rw [c3 0 (by decide)]) (c3 9 (by decide))⟩
                                                              exact L_m_st170 (t := (p, R, m, dep, op, cnt)) (cnt := cnt) (dep := dep) (R := R) (op := op) (by decide) (H.fr (fun i hi => by rw [c3 0 (by decide), aup_rn (by decide), aup_n (by omega)]) (by rw [c3 7 (by decide), aup_rn (by decide), aup_rn (by decide)])) (hSN.mf F) F (by rw [c2 _ (Or.inl (Int.le_refl _))]; exact aup_s) c1 (fun i i0 i1 i2 => by rw [c2 _ (by omega), aup_n (by omega), aup_rn (by decide)]; exact sR i i0 i1) (by rw [c2 _ (by omega), aup_n (by omega), aup_rn (by decide)]; exact sM) (by rw [c3 0 (by decide), aup_rn (by decide), aup_n (by decide)]; exact s21) (by rw [c3 0 (by decide), aup_rn (by decide), aup_s]; first | rw [if_pos (by omega)] | rw [if_neg (by omega)]) (fun j j0 j1 => by rw [c3 8 (by decide), aup_rn (by decide), aup_rn (by decide)]; exact s8 j j0 j1) ⟨by omega, by omega⟩ (by omega) ⟨b1, b2, b3, b4⟩ (by omega) (by omega) (by omega) (by rw [stepP_eq, if_neg (by omega), if_neg (by omega), if_neg (by omega)]) hF hQ
                                                  · first
                                                      | (exfalso; omega)
                                                      | skip
                                                        refine aw_aload_n dX7_step_110 rfl ?_
                                                        refine aw_bipush dX7_step_111 (by decide) ?_
                                                        refine c_X7_154 rfl dX7_step_113 m_ob (Nat.le_of_ble_eq_true rfl) (by omega) (C_m_fails H (k := 7) (by decide) (fun cm1 hb => ?_))
                                                        refine aK_i ?_
                                                        refine aw_zreturn dX7_step_116 rfl (Or.inl rfl) ?_
                                                        rw [if_neg (by have := hk1 (by omega); omega)] at hb
                                                        exact hF _ _ _ (by rw [stepP_eq, if_neg (by omega), if_neg (by omega)]; exact if_pos (by omega)) hb
                                      · first
                                          | (exfalso; omega)
                                          | skip
                                            refine aw_aload_n dX7_step_90 rfl ?_
                                            refine aw_bipush dX7_step_91 (by decide) ?_
                                            refine c_X7_154 rfl dX7_step_93 m_ob (Nat.le_of_ble_eq_true rfl) (by omega) (C_m_fails H (k := 6) (by decide) (fun cm1 hb => ?_))
                                            refine aK_i ?_
                                            refine aw_zreturn dX7_step_96 rfl (Or.inl rfl) ?_
                                            rw [if_neg (by have := hk1 (by omega); omega)] at hb
                                            exact hF _ _ _ (by rw [stepP_eq, if_neg (by omega)]; exact if_pos (by omega)) hb
                          · first
                              | (exfalso; omega)
                              | skip
                                refine gm_229 rfl dX7_step_62 dX7_step_63 rfl ?_
                                rw [s21]
                                refine aw_ifne (tgt := 75) dX7_step_66 (by decide) (fun h66 => ?_) (fun h66 => ?_)
                                · first
                                    | (exfalso; omega)
                                    | skip
                                      refine aw_iload_n dX7_step_75 rfl ?_
                                      refine aw_bipush dX7_step_76 (by decide) ?_
                                      refine aw_icmpeq (tgt := 97) dX7_step_78 (by decide) (fun h78 => ?_) (fun h78 => ?_)
                                      · first
                                          | (exfalso; omega)
                                          | skip
                                            refine aw_iload dX7_step_97 rfl ?_
                                            refine aw_ifeq (tgt := 117) dX7_step_99 (by decide) (fun h99 => ?_) (fun h99 => ?_)
                                            · first
                                                | (exfalso; omega)
                                                | skip
                                                  refine aw_aload_n dX7_step_117 rfl ?_
                                                  refine aw_dup dX7_step_118 rfl ?_
                                                  refine g_X7_232_7 rfl dX7_step_119 m_ob ?_
                                                  rw [s22]
                                                  refine aw_iload_n dX7_step_122 rfl ?_
                                                  refine aw_bipush dX7_step_123 (by decide) ?_
                                                  refine aw_icmpne (tgt := 132) dX7_step_125 (by decide) (fun h125 => ?_) (fun h125 => ?_)
                                                  · first
                                                      | (exfalso; omega)
                                                      | skip
                                                        refine aw_iconst dX7_step_132 (by decide) ?_
                                                        refine aw_iaddr dX7_step_133 (by omega) ?_
                                                        refine p_X7_232_7 rfl dX7_step_134 m_ob ?_
                                                        refine gm_7 rfl dX7_step_137 dX7_step_138 rfl ?_
                                                        refine aw_iload_n dX7_step_141 rfl ?_
                                                        refine aw_iload_n dX7_step_142 rfl ?_
                                                        refine aw_iastore dX7_step_143 m_a1 (by omega) (by omega) ?_
                                                        refine aw_iconst dX7_step_144 (by decide) ?_
                                                        refine aw_istore5 dX7_step_145 (by decide) rfl ?_
                                                        refine L_m_stz (by decide) ⟨by omega, by omega⟩ (fun cm1 x5 c1 c2 c3 => ?_) 5 1 _ (by decide) (by decide) (fun i i0 i1 => by omega) (fun _ _ => rfl) (fun _ _ => rfl)
                                                        have F : MF cm cm1 := (MF.up1 (i := 5780 + 6 * m) (MF.up0 (i := 22) MF.rf (by decide)) (by omega)).trans ⟨fun i _ => by rw [c3 0 (by decide)], fun b hb => c3 b (by omega), fun i hi => c2 i (Or.inl (by omega)), fun i _ => by rw [c3 2 (by decide)], fun f => f.eq (by rw [c3 0 (by decide)]) (c3 9 (by decide))⟩
                                                        exact L_m_st170 (t := (p, R, m, dep, op, cnt)) (cnt := cnt) (dep := dep) (R := R) (op := op) (by decide) (H.fr (fun i hi => by rw [c3 0 (by decide), aup_rn (by decide), aup_n (by omega)]) (by rw [c3 7 (by decide), aup_rn (by decide), aup_rn (by decide)])) (hSN.mf F) F (by rw [c2 _ (Or.inl (Int.le_refl _))]; exact aup_s) c1 (fun i i0 i1 i2 => by rw [c2 _ (by omega), aup_n (by omega), aup_rn (by decide)]; exact sR i i0 i1) (by rw [c2 _ (by omega), aup_n (by omega), aup_rn (by decide)]; exact sM) (by rw [c3 0 (by decide), aup_rn (by decide), aup_n (by decide)]; exact s21) (by rw [c3 0 (by decide), aup_rn (by decide), aup_s]; first | rw [if_pos (by omega)] | rw [if_neg (by omega)]) (fun j j0 j1 => by rw [c3 8 (by decide), aup_rn (by decide), aup_rn (by decide)]; exact s8 j j0 j1) ⟨by omega, by omega⟩ (by omega) ⟨b1, b2, b3, b4⟩ (by omega) (by omega) (by omega) (by rw [stepP_eq, if_neg (by omega), if_neg (by omega), if_neg (by omega)]) hF hQ
                                                  · first
                                                      | (exfalso; omega)
                                                      | skip
                                                        refine aw_iconst dX7_step_128 (by decide) ?_
                                                        refine aw_goto (tgt := 133) dX7_step_129 (by decide) ?_
                                                        refine aw_iaddr dX7_step_133 (by omega) ?_
                                                        refine p_X7_232_7 rfl dX7_step_134 m_ob ?_
                                                        refine gm_7 rfl dX7_step_137 dX7_step_138 rfl ?_
                                                        refine aw_iload_n dX7_step_141 rfl ?_
                                                        refine aw_iload_n dX7_step_142 rfl ?_
                                                        refine aw_iastore dX7_step_143 m_a1 (by omega) (by omega) ?_
                                                        refine aw_iconst dX7_step_144 (by decide) ?_
                                                        refine aw_istore5 dX7_step_145 (by decide) rfl ?_
                                                        refine L_m_stz (by decide) ⟨by omega, by omega⟩ (fun cm1 x5 c1 c2 c3 => ?_) 5 1 _ (by decide) (by decide) (fun i i0 i1 => by omega) (fun _ _ => rfl) (fun _ _ => rfl)
                                                        have F : MF cm cm1 := (MF.up1 (i := 5780 + 6 * m) (MF.up0 (i := 22) MF.rf (by decide)) (by omega)).trans ⟨fun i _ => by rw [c3 0 (by decide)], fun b hb => c3 b (by omega), fun i hi => c2 i (Or.inl (by omega)), fun i _ => by rw [c3 2 (by decide)], fun f => f.eq (by rw [c3 0 (by decide)]) (c3 9 (by decide))⟩
                                                        exact L_m_st170 (t := (p, R, m, dep, op, cnt)) (cnt := cnt) (dep := dep) (R := R) (op := op) (by decide) (H.fr (fun i hi => by rw [c3 0 (by decide), aup_rn (by decide), aup_n (by omega)]) (by rw [c3 7 (by decide), aup_rn (by decide), aup_rn (by decide)])) (hSN.mf F) F (by rw [c2 _ (Or.inl (Int.le_refl _))]; exact aup_s) c1 (fun i i0 i1 i2 => by rw [c2 _ (by omega), aup_n (by omega), aup_rn (by decide)]; exact sR i i0 i1) (by rw [c2 _ (by omega), aup_n (by omega), aup_rn (by decide)]; exact sM) (by rw [c3 0 (by decide), aup_rn (by decide), aup_n (by decide)]; exact s21) (by rw [c3 0 (by decide), aup_rn (by decide), aup_s]; first | rw [if_pos (by omega)] | rw [if_neg (by omega)]) (fun j j0 j1 => by rw [c3 8 (by decide), aup_rn (by decide), aup_rn (by decide)]; exact s8 j j0 j1) ⟨by omega, by omega⟩ (by omega) ⟨b1, b2, b3, b4⟩ (by omega) (by omega) (by omega) (by rw [stepP_eq, if_neg (by omega), if_neg (by omega), if_neg (by omega)]) hF hQ
                                            · first
                                                | (exfalso; omega)
                                                | skip
                                                  refine gm_229 rfl dX7_step_102 dX7_step_103 rfl ?_
                                                  rw [s21]
                                                  refine aw_iconst dX7_step_106 (by decide) ?_
                                                  refine aw_icmpne (tgt := 117) dX7_step_107 (by decide) (fun h107 => ?_) (fun h107 => ?_)
                                                  · first
                                                      | (exfalso; omega)
                                                      | skip
                                                        refine aw_aload_n dX7_step_117 rfl ?_
                                                        refine aw_dup dX7_step_118 rfl ?_
                                                        refine g_X7_232_7 rfl dX7_step_119 m_ob ?_
                                                        rw [s22]
                                                        refine aw_iload_n dX7_step_122 rfl ?_
                                                        refine aw_bipush dX7_step_123 (by decide) ?_
                                                        refine aw_icmpne (tgt := 132) dX7_step_125 (by decide) (fun h125 => ?_) (fun h125 => ?_)
                                                        · first
                                                            | (exfalso; omega)
                                                            | skip
                                                              refine aw_iconst dX7_step_132 (by decide) ?_
                                                              refine aw_iaddr dX7_step_133 (by omega) ?_
                                                              refine p_X7_232_7 rfl dX7_step_134 m_ob ?_
                                                              refine gm_7 rfl dX7_step_137 dX7_step_138 rfl ?_
                                                              refine aw_iload_n dX7_step_141 rfl ?_
                                                              refine aw_iload_n dX7_step_142 rfl ?_
                                                              refine aw_iastore dX7_step_143 m_a1 (by omega) (by omega) ?_
                                                              refine aw_iconst dX7_step_144 (by decide) ?_
                                                              refine aw_istore5 dX7_step_145 (by decide) rfl ?_
                                                              refine L_m_stz (by decide) ⟨by omega, by omega⟩ (fun cm1 x5 c1 c2 c3 => ?_) 5 1 _ (by decide) (by decide) (fun i i0 i1 => by omega) (fun _ _ => rfl) (fun _ _ => rfl)
                                                              have F : MF cm cm1 := (MF.up1 (i := 5780 + 6 * m) (MF.up0 (i := 22) MF.rf (by decide)) (by omega)).trans ⟨fun i _ => by rw [c3 0 (by decide)], fun b hb => c3 b (by omega), fun i hi => c2 i (Or.inl (by omega)), fun i _ => by rw [c3 2 (by decide)], fun f => f.eq (by rw [c3 0 (by decide)]) (c3 9 (by decide))⟩
                                                              exact L_m_st170 (t := (p, R, m, dep, op, cnt)) (cnt := cnt) (dep := dep) (R := R) (op := op) (by decide) (H.fr (fun i hi => by rw [c3 0 (by decide), aup_rn (by decide), aup_n (by omega)]) (by rw [c3 7 (by decide), aup_rn (by decide), aup_rn (by decide)])) (hSN.mf F) F (by rw [c2 _ (Or.inl (Int.le_refl _))]; exact aup_s) c1 (fun i i0 i1 i2 => by rw [c2 _ (by omega), aup_n (by omega), aup_rn (by decide)]; exact sR i i0 i1) (by rw [c2 _ (by omega), aup_n (by omega), aup_rn (by decide)]; exact sM) (by rw [c3 0 (by decide), aup_rn (by decide), aup_n (by decide)]; exact s21) (by rw [c3 0 (by decide), aup_rn (by decide), aup_s]; first | rw [if_pos (by omega)] | rw [if_neg (by omega)]) (fun j j0 j1 => by rw [c3 8 (by decide), aup_rn (by decide), aup_rn (by decide)]; exact s8 j j0 j1) ⟨by omega, by omega⟩ (by omega) ⟨b1, b2, b3, b4⟩ (by omega) (by omega) (by omega) (by rw [stepP_eq, if_neg (by omega), if_neg (by omega), if_neg (by omega)]) hF hQ
                                                        · first
                                                            | (exfalso; omega)
                                                            | skip
                                                              refine aw_iconst dX7_step_128 (by decide) ?_
                                                              refine aw_goto (tgt := 133) dX7_step_129 (by decide) ?_
                                                              refine aw_iaddr dX7_step_133 (by omega) ?_
                                                              refine p_X7_232_7 rfl dX7_step_134 m_ob ?_
                                                              refine gm_7 rfl dX7_step_137 dX7_step_138 rfl ?_
                                                              refine aw_iload_n dX7_step_141 rfl ?_
                                                              refine aw_iload_n dX7_step_142 rfl ?_
                                                              refine aw_iastore dX7_step_143 m_a1 (by omega) (by omega) ?_
                                                              refine aw_iconst dX7_step_144 (by decide) ?_
                                                              refine aw_istore5 dX7_step_145 (by decide) rfl ?_
                                                              refine L_m_stz (by decide) ⟨by omega, by omega⟩ (fun cm1 x5 c1 c2 c3 => ?_) 5 1 _ (by decide) (by decide) (fun i i0 i1 => by omega) (fun _ _ => rfl) (fun _ _ => rfl)
                                                              have F : MF cm cm1 := (MF.up1 (i := 5780 + 6 * m) (MF.up0 (i := 22) MF.rf (by decide)) (by omega)).trans ⟨fun i _ => by rw [c3 0 (by decide)], fun b hb => c3 b (by omega), fun i hi => c2 i (Or.inl (by omega)), fun i _ => by rw [c3 2 (by decide)], fun f => f.eq (by rw [c3 0 (by decide)]) (c3 9 (by decide))⟩
                                                              exact L_m_st170 (t := (p, R, m, dep, op, cnt)) (cnt := cnt) (dep := dep) (R := R) (op := op) (by decide) (H.fr (fun i hi => by rw [c3 0 (by decide), aup_rn (by decide), aup_n (by omega)]) (by rw [c3 7 (by decide), aup_rn (by decide), aup_rn (by decide)])) (hSN.mf F) F (by rw [c2 _ (Or.inl (Int.le_refl _))]; exact aup_s) c1 (fun i i0 i1 i2 => by rw [c2 _ (by omega), aup_n (by omega), aup_rn (by decide)]; exact sR i i0 i1) (by rw [c2 _ (by omega), aup_n (by omega), aup_rn (by decide)]; exact sM) (by rw [c3 0 (by decide), aup_rn (by decide), aup_n (by decide)]; exact s21) (by rw [c3 0 (by decide), aup_rn (by decide), aup_s]; first | rw [if_pos (by omega)] | rw [if_neg (by omega)]) (fun j j0 j1 => by rw [c3 8 (by decide), aup_rn (by decide), aup_rn (by decide)]; exact s8 j j0 j1) ⟨by omega, by omega⟩ (by omega) ⟨b1, b2, b3, b4⟩ (by omega) (by omega) (by omega) (by rw [stepP_eq, if_neg (by omega), if_neg (by omega), if_neg (by omega)]) hF hQ
                                                  · first
                                                      | (exfalso; omega)
                                                      | skip
                                                        refine aw_aload_n dX7_step_110 rfl ?_
                                                        refine aw_bipush dX7_step_111 (by decide) ?_
                                                        refine c_X7_154 rfl dX7_step_113 m_ob (Nat.le_of_ble_eq_true rfl) (by omega) (C_m_fails H (k := 7) (by decide) (fun cm1 hb => ?_))
                                                        refine aK_i ?_
                                                        refine aw_zreturn dX7_step_116 rfl (Or.inl rfl) ?_
                                                        rw [if_neg (by have := hk1 (by omega); omega)] at hb
                                                        exact hF _ _ _ (by rw [stepP_eq, if_neg (by omega), if_neg (by omega)]; exact if_pos (by omega)) hb
                                      · first
                                          | (exfalso; omega)
                                          | skip
                                            refine gm_232 rfl dX7_step_81 dX7_step_82 rfl ?_
                                            rw [s22]
                                            refine aw_bipush dX7_step_85 (by decide) ?_
                                            refine aw_icmpne (tgt := 97) dX7_step_87 (by decide) (fun h87 => ?_) (fun h87 => ?_)
                                            · first
                                                | (exfalso; omega)
                                                | skip
                                                  refine aw_iload dX7_step_97 rfl ?_
                                                  refine aw_ifeq (tgt := 117) dX7_step_99 (by decide) (fun h99 => ?_) (fun h99 => ?_)
                                                  · first
                                                      | (exfalso; omega)
                                                      | skip
                                                        refine aw_aload_n dX7_step_117 rfl ?_
                                                        refine aw_dup dX7_step_118 rfl ?_
                                                        refine g_X7_232_7 rfl dX7_step_119 m_ob ?_
                                                        rw [s22]
                                                        refine aw_iload_n dX7_step_122 rfl ?_
                                                        refine aw_bipush dX7_step_123 (by decide) ?_
                                                        refine aw_icmpne (tgt := 132) dX7_step_125 (by decide) (fun h125 => ?_) (fun h125 => ?_)
                                                        · first
                                                            | (exfalso; omega)
                                                            | skip
                                                              refine aw_iconst dX7_step_132 (by decide) ?_
                                                              refine aw_iaddr dX7_step_133 (by omega) ?_
                                                              refine p_X7_232_7 rfl dX7_step_134 m_ob ?_
                                                              refine gm_7 rfl dX7_step_137 dX7_step_138 rfl ?_
                                                              refine aw_iload_n dX7_step_141 rfl ?_
                                                              refine aw_iload_n dX7_step_142 rfl ?_
                                                              refine aw_iastore dX7_step_143 m_a1 (by omega) (by omega) ?_
                                                              refine aw_iconst dX7_step_144 (by decide) ?_
                                                              refine aw_istore5 dX7_step_145 (by decide) rfl ?_
                                                              refine L_m_stz (by decide) ⟨by omega, by omega⟩ (fun cm1 x5 c1 c2 c3 => ?_) 5 1 _ (by decide) (by decide) (fun i i0 i1 => by omega) (fun _ _ => rfl) (fun _ _ => rfl)
                                                              have F : MF cm cm1 := (MF.up1 (i := 5780 + 6 * m) (MF.up0 (i := 22) MF.rf (by decide)) (by omega)).trans ⟨fun i _ => by rw [c3 0 (by decide)], fun b hb => c3 b (by omega), fun i hi => c2 i (Or.inl (by omega)), fun i _ => by rw [c3 2 (by decide)], fun f => f.eq (by rw [c3 0 (by decide)]) (c3 9 (by decide))⟩
                                                              exact L_m_st170 (t := (p, R, m, dep, op, cnt)) (cnt := cnt) (dep := dep) (R := R) (op := op) (by decide) (H.fr (fun i hi => by rw [c3 0 (by decide), aup_rn (by decide), aup_n (by omega)]) (by rw [c3 7 (by decide), aup_rn (by decide), aup_rn (by decide)])) (hSN.mf F) F (by rw [c2 _ (Or.inl (Int.le_refl _))]; exact aup_s) c1 (fun i i0 i1 i2 => by rw [c2 _ (by omega), aup_n (by omega), aup_rn (by decide)]; exact sR i i0 i1) (by rw [c2 _ (by omega), aup_n (by omega), aup_rn (by decide)]; exact sM) (by rw [c3 0 (by decide), aup_rn (by decide), aup_n (by decide)]; exact s21) (by rw [c3 0 (by decide), aup_rn (by decide), aup_s]; first | rw [if_pos (by omega)] | rw [if_neg (by omega)]) (fun j j0 j1 => by rw [c3 8 (by decide), aup_rn (by decide), aup_rn (by decide)]; exact s8 j j0 j1) ⟨by omega, by omega⟩ (by omega) ⟨b1, b2, b3, b4⟩ (by omega) (by omega) (by omega) (by rw [stepP_eq, if_neg (by omega), if_neg (by omega), if_neg (by omega)]) hF hQ
                                                        · first
                                                            | (exfalso; omega)
                                                            | skip
                                                              refine aw_iconst dX7_step_128 (by decide) ?_
                                                              refine aw_goto (tgt := 133) dX7_step_129 (by decide) ?_
                                                              refine aw_iaddr dX7_step_133 (by omega) ?_
                                                              refine p_X7_232_7 rfl dX7_step_134 m_ob ?_
                                                              refine gm_7 rfl dX7_step_137 dX7_step_138 rfl ?_
                                                              refine aw_iload_n dX7_step_141 rfl ?_
                                                              refine aw_iload_n dX7_step_142 rfl ?_
                                                              refine aw_iastore dX7_step_143 m_a1 (by omega) (by omega) ?_
                                                              refine aw_iconst dX7_step_144 (by decide) ?_
                                                              refine aw_istore5 dX7_step_145 (by decide) rfl ?_
                                                              refine L_m_stz (by decide) ⟨by omega, by omega⟩ (fun cm1 x5 c1 c2 c3 => ?_) 5 1 _ (by decide) (by decide) (fun i i0 i1 => by omega) (fun _ _ => rfl) (fun _ _ => rfl)
                                                              have F : MF cm cm1 := (MF.up1 (i := 5780 + 6 * m) (MF.up0 (i := 22) MF.rf (by decide)) (by omega)).trans ⟨fun i _ => by rw [c3 0 (by decide)], fun b hb => c3 b (by omega), fun i hi => c2 i (Or.inl (by omega)), fun i _ => by rw [c3 2 (by decide)], fun f => f.eq (by rw [c3 0 (by decide)]) (c3 9 (by decide))⟩
                                                              exact L_m_st170 (t := (p, R, m, dep, op, cnt)) (cnt := cnt) (dep := dep) (R := R) (op := op) (by decide) (H.fr (fun i hi => by rw [c3 0 (by decide), aup_rn (by decide), aup_n (by omega)]) (by rw [c3 7 (by decide), aup_rn (by decide), aup_rn (by decide)])) (hSN.mf F) F (by rw [c2 _ (Or.inl (Int.le_refl _))]; exact aup_s) c1 (fun i i0 i1 i2 => by rw [c2 _ (by omega), aup_n (by omega), aup_rn (by decide)]; exact sR i i0 i1) (by rw [c2 _ (by omega), aup_n (by omega), aup_rn (by decide)]; exact sM) (by rw [c3 0 (by decide), aup_rn (by decide), aup_n (by decide)]; exact s21) (by rw [c3 0 (by decide), aup_rn (by decide), aup_s]; first | rw [if_pos (by omega)] | rw [if_neg (by omega)]) (fun j j0 j1 => by rw [c3 8 (by decide), aup_rn (by decide), aup_rn (by decide)]; exact s8 j j0 j1) ⟨by omega, by omega⟩ (by omega) ⟨b1, b2, b3, b4⟩ (by omega) (by omega) (by omega) (by rw [stepP_eq, if_neg (by omega), if_neg (by omega), if_neg (by omega)]) hF hQ
                                                  · first
                                                      | (exfalso; omega)
                                                      | skip
                                                        refine gm_229 rfl dX7_step_102 dX7_step_103 rfl ?_
                                                        rw [s21]
                                                        refine aw_iconst dX7_step_106 (by decide) ?_
                                                        refine aw_icmpne (tgt := 117) dX7_step_107 (by decide) (fun h107 => ?_) (fun h107 => ?_)
                                                        · first
                                                            | (exfalso; omega)
                                                            | skip
                                                              refine aw_aload_n dX7_step_117 rfl ?_
                                                              refine aw_dup dX7_step_118 rfl ?_
                                                              refine g_X7_232_7 rfl dX7_step_119 m_ob ?_
                                                              rw [s22]
                                                              refine aw_iload_n dX7_step_122 rfl ?_
                                                              refine aw_bipush dX7_step_123 (by decide) ?_
                                                              refine aw_icmpne (tgt := 132) dX7_step_125 (by decide) (fun h125 => ?_) (fun h125 => ?_)
                                                              · first
                                                                  | (exfalso; omega)
                                                                  | skip
                                                                    refine aw_iconst dX7_step_132 (by decide) ?_
                                                                    refine aw_iaddr dX7_step_133 (by omega) ?_
                                                                    refine p_X7_232_7 rfl dX7_step_134 m_ob ?_
                                                                    refine gm_7 rfl dX7_step_137 dX7_step_138 rfl ?_
                                                                    refine aw_iload_n dX7_step_141 rfl ?_
                                                                    refine aw_iload_n dX7_step_142 rfl ?_
                                                                    refine aw_iastore dX7_step_143 m_a1 (by omega) (by omega) ?_
                                                                    refine aw_iconst dX7_step_144 (by decide) ?_
                                                                    refine aw_istore5 dX7_step_145 (by decide) rfl ?_
                                                                    refine L_m_stz (by decide) ⟨by omega, by omega⟩ (fun cm1 x5 c1 c2 c3 => ?_) 5 1 _ (by decide) (by decide) (fun i i0 i1 => by omega) (fun _ _ => rfl) (fun _ _ => rfl)
                                                                    have F : MF cm cm1 := (MF.up1 (i := 5780 + 6 * m) (MF.up0 (i := 22) MF.rf (by decide)) (by omega)).trans ⟨fun i _ => by rw [c3 0 (by decide)], fun b hb => c3 b (by omega), fun i hi => c2 i (Or.inl (by omega)), fun i _ => by rw [c3 2 (by decide)], fun f => f.eq (by rw [c3 0 (by decide)]) (c3 9 (by decide))⟩
                                                                    exact L_m_st170 (t := (p, R, m, dep, op, cnt)) (cnt := cnt) (dep := dep) (R := R) (op := op) (by decide) (H.fr (fun i hi => by rw [c3 0 (by decide), aup_rn (by decide), aup_n (by omega)]) (by rw [c3 7 (by decide), aup_rn (by decide), aup_rn (by decide)])) (hSN.mf F) F (by rw [c2 _ (Or.inl (Int.le_refl _))]; exact aup_s) c1 (fun i i0 i1 i2 => by rw [c2 _ (by omega), aup_n (by omega), aup_rn (by decide)]; exact sR i i0 i1) (by rw [c2 _ (by omega), aup_n (by omega), aup_rn (by decide)]; exact sM) (by rw [c3 0 (by decide), aup_rn (by decide), aup_n (by decide)]; exact s21) (by rw [c3 0 (by decide), aup_rn (by decide), aup_s]; first | rw [if_pos (by omega)] | rw [if_neg (by omega)]) (fun j j0 j1 => by rw [c3 8 (by decide), aup_rn (by decide), aup_rn (by decide)]; exact s8 j j0 j1) ⟨by omega, by omega⟩ (by omega) ⟨b1, b2, b3, b4⟩ (by omega) (by omega) (by omega) (by rw [stepP_eq, if_neg (by omega), if_neg (by omega), if_neg (by omega)]) hF hQ
                                                              · first
                                                                  | (exfalso; omega)
                                                                  | skip
                                                                    refine aw_iconst dX7_step_128 (by decide) ?_
                                                                    refine aw_goto (tgt := 133) dX7_step_129 (by decide) ?_
                                                                    refine aw_iaddr dX7_step_133 (by omega) ?_
                                                                    refine p_X7_232_7 rfl dX7_step_134 m_ob ?_
                                                                    refine gm_7 rfl dX7_step_137 dX7_step_138 rfl ?_
                                                                    refine aw_iload_n dX7_step_141 rfl ?_
                                                                    refine aw_iload_n dX7_step_142 rfl ?_
                                                                    refine aw_iastore dX7_step_143 m_a1 (by omega) (by omega) ?_
                                                                    refine aw_iconst dX7_step_144 (by decide) ?_
                                                                    refine aw_istore5 dX7_step_145 (by decide) rfl ?_
                                                                    refine L_m_stz (by decide) ⟨by omega, by omega⟩ (fun cm1 x5 c1 c2 c3 => ?_) 5 1 _ (by decide) (by decide) (fun i i0 i1 => by omega) (fun _ _ => rfl) (fun _ _ => rfl)
                                                                    have F : MF cm cm1 := (MF.up1 (i := 5780 + 6 * m) (MF.up0 (i := 22) MF.rf (by decide)) (by omega)).trans ⟨fun i _ => by rw [c3 0 (by decide)], fun b hb => c3 b (by omega), fun i hi => c2 i (Or.inl (by omega)), fun i _ => by rw [c3 2 (by decide)], fun f => f.eq (by rw [c3 0 (by decide)]) (c3 9 (by decide))⟩
                                                                    exact L_m_st170 (t := (p, R, m, dep, op, cnt)) (cnt := cnt) (dep := dep) (R := R) (op := op) (by decide) (H.fr (fun i hi => by rw [c3 0 (by decide), aup_rn (by decide), aup_n (by omega)]) (by rw [c3 7 (by decide), aup_rn (by decide), aup_rn (by decide)])) (hSN.mf F) F (by rw [c2 _ (Or.inl (Int.le_refl _))]; exact aup_s) c1 (fun i i0 i1 i2 => by rw [c2 _ (by omega), aup_n (by omega), aup_rn (by decide)]; exact sR i i0 i1) (by rw [c2 _ (by omega), aup_n (by omega), aup_rn (by decide)]; exact sM) (by rw [c3 0 (by decide), aup_rn (by decide), aup_n (by decide)]; exact s21) (by rw [c3 0 (by decide), aup_rn (by decide), aup_s]; first | rw [if_pos (by omega)] | rw [if_neg (by omega)]) (fun j j0 j1 => by rw [c3 8 (by decide), aup_rn (by decide), aup_rn (by decide)]; exact s8 j j0 j1) ⟨by omega, by omega⟩ (by omega) ⟨b1, b2, b3, b4⟩ (by omega) (by omega) (by omega) (by rw [stepP_eq, if_neg (by omega), if_neg (by omega), if_neg (by omega)]) hF hQ
                                                        · first
                                                            | (exfalso; omega)
                                                            | skip
                                                              refine aw_aload_n dX7_step_110 rfl ?_
                                                              refine aw_bipush dX7_step_111 (by decide) ?_
                                                              refine c_X7_154 rfl dX7_step_113 m_ob (Nat.le_of_ble_eq_true rfl) (by omega) (C_m_fails H (k := 7) (by decide) (fun cm1 hb => ?_))
                                                              refine aK_i ?_
                                                              refine aw_zreturn dX7_step_116 rfl (Or.inl rfl) ?_
                                                              rw [if_neg (by have := hk1 (by omega); omega)] at hb
                                                              exact hF _ _ _ (by rw [stepP_eq, if_neg (by omega), if_neg (by omega)]; exact if_pos (by omega)) hb
                                            · first
                                                | (exfalso; omega)
                                                | skip
                                                  refine aw_aload_n dX7_step_90 rfl ?_
                                                  refine aw_bipush dX7_step_91 (by decide) ?_
                                                  refine c_X7_154 rfl dX7_step_93 m_ob (Nat.le_of_ble_eq_true rfl) (by omega) (C_m_fails H (k := 6) (by decide) (fun cm1 hb => ?_))
                                                  refine aK_i ?_
                                                  refine aw_zreturn dX7_step_96 rfl (Or.inl rfl) ?_
                                                  rw [if_neg (by have := hk1 (by omega); omega)] at hb
                                                  exact hF _ _ _ (by rw [stepP_eq, if_neg (by omega)]; exact if_pos (by omega)) hb
                                · first
                                    | (exfalso; omega)
                                    | skip
                                      refine aw_aload_n dX7_step_69 rfl ?_
                                      refine aw_iconst dX7_step_70 (by decide) ?_
                                      refine c_X7_154 rfl dX7_step_71 m_ob (Nat.le_of_ble_eq_true rfl) (by omega) (C_m_fails H (k := 2) (by decide) (fun cm1 hb => ?_))
                                      refine aK_i ?_
                                      refine aw_zreturn dX7_step_74 rfl (Or.inl rfl) ?_
                                      exact hF _ _ _ (by rw [stepP_eq]; exact if_pos (by omega)) (show MB cm cm1 (wr tp n p) (tF tp n p) from hb)
        · first
            | (exfalso; omega)
            | skip
              refine aw_iconst dX7_step_37 (by decide) ?_
              refine aw_goto (tgt := 42) dX7_step_38 (by decide) ?_
              refine aw_istore4 dX7_step_42 (by decide) rfl ?_
              refine aw_iload_n dX7_step_44 rfl ?_
              refine aw_bipush dX7_step_45 (by decide) ?_
              refine aw_icmplt (tgt := 69) dX7_step_47 (by decide) (fun h47 => ?_) (fun h47 => ?_)
              · first
                  | (exfalso; omega)
                  | skip
                    refine aw_aload_n dX7_step_69 rfl ?_
                    refine aw_iconst dX7_step_70 (by decide) ?_
                    refine c_X7_154 rfl dX7_step_71 m_ob (Nat.le_of_ble_eq_true rfl) (by omega) (C_m_fails H (k := 2) (by decide) (fun cm1 hb => ?_))
                    refine aK_i ?_
                    refine aw_zreturn dX7_step_74 rfl (Or.inl rfl) ?_
                    exact hF _ _ _ (by rw [stepP_eq]; exact if_pos (by omega)) (show MB cm cm1 (wr tp n p) (tF tp n p) from hb)
              · first
                  | (exfalso; omega)
                  | skip
                    refine aw_iload_n dX7_step_50 rfl ?_
                    refine aw_bipush dX7_step_51 (by decide) ?_
                    refine aw_icmpgt (tgt := 69) dX7_step_53 (by decide) (fun h53 => ?_) (fun h53 => ?_)
                    · first
                        | (exfalso; omega)
                        | skip
                          refine aw_aload_n dX7_step_69 rfl ?_
                          refine aw_iconst dX7_step_70 (by decide) ?_
                          refine c_X7_154 rfl dX7_step_71 m_ob (Nat.le_of_ble_eq_true rfl) (by omega) (C_m_fails H (k := 2) (by decide) (fun cm1 hb => ?_))
                          refine aK_i ?_
                          refine aw_zreturn dX7_step_74 rfl (Or.inl rfl) ?_
                          exact hF _ _ _ (by rw [stepP_eq]; exact if_pos (by omega)) (show MB cm cm1 (wr tp n p) (tF tp n p) from hb)
                    · first
                        | (exfalso; omega)
                        | skip
                          refine aw_iload_n dX7_step_56 rfl ?_
                          refine aw_bipush dX7_step_57 (by decide) ?_
                          refine aw_icmpne (tgt := 75) dX7_step_59 (by decide) (fun h59 => ?_) (fun h59 => ?_)
                          · first
                              | (exfalso; omega)
                              | skip
                                refine aw_iload_n dX7_step_75 rfl ?_
                                refine aw_bipush dX7_step_76 (by decide) ?_
                                refine aw_icmpeq (tgt := 97) dX7_step_78 (by decide) (fun h78 => ?_) (fun h78 => ?_)
                                · first
                                    | (exfalso; omega)
                                    | skip
                                      refine aw_iload dX7_step_97 rfl ?_
                                      refine aw_ifeq (tgt := 117) dX7_step_99 (by decide) (fun h99 => ?_) (fun h99 => ?_)
                                      · first
                                          | (exfalso; omega)
                                          | skip
                                            refine aw_aload_n dX7_step_117 rfl ?_
                                            refine aw_dup dX7_step_118 rfl ?_
                                            refine g_X7_232_7 rfl dX7_step_119 m_ob ?_
                                            rw [s22]
                                            refine aw_iload_n dX7_step_122 rfl ?_
                                            refine aw_bipush dX7_step_123 (by decide) ?_
                                            refine aw_icmpne (tgt := 132) dX7_step_125 (by decide) (fun h125 => ?_) (fun h125 => ?_)
                                            · first
                                                | (exfalso; omega)
                                                | skip
                                                  refine aw_iconst dX7_step_132 (by decide) ?_
                                                  refine aw_iaddr dX7_step_133 (by omega) ?_
                                                  refine p_X7_232_7 rfl dX7_step_134 m_ob ?_
                                                  refine gm_7 rfl dX7_step_137 dX7_step_138 rfl ?_
                                                  refine aw_iload_n dX7_step_141 rfl ?_
                                                  refine aw_iload_n dX7_step_142 rfl ?_
                                                  refine aw_iastore dX7_step_143 m_a1 (by omega) (by omega) ?_
                                                  refine aw_iconst dX7_step_144 (by decide) ?_
                                                  refine aw_istore5 dX7_step_145 (by decide) rfl ?_
                                                  refine L_m_stz (by decide) ⟨by omega, by omega⟩ (fun cm1 x5 c1 c2 c3 => ?_) 5 1 _ (by decide) (by decide) (fun i i0 i1 => by omega) (fun _ _ => rfl) (fun _ _ => rfl)
                                                  have F : MF cm cm1 := (MF.up1 (i := 5780 + 6 * m) (MF.up0 (i := 22) MF.rf (by decide)) (by omega)).trans ⟨fun i _ => by rw [c3 0 (by decide)], fun b hb => c3 b (by omega), fun i hi => c2 i (Or.inl (by omega)), fun i _ => by rw [c3 2 (by decide)], fun f => f.eq (by rw [c3 0 (by decide)]) (c3 9 (by decide))⟩
                                                  exact L_m_st170 (t := (p, R, m, dep, op, cnt)) (cnt := cnt) (dep := dep) (R := R) (op := op) (by decide) (H.fr (fun i hi => by rw [c3 0 (by decide), aup_rn (by decide), aup_n (by omega)]) (by rw [c3 7 (by decide), aup_rn (by decide), aup_rn (by decide)])) (hSN.mf F) F (by rw [c2 _ (Or.inl (Int.le_refl _))]; exact aup_s) c1 (fun i i0 i1 i2 => by rw [c2 _ (by omega), aup_n (by omega), aup_rn (by decide)]; exact sR i i0 i1) (by rw [c2 _ (by omega), aup_n (by omega), aup_rn (by decide)]; exact sM) (by rw [c3 0 (by decide), aup_rn (by decide), aup_n (by decide)]; exact s21) (by rw [c3 0 (by decide), aup_rn (by decide), aup_s]; first | rw [if_pos (by omega)] | rw [if_neg (by omega)]) (fun j j0 j1 => by rw [c3 8 (by decide), aup_rn (by decide), aup_rn (by decide)]; exact s8 j j0 j1) ⟨by omega, by omega⟩ (by omega) ⟨b1, b2, b3, b4⟩ (by omega) (by omega) (by omega) (by rw [stepP_eq, if_neg (by omega), if_neg (by omega), if_neg (by omega)]) hF hQ
                                            · first
                                                | (exfalso; omega)
                                                | skip
                                                  refine aw_iconst dX7_step_128 (by decide) ?_
                                                  refine aw_goto (tgt := 133) dX7_step_129 (by decide) ?_
                                                  refine aw_iaddr dX7_step_133 (by omega) ?_
                                                  refine p_X7_232_7 rfl dX7_step_134 m_ob ?_
                                                  refine gm_7 rfl dX7_step_137 dX7_step_138 rfl ?_
                                                  refine aw_iload_n dX7_step_141 rfl ?_
                                                  refine aw_iload_n dX7_step_142 rfl ?_
                                                  refine aw_iastore dX7_step_143 m_a1 (by omega) (by omega) ?_
                                                  refine aw_iconst dX7_step_144 (by decide) ?_
                                                  refine aw_istore5 dX7_step_145 (by decide) rfl ?_
                                                  refine L_m_stz (by decide) ⟨by omega, by omega⟩ (fun cm1 x5 c1 c2 c3 => ?_) 5 1 _ (by decide) (by decide) (fun i i0 i1 => by omega) (fun _ _ => rfl) (fun _ _ => rfl)
                                                  have F : MF cm cm1 := (MF.up1 (i := 5780 + 6 * m) (MF.up0 (i := 22) MF.rf (by decide)) (by omega)).trans ⟨fun i _ => by rw [c3 0 (by decide)], fun b hb => c3 b (by omega), fun i hi => c2 i (Or.inl (by omega)), fun i _ => by rw [c3 2 (by decide)], fun f => f.eq (by rw [c3 0 (by decide)]) (c3 9 (by decide))⟩
                                                  exact L_m_st170 (t := (p, R, m, dep, op, cnt)) (cnt := cnt) (dep := dep) (R := R) (op := op) (by decide) (H.fr (fun i hi => by rw [c3 0 (by decide), aup_rn (by decide), aup_n (by omega)]) (by rw [c3 7 (by decide), aup_rn (by decide), aup_rn (by decide)])) (hSN.mf F) F (by rw [c2 _ (Or.inl (Int.le_refl _))]; exact aup_s) c1 (fun i i0 i1 i2 => by rw [c2 _ (by omega), aup_n (by omega), aup_rn (by decide)]; exact sR i i0 i1) (by rw [c2 _ (by omega), aup_n (by omega), aup_rn (by decide)]; exact sM) (by rw [c3 0 (by decide), aup_rn (by decide), aup_n (by decide)]; exact s21) (by rw [c3 0 (by decide), aup_rn (by decide), aup_s]; first | rw [if_pos (by omega)] | rw [if_neg (by omega)]) (fun j j0 j1 => by rw [c3 8 (by decide), aup_rn (by decide), aup_rn (by decide)]; exact s8 j j0 j1) ⟨by omega, by omega⟩ (by omega) ⟨b1, b2, b3, b4⟩ (by omega) (by omega) (by omega) (by rw [stepP_eq, if_neg (by omega), if_neg (by omega), if_neg (by omega)]) hF hQ
                                      · first
                                          | (exfalso; omega)
                                          | skip
                                            refine gm_229 rfl dX7_step_102 dX7_step_103 rfl ?_
                                            rw [s21]
                                            refine aw_iconst dX7_step_106 (by decide) ?_
                                            refine aw_icmpne (tgt := 117) dX7_step_107 (by decide) (fun h107 => ?_) (fun h107 => ?_)
                                            · first
                                                | (exfalso; omega)
                                                | skip
                                                  refine aw_aload_n dX7_step_117 rfl ?_
                                                  refine aw_dup dX7_step_118 rfl ?_
                                                  refine g_X7_232_7 rfl dX7_step_119 m_ob ?_
                                                  rw [s22]
                                                  refine aw_iload_n dX7_step_122 rfl ?_
                                                  refine aw_bipush dX7_step_123 (by decide) ?_
                                                  refine aw_icmpne (tgt := 132) dX7_step_125 (by decide) (fun h125 => ?_) (fun h125 => ?_)
                                                  · first
                                                      | (exfalso; omega)
                                                      | skip
                                                        refine aw_iconst dX7_step_132 (by decide) ?_
                                                        refine aw_iaddr dX7_step_133 (by omega) ?_
                                                        refine p_X7_232_7 rfl dX7_step_134 m_ob ?_
                                                        refine gm_7 rfl dX7_step_137 dX7_step_138 rfl ?_
                                                        refine aw_iload_n dX7_step_141 rfl ?_
                                                        refine aw_iload_n dX7_step_142 rfl ?_
                                                        refine aw_iastore dX7_step_143 m_a1 (by omega) (by omega) ?_
                                                        refine aw_iconst dX7_step_144 (by decide) ?_
                                                        refine aw_istore5 dX7_step_145 (by decide) rfl ?_
                                                        refine L_m_stz (by decide) ⟨by omega, by omega⟩ (fun cm1 x5 c1 c2 c3 => ?_) 5 1 _ (by decide) (by decide) (fun i i0 i1 => by omega) (fun _ _ => rfl) (fun _ _ => rfl)
                                                        have F : MF cm cm1 := (MF.up1 (i := 5780 + 6 * m) (MF.up0 (i := 22) MF.rf (by decide)) (by omega)).trans ⟨fun i _ => by rw [c3 0 (by decide)], fun b hb => c3 b (by omega), fun i hi => c2 i (Or.inl (by omega)), fun i _ => by rw [c3 2 (by decide)], fun f => f.eq (by rw [c3 0 (by decide)]) (c3 9 (by decide))⟩
                                                        exact L_m_st170 (t := (p, R, m, dep, op, cnt)) (cnt := cnt) (dep := dep) (R := R) (op := op) (by decide) (H.fr (fun i hi => by rw [c3 0 (by decide), aup_rn (by decide), aup_n (by omega)]) (by rw [c3 7 (by decide), aup_rn (by decide), aup_rn (by decide)])) (hSN.mf F) F (by rw [c2 _ (Or.inl (Int.le_refl _))]; exact aup_s) c1 (fun i i0 i1 i2 => by rw [c2 _ (by omega), aup_n (by omega), aup_rn (by decide)]; exact sR i i0 i1) (by rw [c2 _ (by omega), aup_n (by omega), aup_rn (by decide)]; exact sM) (by rw [c3 0 (by decide), aup_rn (by decide), aup_n (by decide)]; exact s21) (by rw [c3 0 (by decide), aup_rn (by decide), aup_s]; first | rw [if_pos (by omega)] | rw [if_neg (by omega)]) (fun j j0 j1 => by rw [c3 8 (by decide), aup_rn (by decide), aup_rn (by decide)]; exact s8 j j0 j1) ⟨by omega, by omega⟩ (by omega) ⟨b1, b2, b3, b4⟩ (by omega) (by omega) (by omega) (by rw [stepP_eq, if_neg (by omega), if_neg (by omega), if_neg (by omega)]) hF hQ
                                                  · first
                                                      | (exfalso; omega)
                                                      | skip
                                                        refine aw_iconst dX7_step_128 (by decide) ?_
                                                        refine aw_goto (tgt := 133) dX7_step_129 (by decide) ?_
                                                        refine aw_iaddr dX7_step_133 (by omega) ?_
                                                        refine p_X7_232_7 rfl dX7_step_134 m_ob ?_
                                                        refine gm_7 rfl dX7_step_137 dX7_step_138 rfl ?_
                                                        refine aw_iload_n dX7_step_141 rfl ?_
                                                        refine aw_iload_n dX7_step_142 rfl ?_
                                                        refine aw_iastore dX7_step_143 m_a1 (by omega) (by omega) ?_
                                                        refine aw_iconst dX7_step_144 (by decide) ?_
                                                        refine aw_istore5 dX7_step_145 (by decide) rfl ?_
                                                        refine L_m_stz (by decide) ⟨by omega, by omega⟩ (fun cm1 x5 c1 c2 c3 => ?_) 5 1 _ (by decide) (by decide) (fun i i0 i1 => by omega) (fun _ _ => rfl) (fun _ _ => rfl)
                                                        have F : MF cm cm1 := (MF.up1 (i := 5780 + 6 * m) (MF.up0 (i := 22) MF.rf (by decide)) (by omega)).trans ⟨fun i _ => by rw [c3 0 (by decide)], fun b hb => c3 b (by omega), fun i hi => c2 i (Or.inl (by omega)), fun i _ => by rw [c3 2 (by decide)], fun f => f.eq (by rw [c3 0 (by decide)]) (c3 9 (by decide))⟩
                                                        exact L_m_st170 (t := (p, R, m, dep, op, cnt)) (cnt := cnt) (dep := dep) (R := R) (op := op) (by decide) (H.fr (fun i hi => by rw [c3 0 (by decide), aup_rn (by decide), aup_n (by omega)]) (by rw [c3 7 (by decide), aup_rn (by decide), aup_rn (by decide)])) (hSN.mf F) F (by rw [c2 _ (Or.inl (Int.le_refl _))]; exact aup_s) c1 (fun i i0 i1 i2 => by rw [c2 _ (by omega), aup_n (by omega), aup_rn (by decide)]; exact sR i i0 i1) (by rw [c2 _ (by omega), aup_n (by omega), aup_rn (by decide)]; exact sM) (by rw [c3 0 (by decide), aup_rn (by decide), aup_n (by decide)]; exact s21) (by rw [c3 0 (by decide), aup_rn (by decide), aup_s]; first | rw [if_pos (by omega)] | rw [if_neg (by omega)]) (fun j j0 j1 => by rw [c3 8 (by decide), aup_rn (by decide), aup_rn (by decide)]; exact s8 j j0 j1) ⟨by omega, by omega⟩ (by omega) ⟨b1, b2, b3, b4⟩ (by omega) (by omega) (by omega) (by rw [stepP_eq, if_neg (by omega), if_neg (by omega), if_neg (by omega)]) hF hQ
                                            · first
                                                | (exfalso; omega)
                                                | skip
                                                  refine aw_aload_n dX7_step_110 rfl ?_
                                                  refine aw_bipush dX7_step_111 (by decide) ?_
                                                  refine c_X7_154 rfl dX7_step_113 m_ob (Nat.le_of_ble_eq_true rfl) (by omega) (C_m_fails H (k := 7) (by decide) (fun cm1 hb => ?_))
                                                  refine aK_i ?_
                                                  refine aw_zreturn dX7_step_116 rfl (Or.inl rfl) ?_
                                                  rw [if_neg (by have := hk1 (by omega); omega)] at hb
                                                  exact hF _ _ _ (by rw [stepP_eq, if_neg (by omega), if_neg (by omega)]; exact if_pos (by omega)) hb
                                · first
                                    | (exfalso; omega)
                                    | skip
                                      refine gm_232 rfl dX7_step_81 dX7_step_82 rfl ?_
                                      rw [s22]
                                      refine aw_bipush dX7_step_85 (by decide) ?_
                                      refine aw_icmpne (tgt := 97) dX7_step_87 (by decide) (fun h87 => ?_) (fun h87 => ?_)
                                      · first
                                          | (exfalso; omega)
                                          | skip
                                            refine aw_iload dX7_step_97 rfl ?_
                                            refine aw_ifeq (tgt := 117) dX7_step_99 (by decide) (fun h99 => ?_) (fun h99 => ?_)
                                            · first
                                                | (exfalso; omega)
                                                | skip
                                                  refine aw_aload_n dX7_step_117 rfl ?_
                                                  refine aw_dup dX7_step_118 rfl ?_
                                                  refine g_X7_232_7 rfl dX7_step_119 m_ob ?_
                                                  rw [s22]
                                                  refine aw_iload_n dX7_step_122 rfl ?_
                                                  refine aw_bipush dX7_step_123 (by decide) ?_
                                                  refine aw_icmpne (tgt := 132) dX7_step_125 (by decide) (fun h125 => ?_) (fun h125 => ?_)
                                                  · first
                                                      | (exfalso; omega)
                                                      | skip
                                                        refine aw_iconst dX7_step_132 (by decide) ?_
                                                        refine aw_iaddr dX7_step_133 (by omega) ?_
                                                        refine p_X7_232_7 rfl dX7_step_134 m_ob ?_
                                                        refine gm_7 rfl dX7_step_137 dX7_step_138 rfl ?_
                                                        refine aw_iload_n dX7_step_141 rfl ?_
                                                        refine aw_iload_n dX7_step_142 rfl ?_
                                                        refine aw_iastore dX7_step_143 m_a1 (by omega) (by omega) ?_
                                                        refine aw_iconst dX7_step_144 (by decide) ?_
                                                        refine aw_istore5 dX7_step_145 (by decide) rfl ?_
                                                        refine L_m_stz (by decide) ⟨by omega, by omega⟩ (fun cm1 x5 c1 c2 c3 => ?_) 5 1 _ (by decide) (by decide) (fun i i0 i1 => by omega) (fun _ _ => rfl) (fun _ _ => rfl)
                                                        have F : MF cm cm1 := (MF.up1 (i := 5780 + 6 * m) (MF.up0 (i := 22) MF.rf (by decide)) (by omega)).trans ⟨fun i _ => by rw [c3 0 (by decide)], fun b hb => c3 b (by omega), fun i hi => c2 i (Or.inl (by omega)), fun i _ => by rw [c3 2 (by decide)], fun f => f.eq (by rw [c3 0 (by decide)]) (c3 9 (by decide))⟩
                                                        exact L_m_st170 (t := (p, R, m, dep, op, cnt)) (cnt := cnt) (dep := dep) (R := R) (op := op) (by decide) (H.fr (fun i hi => by rw [c3 0 (by decide), aup_rn (by decide), aup_n (by omega)]) (by rw [c3 7 (by decide), aup_rn (by decide), aup_rn (by decide)])) (hSN.mf F) F (by rw [c2 _ (Or.inl (Int.le_refl _))]; exact aup_s) c1 (fun i i0 i1 i2 => by rw [c2 _ (by omega), aup_n (by omega), aup_rn (by decide)]; exact sR i i0 i1) (by rw [c2 _ (by omega), aup_n (by omega), aup_rn (by decide)]; exact sM) (by rw [c3 0 (by decide), aup_rn (by decide), aup_n (by decide)]; exact s21) (by rw [c3 0 (by decide), aup_rn (by decide), aup_s]; first | rw [if_pos (by omega)] | rw [if_neg (by omega)]) (fun j j0 j1 => by rw [c3 8 (by decide), aup_rn (by decide), aup_rn (by decide)]; exact s8 j j0 j1) ⟨by omega, by omega⟩ (by omega) ⟨b1, b2, b3, b4⟩ (by omega) (by omega) (by omega) (by rw [stepP_eq, if_neg (by omega), if_neg (by omega), if_neg (by omega)]) hF hQ
                                                  · first
                                                      | (exfalso; omega)
                                                      | skip
                                                        refine aw_iconst dX7_step_128 (by decide) ?_
                                                        refine aw_goto (tgt := 133) dX7_step_129 (by decide) ?_
                                                        refine aw_iaddr dX7_step_133 (by omega) ?_
                                                        refine p_X7_232_7 rfl dX7_step_134 m_ob ?_
                                                        refine gm_7 rfl dX7_step_137 dX7_step_138 rfl ?_
                                                        refine aw_iload_n dX7_step_141 rfl ?_
                                                        refine aw_iload_n dX7_step_142 rfl ?_
                                                        refine aw_iastore dX7_step_143 m_a1 (by omega) (by omega) ?_
                                                        refine aw_iconst dX7_step_144 (by decide) ?_
                                                        refine aw_istore5 dX7_step_145 (by decide) rfl ?_
                                                        refine L_m_stz (by decide) ⟨by omega, by omega⟩ (fun cm1 x5 c1 c2 c3 => ?_) 5 1 _ (by decide) (by decide) (fun i i0 i1 => by omega) (fun _ _ => rfl) (fun _ _ => rfl)
                                                        have F : MF cm cm1 := (MF.up1 (i := 5780 + 6 * m) (MF.up0 (i := 22) MF.rf (by decide)) (by omega)).trans ⟨fun i _ => by rw [c3 0 (by decide)], fun b hb => c3 b (by omega), fun i hi => c2 i (Or.inl (by omega)), fun i _ => by rw [c3 2 (by decide)], fun f => f.eq (by rw [c3 0 (by decide)]) (c3 9 (by decide))⟩
                                                        exact L_m_st170 (t := (p, R, m, dep, op, cnt)) (cnt := cnt) (dep := dep) (R := R) (op := op) (by decide) (H.fr (fun i hi => by rw [c3 0 (by decide), aup_rn (by decide), aup_n (by omega)]) (by rw [c3 7 (by decide), aup_rn (by decide), aup_rn (by decide)])) (hSN.mf F) F (by rw [c2 _ (Or.inl (Int.le_refl _))]; exact aup_s) c1 (fun i i0 i1 i2 => by rw [c2 _ (by omega), aup_n (by omega), aup_rn (by decide)]; exact sR i i0 i1) (by rw [c2 _ (by omega), aup_n (by omega), aup_rn (by decide)]; exact sM) (by rw [c3 0 (by decide), aup_rn (by decide), aup_n (by decide)]; exact s21) (by rw [c3 0 (by decide), aup_rn (by decide), aup_s]; first | rw [if_pos (by omega)] | rw [if_neg (by omega)]) (fun j j0 j1 => by rw [c3 8 (by decide), aup_rn (by decide), aup_rn (by decide)]; exact s8 j j0 j1) ⟨by omega, by omega⟩ (by omega) ⟨b1, b2, b3, b4⟩ (by omega) (by omega) (by omega) (by rw [stepP_eq, if_neg (by omega), if_neg (by omega), if_neg (by omega)]) hF hQ
                                            · first
                                                | (exfalso; omega)
                                                | skip
                                                  refine gm_229 rfl dX7_step_102 dX7_step_103 rfl ?_
                                                  rw [s21]
                                                  refine aw_iconst dX7_step_106 (by decide) ?_
                                                  refine aw_icmpne (tgt := 117) dX7_step_107 (by decide) (fun h107 => ?_) (fun h107 => ?_)
                                                  · first
                                                      | (exfalso; omega)
                                                      | skip
                                                        refine aw_aload_n dX7_step_117 rfl ?_
                                                        refine aw_dup dX7_step_118 rfl ?_
                                                        refine g_X7_232_7 rfl dX7_step_119 m_ob ?_
                                                        rw [s22]
                                                        refine aw_iload_n dX7_step_122 rfl ?_
                                                        refine aw_bipush dX7_step_123 (by decide) ?_
                                                        refine aw_icmpne (tgt := 132) dX7_step_125 (by decide) (fun h125 => ?_) (fun h125 => ?_)
                                                        · first
                                                            | (exfalso; omega)
                                                            | skip
                                                              refine aw_iconst dX7_step_132 (by decide) ?_
                                                              refine aw_iaddr dX7_step_133 (by omega) ?_
                                                              refine p_X7_232_7 rfl dX7_step_134 m_ob ?_
                                                              refine gm_7 rfl dX7_step_137 dX7_step_138 rfl ?_
                                                              refine aw_iload_n dX7_step_141 rfl ?_
                                                              refine aw_iload_n dX7_step_142 rfl ?_
                                                              refine aw_iastore dX7_step_143 m_a1 (by omega) (by omega) ?_
                                                              refine aw_iconst dX7_step_144 (by decide) ?_
                                                              refine aw_istore5 dX7_step_145 (by decide) rfl ?_
                                                              refine L_m_stz (by decide) ⟨by omega, by omega⟩ (fun cm1 x5 c1 c2 c3 => ?_) 5 1 _ (by decide) (by decide) (fun i i0 i1 => by omega) (fun _ _ => rfl) (fun _ _ => rfl)
                                                              have F : MF cm cm1 := (MF.up1 (i := 5780 + 6 * m) (MF.up0 (i := 22) MF.rf (by decide)) (by omega)).trans ⟨fun i _ => by rw [c3 0 (by decide)], fun b hb => c3 b (by omega), fun i hi => c2 i (Or.inl (by omega)), fun i _ => by rw [c3 2 (by decide)], fun f => f.eq (by rw [c3 0 (by decide)]) (c3 9 (by decide))⟩
                                                              exact L_m_st170 (t := (p, R, m, dep, op, cnt)) (cnt := cnt) (dep := dep) (R := R) (op := op) (by decide) (H.fr (fun i hi => by rw [c3 0 (by decide), aup_rn (by decide), aup_n (by omega)]) (by rw [c3 7 (by decide), aup_rn (by decide), aup_rn (by decide)])) (hSN.mf F) F (by rw [c2 _ (Or.inl (Int.le_refl _))]; exact aup_s) c1 (fun i i0 i1 i2 => by rw [c2 _ (by omega), aup_n (by omega), aup_rn (by decide)]; exact sR i i0 i1) (by rw [c2 _ (by omega), aup_n (by omega), aup_rn (by decide)]; exact sM) (by rw [c3 0 (by decide), aup_rn (by decide), aup_n (by decide)]; exact s21) (by rw [c3 0 (by decide), aup_rn (by decide), aup_s]; first | rw [if_pos (by omega)] | rw [if_neg (by omega)]) (fun j j0 j1 => by rw [c3 8 (by decide), aup_rn (by decide), aup_rn (by decide)]; exact s8 j j0 j1) ⟨by omega, by omega⟩ (by omega) ⟨b1, b2, b3, b4⟩ (by omega) (by omega) (by omega) (by rw [stepP_eq, if_neg (by omega), if_neg (by omega), if_neg (by omega)]) hF hQ
                                                        · first
                                                            | (exfalso; omega)
                                                            | skip
                                                              refine aw_iconst dX7_step_128 (by decide) ?_
                                                              refine aw_goto (tgt := 133) dX7_step_129 (by decide) ?_
                                                              refine aw_iaddr dX7_step_133 (by omega) ?_
                                                              refine p_X7_232_7 rfl dX7_step_134 m_ob ?_
                                                              refine gm_7 rfl dX7_step_137 dX7_step_138 rfl ?_
                                                              refine aw_iload_n dX7_step_141 rfl ?_
                                                              refine aw_iload_n dX7_step_142 rfl ?_
                                                              refine aw_iastore dX7_step_143 m_a1 (by omega) (by omega) ?_
                                                              refine aw_iconst dX7_step_144 (by decide) ?_
                                                              refine aw_istore5 dX7_step_145 (by decide) rfl ?_
                                                              refine L_m_stz (by decide) ⟨by omega, by omega⟩ (fun cm1 x5 c1 c2 c3 => ?_) 5 1 _ (by decide) (by decide) (fun i i0 i1 => by omega) (fun _ _ => rfl) (fun _ _ => rfl)
                                                              have F : MF cm cm1 := (MF.up1 (i := 5780 + 6 * m) (MF.up0 (i := 22) MF.rf (by decide)) (by omega)).trans ⟨fun i _ => by rw [c3 0 (by decide)], fun b hb => c3 b (by omega), fun i hi => c2 i (Or.inl (by omega)), fun i _ => by rw [c3 2 (by decide)], fun f => f.eq (by rw [c3 0 (by decide)]) (c3 9 (by decide))⟩
                                                              exact L_m_st170 (t := (p, R, m, dep, op, cnt)) (cnt := cnt) (dep := dep) (R := R) (op := op) (by decide) (H.fr (fun i hi => by rw [c3 0 (by decide), aup_rn (by decide), aup_n (by omega)]) (by rw [c3 7 (by decide), aup_rn (by decide), aup_rn (by decide)])) (hSN.mf F) F (by rw [c2 _ (Or.inl (Int.le_refl _))]; exact aup_s) c1 (fun i i0 i1 i2 => by rw [c2 _ (by omega), aup_n (by omega), aup_rn (by decide)]; exact sR i i0 i1) (by rw [c2 _ (by omega), aup_n (by omega), aup_rn (by decide)]; exact sM) (by rw [c3 0 (by decide), aup_rn (by decide), aup_n (by decide)]; exact s21) (by rw [c3 0 (by decide), aup_rn (by decide), aup_s]; first | rw [if_pos (by omega)] | rw [if_neg (by omega)]) (fun j j0 j1 => by rw [c3 8 (by decide), aup_rn (by decide), aup_rn (by decide)]; exact s8 j j0 j1) ⟨by omega, by omega⟩ (by omega) ⟨b1, b2, b3, b4⟩ (by omega) (by omega) (by omega) (by rw [stepP_eq, if_neg (by omega), if_neg (by omega), if_neg (by omega)]) hF hQ
                                                  · first
                                                      | (exfalso; omega)
                                                      | skip
                                                        refine aw_aload_n dX7_step_110 rfl ?_
                                                        refine aw_bipush dX7_step_111 (by decide) ?_
                                                        refine c_X7_154 rfl dX7_step_113 m_ob (Nat.le_of_ble_eq_true rfl) (by omega) (C_m_fails H (k := 7) (by decide) (fun cm1 hb => ?_))
                                                        refine aK_i ?_
                                                        refine aw_zreturn dX7_step_116 rfl (Or.inl rfl) ?_
                                                        rw [if_neg (by have := hk1 (by omega); omega)] at hb
                                                        exact hF _ _ _ (by rw [stepP_eq, if_neg (by omega), if_neg (by omega)]; exact if_pos (by omega)) hb
                                      · first
                                          | (exfalso; omega)
                                          | skip
                                            refine aw_aload_n dX7_step_90 rfl ?_
                                            refine aw_bipush dX7_step_91 (by decide) ?_
                                            refine c_X7_154 rfl dX7_step_93 m_ob (Nat.le_of_ble_eq_true rfl) (by omega) (C_m_fails H (k := 6) (by decide) (fun cm1 hb => ?_))
                                            refine aK_i ?_
                                            refine aw_zreturn dX7_step_96 rfl (Or.inl rfl) ?_
                                            rw [if_neg (by have := hk1 (by omega); omega)] at hb
                                            exact hF _ _ _ (by rw [stepP_eq, if_neg (by omega)]; exact if_pos (by omega)) hb
                          · first
                              | (exfalso; omega)
                              | skip
                                refine gm_229 rfl dX7_step_62 dX7_step_63 rfl ?_
                                rw [s21]
                                refine aw_ifne (tgt := 75) dX7_step_66 (by decide) (fun h66 => ?_) (fun h66 => ?_)
                                · first
                                    | (exfalso; omega)
                                    | skip
                                      refine aw_iload_n dX7_step_75 rfl ?_
                                      refine aw_bipush dX7_step_76 (by decide) ?_
                                      refine aw_icmpeq (tgt := 97) dX7_step_78 (by decide) (fun h78 => ?_) (fun h78 => ?_)
                                      · first
                                          | (exfalso; omega)
                                          | skip
                                            refine aw_iload dX7_step_97 rfl ?_
                                            refine aw_ifeq (tgt := 117) dX7_step_99 (by decide) (fun h99 => ?_) (fun h99 => ?_)
                                            · first
                                                | (exfalso; omega)
                                                | skip
                                                  refine aw_aload_n dX7_step_117 rfl ?_
                                                  refine aw_dup dX7_step_118 rfl ?_
                                                  refine g_X7_232_7 rfl dX7_step_119 m_ob ?_
                                                  rw [s22]
                                                  refine aw_iload_n dX7_step_122 rfl ?_
                                                  refine aw_bipush dX7_step_123 (by decide) ?_
                                                  refine aw_icmpne (tgt := 132) dX7_step_125 (by decide) (fun h125 => ?_) (fun h125 => ?_)
                                                  · first
                                                      | (exfalso; omega)
                                                      | skip
                                                        refine aw_iconst dX7_step_132 (by decide) ?_
                                                        refine aw_iaddr dX7_step_133 (by omega) ?_
                                                        refine p_X7_232_7 rfl dX7_step_134 m_ob ?_
                                                        refine gm_7 rfl dX7_step_137 dX7_step_138 rfl ?_
                                                        refine aw_iload_n dX7_step_141 rfl ?_
                                                        refine aw_iload_n dX7_step_142 rfl ?_
                                                        refine aw_iastore dX7_step_143 m_a1 (by omega) (by omega) ?_
                                                        refine aw_iconst dX7_step_144 (by decide) ?_
                                                        refine aw_istore5 dX7_step_145 (by decide) rfl ?_
                                                        refine L_m_stz (by decide) ⟨by omega, by omega⟩ (fun cm1 x5 c1 c2 c3 => ?_) 5 1 _ (by decide) (by decide) (fun i i0 i1 => by omega) (fun _ _ => rfl) (fun _ _ => rfl)
                                                        have F : MF cm cm1 := (MF.up1 (i := 5780 + 6 * m) (MF.up0 (i := 22) MF.rf (by decide)) (by omega)).trans ⟨fun i _ => by rw [c3 0 (by decide)], fun b hb => c3 b (by omega), fun i hi => c2 i (Or.inl (by omega)), fun i _ => by rw [c3 2 (by decide)], fun f => f.eq (by rw [c3 0 (by decide)]) (c3 9 (by decide))⟩
                                                        exact L_m_st170 (t := (p, R, m, dep, op, cnt)) (cnt := cnt) (dep := dep) (R := R) (op := op) (by decide) (H.fr (fun i hi => by rw [c3 0 (by decide), aup_rn (by decide), aup_n (by omega)]) (by rw [c3 7 (by decide), aup_rn (by decide), aup_rn (by decide)])) (hSN.mf F) F (by rw [c2 _ (Or.inl (Int.le_refl _))]; exact aup_s) c1 (fun i i0 i1 i2 => by rw [c2 _ (by omega), aup_n (by omega), aup_rn (by decide)]; exact sR i i0 i1) (by rw [c2 _ (by omega), aup_n (by omega), aup_rn (by decide)]; exact sM) (by rw [c3 0 (by decide), aup_rn (by decide), aup_n (by decide)]; exact s21) (by rw [c3 0 (by decide), aup_rn (by decide), aup_s]; first | rw [if_pos (by omega)] | rw [if_neg (by omega)]) (fun j j0 j1 => by rw [c3 8 (by decide), aup_rn (by decide), aup_rn (by decide)]; exact s8 j j0 j1) ⟨by omega, by omega⟩ (by omega) ⟨b1, b2, b3, b4⟩ (by omega) (by omega) (by omega) (by rw [stepP_eq, if_neg (by omega), if_neg (by omega), if_neg (by omega)]) hF hQ
                                                  · first
                                                      | (exfalso; omega)
                                                      | skip
                                                        refine aw_iconst dX7_step_128 (by decide) ?_
                                                        refine aw_goto (tgt := 133) dX7_step_129 (by decide) ?_
                                                        refine aw_iaddr dX7_step_133 (by omega) ?_
                                                        refine p_X7_232_7 rfl dX7_step_134 m_ob ?_
                                                        refine gm_7 rfl dX7_step_137 dX7_step_138 rfl ?_
                                                        refine aw_iload_n dX7_step_141 rfl ?_
                                                        refine aw_iload_n dX7_step_142 rfl ?_
                                                        refine aw_iastore dX7_step_143 m_a1 (by omega) (by omega) ?_
                                                        refine aw_iconst dX7_step_144 (by decide) ?_
                                                        refine aw_istore5 dX7_step_145 (by decide) rfl ?_
                                                        refine L_m_stz (by decide) ⟨by omega, by omega⟩ (fun cm1 x5 c1 c2 c3 => ?_) 5 1 _ (by decide) (by decide) (fun i i0 i1 => by omega) (fun _ _ => rfl) (fun _ _ => rfl)
                                                        have F : MF cm cm1 := (MF.up1 (i := 5780 + 6 * m) (MF.up0 (i := 22) MF.rf (by decide)) (by omega)).trans ⟨fun i _ => by rw [c3 0 (by decide)], fun b hb => c3 b (by omega), fun i hi => c2 i (Or.inl (by omega)), fun i _ => by rw [c3 2 (by decide)], fun f => f.eq (by rw [c3 0 (by decide)]) (c3 9 (by decide))⟩
                                                        exact L_m_st170 (t := (p, R, m, dep, op, cnt)) (cnt := cnt) (dep := dep) (R := R) (op := op) (by decide) (H.fr (fun i hi => by rw [c3 0 (by decide), aup_rn (by decide), aup_n (by omega)]) (by rw [c3 7 (by decide), aup_rn (by decide), aup_rn (by decide)])) (hSN.mf F) F (by rw [c2 _ (Or.inl (Int.le_refl _))]; exact aup_s) c1 (fun i i0 i1 i2 => by rw [c2 _ (by omega), aup_n (by omega), aup_rn (by decide)]; exact sR i i0 i1) (by rw [c2 _ (by omega), aup_n (by omega), aup_rn (by decide)]; exact sM) (by rw [c3 0 (by decide), aup_rn (by decide), aup_n (by decide)]; exact s21) (by rw [c3 0 (by decide), aup_rn (by decide), aup_s]; first | rw [if_pos (by omega)] | rw [if_neg (by omega)]) (fun j j0 j1 => by rw [c3 8 (by decide), aup_rn (by decide), aup_rn (by decide)]; exact s8 j j0 j1) ⟨by omega, by omega⟩ (by omega) ⟨b1, b2, b3, b4⟩ (by omega) (by omega) (by omega) (by rw [stepP_eq, if_neg (by omega), if_neg (by omega), if_neg (by omega)]) hF hQ
                                            · first
                                                | (exfalso; omega)
                                                | skip
                                                  refine gm_229 rfl dX7_step_102 dX7_step_103 rfl ?_
                                                  rw [s21]
                                                  refine aw_iconst dX7_step_106 (by decide) ?_
                                                  refine aw_icmpne (tgt := 117) dX7_step_107 (by decide) (fun h107 => ?_) (fun h107 => ?_)
                                                  · first
                                                      | (exfalso; omega)
                                                      | skip
                                                        refine aw_aload_n dX7_step_117 rfl ?_
                                                        refine aw_dup dX7_step_118 rfl ?_
                                                        refine g_X7_232_7 rfl dX7_step_119 m_ob ?_
                                                        rw [s22]
                                                        refine aw_iload_n dX7_step_122 rfl ?_
                                                        refine aw_bipush dX7_step_123 (by decide) ?_
                                                        refine aw_icmpne (tgt := 132) dX7_step_125 (by decide) (fun h125 => ?_) (fun h125 => ?_)
                                                        · first
                                                            | (exfalso; omega)
                                                            | skip
                                                              refine aw_iconst dX7_step_132 (by decide) ?_
                                                              refine aw_iaddr dX7_step_133 (by omega) ?_
                                                              refine p_X7_232_7 rfl dX7_step_134 m_ob ?_
                                                              refine gm_7 rfl dX7_step_137 dX7_step_138 rfl ?_
                                                              refine aw_iload_n dX7_step_141 rfl ?_
                                                              refine aw_iload_n dX7_step_142 rfl ?_
                                                              refine aw_iastore dX7_step_143 m_a1 (by omega) (by omega) ?_
                                                              refine aw_iconst dX7_step_144 (by decide) ?_
                                                              refine aw_istore5 dX7_step_145 (by decide) rfl ?_
                                                              refine L_m_stz (by decide) ⟨by omega, by omega⟩ (fun cm1 x5 c1 c2 c3 => ?_) 5 1 _ (by decide) (by decide) (fun i i0 i1 => by omega) (fun _ _ => rfl) (fun _ _ => rfl)
                                                              have F : MF cm cm1 := (MF.up1 (i := 5780 + 6 * m) (MF.up0 (i := 22) MF.rf (by decide)) (by omega)).trans ⟨fun i _ => by rw [c3 0 (by decide)], fun b hb => c3 b (by omega), fun i hi => c2 i (Or.inl (by omega)), fun i _ => by rw [c3 2 (by decide)], fun f => f.eq (by rw [c3 0 (by decide)]) (c3 9 (by decide))⟩
                                                              exact L_m_st170 (t := (p, R, m, dep, op, cnt)) (cnt := cnt) (dep := dep) (R := R) (op := op) (by decide) (H.fr (fun i hi => by rw [c3 0 (by decide), aup_rn (by decide), aup_n (by omega)]) (by rw [c3 7 (by decide), aup_rn (by decide), aup_rn (by decide)])) (hSN.mf F) F (by rw [c2 _ (Or.inl (Int.le_refl _))]; exact aup_s) c1 (fun i i0 i1 i2 => by rw [c2 _ (by omega), aup_n (by omega), aup_rn (by decide)]; exact sR i i0 i1) (by rw [c2 _ (by omega), aup_n (by omega), aup_rn (by decide)]; exact sM) (by rw [c3 0 (by decide), aup_rn (by decide), aup_n (by decide)]; exact s21) (by rw [c3 0 (by decide), aup_rn (by decide), aup_s]; first | rw [if_pos (by omega)] | rw [if_neg (by omega)]) (fun j j0 j1 => by rw [c3 8 (by decide), aup_rn (by decide), aup_rn (by decide)]; exact s8 j j0 j1) ⟨by omega, by omega⟩ (by omega) ⟨b1, b2, b3, b4⟩ (by omega) (by omega) (by omega) (by rw [stepP_eq, if_neg (by omega), if_neg (by omega), if_neg (by omega)]) hF hQ
                                                        · first
                                                            | (exfalso; omega)
                                                            | skip
                                                              refine aw_iconst dX7_step_128 (by decide) ?_
                                                              refine aw_goto (tgt := 133) dX7_step_129 (by decide) ?_
                                                              refine aw_iaddr dX7_step_133 (by omega) ?_
                                                              refine p_X7_232_7 rfl dX7_step_134 m_ob ?_
                                                              refine gm_7 rfl dX7_step_137 dX7_step_138 rfl ?_
                                                              refine aw_iload_n dX7_step_141 rfl ?_
                                                              refine aw_iload_n dX7_step_142 rfl ?_
                                                              refine aw_iastore dX7_step_143 m_a1 (by omega) (by omega) ?_
                                                              refine aw_iconst dX7_step_144 (by decide) ?_
                                                              refine aw_istore5 dX7_step_145 (by decide) rfl ?_
                                                              refine L_m_stz (by decide) ⟨by omega, by omega⟩ (fun cm1 x5 c1 c2 c3 => ?_) 5 1 _ (by decide) (by decide) (fun i i0 i1 => by omega) (fun _ _ => rfl) (fun _ _ => rfl)
                                                              have F : MF cm cm1 := (MF.up1 (i := 5780 + 6 * m) (MF.up0 (i := 22) MF.rf (by decide)) (by omega)).trans ⟨fun i _ => by rw [c3 0 (by decide)], fun b hb => c3 b (by omega), fun i hi => c2 i (Or.inl (by omega)), fun i _ => by rw [c3 2 (by decide)], fun f => f.eq (by rw [c3 0 (by decide)]) (c3 9 (by decide))⟩
                                                              exact L_m_st170 (t := (p, R, m, dep, op, cnt)) (cnt := cnt) (dep := dep) (R := R) (op := op) (by decide) (H.fr (fun i hi => by rw [c3 0 (by decide), aup_rn (by decide), aup_n (by omega)]) (by rw [c3 7 (by decide), aup_rn (by decide), aup_rn (by decide)])) (hSN.mf F) F (by rw [c2 _ (Or.inl (Int.le_refl _))]; exact aup_s) c1 (fun i i0 i1 i2 => by rw [c2 _ (by omega), aup_n (by omega), aup_rn (by decide)]; exact sR i i0 i1) (by rw [c2 _ (by omega), aup_n (by omega), aup_rn (by decide)]; exact sM) (by rw [c3 0 (by decide), aup_rn (by decide), aup_n (by decide)]; exact s21) (by rw [c3 0 (by decide), aup_rn (by decide), aup_s]; first | rw [if_pos (by omega)] | rw [if_neg (by omega)]) (fun j j0 j1 => by rw [c3 8 (by decide), aup_rn (by decide), aup_rn (by decide)]; exact s8 j j0 j1) ⟨by omega, by omega⟩ (by omega) ⟨b1, b2, b3, b4⟩ (by omega) (by omega) (by omega) (by rw [stepP_eq, if_neg (by omega), if_neg (by omega), if_neg (by omega)]) hF hQ
                                                  · first
                                                      | (exfalso; omega)
                                                      | skip
                                                        refine aw_aload_n dX7_step_110 rfl ?_
                                                        refine aw_bipush dX7_step_111 (by decide) ?_
                                                        refine c_X7_154 rfl dX7_step_113 m_ob (Nat.le_of_ble_eq_true rfl) (by omega) (C_m_fails H (k := 7) (by decide) (fun cm1 hb => ?_))
                                                        refine aK_i ?_
                                                        refine aw_zreturn dX7_step_116 rfl (Or.inl rfl) ?_
                                                        rw [if_neg (by have := hk1 (by omega); omega)] at hb
                                                        exact hF _ _ _ (by rw [stepP_eq, if_neg (by omega), if_neg (by omega)]; exact if_pos (by omega)) hb
                                      · first
                                          | (exfalso; omega)
                                          | skip
                                            refine gm_232 rfl dX7_step_81 dX7_step_82 rfl ?_
                                            rw [s22]
                                            refine aw_bipush dX7_step_85 (by decide) ?_
                                            refine aw_icmpne (tgt := 97) dX7_step_87 (by decide) (fun h87 => ?_) (fun h87 => ?_)
                                            · first
                                                | (exfalso; omega)
                                                | skip
                                                  refine aw_iload dX7_step_97 rfl ?_
                                                  refine aw_ifeq (tgt := 117) dX7_step_99 (by decide) (fun h99 => ?_) (fun h99 => ?_)
                                                  · first
                                                      | (exfalso; omega)
                                                      | skip
                                                        refine aw_aload_n dX7_step_117 rfl ?_
                                                        refine aw_dup dX7_step_118 rfl ?_
                                                        refine g_X7_232_7 rfl dX7_step_119 m_ob ?_
                                                        rw [s22]
                                                        refine aw_iload_n dX7_step_122 rfl ?_
                                                        refine aw_bipush dX7_step_123 (by decide) ?_
                                                        refine aw_icmpne (tgt := 132) dX7_step_125 (by decide) (fun h125 => ?_) (fun h125 => ?_)
                                                        · first
                                                            | (exfalso; omega)
                                                            | skip
                                                              refine aw_iconst dX7_step_132 (by decide) ?_
                                                              refine aw_iaddr dX7_step_133 (by omega) ?_
                                                              refine p_X7_232_7 rfl dX7_step_134 m_ob ?_
                                                              refine gm_7 rfl dX7_step_137 dX7_step_138 rfl ?_
                                                              refine aw_iload_n dX7_step_141 rfl ?_
                                                              refine aw_iload_n dX7_step_142 rfl ?_
                                                              refine aw_iastore dX7_step_143 m_a1 (by omega) (by omega) ?_
                                                              refine aw_iconst dX7_step_144 (by decide) ?_
                                                              refine aw_istore5 dX7_step_145 (by decide) rfl ?_
                                                              refine L_m_stz (by decide) ⟨by omega, by omega⟩ (fun cm1 x5 c1 c2 c3 => ?_) 5 1 _ (by decide) (by decide) (fun i i0 i1 => by omega) (fun _ _ => rfl) (fun _ _ => rfl)
                                                              have F : MF cm cm1 := (MF.up1 (i := 5780 + 6 * m) (MF.up0 (i := 22) MF.rf (by decide)) (by omega)).trans ⟨fun i _ => by rw [c3 0 (by decide)], fun b hb => c3 b (by omega), fun i hi => c2 i (Or.inl (by omega)), fun i _ => by rw [c3 2 (by decide)], fun f => f.eq (by rw [c3 0 (by decide)]) (c3 9 (by decide))⟩
                                                              exact L_m_st170 (t := (p, R, m, dep, op, cnt)) (cnt := cnt) (dep := dep) (R := R) (op := op) (by decide) (H.fr (fun i hi => by rw [c3 0 (by decide), aup_rn (by decide), aup_n (by omega)]) (by rw [c3 7 (by decide), aup_rn (by decide), aup_rn (by decide)])) (hSN.mf F) F (by rw [c2 _ (Or.inl (Int.le_refl _))]; exact aup_s) c1 (fun i i0 i1 i2 => by rw [c2 _ (by omega), aup_n (by omega), aup_rn (by decide)]; exact sR i i0 i1) (by rw [c2 _ (by omega), aup_n (by omega), aup_rn (by decide)]; exact sM) (by rw [c3 0 (by decide), aup_rn (by decide), aup_n (by decide)]; exact s21) (by rw [c3 0 (by decide), aup_rn (by decide), aup_s]; first | rw [if_pos (by omega)] | rw [if_neg (by omega)]) (fun j j0 j1 => by rw [c3 8 (by decide), aup_rn (by decide), aup_rn (by decide)]; exact s8 j j0 j1) ⟨by omega, by omega⟩ (by omega) ⟨b1, b2, b3, b4⟩ (by omega) (by omega) (by omega) (by rw [stepP_eq, if_neg (by omega), if_neg (by omega), if_neg (by omega)]) hF hQ
                                                        · first
                                                            | (exfalso; omega)
                                                            | skip
                                                              refine aw_iconst dX7_step_128 (by decide) ?_
                                                              refine aw_goto (tgt := 133) dX7_step_129 (by decide) ?_
                                                              refine aw_iaddr dX7_step_133 (by omega) ?_
                                                              refine p_X7_232_7 rfl dX7_step_134 m_ob ?_
                                                              refine gm_7 rfl dX7_step_137 dX7_step_138 rfl ?_
                                                              refine aw_iload_n dX7_step_141 rfl ?_
                                                              refine aw_iload_n dX7_step_142 rfl ?_
                                                              refine aw_iastore dX7_step_143 m_a1 (by omega) (by omega) ?_
                                                              refine aw_iconst dX7_step_144 (by decide) ?_
                                                              refine aw_istore5 dX7_step_145 (by decide) rfl ?_
                                                              refine L_m_stz (by decide) ⟨by omega, by omega⟩ (fun cm1 x5 c1 c2 c3 => ?_) 5 1 _ (by decide) (by decide) (fun i i0 i1 => by omega) (fun _ _ => rfl) (fun _ _ => rfl)
                                                              have F : MF cm cm1 := (MF.up1 (i := 5780 + 6 * m) (MF.up0 (i := 22) MF.rf (by decide)) (by omega)).trans ⟨fun i _ => by rw [c3 0 (by decide)], fun b hb => c3 b (by omega), fun i hi => c2 i (Or.inl (by omega)), fun i _ => by rw [c3 2 (by decide)], fun f => f.eq (by rw [c3 0 (by decide)]) (c3 9 (by decide))⟩
                                                              exact L_m_st170 (t := (p, R, m, dep, op, cnt)) (cnt := cnt) (dep := dep) (R := R) (op := op) (by decide) (H.fr (fun i hi => by rw [c3 0 (by decide), aup_rn (by decide), aup_n (by omega)]) (by rw [c3 7 (by decide), aup_rn (by decide), aup_rn (by decide)])) (hSN.mf F) F (by rw [c2 _ (Or.inl (Int.le_refl _))]; exact aup_s) c1 (fun i i0 i1 i2 => by rw [c2 _ (by omega), aup_n (by omega), aup_rn (by decide)]; exact sR i i0 i1) (by rw [c2 _ (by omega), aup_n (by omega), aup_rn (by decide)]; exact sM) (by rw [c3 0 (by decide), aup_rn (by decide), aup_n (by decide)]; exact s21) (by rw [c3 0 (by decide), aup_rn (by decide), aup_s]; first | rw [if_pos (by omega)] | rw [if_neg (by omega)]) (fun j j0 j1 => by rw [c3 8 (by decide), aup_rn (by decide), aup_rn (by decide)]; exact s8 j j0 j1) ⟨by omega, by omega⟩ (by omega) ⟨b1, b2, b3, b4⟩ (by omega) (by omega) (by omega) (by rw [stepP_eq, if_neg (by omega), if_neg (by omega), if_neg (by omega)]) hF hQ
                                                  · first
                                                      | (exfalso; omega)
                                                      | skip
                                                        refine gm_229 rfl dX7_step_102 dX7_step_103 rfl ?_
                                                        rw [s21]
                                                        refine aw_iconst dX7_step_106 (by decide) ?_
                                                        refine aw_icmpne (tgt := 117) dX7_step_107 (by decide) (fun h107 => ?_) (fun h107 => ?_)
                                                        · first
                                                            | (exfalso; omega)
                                                            | skip
                                                              refine aw_aload_n dX7_step_117 rfl ?_
                                                              refine aw_dup dX7_step_118 rfl ?_
                                                              refine g_X7_232_7 rfl dX7_step_119 m_ob ?_
                                                              rw [s22]
                                                              refine aw_iload_n dX7_step_122 rfl ?_
                                                              refine aw_bipush dX7_step_123 (by decide) ?_
                                                              refine aw_icmpne (tgt := 132) dX7_step_125 (by decide) (fun h125 => ?_) (fun h125 => ?_)
                                                              · first
                                                                  | (exfalso; omega)
                                                                  | skip
                                                                    refine aw_iconst dX7_step_132 (by decide) ?_
                                                                    refine aw_iaddr dX7_step_133 (by omega) ?_
                                                                    refine p_X7_232_7 rfl dX7_step_134 m_ob ?_
                                                                    refine gm_7 rfl dX7_step_137 dX7_step_138 rfl ?_
                                                                    refine aw_iload_n dX7_step_141 rfl ?_
                                                                    refine aw_iload_n dX7_step_142 rfl ?_
                                                                    refine aw_iastore dX7_step_143 m_a1 (by omega) (by omega) ?_
                                                                    refine aw_iconst dX7_step_144 (by decide) ?_
                                                                    refine aw_istore5 dX7_step_145 (by decide) rfl ?_
                                                                    refine L_m_stz (by decide) ⟨by omega, by omega⟩ (fun cm1 x5 c1 c2 c3 => ?_) 5 1 _ (by decide) (by decide) (fun i i0 i1 => by omega) (fun _ _ => rfl) (fun _ _ => rfl)
                                                                    have F : MF cm cm1 := (MF.up1 (i := 5780 + 6 * m) (MF.up0 (i := 22) MF.rf (by decide)) (by omega)).trans ⟨fun i _ => by rw [c3 0 (by decide)], fun b hb => c3 b (by omega), fun i hi => c2 i (Or.inl (by omega)), fun i _ => by rw [c3 2 (by decide)], fun f => f.eq (by rw [c3 0 (by decide)]) (c3 9 (by decide))⟩
                                                                    exact L_m_st170 (t := (p, R, m, dep, op, cnt)) (cnt := cnt) (dep := dep) (R := R) (op := op) (by decide) (H.fr (fun i hi => by rw [c3 0 (by decide), aup_rn (by decide), aup_n (by omega)]) (by rw [c3 7 (by decide), aup_rn (by decide), aup_rn (by decide)])) (hSN.mf F) F (by rw [c2 _ (Or.inl (Int.le_refl _))]; exact aup_s) c1 (fun i i0 i1 i2 => by rw [c2 _ (by omega), aup_n (by omega), aup_rn (by decide)]; exact sR i i0 i1) (by rw [c2 _ (by omega), aup_n (by omega), aup_rn (by decide)]; exact sM) (by rw [c3 0 (by decide), aup_rn (by decide), aup_n (by decide)]; exact s21) (by rw [c3 0 (by decide), aup_rn (by decide), aup_s]; first | rw [if_pos (by omega)] | rw [if_neg (by omega)]) (fun j j0 j1 => by rw [c3 8 (by decide), aup_rn (by decide), aup_rn (by decide)]; exact s8 j j0 j1) ⟨by omega, by omega⟩ (by omega) ⟨b1, b2, b3, b4⟩ (by omega) (by omega) (by omega) (by rw [stepP_eq, if_neg (by omega), if_neg (by omega), if_neg (by omega)]) hF hQ
                                                              · first
                                                                  | (exfalso; omega)
                                                                  | skip
                                                                    refine aw_iconst dX7_step_128 (by decide) ?_
                                                                    refine aw_goto (tgt := 133) dX7_step_129 (by decide) ?_
                                                                    refine aw_iaddr dX7_step_133 (by omega) ?_
                                                                    refine p_X7_232_7 rfl dX7_step_134 m_ob ?_
                                                                    refine gm_7 rfl dX7_step_137 dX7_step_138 rfl ?_
                                                                    refine aw_iload_n dX7_step_141 rfl ?_
                                                                    refine aw_iload_n dX7_step_142 rfl ?_
                                                                    refine aw_iastore dX7_step_143 m_a1 (by omega) (by omega) ?_
                                                                    refine aw_iconst dX7_step_144 (by decide) ?_
                                                                    refine aw_istore5 dX7_step_145 (by decide) rfl ?_
                                                                    refine L_m_stz (by decide) ⟨by omega, by omega⟩ (fun cm1 x5 c1 c2 c3 => ?_) 5 1 _ (by decide) (by decide) (fun i i0 i1 => by omega) (fun _ _ => rfl) (fun _ _ => rfl)
                                                                    have F : MF cm cm1 := (MF.up1 (i := 5780 + 6 * m) (MF.up0 (i := 22) MF.rf (by decide)) (by omega)).trans ⟨fun i _ => by rw [c3 0 (by decide)], fun b hb => c3 b (by omega), fun i hi => c2 i (Or.inl (by omega)), fun i _ => by rw [c3 2 (by decide)], fun f => f.eq (by rw [c3 0 (by decide)]) (c3 9 (by decide))⟩
                                                                    exact L_m_st170 (t := (p, R, m, dep, op, cnt)) (cnt := cnt) (dep := dep) (R := R) (op := op) (by decide) (H.fr (fun i hi => by rw [c3 0 (by decide), aup_rn (by decide), aup_n (by omega)]) (by rw [c3 7 (by decide), aup_rn (by decide), aup_rn (by decide)])) (hSN.mf F) F (by rw [c2 _ (Or.inl (Int.le_refl _))]; exact aup_s) c1 (fun i i0 i1 i2 => by rw [c2 _ (by omega), aup_n (by omega), aup_rn (by decide)]; exact sR i i0 i1) (by rw [c2 _ (by omega), aup_n (by omega), aup_rn (by decide)]; exact sM) (by rw [c3 0 (by decide), aup_rn (by decide), aup_n (by decide)]; exact s21) (by rw [c3 0 (by decide), aup_rn (by decide), aup_s]; first | rw [if_pos (by omega)] | rw [if_neg (by omega)]) (fun j j0 j1 => by rw [c3 8 (by decide), aup_rn (by decide), aup_rn (by decide)]; exact s8 j j0 j1) ⟨by omega, by omega⟩ (by omega) ⟨b1, b2, b3, b4⟩ (by omega) (by omega) (by omega) (by rw [stepP_eq, if_neg (by omega), if_neg (by omega), if_neg (by omega)]) hF hQ
                                                        · first
                                                            | (exfalso; omega)
                                                            | skip
                                                              refine aw_aload_n dX7_step_110 rfl ?_
                                                              refine aw_bipush dX7_step_111 (by decide) ?_
                                                              refine c_X7_154 rfl dX7_step_113 m_ob (Nat.le_of_ble_eq_true rfl) (by omega) (C_m_fails H (k := 7) (by decide) (fun cm1 hb => ?_))
                                                              refine aK_i ?_
                                                              refine aw_zreturn dX7_step_116 rfl (Or.inl rfl) ?_
                                                              rw [if_neg (by have := hk1 (by omega); omega)] at hb
                                                              exact hF _ _ _ (by rw [stepP_eq, if_neg (by omega), if_neg (by omega)]; exact if_pos (by omega)) hb
                                            · first
                                                | (exfalso; omega)
                                                | skip
                                                  refine aw_aload_n dX7_step_90 rfl ?_
                                                  refine aw_bipush dX7_step_91 (by decide) ?_
                                                  refine c_X7_154 rfl dX7_step_93 m_ob (Nat.le_of_ble_eq_true rfl) (by omega) (C_m_fails H (k := 6) (by decide) (fun cm1 hb => ?_))
                                                  refine aK_i ?_
                                                  refine aw_zreturn dX7_step_96 rfl (Or.inl rfl) ?_
                                                  rw [if_neg (by have := hk1 (by omega); omega)] at hb
                                                  exact hF _ _ _ (by rw [stepP_eq, if_neg (by omega)]; exact if_pos (by omega)) hb
                                · first
                                    | (exfalso; omega)
                                    | skip
                                      refine aw_aload_n dX7_step_69 rfl ?_
                                      refine aw_iconst dX7_step_70 (by decide) ?_
                                      refine c_X7_154 rfl dX7_step_71 m_ob (Nat.le_of_ble_eq_true rfl) (by omega) (C_m_fails H (k := 2) (by decide) (fun cm1 hb => ?_))
                                      refine aK_i ?_
                                      refine aw_zreturn dX7_step_74 rfl (Or.inl rfl) ?_
                                      exact hF _ _ _ (by rw [stepP_eq]; exact if_pos (by omega)) (show MB cm cm1 (wr tp n p) (tF tp n p) from hb)
