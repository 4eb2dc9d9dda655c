set_option maxRecDepth 100000
/-! operations, 21: split -/
theorem OP_split {sz : Int} {im : Int → aIm} {ct cm : Int → Int → Int} (h : XR (sz, im, ct) cm) {a b : Int} (r0 : -2147483648 ≤ a ∧ a < 2147483648) (r1 : -2147483648 ≤ b ∧ b < 2147483648)  : AMet md_X0_split 4 0 0 [vR 0, vI a, vI b] (sz, im, ct) (XQ md_X7_split 5 [vR 0, vI a, vI b] cm) := by
  obtain ⟨own, N, hR, HY, HL, HN, HS, HP, HF, HX, hv2, hv3, hv4⟩ := id h
  dsimp only at hR HY HL HS HX hv2 hv3 hv4
  have hp0 := HP.1
  have hp3 := HP.2.1
  have hpq := HP.2.2.2.1.1
  have hps := HP.2.2.2.2.2
  refine AMet.go (L := [some (vR 0), some (vI a), some (vI b), none]) mok_X0_split (Nat.le_of_ble_eq_true rfl) rfl ?_
  refine aw_aload_n dX0_split_0 rfl ?_
  refine aw_aload_n dX0_split_1 rfl ?_
  refine aw_iload_n dX0_split_2 rfl ?_
  refine aw_iload_n dX0_split_3 rfl ?_
  refine c_X0_341 rfl dX0_split_4 hR.o0 (Nat.le_of_ble_eq_true rfl) (by omega) (C_x_areTwo hR HY (fun xt => ?_) (fun xt => ?_))
  · refine aK_i ?_
    refine aw_ifne (tgt := 14) dX0_split_7 (by decide) (fun _ => ?_) (fun h => absurd h (by decide))
    obtain ⟨hw, ehw, ⟨u1, u2, ⟨u3, u4, u5, u6, u7⟩, u8, u9, -⟩, nhw0, nhw10, nhw9, nv0, nvhw, nv10, ohw⟩ := HY.hv hR (k := b) (by omega) (by omega)
    have un := u1.2.2.2
    have uh := HP.2.2.1 b (by omega) (by omega)
    have uq := uh.2.2.2.2.1
    have up := HP.pd.2.1 b (by omega) (by omega)
    refine aw_aload_n dX0_split_14 rfl ?_
    refine aw_iload_n dX0_split_15 rfl ?_
    refine c_X0_172 rfl dX0_split_16 hR.o0 (Nat.le_of_ble_eq_true rfl) (by omega) (C_x_xat2 (a := hw) hR HY (by omega) ehw ?_)
    refine aK_i ?_
    refine g_X0_264_9 rfl dX0_split_19 u1.1 ?_
    rw [u3]
    refine aw_ifgt (tgt := 55) dX0_split_22 (by decide) (fun h22 => ?_) (fun h22 => ?_)
    · refine aw_bipush dX0_split_55 (by decide) ?_
      refine aw_goto (tgt := 61) dX0_split_57 (by decide) ?_
      refine p_X0_73_0 rfl dX0_split_61 hR.o0 ?_
      refine aw_aload_n dX0_split_64 rfl ?_
      refine g_X0_73_0 rfl dX0_split_65 hR.o0 ?_
      repeat (first | rw [aup_s] | rw [aup_n (by omega)])
      refine aw_ifle (tgt := 73) dX0_split_68 (by decide) (fun h => absurd h (by decide)) (fun _ => ?_)
      refine aw_iconst dX0_split_71 (by decide) ?_
      refine aw_ireturn dX0_split_72 rfl ?_
      refine ⟨_, rfl, ?_⟩
      refine AMet.go (L := [some (vR 0), some (vI a), some (vI b), none, none, none]) mok_X7_split (Nat.le_of_ble_eq_true rfl) rfl ?_
      refine aw_aload_n dX7_split_0 rfl ?_
      refine aw_iload_n dX7_split_1 rfl ?_
      refine c_X7_274 rfl dX7_split_2 m_ob (Nat.le_of_ble_eq_true rfl) (by omega) (C_m_isHive (fun hh => ?_) (fun hh => ?_))
      · first
          | (exfalso; omega)
          | skip
            refine aK_i ?_
            refine aw_ifeq (tgt := 21) dX7_split_5 (by decide) (fun h => absurd h (by decide)) (fun _ => ?_)
            refine aw_aload_n dX7_split_8 rfl ?_
            refine aw_iload_n dX7_split_9 rfl ?_
            refine c_X7_274 rfl dX7_split_10 m_ob (Nat.le_of_ble_eq_true rfl) (by omega) (C_m_isHive (fun hh => ?_) (fun hh => ?_))
            · first
                | (exfalso; omega)
                | skip
                  refine aK_i ?_
                  refine aw_ifeq (tgt := 21) dX7_split_13 (by decide) (fun h => absurd h (by decide)) (fun _ => ?_)
                  refine aw_iload_n dX7_split_16 rfl ?_
                  refine aw_iload_n dX7_split_17 rfl ?_
                  refine aw_icmpne (tgt := 27) dX7_split_18 (by decide) (fun h18 => ?_) (fun h18 => ?_)
                  · first
                      | (exfalso; omega)
                      | skip
                        refine aw_iload_n dX7_split_27 rfl ?_
                        refine c_X7_217 rfl dX7_split_28  (Nat.le_of_ble_eq_true rfl) (by omega) (C_m_hiveRow (by omega) ?_)
                        refine aK_i ?_
                        refine aw_istore3 dX7_split_31 (by decide) rfl ?_
                        refine aw_iload_n dX7_split_32 rfl ?_
                        refine c_X7_217 rfl dX7_split_33  (Nat.le_of_ble_eq_true rfl) (by omega) (C_m_hiveRow (by omega) ?_)
                        refine aK_i ?_
                        refine aw_istore4 dX7_split_36 (by decide) rfl ?_
                        refine gm_7 rfl dX7_split_38 dX7_split_39 rfl ?_
                        refine aw_iload dX7_split_42 rfl ?_
                        refine aw_iconst dX7_split_44 (by decide) ?_
                        refine aw_iaddr dX7_split_45 (by omega) ?_
                        refine aw_iaload dX7_split_46 m_a1 (by omega) (by omega) ?_
                        refine aw_ifgt (tgt := 83) dX7_split_47 (by decide) (fun h47 => ?_) (fun h47 => ?_)
                        · first
                            | (exfalso; omega)
                            | skip
                              refine aw_aload_n dX7_split_83 rfl ?_
                              refine aw_bipush dX7_split_84 (by decide) ?_
                              refine c_X7_72 rfl dX7_split_86 m_ob (Nat.le_of_ble_eq_true rfl) (by omega) (C_m_refuse ?_)
                              refine aK_i ?_
                              refine aw_ireturn dX7_split_89 rfl ?_
                              first
                                | (exfalso; omega)
                                | (refine XR.sameE h ?_ ?_ ?_ ?_ ?_ ?_
                                   · first
                                       | rfl
                                       | omega
                                   · repeat (first | exact xs.rf | refine xs.up ?_ (by decide))
                                   · repeat (first | exact mss.rf | refine mss.up0 ?_ (by decide))
                                   · first
                                       | (simp [aup, hv2, hv3, hv4]; done)
                                       | (simp [aup, hv2, hv3, hv4]; omega)
                                   · simp [aup, hv2, hv3, hv4]
                                   · simp [aup, hv2, hv3, hv4])
                        · first
                            | (exfalso; omega)
                            | skip
                              refine gm_7 rfl dX7_split_50 dX7_split_51 rfl ?_
                              refine aw_iload dX7_split_54 rfl ?_
                              refine aw_iconst dX7_split_56 (by decide) ?_
                              refine aw_iaddr dX7_split_57 (by omega) ?_
                              refine aw_iaload dX7_split_58 m_a1 (by omega) (by omega) ?_
                              refine aw_iconst dX7_split_59 (by decide) ?_
                              refine aw_icmpne (tgt := 83) dX7_split_60 (by decide) (fun h60 => ?_) (fun h60 => ?_)
                              · first
                                  | (exfalso; omega)
                                  | skip
                                    refine aw_aload_n dX7_split_83 rfl ?_
                                    refine aw_bipush dX7_split_84 (by decide) ?_
                                    refine c_X7_72 rfl dX7_split_86 m_ob (Nat.le_of_ble_eq_true rfl) (by omega) (C_m_refuse ?_)
                                    refine aK_i ?_
                                    refine aw_ireturn dX7_split_89 rfl ?_
                                    first
                                      | (exfalso; omega)
                                      | (refine XR.sameE h ?_ ?_ ?_ ?_ ?_ ?_
                                         · first
                                             | rfl
                                             | omega
                                         · repeat (first | exact xs.rf | refine xs.up ?_ (by decide))
                                         · repeat (first | exact mss.rf | refine mss.up0 ?_ (by decide))
                                         · first
                                             | (simp [aup, hv2, hv3, hv4]; done)
                                             | (simp [aup, hv2, hv3, hv4]; omega)
                                         · simp [aup, hv2, hv3, hv4]
                                         · simp [aup, hv2, hv3, hv4])
                              · first
                                  | (exfalso; omega)
                                  | skip
                                    refine aw_aload_n dX7_split_63 rfl ?_
                                    refine aw_iload dX7_split_64 rfl ?_
                                    refine aw_iconst dX7_split_66 (by decide) ?_
                                    refine c_X7_283 rfl dX7_split_67 m_ob (Nat.le_of_ble_eq_true rfl) (by omega) (C_m_sumOf rfl uh.1 (by omega) uh.2.1 ?_)
                                    refine aK_i ?_
                                    refine aw_bipush dX7_split_70 (by decide) ?_
                                    refine gm_7 rfl dX7_split_72 dX7_split_73 rfl ?_
                                    refine aw_iload dX7_split_76 rfl ?_
                                    refine aw_iaload dX7_split_78 m_a1 (by omega) (by omega) ?_
                                    refine aw_imulr dX7_split_79 (by omega) ?_
                                    refine aw_icmpge (tgt := 90) dX7_split_80 (by decide) (fun h80 => ?_) (fun h80 => ?_)
                                    · first
                                        | (exfalso; omega)
                                        | skip
                                          refine aw_iconst dX7_split_90 (by decide) ?_
                                          refine aw_istore5 dX7_split_91 (by decide) rfl ?_
                                          refine L_m_split (a := a) (b := b) (J := (min (cm 1 (64 + 198 * a)) (cm 1 (64 + 198 * b)) / 2).toNat) (by omega) HP (by omega) (by omega) (by omega) (by omega) (fun ct3 x5 e1 e2 => ?_) (min (cm 1 (64 + 198 * a)) (cm 1 (64 + 198 * b)) / 2).toNat 0 1 cm (by omega) (by omega) rfl (fun _ _ => rfl)
                                          have za1 : ct3 1 (64 + 198 * a + 1) = cm 1 (64 + 198 * a + 1) := by rw [e1]; exact hz a 1 (by omega) (by omega)
                                          have hl10 : ct1 10 0 = ct 10 0 := by
                                            rw [hI.2.2.2.2 0, aup_n (by omega)]
                                          refine gm_7 rfl dX7_split_140 dX7_split_141 rfl ?_
                                          refine aw_iload_n dX7_split_144 rfl ?_
                                          refine aw_iconst dX7_split_145 (by decide) ?_
                                          refine aw_iaddr dX7_split_146 (by omega) ?_
                                          refine aw_iaload dX7_split_147 m_a1 (by omega) (by omega) ?_
                                          rw [za1]
                                          refine aw_iconst dX7_split_148 (by decide) ?_
                                          refine aw_idivr dX7_split_149 (by omega) (by omega) ?_
                                          refine aw_istore5 dX7_split_150 (by decide) rfl ?_
                                          refine gm_7 rfl dX7_split_152 dX7_split_153 rfl ?_
                                          refine aw_iload_n dX7_split_156 rfl ?_
                                          refine aw_iconst dX7_split_157 (by decide) ?_
                                          refine aw_iaddr dX7_split_158 (by omega) ?_
                                          refine aw_dup2 dX7_split_159 rfl rfl ?_
                                          refine aw_iaload dX7_split_160 m_a1 (by omega) (by omega) ?_
                                          rw [za1]
                                          refine aw_iload dX7_split_161 rfl ?_
                                          refine aw_isubr dX7_split_163 (by omega) ?_
                                          refine aw_iastore dX7_split_164 m_a1 (by omega) (by omega) ?_
                                          refine gm_7 rfl dX7_split_165 dX7_split_166 rfl ?_
                                          refine aw_iload dX7_split_169 rfl ?_
                                          refine aw_iconst dX7_split_171 (by decide) ?_
                                          refine aw_iaddr dX7_split_172 (by omega) ?_
                                          refine aw_iload dX7_split_173 rfl ?_
                                          refine aw_iastore dX7_split_175 m_a1 (by omega) (by omega) ?_
                                          refine aw_aload_n dX7_split_176 rfl ?_
                                          refine aw_iload dX7_split_177 rfl ?_
                                          refine c_X7_76 rfl dX7_split_179 m_ob (Nat.le_of_ble_eq_true rfl) (by omega) (C_m_gives ?_)
                                          refine aK_i ?_
                                          refine aw_ireturn dX7_split_182 rfl ?_
                                          refine ⟨vI_eq (by first | rfl | omega), _, rfl, XR.yd (upA (upA (splF (cm 1) a b (min (cm 1 (64 + 198 * a)) (cm 1 (64 + 198 * b)) / 2).toNat) (64 + 198 * a + 1) (cm 1 (64 + 198 * a + 1) - cm 1 (64 + 198 * a + 1) / 2)) (64 + 198 * b + 1) (cm 1 (64 + 198 * b + 1) + cm 1 (64 + 198 * a + 1) / 2)) (RT.tr T hR) (XO.tr T hR HX) (LR.tr T HL) HN (SE.tr T HS) HP ?_ ?_ ?_ ?_ ?_ ?_ ?_ ?_ ?_ ?_ ?_ ?_ ?_⟩
                                          · rw [aup_rn (by decide), aup_r, aup_r, e1, show cm 1 (64 + 198 * b + 1) = 0 by omega, Int.zero_add]
                                          · rw [upA_n (by omega), upA_n (by omega), h1lo 3 (by omega)]
                                            exact (hY1.hfld (k := a) (a := hv2) (j := 3) (v := cm 1 (64 + 198 * a + 1) - cm 1 (64 + 198 * a + 1) / 2) (by omega) (by omega) ehv2 (by omega)).hfld (k := b) (a := hw2) (j := 3) (v := cm 1 (64 + 198 * b + 1) + cm 1 (64 + 198 * a + 1) / 2) (by omega) (by rw [upA_n (by omega)]; omega) (by rw [aup_rn nvhv2]; exact ehw2) (by omega)
                                          · intro i hi
                                            rw [upA_n (by omega), upA_n (by omega)]
                                            exact h1lo i (by omega)
                                          · intro k k0 k1
                                            rw [upA_n (by omega), upA_n (by omega)]
                                            have q := hz k 0 (by omega) (by omega)
                                            rw [Int.add_zero] at q
                                            exact q
                                          · refine hPs.two (k := a) (g := b) (by omega) (by omega) (by omega) (by omega) (by omega) (fun i i1 i2 => by rw [upA_n (by omega), upA_n (by omega)]) ?_ ?_ ?_ ?_ ?_ ?_ ?_ ?_
                                            all_goals (repeat (first | rw [upA_s] | rw [upA_n (by omega)]))
                                            all_goals (repeat rw [hz _ _ (by omega) (by omega)])
                                            all_goals (try rw [h1lo 1 (by omega)])
                                            all_goals (obtain ⟨q1, q2, q3, q4, q5, q6, q7⟩ := HP.2.2.1 a (by omega) (by omega))
                                            all_goals (obtain ⟨r1, r2, r3, r4, r5, r6, r7⟩ := HP.2.2.1 b (by omega) (by omega))
                                            all_goals omega
                                          · exact HF.eq (by rw [aup_n (by omega), aup_rn (by decide), aup_rn (by decide), e2 0 (by decide)]) (by rw [aup_rn (by decide), aup_rn (by decide), aup_rn (by decide), e2 9 (by decide)])
                                          · intro x j hx hz9
                                            have hx0 : ¬ (0 ≤ own x ∧ own x < 10) := fun z => hx (hI.2.1 x z)
                                            rw [aup_rn (fun q => hx (by rw [q]; exact ohw2)), aup_rn (fun q => hx (by rw [q]; exact ohv2)), hI.2.2.2.1 x j hx0, aup_n (fun z => hz9 ⟨z.1, Or.inl z.2⟩)]
                                          · rw [aup_rn (fun z => nhw210 z.symm), aup_rn (fun z => nhv210 z.symm), hl10]
                                          · intro i b0 b1 b9
                                            rw [aup_rn b0, aup_rn b1, aup_rn b1]; exact e2 i b1
                                          · intro i hi
                                            rw [aup_n (by omega), aup_rn (by decide), aup_rn (by decide), e2 0 (by decide)]
                                          · rw [aup_rn (fun z => nhw20 z.symm), aup_rn (fun z => nhv20 z.symm), fr7, aup_s, aup_s]
                                          · rw [aup_rn (fun z => nhw20 z.symm), aup_rn (fun z => nhv20 z.symm), fr7, aup_n (by omega), aup_n (by omega), aup_rn (by decide), aup_rn (by decide), e2 0 (by decide)]; exact hv3
                                          · rw [aup_rn (fun z => nhw20 z.symm), aup_rn (fun z => nhv20 z.symm), fr7, aup_n (by omega), aup_n (by omega), aup_rn (by decide), aup_rn (by decide), e2 0 (by decide)]; exact hv4
                                    · first
                                        | (exfalso; omega)
                                        | skip
                                          refine aw_aload_n dX7_split_83 rfl ?_
                                          refine aw_bipush dX7_split_84 (by decide) ?_
                                          refine c_X7_72 rfl dX7_split_86 m_ob (Nat.le_of_ble_eq_true rfl) (by omega) (C_m_refuse ?_)
                                          refine aK_i ?_
                                          refine aw_ireturn dX7_split_89 rfl ?_
                                          first
                                            | (exfalso; omega)
                                            | (refine XR.sameE h ?_ ?_ ?_ ?_ ?_ ?_
                                               · first
                                                   | rfl
                                                   | omega
                                               · repeat (first | exact xs.rf | refine xs.up ?_ (by decide))
                                               · repeat (first | exact mss.rf | refine mss.up0 ?_ (by decide))
                                               · first
                                                   | (simp [aup, hv2, hv3, hv4]; done)
                                                   | (simp [aup, hv2, hv3, hv4]; omega)
                                               · simp [aup, hv2, hv3, hv4]
                                               · simp [aup, hv2, hv3, hv4])
                  · first
                      | (exfalso; omega)
                      | skip
                        refine aw_aload_n dX7_split_21 rfl ?_
                        refine aw_iconst dX7_split_22 (by decide) ?_
                        refine c_X7_72 rfl dX7_split_23 m_ob (Nat.le_of_ble_eq_true rfl) (by omega) (C_m_refuse ?_)
                        refine aK_i ?_
                        refine aw_ireturn dX7_split_26 rfl ?_
                        first
                          | (exfalso; omega)
                          | (refine XR.sameE h ?_ ?_ ?_ ?_ ?_ ?_
                             · first
                                 | rfl
                                 | omega
                             · repeat (first | exact xs.rf | refine xs.up ?_ (by decide))
                             · repeat (first | exact mss.rf | refine mss.up0 ?_ (by decide))
                             · first
                                 | (simp [aup, hv2, hv3, hv4]; done)
                                 | (simp [aup, hv2, hv3, hv4]; omega)
                             · simp [aup, hv2, hv3, hv4]
                             · simp [aup, hv2, hv3, hv4])
            · first
                | (exfalso; omega)
                | skip
                  refine aK_i ?_
                  refine aw_ifeq (tgt := 21) dX7_split_13 (by decide) (fun _ => ?_) (fun h => absurd h (by decide))
                  refine aw_aload_n dX7_split_21 rfl ?_
                  refine aw_iconst dX7_split_22 (by decide) ?_
                  refine c_X7_72 rfl dX7_split_23 m_ob (Nat.le_of_ble_eq_true rfl) (by omega) (C_m_refuse ?_)
                  refine aK_i ?_
                  refine aw_ireturn dX7_split_26 rfl ?_
                  first
                    | (exfalso; omega)
                    | (refine XR.sameE h ?_ ?_ ?_ ?_ ?_ ?_
                       · first
                           | rfl
                           | omega
                       · repeat (first | exact xs.rf | refine xs.up ?_ (by decide))
                       · repeat (first | exact mss.rf | refine mss.up0 ?_ (by decide))
                       · first
                           | (simp [aup, hv2, hv3, hv4]; done)
                           | (simp [aup, hv2, hv3, hv4]; omega)
                       · simp [aup, hv2, hv3, hv4]
                       · simp [aup, hv2, hv3, hv4])
      · first
          | (exfalso; omega)
          | skip
            refine aK_i ?_
            refine aw_ifeq (tgt := 21) dX7_split_5 (by decide) (fun _ => ?_) (fun h => absurd h (by decide))
            refine aw_aload_n dX7_split_21 rfl ?_
            refine aw_iconst dX7_split_22 (by decide) ?_
            refine c_X7_72 rfl dX7_split_23 m_ob (Nat.le_of_ble_eq_true rfl) (by omega) (C_m_refuse ?_)
            refine aK_i ?_
            refine aw_ireturn dX7_split_26 rfl ?_
            first
              | (exfalso; omega)
              | (refine XR.sameE h ?_ ?_ ?_ ?_ ?_ ?_
                 · first
                     | rfl
                     | omega
                 · repeat (first | exact xs.rf | refine xs.up ?_ (by decide))
                 · repeat (first | exact mss.rf | refine mss.up0 ?_ (by decide))
                 · first
                     | (simp [aup, hv2, hv3, hv4]; done)
                     | (simp [aup, hv2, hv3, hv4]; omega)
                 · simp [aup, hv2, hv3, hv4]
                 · simp [aup, hv2, hv3, hv4])
    · refine aw_aload_n dX0_split_25 rfl ?_
      refine aw_iload_n dX0_split_26 rfl ?_
      refine c_X0_172 rfl dX0_split_27 hR.o0 (Nat.le_of_ble_eq_true rfl) (by omega) (C_x_xat2 (a := hw) hR HY (by omega) ehw ?_)
      refine aK_i ?_
      refine g_X0_280_9 rfl dX0_split_30 u1.1 ?_
      rw [u5]
      refine aw_ifge (tgt := 55) dX0_split_33 (by decide) (fun h33 => ?_) (fun h33 => ?_)
      · refine aw_bipush dX0_split_55 (by decide) ?_
        refine aw_goto (tgt := 61) dX0_split_57 (by decide) ?_
        refine p_X0_73_0 rfl dX0_split_61 hR.o0 ?_
        refine aw_aload_n dX0_split_64 rfl ?_
        refine g_X0_73_0 rfl dX0_split_65 hR.o0 ?_
        repeat (first | rw [aup_s] | rw [aup_n (by omega)])
        refine aw_ifle (tgt := 73) dX0_split_68 (by decide) (fun h => absurd h (by decide)) (fun _ => ?_)
        refine aw_iconst dX0_split_71 (by decide) ?_
        refine aw_ireturn dX0_split_72 rfl ?_
        refine ⟨_, rfl, ?_⟩
        refine AMet.go (L := [some (vR 0), some (vI a), some (vI b), none, none, none]) mok_X7_split (Nat.le_of_ble_eq_true rfl) rfl ?_
        refine aw_aload_n dX7_split_0 rfl ?_
        refine aw_iload_n dX7_split_1 rfl ?_
        refine c_X7_274 rfl dX7_split_2 m_ob (Nat.le_of_ble_eq_true rfl) (by omega) (C_m_isHive (fun hh => ?_) (fun hh => ?_))
        · first
            | (exfalso; omega)
            | skip
              refine aK_i ?_
              refine aw_ifeq (tgt := 21) dX7_split_5 (by decide) (fun h => absurd h (by decide)) (fun _ => ?_)
              refine aw_aload_n dX7_split_8 rfl ?_
              refine aw_iload_n dX7_split_9 rfl ?_
              refine c_X7_274 rfl dX7_split_10 m_ob (Nat.le_of_ble_eq_true rfl) (by omega) (C_m_isHive (fun hh => ?_) (fun hh => ?_))
              · first
                  | (exfalso; omega)
                  | skip
                    refine aK_i ?_
                    refine aw_ifeq (tgt := 21) dX7_split_13 (by decide) (fun h => absurd h (by decide)) (fun _ => ?_)
                    refine aw_iload_n dX7_split_16 rfl ?_
                    refine aw_iload_n dX7_split_17 rfl ?_
                    refine aw_icmpne (tgt := 27) dX7_split_18 (by decide) (fun h18 => ?_) (fun h18 => ?_)
                    · first
                        | (exfalso; omega)
                        | skip
                          refine aw_iload_n dX7_split_27 rfl ?_
                          refine c_X7_217 rfl dX7_split_28  (Nat.le_of_ble_eq_true rfl) (by omega) (C_m_hiveRow (by omega) ?_)
                          refine aK_i ?_
                          refine aw_istore3 dX7_split_31 (by decide) rfl ?_
                          refine aw_iload_n dX7_split_32 rfl ?_
                          refine c_X7_217 rfl dX7_split_33  (Nat.le_of_ble_eq_true rfl) (by omega) (C_m_hiveRow (by omega) ?_)
                          refine aK_i ?_
                          refine aw_istore4 dX7_split_36 (by decide) rfl ?_
                          refine gm_7 rfl dX7_split_38 dX7_split_39 rfl ?_
                          refine aw_iload dX7_split_42 rfl ?_
                          refine aw_iconst dX7_split_44 (by decide) ?_
                          refine aw_iaddr dX7_split_45 (by omega) ?_
                          refine aw_iaload dX7_split_46 m_a1 (by omega) (by omega) ?_
                          refine aw_ifgt (tgt := 83) dX7_split_47 (by decide) (fun h47 => ?_) (fun h47 => ?_)
                          · first
                              | (exfalso; omega)
                              | skip
                                refine aw_aload_n dX7_split_83 rfl ?_
                                refine aw_bipush dX7_split_84 (by decide) ?_
                                refine c_X7_72 rfl dX7_split_86 m_ob (Nat.le_of_ble_eq_true rfl) (by omega) (C_m_refuse ?_)
                                refine aK_i ?_
                                refine aw_ireturn dX7_split_89 rfl ?_
                                first
                                  | (exfalso; omega)
                                  | (refine XR.sameE h ?_ ?_ ?_ ?_ ?_ ?_
                                     · first
                                         | rfl
                                         | omega
                                     · repeat (first | exact xs.rf | refine xs.up ?_ (by decide))
                                     · repeat (first | exact mss.rf | refine mss.up0 ?_ (by decide))
                                     · first
                                         | (simp [aup, hv2, hv3, hv4]; done)
                                         | (simp [aup, hv2, hv3, hv4]; omega)
                                     · simp [aup, hv2, hv3, hv4]
                                     · simp [aup, hv2, hv3, hv4])
                          · first
                              | (exfalso; omega)
                              | skip
                                refine gm_7 rfl dX7_split_50 dX7_split_51 rfl ?_
                                refine aw_iload dX7_split_54 rfl ?_
                                refine aw_iconst dX7_split_56 (by decide) ?_
                                refine aw_iaddr dX7_split_57 (by omega) ?_
                                refine aw_iaload dX7_split_58 m_a1 (by omega) (by omega) ?_
                                refine aw_iconst dX7_split_59 (by decide) ?_
                                refine aw_icmpne (tgt := 83) dX7_split_60 (by decide) (fun h60 => ?_) (fun h60 => ?_)
                                · first
                                    | (exfalso; omega)
                                    | skip
                                      refine aw_aload_n dX7_split_83 rfl ?_
                                      refine aw_bipush dX7_split_84 (by decide) ?_
                                      refine c_X7_72 rfl dX7_split_86 m_ob (Nat.le_of_ble_eq_true rfl) (by omega) (C_m_refuse ?_)
                                      refine aK_i ?_
                                      refine aw_ireturn dX7_split_89 rfl ?_
                                      first
                                        | (exfalso; omega)
                                        | (refine XR.sameE h ?_ ?_ ?_ ?_ ?_ ?_
                                           · first
                                               | rfl
                                               | omega
                                           · repeat (first | exact xs.rf | refine xs.up ?_ (by decide))
                                           · repeat (first | exact mss.rf | refine mss.up0 ?_ (by decide))
                                           · first
                                               | (simp [aup, hv2, hv3, hv4]; done)
                                               | (simp [aup, hv2, hv3, hv4]; omega)
                                           · simp [aup, hv2, hv3, hv4]
                                           · simp [aup, hv2, hv3, hv4])
                                · first
                                    | (exfalso; omega)
                                    | skip
                                      refine aw_aload_n dX7_split_63 rfl ?_
                                      refine aw_iload dX7_split_64 rfl ?_
                                      refine aw_iconst dX7_split_66 (by decide) ?_
                                      refine c_X7_283 rfl dX7_split_67 m_ob (Nat.le_of_ble_eq_true rfl) (by omega) (C_m_sumOf rfl uh.1 (by omega) uh.2.1 ?_)
                                      refine aK_i ?_
                                      refine aw_bipush dX7_split_70 (by decide) ?_
                                      refine gm_7 rfl dX7_split_72 dX7_split_73 rfl ?_
                                      refine aw_iload dX7_split_76 rfl ?_
                                      refine aw_iaload dX7_split_78 m_a1 (by omega) (by omega) ?_
                                      refine aw_imulr dX7_split_79 (by omega) ?_
                                      refine aw_icmpge (tgt := 90) dX7_split_80 (by decide) (fun h80 => ?_) (fun h80 => ?_)
                                      · first
                                          | (exfalso; omega)
                                          | skip
                                            refine aw_iconst dX7_split_90 (by decide) ?_
                                            refine aw_istore5 dX7_split_91 (by decide) rfl ?_
                                            refine L_m_split (a := a) (b := b) (J := (min (cm 1 (64 + 198 * a)) (cm 1 (64 + 198 * b)) / 2).toNat) (by omega) HP (by omega) (by omega) (by omega) (by omega) (fun ct3 x5 e1 e2 => ?_) (min (cm 1 (64 + 198 * a)) (cm 1 (64 + 198 * b)) / 2).toNat 0 1 cm (by omega) (by omega) rfl (fun _ _ => rfl)
                                            have za1 : ct3 1 (64 + 198 * a + 1) = cm 1 (64 + 198 * a + 1) := by rw [e1]; exact hz a 1 (by omega) (by omega)
                                            have hl10 : ct1 10 0 = ct 10 0 := by
                                              rw [hI.2.2.2.2 0, aup_n (by omega)]
                                            refine gm_7 rfl dX7_split_140 dX7_split_141 rfl ?_
                                            refine aw_iload_n dX7_split_144 rfl ?_
                                            refine aw_iconst dX7_split_145 (by decide) ?_
                                            refine aw_iaddr dX7_split_146 (by omega) ?_
                                            refine aw_iaload dX7_split_147 m_a1 (by omega) (by omega) ?_
                                            rw [za1]
                                            refine aw_iconst dX7_split_148 (by decide) ?_
                                            refine aw_idivr dX7_split_149 (by omega) (by omega) ?_
                                            refine aw_istore5 dX7_split_150 (by decide) rfl ?_
                                            refine gm_7 rfl dX7_split_152 dX7_split_153 rfl ?_
                                            refine aw_iload_n dX7_split_156 rfl ?_
                                            refine aw_iconst dX7_split_157 (by decide) ?_
                                            refine aw_iaddr dX7_split_158 (by omega) ?_
                                            refine aw_dup2 dX7_split_159 rfl rfl ?_
                                            refine aw_iaload dX7_split_160 m_a1 (by omega) (by omega) ?_
                                            rw [za1]
                                            refine aw_iload dX7_split_161 rfl ?_
                                            refine aw_isubr dX7_split_163 (by omega) ?_
                                            refine aw_iastore dX7_split_164 m_a1 (by omega) (by omega) ?_
                                            refine gm_7 rfl dX7_split_165 dX7_split_166 rfl ?_
                                            refine aw_iload dX7_split_169 rfl ?_
                                            refine aw_iconst dX7_split_171 (by decide) ?_
                                            refine aw_iaddr dX7_split_172 (by omega) ?_
                                            refine aw_iload dX7_split_173 rfl ?_
                                            refine aw_iastore dX7_split_175 m_a1 (by omega) (by omega) ?_
                                            refine aw_aload_n dX7_split_176 rfl ?_
                                            refine aw_iload dX7_split_177 rfl ?_
                                            refine c_X7_76 rfl dX7_split_179 m_ob (Nat.le_of_ble_eq_true rfl) (by omega) (C_m_gives ?_)
                                            refine aK_i ?_
                                            refine aw_ireturn dX7_split_182 rfl ?_
                                            refine ⟨vI_eq (by first | rfl | omega), _, rfl, XR.yd (upA (upA (splF (cm 1) a b (min (cm 1 (64 + 198 * a)) (cm 1 (64 + 198 * b)) / 2).toNat) (64 + 198 * a + 1) (cm 1 (64 + 198 * a + 1) - cm 1 (64 + 198 * a + 1) / 2)) (64 + 198 * b + 1) (cm 1 (64 + 198 * b + 1) + cm 1 (64 + 198 * a + 1) / 2)) (RT.tr T hR) (XO.tr T hR HX) (LR.tr T HL) HN (SE.tr T HS) HP ?_ ?_ ?_ ?_ ?_ ?_ ?_ ?_ ?_ ?_ ?_ ?_ ?_⟩
                                            · rw [aup_rn (by decide), aup_r, aup_r, e1, show cm 1 (64 + 198 * b + 1) = 0 by omega, Int.zero_add]
                                            · rw [upA_n (by omega), upA_n (by omega), h1lo 3 (by omega)]
                                              exact (hY1.hfld (k := a) (a := hv2) (j := 3) (v := cm 1 (64 + 198 * a + 1) - cm 1 (64 + 198 * a + 1) / 2) (by omega) (by omega) ehv2 (by omega)).hfld (k := b) (a := hw2) (j := 3) (v := cm 1 (64 + 198 * b + 1) + cm 1 (64 + 198 * a + 1) / 2) (by omega) (by rw [upA_n (by omega)]; omega) (by rw [aup_rn nvhv2]; exact ehw2) (by omega)
                                            · intro i hi
                                              rw [upA_n (by omega), upA_n (by omega)]
                                              exact h1lo i (by omega)
                                            · intro k k0 k1
                                              rw [upA_n (by omega), upA_n (by omega)]
                                              have q := hz k 0 (by omega) (by omega)
                                              rw [Int.add_zero] at q
                                              exact q
                                            · refine hPs.two (k := a) (g := b) (by omega) (by omega) (by omega) (by omega) (by omega) (fun i i1 i2 => by rw [upA_n (by omega), upA_n (by omega)]) ?_ ?_ ?_ ?_ ?_ ?_ ?_ ?_
                                              all_goals (repeat (first | rw [upA_s] | rw [upA_n (by omega)]))
                                              all_goals (repeat rw [hz _ _ (by omega) (by omega)])
                                              all_goals (try rw [h1lo 1 (by omega)])
                                              all_goals (obtain ⟨q1, q2, q3, q4, q5, q6, q7⟩ := HP.2.2.1 a (by omega) (by omega))
                                              all_goals (obtain ⟨r1, r2, r3, r4, r5, r6, r7⟩ := HP.2.2.1 b (by omega) (by omega))
                                              all_goals omega
                                            · exact HF.eq (by rw [aup_n (by omega), aup_rn (by decide), aup_rn (by decide), e2 0 (by decide)]) (by rw [aup_rn (by decide), aup_rn (by decide), aup_rn (by decide), e2 9 (by decide)])
                                            · intro x j hx hz9
                                              have hx0 : ¬ (0 ≤ own x ∧ own x < 10) := fun z => hx (hI.2.1 x z)
                                              rw [aup_rn (fun q => hx (by rw [q]; exact ohw2)), aup_rn (fun q => hx (by rw [q]; exact ohv2)), hI.2.2.2.1 x j hx0, aup_n (fun z => hz9 ⟨z.1, Or.inl z.2⟩)]
                                            · rw [aup_rn (fun z => nhw210 z.symm), aup_rn (fun z => nhv210 z.symm), hl10]
                                            · intro i b0 b1 b9
                                              rw [aup_rn b0, aup_rn b1, aup_rn b1]; exact e2 i b1
                                            · intro i hi
                                              rw [aup_n (by omega), aup_rn (by decide), aup_rn (by decide), e2 0 (by decide)]
                                            · rw [aup_rn (fun z => nhw20 z.symm), aup_rn (fun z => nhv20 z.symm), fr7, aup_s, aup_s]
                                            · rw [aup_rn (fun z => nhw20 z.symm), aup_rn (fun z => nhv20 z.symm), fr7, aup_n (by omega), aup_n (by omega), aup_rn (by decide), aup_rn (by decide), e2 0 (by decide)]; exact hv3
                                            · rw [aup_rn (fun z => nhw20 z.symm), aup_rn (fun z => nhv20 z.symm), fr7, aup_n (by omega), aup_n (by omega), aup_rn (by decide), aup_rn (by decide), e2 0 (by decide)]; exact hv4
                                      · first
                                          | (exfalso; omega)
                                          | skip
                                            refine aw_aload_n dX7_split_83 rfl ?_
                                            refine aw_bipush dX7_split_84 (by decide) ?_
                                            refine c_X7_72 rfl dX7_split_86 m_ob (Nat.le_of_ble_eq_true rfl) (by omega) (C_m_refuse ?_)
                                            refine aK_i ?_
                                            refine aw_ireturn dX7_split_89 rfl ?_
                                            first
                                              | (exfalso; omega)
                                              | (refine XR.sameE h ?_ ?_ ?_ ?_ ?_ ?_
                                                 · first
                                                     | rfl
                                                     | omega
                                                 · repeat (first | exact xs.rf | refine xs.up ?_ (by decide))
                                                 · repeat (first | exact mss.rf | refine mss.up0 ?_ (by decide))
                                                 · first
                                                     | (simp [aup, hv2, hv3, hv4]; done)
                                                     | (simp [aup, hv2, hv3, hv4]; omega)
                                                 · simp [aup, hv2, hv3, hv4]
                                                 · simp [aup, hv2, hv3, hv4])
                    · first
                        | (exfalso; omega)
                        | skip
                          refine aw_aload_n dX7_split_21 rfl ?_
                          refine aw_iconst dX7_split_22 (by decide) ?_
                          refine c_X7_72 rfl dX7_split_23 m_ob (Nat.le_of_ble_eq_true rfl) (by omega) (C_m_refuse ?_)
                          refine aK_i ?_
                          refine aw_ireturn dX7_split_26 rfl ?_
                          first
                            | (exfalso; omega)
                            | (refine XR.sameE h ?_ ?_ ?_ ?_ ?_ ?_
                               · first
                                   | rfl
                                   | omega
                               · repeat (first | exact xs.rf | refine xs.up ?_ (by decide))
                               · repeat (first | exact mss.rf | refine mss.up0 ?_ (by decide))
                               · first
                                   | (simp [aup, hv2, hv3, hv4]; done)
                                   | (simp [aup, hv2, hv3, hv4]; omega)
                               · simp [aup, hv2, hv3, hv4]
                               · simp [aup, hv2, hv3, hv4])
              · first
                  | (exfalso; omega)
                  | skip
                    refine aK_i ?_
                    refine aw_ifeq (tgt := 21) dX7_split_13 (by decide) (fun _ => ?_) (fun h => absurd h (by decide))
                    refine aw_aload_n dX7_split_21 rfl ?_
                    refine aw_iconst dX7_split_22 (by decide) ?_
                    refine c_X7_72 rfl dX7_split_23 m_ob (Nat.le_of_ble_eq_true rfl) (by omega) (C_m_refuse ?_)
                    refine aK_i ?_
                    refine aw_ireturn dX7_split_26 rfl ?_
                    first
                      | (exfalso; omega)
                      | (refine XR.sameE h ?_ ?_ ?_ ?_ ?_ ?_
                         · first
                             | rfl
                             | omega
                         · repeat (first | exact xs.rf | refine xs.up ?_ (by decide))
                         · repeat (first | exact mss.rf | refine mss.up0 ?_ (by decide))
                         · first
                             | (simp [aup, hv2, hv3, hv4]; done)
                             | (simp [aup, hv2, hv3, hv4]; omega)
                         · simp [aup, hv2, hv3, hv4]
                         · simp [aup, hv2, hv3, hv4])
        · first
            | (exfalso; omega)
            | skip
              refine aK_i ?_
              refine aw_ifeq (tgt := 21) dX7_split_5 (by decide) (fun _ => ?_) (fun h => absurd h (by decide))
              refine aw_aload_n dX7_split_21 rfl ?_
              refine aw_iconst dX7_split_22 (by decide) ?_
              refine c_X7_72 rfl dX7_split_23 m_ob (Nat.le_of_ble_eq_true rfl) (by omega) (C_m_refuse ?_)
              refine aK_i ?_
              refine aw_ireturn dX7_split_26 rfl ?_
              first
                | (exfalso; omega)
                | (refine XR.sameE h ?_ ?_ ?_ ?_ ?_ ?_
                   · first
                       | rfl
                       | omega
                   · repeat (first | exact xs.rf | refine xs.up ?_ (by decide))
                   · repeat (first | exact mss.rf | refine mss.up0 ?_ (by decide))
                   · first
                       | (simp [aup, hv2, hv3, hv4]; done)
                       | (simp [aup, hv2, hv3, hv4]; omega)
                   · simp [aup, hv2, hv3, hv4]
                   · simp [aup, hv2, hv3, hv4])
      · refine aw_aload_n dX0_split_36 rfl ?_
        refine aw_iload_n dX0_split_37 rfl ?_
        refine c_X0_172 rfl dX0_split_38 hR.o0 (Nat.le_of_ble_eq_true rfl) (by omega) (C_x_xat2 (a := hw) hR HY (by omega) ehw ?_)
        refine aK_i ?_
        refine c_X0_274 rfl dX0_split_41 u1.1 (Nat.le_of_ble_eq_true rfl) (by omega) (C_x_empty u1 u2 uh.2.1 ?_)
        refine aK_i ?_
        refine aw_aload_n dX0_split_44 rfl ?_
        refine aw_iload_n dX0_split_45 rfl ?_
        refine c_X0_172 rfl dX0_split_46 hR.o0 (Nat.le_of_ble_eq_true rfl) (by omega) (C_x_xat2 (a := hw) hR HY (by omega) ehw ?_)
        refine aK_i ?_
        refine c_X0_344 rfl dX0_split_49 u1.1 (Nat.le_of_ble_eq_true rfl) (by omega) (C_x_fields u1 ?_)
        refine aK_i ?_
        refine aw_icmpge (tgt := 60) dX0_split_52 (by decide) (fun h52 => ?_) (fun h52 => ?_)
        · refine aw_iconst dX0_split_60 (by decide) ?_
          refine p_X0_73_0 rfl dX0_split_61 hR.o0 ?_
          refine aw_aload_n dX0_split_64 rfl ?_
          refine g_X0_73_0 rfl dX0_split_65 hR.o0 ?_
          repeat (first | rw [aup_s] | rw [aup_n (by omega)])
          refine aw_ifle (tgt := 73) dX0_split_68 (by decide) (fun _ => ?_) (fun h => absurd h (by decide))
          refine aw_iconst dX0_split_73 (by decide) ?_
          refine aw_istore3 dX0_split_74 (by decide) rfl ?_
          refine L_x_split (a := a) (b := b) (J := (min (cm 1 (64 + 198 * a)) (cm 1 (64 + 198 * b)) / 2).toNat) (by omega) (hR.up0 (j := 7) (v := 0)) HP (by omega) (by omega) (by omega) (by have q1 := (HP.2.2.1 a (by omega) (by omega)).1; omega) (fun own1 ct1 x3 hI => ?_) (min (cm 1 (64 + 198 * a)) (cm 1 (64 + 198 * b)) / 2).toNat 0 1 own _ (by omega) (by omega) ⟨fun _ _ => rfl, fun _ h => h, (HY.up0 (j := 7) (v := 0) hR.1.2 (by decide)), fun _ _ _ => rfl, fun _ => rfl⟩
          have gh := HP.2.2.1 a (by omega) (by omega)
          have gh1 := gh.1
          have uh1 := uh.1
          have hR1 := hI.rt (hR.up0 (j := 7) (v := 0))
          have hY1 := hI.2.2.1
          have c0 := HP.1
          have z0 := splF_lo (s := cm 1) (k := a) (g := b) (i := 0) (by omega) (by omega) (by omega) (by omega) (by omega) (min (cm 1 (64 + 198 * a)) (cm 1 (64 + 198 * b)) / 2).toNat (by omega)
          have hz := fun i h h0 h1 => splF_hd (s := cm 1) (k := a) (g := b) (i := i) (h := h) h0 h1 (min (cm 1 (64 + 198 * a)) (cm 1 (64 + 198 * b)) / 2).toNat (by omega)
          have h1lo := fun i hi => splF_lo (s := cm 1) (k := a) (g := b) (i := i) (by omega) (by omega) (by omega) (by omega) hi (min (cm 1 (64 + 198 * a)) (cm 1 (64 + 198 * b)) / 2).toNat (by omega)
          have hPs := HP.spl (k := a) (g := b) (by omega) (by omega) (by omega) (by omega) (min (cm 1 (64 + 198 * a)) (cm 1 (64 + 198 * b)) / 2).toNat (by omega) (by omega)
          obtain ⟨hv2, ehv2, ⟨y1, y2, ⟨y3, y4, y5, y6, y7⟩, y8, y9, -⟩, nhv20, nhv210, nhv29, nv0, nvhv2, nv10, ohv2⟩ := hY1.hv hR1 (k := a) (by omega) (by omega)
          have yn := y1.2.2.2
          have yh := HP.2.2.1 a (by omega) (by omega)
          have yq := yh.2.2.2.2.1
          have yp := HP.pd.2.1 a (by omega) (by omega)
          obtain ⟨hw2, ehw2, ⟨w1, w2, ⟨w3, w4, w5, w6, w7⟩, w8, w9, -⟩, nhw20, nhw210, nhw29, nv0, nvhw2, nv10, ohw2⟩ := hY1.hv hR1 (k := b) (by omega) (by omega)
          have wn := w1.2.2.2
          have wh := HP.2.2.1 b (by omega) (by omega)
          have wq := wh.2.2.2.2.1
          have wp := HP.pd.2.1 b (by omega) (by omega)
          rw [hz a 1 (by omega) (by omega)] at y3
          rw [hz b 1 (by omega) (by omega)] at w3
          have hvw : hv2 ≠ hw2 := fun z => by
            have q1 := y9
            have q2 := w9
            rw [z] at q1
            omega
          have o0x := hR.1.2
          have T : TRn own own1 sz sz im im ct ct := ⟨Int.le_refl _, fun _ _ => rfl, fun _ _ => rfl, fun x _ hx => hI.1 x hx⟩
          have fr7 : ∀ j, ct1 0 j = aup ct 0 7 0 0 j := fun j => hI.2.2.2.1 0 j (by omega)
          have nb2 : ¬ (64 + 198 * b + 1 = 64 + 198 * a + 1) := by omega
          refine aw_aload_n dX0_split_121 rfl ?_
          refine aw_iload_n dX0_split_122 rfl ?_
          refine c_X0_172 rfl dX0_split_123 hR.o0 (Nat.le_of_ble_eq_true rfl) (by omega) (C_x_xat2 (a := hv2) hR1 hY1 (by omega) ehv2 ?_)
          refine aK_i ?_
          refine g_X0_264_9 rfl dX0_split_126 y1.1 ?_
          rw [y3]
          refine aw_iconst dX0_split_129 (by decide) ?_
          refine aw_idivr dX0_split_130 (by omega) (by omega) ?_
          refine aw_istore3 dX0_split_131 (by decide) rfl ?_
          refine aw_aload_n dX0_split_132 rfl ?_
          refine aw_iload_n dX0_split_133 rfl ?_
          refine c_X0_172 rfl dX0_split_134 hR.o0 (Nat.le_of_ble_eq_true rfl) (by omega) (C_x_xat2 (a := hv2) hR1 hY1 (by omega) ehv2 ?_)
          refine aK_i ?_
          refine aw_dup dX0_split_137 rfl ?_
          refine g_X0_264_9 rfl dX0_split_138 y1.1 ?_
          rw [y3]
          refine aw_iload_n dX0_split_141 rfl ?_
          refine aw_isubr dX0_split_142 (by omega) ?_
          refine p_X0_264_9 rfl dX0_split_143 y1.1 ?_
          refine aw_aload_n dX0_split_146 rfl ?_
          refine aw_iload_n dX0_split_147 rfl ?_
          refine c_X0_172 rfl dX0_split_148 hR.o0 (Nat.le_of_ble_eq_true rfl) (by omega) (C_x_xat2 (a := hw2) hR1 hY1 (by omega) (by rw [aup_rn nvhv2]; exact ehw2) ?_)
          refine aK_i ?_
          refine aw_dup dX0_split_151 rfl ?_
          refine g_X0_264_9 rfl dX0_split_152 w1.1 ?_
          rw [aup_rn hvw.symm, w3]
          refine aw_iload_n dX0_split_155 rfl ?_
          refine aw_iaddr dX0_split_156 (by omega) ?_
          refine p_X0_264_9 rfl dX0_split_157 w1.1 ?_
          refine aw_iload_n dX0_split_160 rfl ?_
          refine aw_ireturn dX0_split_161 rfl ?_
          refine ⟨_, rfl, ?_⟩
          refine AMet.go (L := [some (vR 0), some (vI a), some (vI b), none, none, none]) mok_X7_split (Nat.le_of_ble_eq_true rfl) rfl ?_
          refine aw_aload_n dX7_split_0 rfl ?_
          refine aw_iload_n dX7_split_1 rfl ?_
          refine c_X7_274 rfl dX7_split_2 m_ob (Nat.le_of_ble_eq_true rfl) (by omega) (C_m_isHive (fun hh => ?_) (fun hh => ?_))
          · first
              | (exfalso; omega)
              | skip
                refine aK_i ?_
                refine aw_ifeq (tgt := 21) dX7_split_5 (by decide) (fun h => absurd h (by decide)) (fun _ => ?_)
                refine aw_aload_n dX7_split_8 rfl ?_
                refine aw_iload_n dX7_split_9 rfl ?_
                refine c_X7_274 rfl dX7_split_10 m_ob (Nat.le_of_ble_eq_true rfl) (by omega) (C_m_isHive (fun hh => ?_) (fun hh => ?_))
                · first
                    | (exfalso; omega)
                    | skip
                      refine aK_i ?_
                      refine aw_ifeq (tgt := 21) dX7_split_13 (by decide) (fun h => absurd h (by decide)) (fun _ => ?_)
                      refine aw_iload_n dX7_split_16 rfl ?_
                      refine aw_iload_n dX7_split_17 rfl ?_
                      refine aw_icmpne (tgt := 27) dX7_split_18 (by decide) (fun h18 => ?_) (fun h18 => ?_)
                      · first
                          | (exfalso; omega)
                          | skip
                            refine aw_iload_n dX7_split_27 rfl ?_
                            refine c_X7_217 rfl dX7_split_28  (Nat.le_of_ble_eq_true rfl) (by omega) (C_m_hiveRow (by omega) ?_)
                            refine aK_i ?_
                            refine aw_istore3 dX7_split_31 (by decide) rfl ?_
                            refine aw_iload_n dX7_split_32 rfl ?_
                            refine c_X7_217 rfl dX7_split_33  (Nat.le_of_ble_eq_true rfl) (by omega) (C_m_hiveRow (by omega) ?_)
                            refine aK_i ?_
                            refine aw_istore4 dX7_split_36 (by decide) rfl ?_
                            refine gm_7 rfl dX7_split_38 dX7_split_39 rfl ?_
                            refine aw_iload dX7_split_42 rfl ?_
                            refine aw_iconst dX7_split_44 (by decide) ?_
                            refine aw_iaddr dX7_split_45 (by omega) ?_
                            refine aw_iaload dX7_split_46 m_a1 (by omega) (by omega) ?_
                            refine aw_ifgt (tgt := 83) dX7_split_47 (by decide) (fun h47 => ?_) (fun h47 => ?_)
                            · first
                                | (exfalso; omega)
                                | skip
                                  refine aw_aload_n dX7_split_83 rfl ?_
                                  refine aw_bipush dX7_split_84 (by decide) ?_
                                  refine c_X7_72 rfl dX7_split_86 m_ob (Nat.le_of_ble_eq_true rfl) (by omega) (C_m_refuse ?_)
                                  refine aK_i ?_
                                  refine aw_ireturn dX7_split_89 rfl ?_
                                  first
                                    | (exfalso; omega)
                                    | (refine XR.sameE h ?_ ?_ ?_ ?_ ?_ ?_
                                       · first
                                           | rfl
                                           | omega
                                       · repeat (first | exact xs.rf | refine xs.up ?_ (by decide))
                                       · repeat (first | exact mss.rf | refine mss.up0 ?_ (by decide))
                                       · first
                                           | (simp [aup, hv2, hv3, hv4]; done)
                                           | (simp [aup, hv2, hv3, hv4]; omega)
                                       · simp [aup, hv2, hv3, hv4]
                                       · simp [aup, hv2, hv3, hv4])
                            · first
                                | (exfalso; omega)
                                | skip
                                  refine gm_7 rfl dX7_split_50 dX7_split_51 rfl ?_
                                  refine aw_iload dX7_split_54 rfl ?_
                                  refine aw_iconst dX7_split_56 (by decide) ?_
                                  refine aw_iaddr dX7_split_57 (by omega) ?_
                                  refine aw_iaload dX7_split_58 m_a1 (by omega) (by omega) ?_
                                  refine aw_iconst dX7_split_59 (by decide) ?_
                                  refine aw_icmpne (tgt := 83) dX7_split_60 (by decide) (fun h60 => ?_) (fun h60 => ?_)
                                  · first
                                      | (exfalso; omega)
                                      | skip
                                        refine aw_aload_n dX7_split_83 rfl ?_
                                        refine aw_bipush dX7_split_84 (by decide) ?_
                                        refine c_X7_72 rfl dX7_split_86 m_ob (Nat.le_of_ble_eq_true rfl) (by omega) (C_m_refuse ?_)
                                        refine aK_i ?_
                                        refine aw_ireturn dX7_split_89 rfl ?_
                                        first
                                          | (exfalso; omega)
                                          | (refine XR.sameE h ?_ ?_ ?_ ?_ ?_ ?_
                                             · first
                                                 | rfl
                                                 | omega
                                             · repeat (first | exact xs.rf | refine xs.up ?_ (by decide))
                                             · repeat (first | exact mss.rf | refine mss.up0 ?_ (by decide))
                                             · first
                                                 | (simp [aup, hv2, hv3, hv4]; done)
                                                 | (simp [aup, hv2, hv3, hv4]; omega)
                                             · simp [aup, hv2, hv3, hv4]
                                             · simp [aup, hv2, hv3, hv4])
                                  · first
                                      | (exfalso; omega)
                                      | skip
                                        refine aw_aload_n dX7_split_63 rfl ?_
                                        refine aw_iload dX7_split_64 rfl ?_
                                        refine aw_iconst dX7_split_66 (by decide) ?_
                                        refine c_X7_283 rfl dX7_split_67 m_ob (Nat.le_of_ble_eq_true rfl) (by omega) (C_m_sumOf rfl uh.1 (by omega) uh.2.1 ?_)
                                        refine aK_i ?_
                                        refine aw_bipush dX7_split_70 (by decide) ?_
                                        refine gm_7 rfl dX7_split_72 dX7_split_73 rfl ?_
                                        refine aw_iload dX7_split_76 rfl ?_
                                        refine aw_iaload dX7_split_78 m_a1 (by omega) (by omega) ?_
                                        refine aw_imulr dX7_split_79 (by omega) ?_
                                        refine aw_icmpge (tgt := 90) dX7_split_80 (by decide) (fun h80 => ?_) (fun h80 => ?_)
                                        · first
                                            | (exfalso; omega)
                                            | skip
                                              refine aw_iconst dX7_split_90 (by decide) ?_
                                              refine aw_istore5 dX7_split_91 (by decide) rfl ?_
                                              refine L_m_split (a := a) (b := b) (J := (min (cm 1 (64 + 198 * a)) (cm 1 (64 + 198 * b)) / 2).toNat) (by omega) HP (by omega) (by omega) (by omega) (by omega) (fun ct3 x5 e1 e2 => ?_) (min (cm 1 (64 + 198 * a)) (cm 1 (64 + 198 * b)) / 2).toNat 0 1 cm (by omega) (by omega) rfl (fun _ _ => rfl)
                                              have za1 : ct3 1 (64 + 198 * a + 1) = cm 1 (64 + 198 * a + 1) := by rw [e1]; exact hz a 1 (by omega) (by omega)
                                              have hl10 : ct1 10 0 = ct 10 0 := by
                                                rw [hI.2.2.2.2 0, aup_n (by omega)]
                                              refine gm_7 rfl dX7_split_140 dX7_split_141 rfl ?_
                                              refine aw_iload_n dX7_split_144 rfl ?_
                                              refine aw_iconst dX7_split_145 (by decide) ?_
                                              refine aw_iaddr dX7_split_146 (by omega) ?_
                                              refine aw_iaload dX7_split_147 m_a1 (by omega) (by omega) ?_
                                              rw [za1]
                                              refine aw_iconst dX7_split_148 (by decide) ?_
                                              refine aw_idivr dX7_split_149 (by omega) (by omega) ?_
                                              refine aw_istore5 dX7_split_150 (by decide) rfl ?_
                                              refine gm_7 rfl dX7_split_152 dX7_split_153 rfl ?_
                                              refine aw_iload_n dX7_split_156 rfl ?_
                                              refine aw_iconst dX7_split_157 (by decide) ?_
                                              refine aw_iaddr dX7_split_158 (by omega) ?_
                                              refine aw_dup2 dX7_split_159 rfl rfl ?_
                                              refine aw_iaload dX7_split_160 m_a1 (by omega) (by omega) ?_
                                              rw [za1]
                                              refine aw_iload dX7_split_161 rfl ?_
                                              refine aw_isubr dX7_split_163 (by omega) ?_
                                              refine aw_iastore dX7_split_164 m_a1 (by omega) (by omega) ?_
                                              refine gm_7 rfl dX7_split_165 dX7_split_166 rfl ?_
                                              refine aw_iload dX7_split_169 rfl ?_
                                              refine aw_iconst dX7_split_171 (by decide) ?_
                                              refine aw_iaddr dX7_split_172 (by omega) ?_
                                              refine aw_iload dX7_split_173 rfl ?_
                                              refine aw_iastore dX7_split_175 m_a1 (by omega) (by omega) ?_
                                              refine aw_aload_n dX7_split_176 rfl ?_
                                              refine aw_iload dX7_split_177 rfl ?_
                                              refine c_X7_76 rfl dX7_split_179 m_ob (Nat.le_of_ble_eq_true rfl) (by omega) (C_m_gives ?_)
                                              refine aK_i ?_
                                              refine aw_ireturn dX7_split_182 rfl ?_
                                              refine ⟨vI_eq (by first | rfl | omega), _, rfl, XR.yd (upA (upA (splF (cm 1) a b (min (cm 1 (64 + 198 * a)) (cm 1 (64 + 198 * b)) / 2).toNat) (64 + 198 * a + 1) (cm 1 (64 + 198 * a + 1) - cm 1 (64 + 198 * a + 1) / 2)) (64 + 198 * b + 1) (cm 1 (64 + 198 * b + 1) + cm 1 (64 + 198 * a + 1) / 2)) (RT.tr T hR) (XO.tr T hR HX) (LR.tr T HL) HN (SE.tr T HS) HP ?_ ?_ ?_ ?_ ?_ ?_ ?_ ?_ ?_ ?_ ?_ ?_ ?_⟩
                                              · rw [aup_rn (by decide), aup_r, aup_r, e1, show cm 1 (64 + 198 * b + 1) = 0 by omega, Int.zero_add]
                                              · rw [upA_n (by omega), upA_n (by omega), h1lo 3 (by omega)]
                                                exact (hY1.hfld (k := a) (a := hv2) (j := 3) (v := cm 1 (64 + 198 * a + 1) - cm 1 (64 + 198 * a + 1) / 2) (by omega) (by omega) ehv2 (by omega)).hfld (k := b) (a := hw2) (j := 3) (v := cm 1 (64 + 198 * b + 1) + cm 1 (64 + 198 * a + 1) / 2) (by omega) (by rw [upA_n (by omega)]; omega) (by rw [aup_rn nvhv2]; exact ehw2) (by omega)
                                              · intro i hi
                                                rw [upA_n (by omega), upA_n (by omega)]
                                                exact h1lo i (by omega)
                                              · intro k k0 k1
                                                rw [upA_n (by omega), upA_n (by omega)]
                                                have q := hz k 0 (by omega) (by omega)
                                                rw [Int.add_zero] at q
                                                exact q
                                              · refine hPs.two (k := a) (g := b) (by omega) (by omega) (by omega) (by omega) (by omega) (fun i i1 i2 => by rw [upA_n (by omega), upA_n (by omega)]) ?_ ?_ ?_ ?_ ?_ ?_ ?_ ?_
                                                all_goals (repeat (first | rw [upA_s] | rw [upA_n (by omega)]))
                                                all_goals (repeat rw [hz _ _ (by omega) (by omega)])
                                                all_goals (try rw [h1lo 1 (by omega)])
                                                all_goals (obtain ⟨q1, q2, q3, q4, q5, q6, q7⟩ := HP.2.2.1 a (by omega) (by omega))
                                                all_goals (obtain ⟨r1, r2, r3, r4, r5, r6, r7⟩ := HP.2.2.1 b (by omega) (by omega))
                                                all_goals omega
                                              · exact HF.eq (by rw [aup_n (by omega), aup_rn (by decide), aup_rn (by decide), e2 0 (by decide)]) (by rw [aup_rn (by decide), aup_rn (by decide), aup_rn (by decide), e2 9 (by decide)])
                                              · intro x j hx hz9
                                                have hx0 : ¬ (0 ≤ own x ∧ own x < 10) := fun z => hx (hI.2.1 x z)
                                                rw [aup_rn (fun q => hx (by rw [q]; exact ohw2)), aup_rn (fun q => hx (by rw [q]; exact ohv2)), hI.2.2.2.1 x j hx0, aup_n (fun z => hz9 ⟨z.1, Or.inl z.2⟩)]
                                              · rw [aup_rn (fun z => nhw210 z.symm), aup_rn (fun z => nhv210 z.symm), hl10]
                                              · intro i b0 b1 b9
                                                rw [aup_rn b0, aup_rn b1, aup_rn b1]; exact e2 i b1
                                              · intro i hi
                                                rw [aup_n (by omega), aup_rn (by decide), aup_rn (by decide), e2 0 (by decide)]
                                              · rw [aup_rn (fun z => nhw20 z.symm), aup_rn (fun z => nhv20 z.symm), fr7, aup_s, aup_s]
                                              · rw [aup_rn (fun z => nhw20 z.symm), aup_rn (fun z => nhv20 z.symm), fr7, aup_n (by omega), aup_n (by omega), aup_rn (by decide), aup_rn (by decide), e2 0 (by decide)]; exact hv3
                                              · rw [aup_rn (fun z => nhw20 z.symm), aup_rn (fun z => nhv20 z.symm), fr7, aup_n (by omega), aup_n (by omega), aup_rn (by decide), aup_rn (by decide), e2 0 (by decide)]; exact hv4
                                        · first
                                            | (exfalso; omega)
                                            | skip
                                              refine aw_aload_n dX7_split_83 rfl ?_
                                              refine aw_bipush dX7_split_84 (by decide) ?_
                                              refine c_X7_72 rfl dX7_split_86 m_ob (Nat.le_of_ble_eq_true rfl) (by omega) (C_m_refuse ?_)
                                              refine aK_i ?_
                                              refine aw_ireturn dX7_split_89 rfl ?_
                                              first
                                                | (exfalso; omega)
                                                | (refine XR.sameE h ?_ ?_ ?_ ?_ ?_ ?_
                                                   · first
                                                       | rfl
                                                       | omega
                                                   · repeat (first | exact xs.rf | refine xs.up ?_ (by decide))
                                                   · repeat (first | exact mss.rf | refine mss.up0 ?_ (by decide))
                                                   · first
                                                       | (simp [aup, hv2, hv3, hv4]; done)
                                                       | (simp [aup, hv2, hv3, hv4]; omega)
                                                   · simp [aup, hv2, hv3, hv4]
                                                   · simp [aup, hv2, hv3, hv4])
                      · first
                          | (exfalso; omega)
                          | skip
                            refine aw_aload_n dX7_split_21 rfl ?_
                            refine aw_iconst dX7_split_22 (by decide) ?_
                            refine c_X7_72 rfl dX7_split_23 m_ob (Nat.le_of_ble_eq_true rfl) (by omega) (C_m_refuse ?_)
                            refine aK_i ?_
                            refine aw_ireturn dX7_split_26 rfl ?_
                            first
                              | (exfalso; omega)
                              | (refine XR.sameE h ?_ ?_ ?_ ?_ ?_ ?_
                                 · first
                                     | rfl
                                     | omega
                                 · repeat (first | exact xs.rf | refine xs.up ?_ (by decide))
                                 · repeat (first | exact mss.rf | refine mss.up0 ?_ (by decide))
                                 · first
                                     | (simp [aup, hv2, hv3, hv4]; done)
                                     | (simp [aup, hv2, hv3, hv4]; omega)
                                 · simp [aup, hv2, hv3, hv4]
                                 · simp [aup, hv2, hv3, hv4])
                · first
                    | (exfalso; omega)
                    | skip
                      refine aK_i ?_
                      refine aw_ifeq (tgt := 21) dX7_split_13 (by decide) (fun _ => ?_) (fun h => absurd h (by decide))
                      refine aw_aload_n dX7_split_21 rfl ?_
                      refine aw_iconst dX7_split_22 (by decide) ?_
                      refine c_X7_72 rfl dX7_split_23 m_ob (Nat.le_of_ble_eq_true rfl) (by omega) (C_m_refuse ?_)
                      refine aK_i ?_
                      refine aw_ireturn dX7_split_26 rfl ?_
                      first
                        | (exfalso; omega)
                        | (refine XR.sameE h ?_ ?_ ?_ ?_ ?_ ?_
                           · first
                               | rfl
                               | omega
                           · repeat (first | exact xs.rf | refine xs.up ?_ (by decide))
                           · repeat (first | exact mss.rf | refine mss.up0 ?_ (by decide))
                           · first
                               | (simp [aup, hv2, hv3, hv4]; done)
                               | (simp [aup, hv2, hv3, hv4]; omega)
                           · simp [aup, hv2, hv3, hv4]
                           · simp [aup, hv2, hv3, hv4])
          · first
              | (exfalso; omega)
              | skip
                refine aK_i ?_
                refine aw_ifeq (tgt := 21) dX7_split_5 (by decide) (fun _ => ?_) (fun h => absurd h (by decide))
                refine aw_aload_n dX7_split_21 rfl ?_
                refine aw_iconst dX7_split_22 (by decide) ?_
                refine c_X7_72 rfl dX7_split_23 m_ob (Nat.le_of_ble_eq_true rfl) (by omega) (C_m_refuse ?_)
                refine aK_i ?_
                refine aw_ireturn dX7_split_26 rfl ?_
                first
                  | (exfalso; omega)
                  | (refine XR.sameE h ?_ ?_ ?_ ?_ ?_ ?_
                     · first
                         | rfl
                         | omega
                     · repeat (first | exact xs.rf | refine xs.up ?_ (by decide))
                     · repeat (first | exact mss.rf | refine mss.up0 ?_ (by decide))
                     · first
                         | (simp [aup, hv2, hv3, hv4]; done)
                         | (simp [aup, hv2, hv3, hv4]; omega)
                     · simp [aup, hv2, hv3, hv4]
                     · simp [aup, hv2, hv3, hv4])
        · refine aw_bipush dX0_split_55 (by decide) ?_
          refine aw_goto (tgt := 61) dX0_split_57 (by decide) ?_
          refine p_X0_73_0 rfl dX0_split_61 hR.o0 ?_
          refine aw_aload_n dX0_split_64 rfl ?_
          refine g_X0_73_0 rfl dX0_split_65 hR.o0 ?_
          repeat (first | rw [aup_s] | rw [aup_n (by omega)])
          refine aw_ifle (tgt := 73) dX0_split_68 (by decide) (fun h => absurd h (by decide)) (fun _ => ?_)
          refine aw_iconst dX0_split_71 (by decide) ?_
          refine aw_ireturn dX0_split_72 rfl ?_
          refine ⟨_, rfl, ?_⟩
          refine AMet.go (L := [some (vR 0), some (vI a), some (vI b), none, none, none]) mok_X7_split (Nat.le_of_ble_eq_true rfl) rfl ?_
          refine aw_aload_n dX7_split_0 rfl ?_
          refine aw_iload_n dX7_split_1 rfl ?_
          refine c_X7_274 rfl dX7_split_2 m_ob (Nat.le_of_ble_eq_true rfl) (by omega) (C_m_isHive (fun hh => ?_) (fun hh => ?_))
          · first
              | (exfalso; omega)
              | skip
                refine aK_i ?_
                refine aw_ifeq (tgt := 21) dX7_split_5 (by decide) (fun h => absurd h (by decide)) (fun _ => ?_)
                refine aw_aload_n dX7_split_8 rfl ?_
                refine aw_iload_n dX7_split_9 rfl ?_
                refine c_X7_274 rfl dX7_split_10 m_ob (Nat.le_of_ble_eq_true rfl) (by omega) (C_m_isHive (fun hh => ?_) (fun hh => ?_))
                · first
                    | (exfalso; omega)
                    | skip
                      refine aK_i ?_
                      refine aw_ifeq (tgt := 21) dX7_split_13 (by decide) (fun h => absurd h (by decide)) (fun _ => ?_)
                      refine aw_iload_n dX7_split_16 rfl ?_
                      refine aw_iload_n dX7_split_17 rfl ?_
                      refine aw_icmpne (tgt := 27) dX7_split_18 (by decide) (fun h18 => ?_) (fun h18 => ?_)
                      · first
                          | (exfalso; omega)
                          | skip
                            refine aw_iload_n dX7_split_27 rfl ?_
                            refine c_X7_217 rfl dX7_split_28  (Nat.le_of_ble_eq_true rfl) (by omega) (C_m_hiveRow (by omega) ?_)
                            refine aK_i ?_
                            refine aw_istore3 dX7_split_31 (by decide) rfl ?_
                            refine aw_iload_n dX7_split_32 rfl ?_
                            refine c_X7_217 rfl dX7_split_33  (Nat.le_of_ble_eq_true rfl) (by omega) (C_m_hiveRow (by omega) ?_)
                            refine aK_i ?_
                            refine aw_istore4 dX7_split_36 (by decide) rfl ?_
                            refine gm_7 rfl dX7_split_38 dX7_split_39 rfl ?_
                            refine aw_iload dX7_split_42 rfl ?_
                            refine aw_iconst dX7_split_44 (by decide) ?_
                            refine aw_iaddr dX7_split_45 (by omega) ?_
                            refine aw_iaload dX7_split_46 m_a1 (by omega) (by omega) ?_
                            refine aw_ifgt (tgt := 83) dX7_split_47 (by decide) (fun h47 => ?_) (fun h47 => ?_)
                            · first
                                | (exfalso; omega)
                                | skip
                                  refine aw_aload_n dX7_split_83 rfl ?_
                                  refine aw_bipush dX7_split_84 (by decide) ?_
                                  refine c_X7_72 rfl dX7_split_86 m_ob (Nat.le_of_ble_eq_true rfl) (by omega) (C_m_refuse ?_)
                                  refine aK_i ?_
                                  refine aw_ireturn dX7_split_89 rfl ?_
                                  first
                                    | (exfalso; omega)
                                    | (refine XR.sameE h ?_ ?_ ?_ ?_ ?_ ?_
                                       · first
                                           | rfl
                                           | omega
                                       · repeat (first | exact xs.rf | refine xs.up ?_ (by decide))
                                       · repeat (first | exact mss.rf | refine mss.up0 ?_ (by decide))
                                       · first
                                           | (simp [aup, hv2, hv3, hv4]; done)
                                           | (simp [aup, hv2, hv3, hv4]; omega)
                                       · simp [aup, hv2, hv3, hv4]
                                       · simp [aup, hv2, hv3, hv4])
                            · first
                                | (exfalso; omega)
                                | skip
                                  refine gm_7 rfl dX7_split_50 dX7_split_51 rfl ?_
                                  refine aw_iload dX7_split_54 rfl ?_
                                  refine aw_iconst dX7_split_56 (by decide) ?_
                                  refine aw_iaddr dX7_split_57 (by omega) ?_
                                  refine aw_iaload dX7_split_58 m_a1 (by omega) (by omega) ?_
                                  refine aw_iconst dX7_split_59 (by decide) ?_
                                  refine aw_icmpne (tgt := 83) dX7_split_60 (by decide) (fun h60 => ?_) (fun h60 => ?_)
                                  · first
                                      | (exfalso; omega)
                                      | skip
                                        refine aw_aload_n dX7_split_83 rfl ?_
                                        refine aw_bipush dX7_split_84 (by decide) ?_
                                        refine c_X7_72 rfl dX7_split_86 m_ob (Nat.le_of_ble_eq_true rfl) (by omega) (C_m_refuse ?_)
                                        refine aK_i ?_
                                        refine aw_ireturn dX7_split_89 rfl ?_
                                        first
                                          | (exfalso; omega)
                                          | (refine XR.sameE h ?_ ?_ ?_ ?_ ?_ ?_
                                             · first
                                                 | rfl
                                                 | omega
                                             · repeat (first | exact xs.rf | refine xs.up ?_ (by decide))
                                             · repeat (first | exact mss.rf | refine mss.up0 ?_ (by decide))
                                             · first
                                                 | (simp [aup, hv2, hv3, hv4]; done)
                                                 | (simp [aup, hv2, hv3, hv4]; omega)
                                             · simp [aup, hv2, hv3, hv4]
                                             · simp [aup, hv2, hv3, hv4])
                                  · first
                                      | (exfalso; omega)
                                      | skip
                                        refine aw_aload_n dX7_split_63 rfl ?_
                                        refine aw_iload dX7_split_64 rfl ?_
                                        refine aw_iconst dX7_split_66 (by decide) ?_
                                        refine c_X7_283 rfl dX7_split_67 m_ob (Nat.le_of_ble_eq_true rfl) (by omega) (C_m_sumOf rfl uh.1 (by omega) uh.2.1 ?_)
                                        refine aK_i ?_
                                        refine aw_bipush dX7_split_70 (by decide) ?_
                                        refine gm_7 rfl dX7_split_72 dX7_split_73 rfl ?_
                                        refine aw_iload dX7_split_76 rfl ?_
                                        refine aw_iaload dX7_split_78 m_a1 (by omega) (by omega) ?_
                                        refine aw_imulr dX7_split_79 (by omega) ?_
                                        refine aw_icmpge (tgt := 90) dX7_split_80 (by decide) (fun h80 => ?_) (fun h80 => ?_)
                                        · first
                                            | (exfalso; omega)
                                            | skip
                                              refine aw_iconst dX7_split_90 (by decide) ?_
                                              refine aw_istore5 dX7_split_91 (by decide) rfl ?_
                                              refine L_m_split (a := a) (b := b) (J := (min (cm 1 (64 + 198 * a)) (cm 1 (64 + 198 * b)) / 2).toNat) (by omega) HP (by omega) (by omega) (by omega) (by omega) (fun ct3 x5 e1 e2 => ?_) (min (cm 1 (64 + 198 * a)) (cm 1 (64 + 198 * b)) / 2).toNat 0 1 cm (by omega) (by omega) rfl (fun _ _ => rfl)
                                              have za1 : ct3 1 (64 + 198 * a + 1) = cm 1 (64 + 198 * a + 1) := by rw [e1]; exact hz a 1 (by omega) (by omega)
                                              have hl10 : ct1 10 0 = ct 10 0 := by
                                                rw [hI.2.2.2.2 0, aup_n (by omega)]
                                              refine gm_7 rfl dX7_split_140 dX7_split_141 rfl ?_
                                              refine aw_iload_n dX7_split_144 rfl ?_
                                              refine aw_iconst dX7_split_145 (by decide) ?_
                                              refine aw_iaddr dX7_split_146 (by omega) ?_
                                              refine aw_iaload dX7_split_147 m_a1 (by omega) (by omega) ?_
                                              rw [za1]
                                              refine aw_iconst dX7_split_148 (by decide) ?_
                                              refine aw_idivr dX7_split_149 (by omega) (by omega) ?_
                                              refine aw_istore5 dX7_split_150 (by decide) rfl ?_
                                              refine gm_7 rfl dX7_split_152 dX7_split_153 rfl ?_
                                              refine aw_iload_n dX7_split_156 rfl ?_
                                              refine aw_iconst dX7_split_157 (by decide) ?_
                                              refine aw_iaddr dX7_split_158 (by omega) ?_
                                              refine aw_dup2 dX7_split_159 rfl rfl ?_
                                              refine aw_iaload dX7_split_160 m_a1 (by omega) (by omega) ?_
                                              rw [za1]
                                              refine aw_iload dX7_split_161 rfl ?_
                                              refine aw_isubr dX7_split_163 (by omega) ?_
                                              refine aw_iastore dX7_split_164 m_a1 (by omega) (by omega) ?_
                                              refine gm_7 rfl dX7_split_165 dX7_split_166 rfl ?_
                                              refine aw_iload dX7_split_169 rfl ?_
                                              refine aw_iconst dX7_split_171 (by decide) ?_
                                              refine aw_iaddr dX7_split_172 (by omega) ?_
                                              refine aw_iload dX7_split_173 rfl ?_
                                              refine aw_iastore dX7_split_175 m_a1 (by omega) (by omega) ?_
                                              refine aw_aload_n dX7_split_176 rfl ?_
                                              refine aw_iload dX7_split_177 rfl ?_
                                              refine c_X7_76 rfl dX7_split_179 m_ob (Nat.le_of_ble_eq_true rfl) (by omega) (C_m_gives ?_)
                                              refine aK_i ?_
                                              refine aw_ireturn dX7_split_182 rfl ?_
                                              refine ⟨vI_eq (by first | rfl | omega), _, rfl, XR.yd (upA (upA (splF (cm 1) a b (min (cm 1 (64 + 198 * a)) (cm 1 (64 + 198 * b)) / 2).toNat) (64 + 198 * a + 1) (cm 1 (64 + 198 * a + 1) - cm 1 (64 + 198 * a + 1) / 2)) (64 + 198 * b + 1) (cm 1 (64 + 198 * b + 1) + cm 1 (64 + 198 * a + 1) / 2)) (RT.tr T hR) (XO.tr T hR HX) (LR.tr T HL) HN (SE.tr T HS) HP ?_ ?_ ?_ ?_ ?_ ?_ ?_ ?_ ?_ ?_ ?_ ?_ ?_⟩
                                              · rw [aup_rn (by decide), aup_r, aup_r, e1, show cm 1 (64 + 198 * b + 1) = 0 by omega, Int.zero_add]
                                              · rw [upA_n (by omega), upA_n (by omega), h1lo 3 (by omega)]
                                                exact (hY1.hfld (k := a) (a := hv2) (j := 3) (v := cm 1 (64 + 198 * a + 1) - cm 1 (64 + 198 * a + 1) / 2) (by omega) (by omega) ehv2 (by omega)).hfld (k := b) (a := hw2) (j := 3) (v := cm 1 (64 + 198 * b + 1) + cm 1 (64 + 198 * a + 1) / 2) (by omega) (by rw [upA_n (by omega)]; omega) (by rw [aup_rn nvhv2]; exact ehw2) (by omega)
                                              · intro i hi
                                                rw [upA_n (by omega), upA_n (by omega)]
                                                exact h1lo i (by omega)
                                              · intro k k0 k1
                                                rw [upA_n (by omega), upA_n (by omega)]
                                                have q := hz k 0 (by omega) (by omega)
                                                rw [Int.add_zero] at q
                                                exact q
                                              · refine hPs.two (k := a) (g := b) (by omega) (by omega) (by omega) (by omega) (by omega) (fun i i1 i2 => by rw [upA_n (by omega), upA_n (by omega)]) ?_ ?_ ?_ ?_ ?_ ?_ ?_ ?_
                                                all_goals (repeat (first | rw [upA_s] | rw [upA_n (by omega)]))
                                                all_goals (repeat rw [hz _ _ (by omega) (by omega)])
                                                all_goals (try rw [h1lo 1 (by omega)])
                                                all_goals (obtain ⟨q1, q2, q3, q4, q5, q6, q7⟩ := HP.2.2.1 a (by omega) (by omega))
                                                all_goals (obtain ⟨r1, r2, r3, r4, r5, r6, r7⟩ := HP.2.2.1 b (by omega) (by omega))
                                                all_goals omega
                                              · exact HF.eq (by rw [aup_n (by omega), aup_rn (by decide), aup_rn (by decide), e2 0 (by decide)]) (by rw [aup_rn (by decide), aup_rn (by decide), aup_rn (by decide), e2 9 (by decide)])
                                              · intro x j hx hz9
                                                have hx0 : ¬ (0 ≤ own x ∧ own x < 10) := fun z => hx (hI.2.1 x z)
                                                rw [aup_rn (fun q => hx (by rw [q]; exact ohw2)), aup_rn (fun q => hx (by rw [q]; exact ohv2)), hI.2.2.2.1 x j hx0, aup_n (fun z => hz9 ⟨z.1, Or.inl z.2⟩)]
                                              · rw [aup_rn (fun z => nhw210 z.symm), aup_rn (fun z => nhv210 z.symm), hl10]
                                              · intro i b0 b1 b9
                                                rw [aup_rn b0, aup_rn b1, aup_rn b1]; exact e2 i b1
                                              · intro i hi
                                                rw [aup_n (by omega), aup_rn (by decide), aup_rn (by decide), e2 0 (by decide)]
                                              · rw [aup_rn (fun z => nhw20 z.symm), aup_rn (fun z => nhv20 z.symm), fr7, aup_s, aup_s]
                                              · rw [aup_rn (fun z => nhw20 z.symm), aup_rn (fun z => nhv20 z.symm), fr7, aup_n (by omega), aup_n (by omega), aup_rn (by decide), aup_rn (by decide), e2 0 (by decide)]; exact hv3
                                              · rw [aup_rn (fun z => nhw20 z.symm), aup_rn (fun z => nhv20 z.symm), fr7, aup_n (by omega), aup_n (by omega), aup_rn (by decide), aup_rn (by decide), e2 0 (by decide)]; exact hv4
                                        · first
                                            | (exfalso; omega)
                                            | skip
                                              refine aw_aload_n dX7_split_83 rfl ?_
                                              refine aw_bipush dX7_split_84 (by decide) ?_
                                              refine c_X7_72 rfl dX7_split_86 m_ob (Nat.le_of_ble_eq_true rfl) (by omega) (C_m_refuse ?_)
                                              refine aK_i ?_
                                              refine aw_ireturn dX7_split_89 rfl ?_
                                              first
                                                | (exfalso; omega)
                                                | (refine XR.sameE h ?_ ?_ ?_ ?_ ?_ ?_
                                                   · first
                                                       | rfl
                                                       | omega
                                                   · repeat (first | exact xs.rf | refine xs.up ?_ (by decide))
                                                   · repeat (first | exact mss.rf | refine mss.up0 ?_ (by decide))
                                                   · first
                                                       | (simp [aup, hv2, hv3, hv4]; done)
                                                       | (simp [aup, hv2, hv3, hv4]; omega)
                                                   · simp [aup, hv2, hv3, hv4]
                                                   · simp [aup, hv2, hv3, hv4])
                      · first
                          | (exfalso; omega)
                          | skip
                            refine aw_aload_n dX7_split_21 rfl ?_
                            refine aw_iconst dX7_split_22 (by decide) ?_
                            refine c_X7_72 rfl dX7_split_23 m_ob (Nat.le_of_ble_eq_true rfl) (by omega) (C_m_refuse ?_)
                            refine aK_i ?_
                            refine aw_ireturn dX7_split_26 rfl ?_
                            first
                              | (exfalso; omega)
                              | (refine XR.sameE h ?_ ?_ ?_ ?_ ?_ ?_
                                 · first
                                     | rfl
                                     | omega
                                 · repeat (first | exact xs.rf | refine xs.up ?_ (by decide))
                                 · repeat (first | exact mss.rf | refine mss.up0 ?_ (by decide))
                                 · first
                                     | (simp [aup, hv2, hv3, hv4]; done)
                                     | (simp [aup, hv2, hv3, hv4]; omega)
                                 · simp [aup, hv2, hv3, hv4]
                                 · simp [aup, hv2, hv3, hv4])
                · first
                    | (exfalso; omega)
                    | skip
                      refine aK_i ?_
                      refine aw_ifeq (tgt := 21) dX7_split_13 (by decide) (fun _ => ?_) (fun h => absurd h (by decide))
                      refine aw_aload_n dX7_split_21 rfl ?_
                      refine aw_iconst dX7_split_22 (by decide) ?_
                      refine c_X7_72 rfl dX7_split_23 m_ob (Nat.le_of_ble_eq_true rfl) (by omega) (C_m_refuse ?_)
                      refine aK_i ?_
                      refine aw_ireturn dX7_split_26 rfl ?_
                      first
                        | (exfalso; omega)
                        | (refine XR.sameE h ?_ ?_ ?_ ?_ ?_ ?_
                           · first
                               | rfl
                               | omega
                           · repeat (first | exact xs.rf | refine xs.up ?_ (by decide))
                           · repeat (first | exact mss.rf | refine mss.up0 ?_ (by decide))
                           · first
                               | (simp [aup, hv2, hv3, hv4]; done)
                               | (simp [aup, hv2, hv3, hv4]; omega)
                           · simp [aup, hv2, hv3, hv4]
                           · simp [aup, hv2, hv3, hv4])
          · first
              | (exfalso; omega)
              | skip
                refine aK_i ?_
                refine aw_ifeq (tgt := 21) dX7_split_5 (by decide) (fun _ => ?_) (fun h => absurd h (by decide))
                refine aw_aload_n dX7_split_21 rfl ?_
                refine aw_iconst dX7_split_22 (by decide) ?_
                refine c_X7_72 rfl dX7_split_23 m_ob (Nat.le_of_ble_eq_true rfl) (by omega) (C_m_refuse ?_)
                refine aK_i ?_
                refine aw_ireturn dX7_split_26 rfl ?_
                first
                  | (exfalso; omega)
                  | (refine XR.sameE h ?_ ?_ ?_ ?_ ?_ ?_
                     · first
                         | rfl
                         | omega
                     · repeat (first | exact xs.rf | refine xs.up ?_ (by decide))
                     · repeat (first | exact mss.rf | refine mss.up0 ?_ (by decide))
                     · first
                         | (simp [aup, hv2, hv3, hv4]; done)
                         | (simp [aup, hv2, hv3, hv4]; omega)
                     · simp [aup, hv2, hv3, hv4]
                     · simp [aup, hv2, hv3, hv4])
  · refine aK_i ?_
    refine aw_ifne (tgt := 14) dX0_split_7 (by decide) (fun h => absurd h (by decide)) (fun _ => ?_)
    refine aw_iconst dX0_split_10 (by decide) ?_
    refine aw_goto (tgt := 61) dX0_split_11 (by decide) ?_
    refine p_X0_73_0 rfl dX0_split_61 hR.o0 ?_
    refine aw_aload_n dX0_split_64 rfl ?_
    refine g_X0_73_0 rfl dX0_split_65 hR.o0 ?_
    repeat (first | rw [aup_s] | rw [aup_n (by omega)])
    refine aw_ifle (tgt := 73) dX0_split_68 (by decide) (fun h => absurd h (by decide)) (fun _ => ?_)
    refine aw_iconst dX0_split_71 (by decide) ?_
    refine aw_ireturn dX0_split_72 rfl ?_
    refine ⟨_, rfl, ?_⟩
    refine AMet.go (L := [some (vR 0), some (vI a), some (vI b), none, none, none]) mok_X7_split (Nat.le_of_ble_eq_true rfl) rfl ?_
    refine aw_aload_n dX7_split_0 rfl ?_
    refine aw_iload_n dX7_split_1 rfl ?_
    refine c_X7_274 rfl dX7_split_2 m_ob (Nat.le_of_ble_eq_true rfl) (by omega) (C_m_isHive (fun hh => ?_) (fun hh => ?_))
    · first
        | (exfalso; omega)
        | skip
          refine aK_i ?_
          refine aw_ifeq (tgt := 21) dX7_split_5 (by decide) (fun h => absurd h (by decide)) (fun _ => ?_)
          refine aw_aload_n dX7_split_8 rfl ?_
          refine aw_iload_n dX7_split_9 rfl ?_
          refine c_X7_274 rfl dX7_split_10 m_ob (Nat.le_of_ble_eq_true rfl) (by omega) (C_m_isHive (fun hh => ?_) (fun hh => ?_))
          · first
              | (exfalso; omega)
              | skip
                refine aK_i ?_
                refine aw_ifeq (tgt := 21) dX7_split_13 (by decide) (fun h => absurd h (by decide)) (fun _ => ?_)
                refine aw_iload_n dX7_split_16 rfl ?_
                refine aw_iload_n dX7_split_17 rfl ?_
                refine aw_icmpne (tgt := 27) dX7_split_18 (by decide) (fun h18 => ?_) (fun h18 => ?_)
                · first
                    | (exfalso; omega)
                    | skip
                      refine aw_iload_n dX7_split_27 rfl ?_
                      refine c_X7_217 rfl dX7_split_28  (Nat.le_of_ble_eq_true rfl) (by omega) (C_m_hiveRow (by omega) ?_)
                      refine aK_i ?_
                      refine aw_istore3 dX7_split_31 (by decide) rfl ?_
                      refine aw_iload_n dX7_split_32 rfl ?_
                      refine c_X7_217 rfl dX7_split_33  (Nat.le_of_ble_eq_true rfl) (by omega) (C_m_hiveRow (by omega) ?_)
                      refine aK_i ?_
                      refine aw_istore4 dX7_split_36 (by decide) rfl ?_
                      refine gm_7 rfl dX7_split_38 dX7_split_39 rfl ?_
                      refine aw_iload dX7_split_42 rfl ?_
                      refine aw_iconst dX7_split_44 (by decide) ?_
                      refine aw_iaddr dX7_split_45 (by omega) ?_
                      refine aw_iaload dX7_split_46 m_a1 (by omega) (by omega) ?_
                      refine aw_ifgt (tgt := 83) dX7_split_47 (by decide) (fun h47 => ?_) (fun h47 => ?_)
                      · first
                          | (exfalso; omega)
                          | skip
                            refine aw_aload_n dX7_split_83 rfl ?_
                            refine aw_bipush dX7_split_84 (by decide) ?_
                            refine c_X7_72 rfl dX7_split_86 m_ob (Nat.le_of_ble_eq_true rfl) (by omega) (C_m_refuse ?_)
                            refine aK_i ?_
                            refine aw_ireturn dX7_split_89 rfl ?_
                            first
                              | (exfalso; omega)
                              | (refine XR.sameE h ?_ ?_ ?_ ?_ ?_ ?_
                                 · first
                                     | rfl
                                     | omega
                                 · repeat (first | exact xs.rf | refine xs.up ?_ (by decide))
                                 · repeat (first | exact mss.rf | refine mss.up0 ?_ (by decide))
                                 · first
                                     | (simp [aup, hv2, hv3, hv4]; done)
                                     | (simp [aup, hv2, hv3, hv4]; omega)
                                 · simp [aup, hv2, hv3, hv4]
                                 · simp [aup, hv2, hv3, hv4])
                      · first
                          | (exfalso; omega)
                          | skip
                            refine gm_7 rfl dX7_split_50 dX7_split_51 rfl ?_
                            refine aw_iload dX7_split_54 rfl ?_
                            refine aw_iconst dX7_split_56 (by decide) ?_
                            refine aw_iaddr dX7_split_57 (by omega) ?_
                            refine aw_iaload dX7_split_58 m_a1 (by omega) (by omega) ?_
                            refine aw_iconst dX7_split_59 (by decide) ?_
                            refine aw_icmpne (tgt := 83) dX7_split_60 (by decide) (fun h60 => ?_) (fun h60 => ?_)
                            · first
                                | (exfalso; omega)
                                | skip
                                  refine aw_aload_n dX7_split_83 rfl ?_
                                  refine aw_bipush dX7_split_84 (by decide) ?_
                                  refine c_X7_72 rfl dX7_split_86 m_ob (Nat.le_of_ble_eq_true rfl) (by omega) (C_m_refuse ?_)
                                  refine aK_i ?_
                                  refine aw_ireturn dX7_split_89 rfl ?_
                                  first
                                    | (exfalso; omega)
                                    | (refine XR.sameE h ?_ ?_ ?_ ?_ ?_ ?_
                                       · first
                                           | rfl
                                           | omega
                                       · repeat (first | exact xs.rf | refine xs.up ?_ (by decide))
                                       · repeat (first | exact mss.rf | refine mss.up0 ?_ (by decide))
                                       · first
                                           | (simp [aup, hv2, hv3, hv4]; done)
                                           | (simp [aup, hv2, hv3, hv4]; omega)
                                       · simp [aup, hv2, hv3, hv4]
                                       · simp [aup, hv2, hv3, hv4])
                            · first
                                | (exfalso; omega)
                                | skip
                                  refine aw_aload_n dX7_split_63 rfl ?_
                                  refine aw_iload dX7_split_64 rfl ?_
                                  refine aw_iconst dX7_split_66 (by decide) ?_
                                  refine c_X7_283 rfl dX7_split_67 m_ob (Nat.le_of_ble_eq_true rfl) (by omega) (C_m_sumOf rfl uh.1 (by omega) uh.2.1 ?_)
                                  refine aK_i ?_
                                  refine aw_bipush dX7_split_70 (by decide) ?_
                                  refine gm_7 rfl dX7_split_72 dX7_split_73 rfl ?_
                                  refine aw_iload dX7_split_76 rfl ?_
                                  refine aw_iaload dX7_split_78 m_a1 (by omega) (by omega) ?_
                                  refine aw_imulr dX7_split_79 (by omega) ?_
                                  refine aw_icmpge (tgt := 90) dX7_split_80 (by decide) (fun h80 => ?_) (fun h80 => ?_)
                                  · first
                                      | (exfalso; omega)
                                      | skip
                                        refine aw_iconst dX7_split_90 (by decide) ?_
                                        refine aw_istore5 dX7_split_91 (by decide) rfl ?_
                                        refine L_m_split (a := a) (b := b) (J := (min (cm 1 (64 + 198 * a)) (cm 1 (64 + 198 * b)) / 2).toNat) (by omega) HP (by omega) (by omega) (by omega) (by omega) (fun ct3 x5 e1 e2 => ?_) (min (cm 1 (64 + 198 * a)) (cm 1 (64 + 198 * b)) / 2).toNat 0 1 cm (by omega) (by omega) rfl (fun _ _ => rfl)
                                        have za1 : ct3 1 (64 + 198 * a + 1) = cm 1 (64 + 198 * a + 1) := by rw [e1]; exact hz a 1 (by omega) (by omega)
                                        have hl10 : ct1 10 0 = ct 10 0 := by
                                          rw [hI.2.2.2.2 0, aup_n (by omega)]
                                        refine gm_7 rfl dX7_split_140 dX7_split_141 rfl ?_
                                        refine aw_iload_n dX7_split_144 rfl ?_
                                        refine aw_iconst dX7_split_145 (by decide) ?_
                                        refine aw_iaddr dX7_split_146 (by omega) ?_
                                        refine aw_iaload dX7_split_147 m_a1 (by omega) (by omega) ?_
                                        rw [za1]
                                        refine aw_iconst dX7_split_148 (by decide) ?_
                                        refine aw_idivr dX7_split_149 (by omega) (by omega) ?_
                                        refine aw_istore5 dX7_split_150 (by decide) rfl ?_
                                        refine gm_7 rfl dX7_split_152 dX7_split_153 rfl ?_
                                        refine aw_iload_n dX7_split_156 rfl ?_
                                        refine aw_iconst dX7_split_157 (by decide) ?_
                                        refine aw_iaddr dX7_split_158 (by omega) ?_
                                        refine aw_dup2 dX7_split_159 rfl rfl ?_
                                        refine aw_iaload dX7_split_160 m_a1 (by omega) (by omega) ?_
                                        rw [za1]
                                        refine aw_iload dX7_split_161 rfl ?_
                                        refine aw_isubr dX7_split_163 (by omega) ?_
                                        refine aw_iastore dX7_split_164 m_a1 (by omega) (by omega) ?_
                                        refine gm_7 rfl dX7_split_165 dX7_split_166 rfl ?_
                                        refine aw_iload dX7_split_169 rfl ?_
                                        refine aw_iconst dX7_split_171 (by decide) ?_
                                        refine aw_iaddr dX7_split_172 (by omega) ?_
                                        refine aw_iload dX7_split_173 rfl ?_
                                        refine aw_iastore dX7_split_175 m_a1 (by omega) (by omega) ?_
                                        refine aw_aload_n dX7_split_176 rfl ?_
                                        refine aw_iload dX7_split_177 rfl ?_
                                        refine c_X7_76 rfl dX7_split_179 m_ob (Nat.le_of_ble_eq_true rfl) (by omega) (C_m_gives ?_)
                                        refine aK_i ?_
                                        refine aw_ireturn dX7_split_182 rfl ?_
                                        refine ⟨vI_eq (by first | rfl | omega), _, rfl, XR.yd (upA (upA (splF (cm 1) a b (min (cm 1 (64 + 198 * a)) (cm 1 (64 + 198 * b)) / 2).toNat) (64 + 198 * a + 1) (cm 1 (64 + 198 * a + 1) - cm 1 (64 + 198 * a + 1) / 2)) (64 + 198 * b + 1) (cm 1 (64 + 198 * b + 1) + cm 1 (64 + 198 * a + 1) / 2)) (RT.tr T hR) (XO.tr T hR HX) (LR.tr T HL) HN (SE.tr T HS) HP ?_ ?_ ?_ ?_ ?_ ?_ ?_ ?_ ?_ ?_ ?_ ?_ ?_⟩
                                        · rw [aup_rn (by decide), aup_r, aup_r, e1, show cm 1 (64 + 198 * b + 1) = 0 by omega, Int.zero_add]
                                        · rw [upA_n (by omega), upA_n (by omega), h1lo 3 (by omega)]
                                          exact (hY1.hfld (k := a) (a := hv2) (j := 3) (v := cm 1 (64 + 198 * a + 1) - cm 1 (64 + 198 * a + 1) / 2) (by omega) (by omega) ehv2 (by omega)).hfld (k := b) (a := hw2) (j := 3) (v := cm 1 (64 + 198 * b + 1) + cm 1 (64 + 198 * a + 1) / 2) (by omega) (by rw [upA_n (by omega)]; omega) (by rw [aup_rn nvhv2]; exact ehw2) (by omega)
                                        · intro i hi
                                          rw [upA_n (by omega), upA_n (by omega)]
                                          exact h1lo i (by omega)
                                        · intro k k0 k1
                                          rw [upA_n (by omega), upA_n (by omega)]
                                          have q := hz k 0 (by omega) (by omega)
                                          rw [Int.add_zero] at q
                                          exact q
                                        · refine hPs.two (k := a) (g := b) (by omega) (by omega) (by omega) (by omega) (by omega) (fun i i1 i2 => by rw [upA_n (by omega), upA_n (by omega)]) ?_ ?_ ?_ ?_ ?_ ?_ ?_ ?_
                                          all_goals (repeat (first | rw [upA_s] | rw [upA_n (by omega)]))
                                          all_goals (repeat rw [hz _ _ (by omega) (by omega)])
                                          all_goals (try rw [h1lo 1 (by omega)])
                                          all_goals (obtain ⟨q1, q2, q3, q4, q5, q6, q7⟩ := HP.2.2.1 a (by omega) (by omega))
                                          all_goals (obtain ⟨r1, r2, r3, r4, r5, r6, r7⟩ := HP.2.2.1 b (by omega) (by omega))
                                          all_goals omega
                                        · exact HF.eq (by rw [aup_n (by omega), aup_rn (by decide), aup_rn (by decide), e2 0 (by decide)]) (by rw [aup_rn (by decide), aup_rn (by decide), aup_rn (by decide), e2 9 (by decide)])
                                        · intro x j hx hz9
                                          have hx0 : ¬ (0 ≤ own x ∧ own x < 10) := fun z => hx (hI.2.1 x z)
                                          rw [aup_rn (fun q => hx (by rw [q]; exact ohw2)), aup_rn (fun q => hx (by rw [q]; exact ohv2)), hI.2.2.2.1 x j hx0, aup_n (fun z => hz9 ⟨z.1, Or.inl z.2⟩)]
                                        · rw [aup_rn (fun z => nhw210 z.symm), aup_rn (fun z => nhv210 z.symm), hl10]
                                        · intro i b0 b1 b9
                                          rw [aup_rn b0, aup_rn b1, aup_rn b1]; exact e2 i b1
                                        · intro i hi
                                          rw [aup_n (by omega), aup_rn (by decide), aup_rn (by decide), e2 0 (by decide)]
                                        · rw [aup_rn (fun z => nhw20 z.symm), aup_rn (fun z => nhv20 z.symm), fr7, aup_s, aup_s]
                                        · rw [aup_rn (fun z => nhw20 z.symm), aup_rn (fun z => nhv20 z.symm), fr7, aup_n (by omega), aup_n (by omega), aup_rn (by decide), aup_rn (by decide), e2 0 (by decide)]; exact hv3
                                        · rw [aup_rn (fun z => nhw20 z.symm), aup_rn (fun z => nhv20 z.symm), fr7, aup_n (by omega), aup_n (by omega), aup_rn (by decide), aup_rn (by decide), e2 0 (by decide)]; exact hv4
                                  · first
                                      | (exfalso; omega)
                                      | skip
                                        refine aw_aload_n dX7_split_83 rfl ?_
                                        refine aw_bipush dX7_split_84 (by decide) ?_
                                        refine c_X7_72 rfl dX7_split_86 m_ob (Nat.le_of_ble_eq_true rfl) (by omega) (C_m_refuse ?_)
                                        refine aK_i ?_
                                        refine aw_ireturn dX7_split_89 rfl ?_
                                        first
                                          | (exfalso; omega)
                                          | (refine XR.sameE h ?_ ?_ ?_ ?_ ?_ ?_
                                             · first
                                                 | rfl
                                                 | omega
                                             · repeat (first | exact xs.rf | refine xs.up ?_ (by decide))
                                             · repeat (first | exact mss.rf | refine mss.up0 ?_ (by decide))
                                             · first
                                                 | (simp [aup, hv2, hv3, hv4]; done)
                                                 | (simp [aup, hv2, hv3, hv4]; omega)
                                             · simp [aup, hv2, hv3, hv4]
                                             · simp [aup, hv2, hv3, hv4])
                · first
                    | (exfalso; omega)
                    | skip
                      refine aw_aload_n dX7_split_21 rfl ?_
                      refine aw_iconst dX7_split_22 (by decide) ?_
                      refine c_X7_72 rfl dX7_split_23 m_ob (Nat.le_of_ble_eq_true rfl) (by omega) (C_m_refuse ?_)
                      refine aK_i ?_
                      refine aw_ireturn dX7_split_26 rfl ?_
                      first
                        | (exfalso; omega)
                        | (refine XR.sameE h ?_ ?_ ?_ ?_ ?_ ?_
                           · first
                               | rfl
                               | omega
                           · repeat (first | exact xs.rf | refine xs.up ?_ (by decide))
                           · repeat (first | exact mss.rf | refine mss.up0 ?_ (by decide))
                           · first
                               | (simp [aup, hv2, hv3, hv4]; done)
                               | (simp [aup, hv2, hv3, hv4]; omega)
                           · simp [aup, hv2, hv3, hv4]
                           · simp [aup, hv2, hv3, hv4])
          · first
              | (exfalso; omega)
              | skip
                refine aK_i ?_
                refine aw_ifeq (tgt := 21) dX7_split_13 (by decide) (fun _ => ?_) (fun h => absurd h (by decide))
                refine aw_aload_n dX7_split_21 rfl ?_
                refine aw_iconst dX7_split_22 (by decide) ?_
                refine c_X7_72 rfl dX7_split_23 m_ob (Nat.le_of_ble_eq_true rfl) (by omega) (C_m_refuse ?_)
                refine aK_i ?_
                refine aw_ireturn dX7_split_26 rfl ?_
                first
                  | (exfalso; omega)
                  | (refine XR.sameE h ?_ ?_ ?_ ?_ ?_ ?_
                     · first
                         | rfl
                         | omega
                     · repeat (first | exact xs.rf | refine xs.up ?_ (by decide))
                     · repeat (first | exact mss.rf | refine mss.up0 ?_ (by decide))
                     · first
                         | (simp [aup, hv2, hv3, hv4]; done)
                         | (simp [aup, hv2, hv3, hv4]; omega)
                     · simp [aup, hv2, hv3, hv4]
                     · simp [aup, hv2, hv3, hv4])
    · first
        | (exfalso; omega)
        | skip
          refine aK_i ?_
          refine aw_ifeq (tgt := 21) dX7_split_5 (by decide) (fun _ => ?_) (fun h => absurd h (by decide))
          refine aw_aload_n dX7_split_21 rfl ?_
          refine aw_iconst dX7_split_22 (by decide) ?_
          refine c_X7_72 rfl dX7_split_23 m_ob (Nat.le_of_ble_eq_true rfl) (by omega) (C_m_refuse ?_)
          refine aK_i ?_
          refine aw_ireturn dX7_split_26 rfl ?_
          first
            | (exfalso; omega)
            | (refine XR.sameE h ?_ ?_ ?_ ?_ ?_ ?_
               · first
                   | rfl
                   | omega
               · repeat (first | exact xs.rf | refine xs.up ?_ (by decide))
               · repeat (first | exact mss.rf | refine mss.up0 ?_ (by decide))
               · first
                   | (simp [aup, hv2, hv3, hv4]; done)
                   | (simp [aup, hv2, hv3, hv4]; omega)
               · simp [aup, hv2, hv3, hv4]
               · simp [aup, hv2, hv3, hv4])
