set_option maxRecDepth 100000
/-! operations, 4 -/
set_option maxHeartbeats 2000000 in
theorem OP_hive {sz : Int} {im : Int → aIm} {ct cm : Int → Int → Int} (h : XR (sz, im, ct) cm) {a b : Int} (r0 : -2147483648 ≤ a ∧ a < 2147483648) (r1 : -2147483648 ≤ b ∧ b < 2147483648)  : AMet md_X0_hive 4 0 0 [vR 0, vI a, vI b] (sz, im, ct) (XQ md_X7_hive 3 [vR 0, vI a, vI b] cm) := by
  obtain ⟨own, N, hR, HY, HL, HN, HS, HP, HF, HX, hv2, hv3, hv4⟩ := id h
  dsimp only at hR HY HL HS HX hv2 hv3 hv4
  have hp0 := HP.1
  have hp3 := HP.2.1
  have hpq := HP.2.2.2.1.1
  have hps := HP.2.2.2.2.2
  refine AMet.go (L := [some (vR 0), some (vI a), some (vI b), none]) mok_X0_hive (Nat.le_of_ble_eq_true rfl) rfl ?_
  refine aw_aload_n dX0_hive_0 rfl ?_
  refine aw_aload_n dX0_hive_1 rfl ?_
  refine aw_iload_n dX0_hive_2 rfl ?_
  refine c_X0_168 rfl dX0_hive_3 hR.o0 (Nat.le_of_ble_eq_true rfl) (by omega) (C_x_isHive hR HY (fun xh => ?_) (fun xh => ?_))
  · refine aK_i ?_
    refine aw_ifeq (tgt := 25) dX0_hive_6 (by decide) (fun h => absurd h (by decide)) (fun _ => ?_)
    refine aw_iload_n dX0_hive_9 rfl ?_
    refine aw_i2l dX0_hive_10 ?_
    refine aw_lconst0 dX0_hive_11 ?_
    refine aw_ldc2 (x := 6) dX0_hive_12 q1013 (by decide) ?_
    refine c_X0_164 rfl dX0_hive_15  (Nat.le_of_ble_eq_true rfl) (by omega) (C_x_isIn (fun hi => ?_) (fun hi => ?_))
    · refine aK_i ?_
      refine aw_ifeq (tgt := 25) dX0_hive_18 (by decide) (fun h => absurd h (by decide)) (fun _ => ?_)
      refine aw_iconst dX0_hive_21 (by decide) ?_
      refine aw_goto (tgt := 26) dX0_hive_22 (by decide) ?_
      refine p_X0_73_0 rfl dX0_hive_26 hR.o0 ?_
      refine aw_aload_n dX0_hive_29 rfl ?_
      refine g_X0_73_0 rfl dX0_hive_30 hR.o0 ?_
      repeat (first | rw [aup_s] | rw [aup_n (by omega)])
      refine aw_ifle (tgt := 38) dX0_hive_33 (by decide) (fun _ => ?_) (fun h => absurd h (by decide))
      obtain ⟨hv, ehv, ⟨g1, g2, ⟨g3, g4, g5, g6, g7⟩, g8, g9, -⟩, nhv0, nhv10, nhv9, nv0, nvhv, nv10, ohv⟩ := (HY.up0 (j := 7) (v := 0) hR.1.2 (by decide)).hv (hR.up0 (j := 7) (v := 0)) (k := a) (by omega) (by omega)
      have gn := g1.2.2.2
      have gh := HP.2.2.1 a (by omega) (by omega)
      have gq := gh.2.2.2.2.1
      have gp := HP.pd.2.1 a (by omega) (by omega)
      refine aw_aload_n dX0_hive_38 rfl ?_
      refine aw_iload_n dX0_hive_39 rfl ?_
      refine c_X0_172 rfl dX0_hive_40 hR.o0 (Nat.le_of_ble_eq_true rfl) (by omega) (C_x_xat2 (a := hv) hR HY (by omega) (by repeat (first | exact ehv | rw [aup_rn nvhv] | rw [aup_rn nv10] | rw [aup_rn nv0])) ?_)
      refine aK_i ?_
      refine aw_astore3 dX0_hive_43 (by decide) rfl ?_
      refine aw_iload_n dX0_hive_44 rfl ?_
      have hsw : b = 0 ∨ b = 1 ∨ b = 2 ∨ b = 3 ∨ b = 4 ∨ b = 5 ∨ (b < 0 ∨ 5 < b) := by omega
      rcases hsw with hsw | hsw | hsw | hsw | hsw | hsw | hsw
      · first
          | (exfalso; omega)
          | skip
            refine aw_tabIn (tgt := 84) dX0_hive_45 (by omega) (by omega) (off := 39) (by rw [hsw]; rfl) (by decide) ?_
            refine aw_aload_n dX0_hive_84 rfl ?_
            refine g_X0_176_9 rfl dX0_hive_85 g1.1 ?_
            refine aw_alen dX0_hive_88 g1.2.1 ?_
            refine aw_ireturn dX0_hive_89 rfl ?_
            refine ⟨_, rfl, ?_⟩
            refine AMet.go (L := [some (vR 0), some (vI a), some (vI b), none]) mok_X7_hive (Nat.le_of_ble_eq_true rfl) rfl ?_
            refine aw_aload_n dX7_hive_0 rfl ?_
            refine aw_iload_n dX7_hive_1 rfl ?_
            refine c_X7_274 rfl dX7_hive_2 m_ob (Nat.le_of_ble_eq_true rfl) (by omega) (C_m_isHive (fun hh => ?_) (fun hh => ?_))
            · first
                | (exfalso; omega)
                | skip
                  refine aK_i ?_
                  refine aw_ifeq (tgt := 18) dX7_hive_5 (by decide) (fun h => absurd h (by decide)) (fun _ => ?_)
                  refine aw_iload_n dX7_hive_8 rfl ?_
                  refine aw_iflt (tgt := 18) dX7_hive_9 (by decide) (fun h9 => ?_) (fun h9 => ?_)
                  · first
                      | (exfalso; omega)
                      | skip
                        refine aw_aload_n dX7_hive_18 rfl ?_
                        refine aw_iconst dX7_hive_19 (by decide) ?_
                        refine c_X7_72 rfl dX7_hive_20 m_ob (Nat.le_of_ble_eq_true rfl) (by omega) (C_m_refuse ?_)
                        refine aK_i ?_
                        refine aw_ireturn dX7_hive_23 rfl ?_
                        first
                          | (exfalso; omega)
                          | (refine XR.sameE h ?_ ?_ ?_ ?_ ?_ ?_
                             · first
                                 | rfl
                                 | (subst hsw; rfl)
                                 | omega
                             · repeat (first | exact xs.rf | refine xs.up ?_ (by decide))
                             · repeat (first | exact mss.rf | refine mss.up0 ?_ (by decide))
                             · first
                                 | (simp [aup, hv2, hv3, hv4]; done)
                                 | (simp [aup, hv2, hv3, hv4]; omega)
                                 | (rw [aup_s, aup_s, hu]; split <;> omega)
                             · simp [aup, hv2, hv3, hv4]
                             · simp [aup, hv2, hv3, hv4])
                  · first
                      | (exfalso; omega)
                      | skip
                        refine aw_iload_n dX7_hive_12 rfl ?_
                        refine aw_bipush dX7_hive_13 (by decide) ?_
                        refine aw_icmple (tgt := 24) dX7_hive_15 (by decide) (fun h15 => ?_) (fun h15 => ?_)
                        · first
                            | (exfalso; omega)
                            | skip
                              refine aw_iload_n dX7_hive_24 rfl ?_
                              refine c_X7_217 rfl dX7_hive_25  (Nat.le_of_ble_eq_true rfl) (by omega) (C_m_hiveRow (by omega) ?_)
                              refine aK_i ?_
                              refine aw_istore3 dX7_hive_28 (by decide) rfl ?_
                              refine aw_iload_n dX7_hive_29 rfl ?_
                              have hsw : b = 0 ∨ b = 1 ∨ b = 2 ∨ b = 3 ∨ b = 4 ∨ b = 5 ∨ b = 6 ∨ (b < 0 ∨ 6 < b) := by omega
                              rcases hsw with hsw | hsw | hsw | hsw | hsw | hsw | hsw | hsw
                              · first
                                  | (exfalso; omega)
                                  | skip
                                    refine aw_tabIn (tgt := 72) dX7_hive_30 (by omega) (by omega) (off := 42) (by rw [hsw]; rfl) (by decide) ?_
                                    refine aw_aload_n dX7_hive_72 rfl ?_
                                    refine gm_7 rfl dX7_hive_73 dX7_hive_74 rfl ?_
                                    refine aw_iload_n dX7_hive_77 rfl ?_
                                    refine aw_iaload dX7_hive_78 m_a1 (by omega) (by omega) ?_
                                    refine c_X7_76 rfl dX7_hive_79 m_ob (Nat.le_of_ble_eq_true rfl) (by omega) (C_m_gives ?_)
                                    refine aK_i ?_
                                    refine aw_ireturn dX7_hive_82 rfl ?_
                                    first
                                      | (exfalso; omega)
                                      | (refine XR.sameE h ?_ ?_ ?_ ?_ ?_ ?_
                                         · first
                                             | rfl
                                             | (subst hsw; rfl)
                                             | omega
                                         · repeat (first | exact xs.rf | refine xs.up ?_ (by decide))
                                         · repeat (first | exact mss.rf | refine mss.up0 ?_ (by decide))
                                         · first
                                             | (simp [aup, hv2, hv3, hv4]; done)
                                             | (simp [aup, hv2, hv3, hv4]; omega)
                                             | (rw [aup_s, aup_s, hu]; split <;> omega)
                                         · simp [aup, hv2, hv3, hv4]
                                         · simp [aup, hv2, hv3, hv4])
                              · first
                                  | (exfalso; omega)
                                  | skip
                                    refine aw_tabIn (tgt := 83) dX7_hive_30 (by omega) (by omega) (off := 53) (by rw [hsw]; rfl) (by decide) ?_
                                    refine aw_aload_n dX7_hive_83 rfl ?_
                                    refine gm_7 rfl dX7_hive_84 dX7_hive_85 rfl ?_
                                    refine aw_iload_n dX7_hive_88 rfl ?_
                                    refine aw_iconst dX7_hive_89 (by decide) ?_
                                    refine aw_iaddr dX7_hive_90 (by omega) ?_
                                    refine aw_iaload dX7_hive_91 m_a1 (by omega) (by omega) ?_
                                    refine c_X7_76 rfl dX7_hive_92 m_ob (Nat.le_of_ble_eq_true rfl) (by omega) (C_m_gives ?_)
                                    refine aK_i ?_
                                    refine aw_ireturn dX7_hive_95 rfl ?_
                                    first
                                      | (exfalso; omega)
                                      | (refine XR.sameE h ?_ ?_ ?_ ?_ ?_ ?_
                                         · first
                                             | rfl
                                             | (subst hsw; rfl)
                                             | omega
                                         · repeat (first | exact xs.rf | refine xs.up ?_ (by decide))
                                         · repeat (first | exact mss.rf | refine mss.up0 ?_ (by decide))
                                         · first
                                             | (simp [aup, hv2, hv3, hv4]; done)
                                             | (simp [aup, hv2, hv3, hv4]; omega)
                                             | (rw [aup_s, aup_s, hu]; split <;> omega)
                                         · simp [aup, hv2, hv3, hv4]
                                         · simp [aup, hv2, hv3, hv4])
                              · first
                                  | (exfalso; omega)
                                  | skip
                                    refine aw_tabIn (tgt := 122) dX7_hive_30 (by omega) (by omega) (off := 92) (by rw [hsw]; rfl) (by decide) ?_
                                    refine aw_aload_n dX7_hive_122 rfl ?_
                                    refine aw_aload_n dX7_hive_123 rfl ?_
                                    refine aw_iload_n dX7_hive_124 rfl ?_
                                    refine aw_iload_n dX7_hive_125 rfl ?_
                                    refine aw_iconst dX7_hive_126 (by decide) ?_
                                    refine aw_isubr dX7_hive_127 (by omega) ?_
                                    refine c_X7_283 rfl dX7_hive_128 m_ob (Nat.le_of_ble_eq_true rfl) (by omega) (C_m_sumOf rfl gh.1 (by omega) gh.2.1 ?_)
                                    refine aK_i ?_
                                    refine c_X7_76 rfl dX7_hive_131 m_ob (Nat.le_of_ble_eq_true rfl) (by omega) (C_m_gives ?_)
                                    refine aK_i ?_
                                    refine aw_ireturn dX7_hive_134 rfl ?_
                                    first
                                      | (exfalso; omega)
                                      | (refine XR.sameE h ?_ ?_ ?_ ?_ ?_ ?_
                                         · first
                                             | rfl
                                             | (subst hsw; rfl)
                                             | omega
                                         · repeat (first | exact xs.rf | refine xs.up ?_ (by decide))
                                         · repeat (first | exact mss.rf | refine mss.up0 ?_ (by decide))
                                         · first
                                             | (simp [aup, hv2, hv3, hv4]; done)
                                             | (simp [aup, hv2, hv3, hv4]; omega)
                                             | (rw [aup_s, aup_s, hu]; split <;> omega)
                                         · simp [aup, hv2, hv3, hv4]
                                         · simp [aup, hv2, hv3, hv4])
                              · first
                                  | (exfalso; omega)
                                  | skip
                                    refine aw_tabIn (tgt := 122) dX7_hive_30 (by omega) (by omega) (off := 92) (by rw [hsw]; rfl) (by decide) ?_
                                    refine aw_aload_n dX7_hive_122 rfl ?_
                                    refine aw_aload_n dX7_hive_123 rfl ?_
                                    refine aw_iload_n dX7_hive_124 rfl ?_
                                    refine aw_iload_n dX7_hive_125 rfl ?_
                                    refine aw_iconst dX7_hive_126 (by decide) ?_
                                    refine aw_isubr dX7_hive_127 (by omega) ?_
                                    refine c_X7_283 rfl dX7_hive_128 m_ob (Nat.le_of_ble_eq_true rfl) (by omega) (C_m_sumOf rfl gh.1 (by omega) gh.2.1 ?_)
                                    refine aK_i ?_
                                    refine c_X7_76 rfl dX7_hive_131 m_ob (Nat.le_of_ble_eq_true rfl) (by omega) (C_m_gives ?_)
                                    refine aK_i ?_
                                    refine aw_ireturn dX7_hive_134 rfl ?_
                                    first
                                      | (exfalso; omega)
                                      | (refine XR.sameE h ?_ ?_ ?_ ?_ ?_ ?_
                                         · first
                                             | rfl
                                             | (subst hsw; rfl)
                                             | omega
                                         · repeat (first | exact xs.rf | refine xs.up ?_ (by decide))
                                         · repeat (first | exact mss.rf | refine mss.up0 ?_ (by decide))
                                         · first
                                             | (simp [aup, hv2, hv3, hv4]; done)
                                             | (simp [aup, hv2, hv3, hv4]; omega)
                                             | (rw [aup_s, aup_s, hu]; split <;> omega)
                                         · simp [aup, hv2, hv3, hv4]
                                         · simp [aup, hv2, hv3, hv4])
                              · first
                                  | (exfalso; omega)
                                  | skip
                                    refine aw_tabIn (tgt := 122) dX7_hive_30 (by omega) (by omega) (off := 92) (by rw [hsw]; rfl) (by decide) ?_
                                    refine aw_aload_n dX7_hive_122 rfl ?_
                                    refine aw_aload_n dX7_hive_123 rfl ?_
                                    refine aw_iload_n dX7_hive_124 rfl ?_
                                    refine aw_iload_n dX7_hive_125 rfl ?_
                                    refine aw_iconst dX7_hive_126 (by decide) ?_
                                    refine aw_isubr dX7_hive_127 (by omega) ?_
                                    refine c_X7_283 rfl dX7_hive_128 m_ob (Nat.le_of_ble_eq_true rfl) (by omega) (C_m_sumOf rfl gh.1 (by omega) gh.2.1 ?_)
                                    refine aK_i ?_
                                    refine c_X7_76 rfl dX7_hive_131 m_ob (Nat.le_of_ble_eq_true rfl) (by omega) (C_m_gives ?_)
                                    refine aK_i ?_
                                    refine aw_ireturn dX7_hive_134 rfl ?_
                                    first
                                      | (exfalso; omega)
                                      | (refine XR.sameE h ?_ ?_ ?_ ?_ ?_ ?_
                                         · first
                                             | rfl
                                             | (subst hsw; rfl)
                                             | omega
                                         · repeat (first | exact xs.rf | refine xs.up ?_ (by decide))
                                         · repeat (first | exact mss.rf | refine mss.up0 ?_ (by decide))
                                         · first
                                             | (simp [aup, hv2, hv3, hv4]; done)
                                             | (simp [aup, hv2, hv3, hv4]; omega)
                                             | (rw [aup_s, aup_s, hu]; split <;> omega)
                                         · simp [aup, hv2, hv3, hv4]
                                         · simp [aup, hv2, hv3, hv4])
                              · first
                                  | (exfalso; omega)
                                  | skip
                                    refine aw_tabIn (tgt := 96) dX7_hive_30 (by omega) (by omega) (off := 66) (by rw [hsw]; rfl) (by decide) ?_
                                    refine aw_aload_n dX7_hive_96 rfl ?_
                                    refine gm_7 rfl dX7_hive_97 dX7_hive_98 rfl ?_
                                    refine aw_iload_n dX7_hive_101 rfl ?_
                                    refine aw_iconst dX7_hive_102 (by decide) ?_
                                    refine aw_iaddr dX7_hive_103 (by omega) ?_
                                    refine aw_iaload dX7_hive_104 m_a1 (by omega) (by omega) ?_
                                    refine c_X7_76 rfl dX7_hive_105 m_ob (Nat.le_of_ble_eq_true rfl) (by omega) (C_m_gives ?_)
                                    refine aK_i ?_
                                    refine aw_ireturn dX7_hive_108 rfl ?_
                                    first
                                      | (exfalso; omega)
                                      | (refine XR.sameE h ?_ ?_ ?_ ?_ ?_ ?_
                                         · first
                                             | rfl
                                             | (subst hsw; rfl)
                                             | omega
                                         · repeat (first | exact xs.rf | refine xs.up ?_ (by decide))
                                         · repeat (first | exact mss.rf | refine mss.up0 ?_ (by decide))
                                         · first
                                             | (simp [aup, hv2, hv3, hv4]; done)
                                             | (simp [aup, hv2, hv3, hv4]; omega)
                                             | (rw [aup_s, aup_s, hu]; split <;> omega)
                                         · simp [aup, hv2, hv3, hv4]
                                         · simp [aup, hv2, hv3, hv4])
                              · first
                                  | (exfalso; omega)
                                  | skip
                                    refine aw_tabIn (tgt := 109) dX7_hive_30 (by omega) (by omega) (off := 79) (by rw [hsw]; rfl) (by decide) ?_
                                    refine aw_aload_n dX7_hive_109 rfl ?_
                                    refine gm_7 rfl dX7_hive_110 dX7_hive_111 rfl ?_
                                    refine aw_iload_n dX7_hive_114 rfl ?_
                                    refine aw_iconst dX7_hive_115 (by decide) ?_
                                    refine aw_iaddr dX7_hive_116 (by omega) ?_
                                    refine aw_iaload dX7_hive_117 m_a1 (by omega) (by omega) ?_
                                    refine c_X7_280 rfl dX7_hive_118 m_ob (Nat.le_of_ble_eq_true rfl) (by omega) (C_m_orNone (fun hz => ?_) (fun hz => ?_))
                                    · first
                                        | (exfalso; omega)
                                        | skip
                                          refine aK_i ?_
                                          refine aw_ireturn dX7_hive_121 rfl ?_
                                          first
                                            | (exfalso; omega)
                                            | (refine XR.sameE h ?_ ?_ ?_ ?_ ?_ ?_
                                               · first
                                                   | rfl
                                                   | (subst hsw; rfl)
                                                   | omega
                                               · repeat (first | exact xs.rf | refine xs.up ?_ (by decide))
                                               · repeat (first | exact mss.rf | refine mss.up0 ?_ (by decide))
                                               · first
                                                   | (simp [aup, hv2, hv3, hv4]; done)
                                                   | (simp [aup, hv2, hv3, hv4]; omega)
                                                   | (rw [aup_s, aup_s, hu]; split <;> omega)
                                               · simp [aup, hv2, hv3, hv4]
                                               · simp [aup, hv2, hv3, hv4])
                                    · first
                                        | (exfalso; omega)
                                        | skip
                                          refine aK_i ?_
                                          refine aw_ireturn dX7_hive_121 rfl ?_
                                          first
                                            | (exfalso; omega)
                                            | (refine XR.sameE h ?_ ?_ ?_ ?_ ?_ ?_
                                               · first
                                                   | rfl
                                                   | (subst hsw; rfl)
                                                   | omega
                                               · repeat (first | exact xs.rf | refine xs.up ?_ (by decide))
                                               · repeat (first | exact mss.rf | refine mss.up0 ?_ (by decide))
                                               · first
                                                   | (simp [aup, hv2, hv3, hv4]; done)
                                                   | (simp [aup, hv2, hv3, hv4]; omega)
                                                   | (rw [aup_s, aup_s, hu]; split <;> omega)
                                               · simp [aup, hv2, hv3, hv4]
                                               · simp [aup, hv2, hv3, hv4])
                              · first
                                  | (exfalso; omega)
                                  | skip
                                    refine aw_tabOut (tgt := 122) dX7_hive_30 (by omega) (by decide) ?_
                                    refine aw_aload_n dX7_hive_122 rfl ?_
                                    refine aw_aload_n dX7_hive_123 rfl ?_
                                    refine aw_iload_n dX7_hive_124 rfl ?_
                                    refine aw_iload_n dX7_hive_125 rfl ?_
                                    refine aw_iconst dX7_hive_126 (by decide) ?_
                                    refine aw_isubr dX7_hive_127 (by omega) ?_
                                    refine c_X7_283 rfl dX7_hive_128 m_ob (Nat.le_of_ble_eq_true rfl) (by omega) (C_m_sumOf rfl gh.1 (by omega) gh.2.1 ?_)
                                    refine aK_i ?_
                                    refine c_X7_76 rfl dX7_hive_131 m_ob (Nat.le_of_ble_eq_true rfl) (by omega) (C_m_gives ?_)
                                    refine aK_i ?_
                                    refine aw_ireturn dX7_hive_134 rfl ?_
                                    first
                                      | (exfalso; omega)
                                      | (refine XR.sameE h ?_ ?_ ?_ ?_ ?_ ?_
                                         · first
                                             | rfl
                                             | (subst hsw; rfl)
                                             | omega
                                         · repeat (first | exact xs.rf | refine xs.up ?_ (by decide))
                                         · repeat (first | exact mss.rf | refine mss.up0 ?_ (by decide))
                                         · first
                                             | (simp [aup, hv2, hv3, hv4]; done)
                                             | (simp [aup, hv2, hv3, hv4]; omega)
                                             | (rw [aup_s, aup_s, hu]; split <;> omega)
                                         · simp [aup, hv2, hv3, hv4]
                                         · simp [aup, hv2, hv3, hv4])
                        · first
                            | (exfalso; omega)
                            | skip
                              refine aw_aload_n dX7_hive_18 rfl ?_
                              refine aw_iconst dX7_hive_19 (by decide) ?_
                              refine c_X7_72 rfl dX7_hive_20 m_ob (Nat.le_of_ble_eq_true rfl) (by omega) (C_m_refuse ?_)
                              refine aK_i ?_
                              refine aw_ireturn dX7_hive_23 rfl ?_
                              first
                                | (exfalso; omega)
                                | (refine XR.sameE h ?_ ?_ ?_ ?_ ?_ ?_
                                   · first
                                       | rfl
                                       | (subst hsw; rfl)
                                       | omega
                                   · repeat (first | exact xs.rf | refine xs.up ?_ (by decide))
                                   · repeat (first | exact mss.rf | refine mss.up0 ?_ (by decide))
                                   · first
                                       | (simp [aup, hv2, hv3, hv4]; done)
                                       | (simp [aup, hv2, hv3, hv4]; omega)
                                       | (rw [aup_s, aup_s, hu]; split <;> omega)
                                   · simp [aup, hv2, hv3, hv4]
                                   · simp [aup, hv2, hv3, hv4])
            · first
                | (exfalso; omega)
                | skip
                  refine aK_i ?_
                  refine aw_ifeq (tgt := 18) dX7_hive_5 (by decide) (fun _ => ?_) (fun h => absurd h (by decide))
                  refine aw_aload_n dX7_hive_18 rfl ?_
                  refine aw_iconst dX7_hive_19 (by decide) ?_
                  refine c_X7_72 rfl dX7_hive_20 m_ob (Nat.le_of_ble_eq_true rfl) (by omega) (C_m_refuse ?_)
                  refine aK_i ?_
                  refine aw_ireturn dX7_hive_23 rfl ?_
                  first
                    | (exfalso; omega)
                    | (refine XR.sameE h ?_ ?_ ?_ ?_ ?_ ?_
                       · first
                           | rfl
                           | (subst hsw; rfl)
                           | omega
                       · repeat (first | exact xs.rf | refine xs.up ?_ (by decide))
                       · repeat (first | exact mss.rf | refine mss.up0 ?_ (by decide))
                       · first
                           | (simp [aup, hv2, hv3, hv4]; done)
                           | (simp [aup, hv2, hv3, hv4]; omega)
                           | (rw [aup_s, aup_s, hu]; split <;> omega)
                       · simp [aup, hv2, hv3, hv4]
                       · simp [aup, hv2, hv3, hv4])
      · first
          | (exfalso; omega)
          | skip
            refine aw_tabIn (tgt := 90) dX0_hive_45 (by omega) (by omega) (off := 45) (by rw [hsw]; rfl) (by decide) ?_
            refine aw_aload_n dX0_hive_90 rfl ?_
            refine g_X0_264_9 rfl dX0_hive_91 g1.1 ?_
            rw [g3]
            refine aw_ireturn dX0_hive_94 rfl ?_
            refine ⟨_, rfl, ?_⟩
            refine AMet.go (L := [some (vR 0), some (vI a), some (vI b), none]) mok_X7_hive (Nat.le_of_ble_eq_true rfl) rfl ?_
            refine aw_aload_n dX7_hive_0 rfl ?_
            refine aw_iload_n dX7_hive_1 rfl ?_
            refine c_X7_274 rfl dX7_hive_2 m_ob (Nat.le_of_ble_eq_true rfl) (by omega) (C_m_isHive (fun hh => ?_) (fun hh => ?_))
            · first
                | (exfalso; omega)
                | skip
                  refine aK_i ?_
                  refine aw_ifeq (tgt := 18) dX7_hive_5 (by decide) (fun h => absurd h (by decide)) (fun _ => ?_)
                  refine aw_iload_n dX7_hive_8 rfl ?_
                  refine aw_iflt (tgt := 18) dX7_hive_9 (by decide) (fun h9 => ?_) (fun h9 => ?_)
                  · first
                      | (exfalso; omega)
                      | skip
                        refine aw_aload_n dX7_hive_18 rfl ?_
                        refine aw_iconst dX7_hive_19 (by decide) ?_
                        refine c_X7_72 rfl dX7_hive_20 m_ob (Nat.le_of_ble_eq_true rfl) (by omega) (C_m_refuse ?_)
                        refine aK_i ?_
                        refine aw_ireturn dX7_hive_23 rfl ?_
                        first
                          | (exfalso; omega)
                          | (refine XR.sameE h ?_ ?_ ?_ ?_ ?_ ?_
                             · first
                                 | rfl
                                 | (subst hsw; rfl)
                                 | omega
                             · repeat (first | exact xs.rf | refine xs.up ?_ (by decide))
                             · repeat (first | exact mss.rf | refine mss.up0 ?_ (by decide))
                             · first
                                 | (simp [aup, hv2, hv3, hv4]; done)
                                 | (simp [aup, hv2, hv3, hv4]; omega)
                                 | (rw [aup_s, aup_s, hu]; split <;> omega)
                             · simp [aup, hv2, hv3, hv4]
                             · simp [aup, hv2, hv3, hv4])
                  · first
                      | (exfalso; omega)
                      | skip
                        refine aw_iload_n dX7_hive_12 rfl ?_
                        refine aw_bipush dX7_hive_13 (by decide) ?_
                        refine aw_icmple (tgt := 24) dX7_hive_15 (by decide) (fun h15 => ?_) (fun h15 => ?_)
                        · first
                            | (exfalso; omega)
                            | skip
                              refine aw_iload_n dX7_hive_24 rfl ?_
                              refine c_X7_217 rfl dX7_hive_25  (Nat.le_of_ble_eq_true rfl) (by omega) (C_m_hiveRow (by omega) ?_)
                              refine aK_i ?_
                              refine aw_istore3 dX7_hive_28 (by decide) rfl ?_
                              refine aw_iload_n dX7_hive_29 rfl ?_
                              have hsw : b = 0 ∨ b = 1 ∨ b = 2 ∨ b = 3 ∨ b = 4 ∨ b = 5 ∨ b = 6 ∨ (b < 0 ∨ 6 < b) := by omega
                              rcases hsw with hsw | hsw | hsw | hsw | hsw | hsw | hsw | hsw
                              · first
                                  | (exfalso; omega)
                                  | skip
                                    refine aw_tabIn (tgt := 72) dX7_hive_30 (by omega) (by omega) (off := 42) (by rw [hsw]; rfl) (by decide) ?_
                                    refine aw_aload_n dX7_hive_72 rfl ?_
                                    refine gm_7 rfl dX7_hive_73 dX7_hive_74 rfl ?_
                                    refine aw_iload_n dX7_hive_77 rfl ?_
                                    refine aw_iaload dX7_hive_78 m_a1 (by omega) (by omega) ?_
                                    refine c_X7_76 rfl dX7_hive_79 m_ob (Nat.le_of_ble_eq_true rfl) (by omega) (C_m_gives ?_)
                                    refine aK_i ?_
                                    refine aw_ireturn dX7_hive_82 rfl ?_
                                    first
                                      | (exfalso; omega)
                                      | (refine XR.sameE h ?_ ?_ ?_ ?_ ?_ ?_
                                         · first
                                             | rfl
                                             | (subst hsw; rfl)
                                             | omega
                                         · repeat (first | exact xs.rf | refine xs.up ?_ (by decide))
                                         · repeat (first | exact mss.rf | refine mss.up0 ?_ (by decide))
                                         · first
                                             | (simp [aup, hv2, hv3, hv4]; done)
                                             | (simp [aup, hv2, hv3, hv4]; omega)
                                             | (rw [aup_s, aup_s, hu]; split <;> omega)
                                         · simp [aup, hv2, hv3, hv4]
                                         · simp [aup, hv2, hv3, hv4])
                              · first
                                  | (exfalso; omega)
                                  | skip
                                    refine aw_tabIn (tgt := 83) dX7_hive_30 (by omega) (by omega) (off := 53) (by rw [hsw]; rfl) (by decide) ?_
                                    refine aw_aload_n dX7_hive_83 rfl ?_
                                    refine gm_7 rfl dX7_hive_84 dX7_hive_85 rfl ?_
                                    refine aw_iload_n dX7_hive_88 rfl ?_
                                    refine aw_iconst dX7_hive_89 (by decide) ?_
                                    refine aw_iaddr dX7_hive_90 (by omega) ?_
                                    refine aw_iaload dX7_hive_91 m_a1 (by omega) (by omega) ?_
                                    refine c_X7_76 rfl dX7_hive_92 m_ob (Nat.le_of_ble_eq_true rfl) (by omega) (C_m_gives ?_)
                                    refine aK_i ?_
                                    refine aw_ireturn dX7_hive_95 rfl ?_
                                    first
                                      | (exfalso; omega)
                                      | (refine XR.sameE h ?_ ?_ ?_ ?_ ?_ ?_
                                         · first
                                             | rfl
                                             | (subst hsw; rfl)
                                             | omega
                                         · repeat (first | exact xs.rf | refine xs.up ?_ (by decide))
                                         · repeat (first | exact mss.rf | refine mss.up0 ?_ (by decide))
                                         · first
                                             | (simp [aup, hv2, hv3, hv4]; done)
                                             | (simp [aup, hv2, hv3, hv4]; omega)
                                             | (rw [aup_s, aup_s, hu]; split <;> omega)
                                         · simp [aup, hv2, hv3, hv4]
                                         · simp [aup, hv2, hv3, hv4])
                              · first
                                  | (exfalso; omega)
                                  | skip
                                    refine aw_tabIn (tgt := 122) dX7_hive_30 (by omega) (by omega) (off := 92) (by rw [hsw]; rfl) (by decide) ?_
                                    refine aw_aload_n dX7_hive_122 rfl ?_
                                    refine aw_aload_n dX7_hive_123 rfl ?_
                                    refine aw_iload_n dX7_hive_124 rfl ?_
                                    refine aw_iload_n dX7_hive_125 rfl ?_
                                    refine aw_iconst dX7_hive_126 (by decide) ?_
                                    refine aw_isubr dX7_hive_127 (by omega) ?_
                                    refine c_X7_283 rfl dX7_hive_128 m_ob (Nat.le_of_ble_eq_true rfl) (by omega) (C_m_sumOf rfl gh.1 (by omega) gh.2.1 ?_)
                                    refine aK_i ?_
                                    refine c_X7_76 rfl dX7_hive_131 m_ob (Nat.le_of_ble_eq_true rfl) (by omega) (C_m_gives ?_)
                                    refine aK_i ?_
                                    refine aw_ireturn dX7_hive_134 rfl ?_
                                    first
                                      | (exfalso; omega)
                                      | (refine XR.sameE h ?_ ?_ ?_ ?_ ?_ ?_
                                         · first
                                             | rfl
                                             | (subst hsw; rfl)
                                             | omega
                                         · repeat (first | exact xs.rf | refine xs.up ?_ (by decide))
                                         · repeat (first | exact mss.rf | refine mss.up0 ?_ (by decide))
                                         · first
                                             | (simp [aup, hv2, hv3, hv4]; done)
                                             | (simp [aup, hv2, hv3, hv4]; omega)
                                             | (rw [aup_s, aup_s, hu]; split <;> omega)
                                         · simp [aup, hv2, hv3, hv4]
                                         · simp [aup, hv2, hv3, hv4])
                              · first
                                  | (exfalso; omega)
                                  | skip
                                    refine aw_tabIn (tgt := 122) dX7_hive_30 (by omega) (by omega) (off := 92) (by rw [hsw]; rfl) (by decide) ?_
                                    refine aw_aload_n dX7_hive_122 rfl ?_
                                    refine aw_aload_n dX7_hive_123 rfl ?_
                                    refine aw_iload_n dX7_hive_124 rfl ?_
                                    refine aw_iload_n dX7_hive_125 rfl ?_
                                    refine aw_iconst dX7_hive_126 (by decide) ?_
                                    refine aw_isubr dX7_hive_127 (by omega) ?_
                                    refine c_X7_283 rfl dX7_hive_128 m_ob (Nat.le_of_ble_eq_true rfl) (by omega) (C_m_sumOf rfl gh.1 (by omega) gh.2.1 ?_)
                                    refine aK_i ?_
                                    refine c_X7_76 rfl dX7_hive_131 m_ob (Nat.le_of_ble_eq_true rfl) (by omega) (C_m_gives ?_)
                                    refine aK_i ?_
                                    refine aw_ireturn dX7_hive_134 rfl ?_
                                    first
                                      | (exfalso; omega)
                                      | (refine XR.sameE h ?_ ?_ ?_ ?_ ?_ ?_
                                         · first
                                             | rfl
                                             | (subst hsw; rfl)
                                             | omega
                                         · repeat (first | exact xs.rf | refine xs.up ?_ (by decide))
                                         · repeat (first | exact mss.rf | refine mss.up0 ?_ (by decide))
                                         · first
                                             | (simp [aup, hv2, hv3, hv4]; done)
                                             | (simp [aup, hv2, hv3, hv4]; omega)
                                             | (rw [aup_s, aup_s, hu]; split <;> omega)
                                         · simp [aup, hv2, hv3, hv4]
                                         · simp [aup, hv2, hv3, hv4])
                              · first
                                  | (exfalso; omega)
                                  | skip
                                    refine aw_tabIn (tgt := 122) dX7_hive_30 (by omega) (by omega) (off := 92) (by rw [hsw]; rfl) (by decide) ?_
                                    refine aw_aload_n dX7_hive_122 rfl ?_
                                    refine aw_aload_n dX7_hive_123 rfl ?_
                                    refine aw_iload_n dX7_hive_124 rfl ?_
                                    refine aw_iload_n dX7_hive_125 rfl ?_
                                    refine aw_iconst dX7_hive_126 (by decide) ?_
                                    refine aw_isubr dX7_hive_127 (by omega) ?_
                                    refine c_X7_283 rfl dX7_hive_128 m_ob (Nat.le_of_ble_eq_true rfl) (by omega) (C_m_sumOf rfl gh.1 (by omega) gh.2.1 ?_)
                                    refine aK_i ?_
                                    refine c_X7_76 rfl dX7_hive_131 m_ob (Nat.le_of_ble_eq_true rfl) (by omega) (C_m_gives ?_)
                                    refine aK_i ?_
                                    refine aw_ireturn dX7_hive_134 rfl ?_
                                    first
                                      | (exfalso; omega)
                                      | (refine XR.sameE h ?_ ?_ ?_ ?_ ?_ ?_
                                         · first
                                             | rfl
                                             | (subst hsw; rfl)
                                             | omega
                                         · repeat (first | exact xs.rf | refine xs.up ?_ (by decide))
                                         · repeat (first | exact mss.rf | refine mss.up0 ?_ (by decide))
                                         · first
                                             | (simp [aup, hv2, hv3, hv4]; done)
                                             | (simp [aup, hv2, hv3, hv4]; omega)
                                             | (rw [aup_s, aup_s, hu]; split <;> omega)
                                         · simp [aup, hv2, hv3, hv4]
                                         · simp [aup, hv2, hv3, hv4])
                              · first
                                  | (exfalso; omega)
                                  | skip
                                    refine aw_tabIn (tgt := 96) dX7_hive_30 (by omega) (by omega) (off := 66) (by rw [hsw]; rfl) (by decide) ?_
                                    refine aw_aload_n dX7_hive_96 rfl ?_
                                    refine gm_7 rfl dX7_hive_97 dX7_hive_98 rfl ?_
                                    refine aw_iload_n dX7_hive_101 rfl ?_
                                    refine aw_iconst dX7_hive_102 (by decide) ?_
                                    refine aw_iaddr dX7_hive_103 (by omega) ?_
                                    refine aw_iaload dX7_hive_104 m_a1 (by omega) (by omega) ?_
                                    refine c_X7_76 rfl dX7_hive_105 m_ob (Nat.le_of_ble_eq_true rfl) (by omega) (C_m_gives ?_)
                                    refine aK_i ?_
                                    refine aw_ireturn dX7_hive_108 rfl ?_
                                    first
                                      | (exfalso; omega)
                                      | (refine XR.sameE h ?_ ?_ ?_ ?_ ?_ ?_
                                         · first
                                             | rfl
                                             | (subst hsw; rfl)
                                             | omega
                                         · repeat (first | exact xs.rf | refine xs.up ?_ (by decide))
                                         · repeat (first | exact mss.rf | refine mss.up0 ?_ (by decide))
                                         · first
                                             | (simp [aup, hv2, hv3, hv4]; done)
                                             | (simp [aup, hv2, hv3, hv4]; omega)
                                             | (rw [aup_s, aup_s, hu]; split <;> omega)
                                         · simp [aup, hv2, hv3, hv4]
                                         · simp [aup, hv2, hv3, hv4])
                              · first
                                  | (exfalso; omega)
                                  | skip
                                    refine aw_tabIn (tgt := 109) dX7_hive_30 (by omega) (by omega) (off := 79) (by rw [hsw]; rfl) (by decide) ?_
                                    refine aw_aload_n dX7_hive_109 rfl ?_
                                    refine gm_7 rfl dX7_hive_110 dX7_hive_111 rfl ?_
                                    refine aw_iload_n dX7_hive_114 rfl ?_
                                    refine aw_iconst dX7_hive_115 (by decide) ?_
                                    refine aw_iaddr dX7_hive_116 (by omega) ?_
                                    refine aw_iaload dX7_hive_117 m_a1 (by omega) (by omega) ?_
                                    refine c_X7_280 rfl dX7_hive_118 m_ob (Nat.le_of_ble_eq_true rfl) (by omega) (C_m_orNone (fun hz => ?_) (fun hz => ?_))
                                    · first
                                        | (exfalso; omega)
                                        | skip
                                          refine aK_i ?_
                                          refine aw_ireturn dX7_hive_121 rfl ?_
                                          first
                                            | (exfalso; omega)
                                            | (refine XR.sameE h ?_ ?_ ?_ ?_ ?_ ?_
                                               · first
                                                   | rfl
                                                   | (subst hsw; rfl)
                                                   | omega
                                               · repeat (first | exact xs.rf | refine xs.up ?_ (by decide))
                                               · repeat (first | exact mss.rf | refine mss.up0 ?_ (by decide))
                                               · first
                                                   | (simp [aup, hv2, hv3, hv4]; done)
                                                   | (simp [aup, hv2, hv3, hv4]; omega)
                                                   | (rw [aup_s, aup_s, hu]; split <;> omega)
                                               · simp [aup, hv2, hv3, hv4]
                                               · simp [aup, hv2, hv3, hv4])
                                    · first
                                        | (exfalso; omega)
                                        | skip
                                          refine aK_i ?_
                                          refine aw_ireturn dX7_hive_121 rfl ?_
                                          first
                                            | (exfalso; omega)
                                            | (refine XR.sameE h ?_ ?_ ?_ ?_ ?_ ?_
                                               · first
                                                   | rfl
                                                   | (subst hsw; rfl)
                                                   | omega
                                               · repeat (first | exact xs.rf | refine xs.up ?_ (by decide))
                                               · repeat (first | exact mss.rf | refine mss.up0 ?_ (by decide))
                                               · first
                                                   | (simp [aup, hv2, hv3, hv4]; done)
                                                   | (simp [aup, hv2, hv3, hv4]; omega)
                                                   | (rw [aup_s, aup_s, hu]; split <;> omega)
                                               · simp [aup, hv2, hv3, hv4]
                                               · simp [aup, hv2, hv3, hv4])
                              · first
                                  | (exfalso; omega)
                                  | skip
                                    refine aw_tabOut (tgt := 122) dX7_hive_30 (by omega) (by decide) ?_
                                    refine aw_aload_n dX7_hive_122 rfl ?_
                                    refine aw_aload_n dX7_hive_123 rfl ?_
                                    refine aw_iload_n dX7_hive_124 rfl ?_
                                    refine aw_iload_n dX7_hive_125 rfl ?_
                                    refine aw_iconst dX7_hive_126 (by decide) ?_
                                    refine aw_isubr dX7_hive_127 (by omega) ?_
                                    refine c_X7_283 rfl dX7_hive_128 m_ob (Nat.le_of_ble_eq_true rfl) (by omega) (C_m_sumOf rfl gh.1 (by omega) gh.2.1 ?_)
                                    refine aK_i ?_
                                    refine c_X7_76 rfl dX7_hive_131 m_ob (Nat.le_of_ble_eq_true rfl) (by omega) (C_m_gives ?_)
                                    refine aK_i ?_
                                    refine aw_ireturn dX7_hive_134 rfl ?_
                                    first
                                      | (exfalso; omega)
                                      | (refine XR.sameE h ?_ ?_ ?_ ?_ ?_ ?_
                                         · first
                                             | rfl
                                             | (subst hsw; rfl)
                                             | omega
                                         · repeat (first | exact xs.rf | refine xs.up ?_ (by decide))
                                         · repeat (first | exact mss.rf | refine mss.up0 ?_ (by decide))
                                         · first
                                             | (simp [aup, hv2, hv3, hv4]; done)
                                             | (simp [aup, hv2, hv3, hv4]; omega)
                                             | (rw [aup_s, aup_s, hu]; split <;> omega)
                                         · simp [aup, hv2, hv3, hv4]
                                         · simp [aup, hv2, hv3, hv4])
                        · first
                            | (exfalso; omega)
                            | skip
                              refine aw_aload_n dX7_hive_18 rfl ?_
                              refine aw_iconst dX7_hive_19 (by decide) ?_
                              refine c_X7_72 rfl dX7_hive_20 m_ob (Nat.le_of_ble_eq_true rfl) (by omega) (C_m_refuse ?_)
                              refine aK_i ?_
                              refine aw_ireturn dX7_hive_23 rfl ?_
                              first
                                | (exfalso; omega)
                                | (refine XR.sameE h ?_ ?_ ?_ ?_ ?_ ?_
                                   · first
                                       | rfl
                                       | (subst hsw; rfl)
                                       | omega
                                   · repeat (first | exact xs.rf | refine xs.up ?_ (by decide))
                                   · repeat (first | exact mss.rf | refine mss.up0 ?_ (by decide))
                                   · first
                                       | (simp [aup, hv2, hv3, hv4]; done)
                                       | (simp [aup, hv2, hv3, hv4]; omega)
                                       | (rw [aup_s, aup_s, hu]; split <;> omega)
                                   · simp [aup, hv2, hv3, hv4]
                                   · simp [aup, hv2, hv3, hv4])
            · first
                | (exfalso; omega)
                | skip
                  refine aK_i ?_
                  refine aw_ifeq (tgt := 18) dX7_hive_5 (by decide) (fun _ => ?_) (fun h => absurd h (by decide))
                  refine aw_aload_n dX7_hive_18 rfl ?_
                  refine aw_iconst dX7_hive_19 (by decide) ?_
                  refine c_X7_72 rfl dX7_hive_20 m_ob (Nat.le_of_ble_eq_true rfl) (by omega) (C_m_refuse ?_)
                  refine aK_i ?_
                  refine aw_ireturn dX7_hive_23 rfl ?_
                  first
                    | (exfalso; omega)
                    | (refine XR.sameE h ?_ ?_ ?_ ?_ ?_ ?_
                       · first
                           | rfl
                           | (subst hsw; rfl)
                           | omega
                       · repeat (first | exact xs.rf | refine xs.up ?_ (by decide))
                       · repeat (first | exact mss.rf | refine mss.up0 ?_ (by decide))
                       · first
                           | (simp [aup, hv2, hv3, hv4]; done)
                           | (simp [aup, hv2, hv3, hv4]; omega)
                           | (rw [aup_s, aup_s, hu]; split <;> omega)
                       · simp [aup, hv2, hv3, hv4]
                       · simp [aup, hv2, hv3, hv4])
      · first
          | (exfalso; omega)
          | skip
            refine aw_tabIn (tgt := 95) dX0_hive_45 (by omega) (by omega) (off := 50) (by rw [hsw]; rfl) (by decide) ?_
            refine aw_aload_n dX0_hive_95 rfl ?_
            refine c_X0_267 rfl dX0_hive_96 g1.1 (Nat.le_of_ble_eq_true rfl) (by omega) (C_x_honey g1 g2 gh.2.1 ?_)
            refine aK_i ?_
            refine aw_ireturn dX0_hive_99 rfl ?_
            refine ⟨_, rfl, ?_⟩
            refine AMet.go (L := [some (vR 0), some (vI a), some (vI b), none]) mok_X7_hive (Nat.le_of_ble_eq_true rfl) rfl ?_
            refine aw_aload_n dX7_hive_0 rfl ?_
            refine aw_iload_n dX7_hive_1 rfl ?_
            refine c_X7_274 rfl dX7_hive_2 m_ob (Nat.le_of_ble_eq_true rfl) (by omega) (C_m_isHive (fun hh => ?_) (fun hh => ?_))
            · first
                | (exfalso; omega)
                | skip
                  refine aK_i ?_
                  refine aw_ifeq (tgt := 18) dX7_hive_5 (by decide) (fun h => absurd h (by decide)) (fun _ => ?_)
                  refine aw_iload_n dX7_hive_8 rfl ?_
                  refine aw_iflt (tgt := 18) dX7_hive_9 (by decide) (fun h9 => ?_) (fun h9 => ?_)
                  · first
                      | (exfalso; omega)
                      | skip
                        refine aw_aload_n dX7_hive_18 rfl ?_
                        refine aw_iconst dX7_hive_19 (by decide) ?_
                        refine c_X7_72 rfl dX7_hive_20 m_ob (Nat.le_of_ble_eq_true rfl) (by omega) (C_m_refuse ?_)
                        refine aK_i ?_
                        refine aw_ireturn dX7_hive_23 rfl ?_
                        first
                          | (exfalso; omega)
                          | (refine XR.sameE h ?_ ?_ ?_ ?_ ?_ ?_
                             · first
                                 | rfl
                                 | (subst hsw; rfl)
                                 | omega
                             · repeat (first | exact xs.rf | refine xs.up ?_ (by decide))
                             · repeat (first | exact mss.rf | refine mss.up0 ?_ (by decide))
                             · first
                                 | (simp [aup, hv2, hv3, hv4]; done)
                                 | (simp [aup, hv2, hv3, hv4]; omega)
                                 | (rw [aup_s, aup_s, hu]; split <;> omega)
                             · simp [aup, hv2, hv3, hv4]
                             · simp [aup, hv2, hv3, hv4])
                  · first
                      | (exfalso; omega)
                      | skip
                        refine aw_iload_n dX7_hive_12 rfl ?_
                        refine aw_bipush dX7_hive_13 (by decide) ?_
                        refine aw_icmple (tgt := 24) dX7_hive_15 (by decide) (fun h15 => ?_) (fun h15 => ?_)
                        · first
                            | (exfalso; omega)
                            | skip
                              refine aw_iload_n dX7_hive_24 rfl ?_
                              refine c_X7_217 rfl dX7_hive_25  (Nat.le_of_ble_eq_true rfl) (by omega) (C_m_hiveRow (by omega) ?_)
                              refine aK_i ?_
                              refine aw_istore3 dX7_hive_28 (by decide) rfl ?_
                              refine aw_iload_n dX7_hive_29 rfl ?_
                              have hsw : b = 0 ∨ b = 1 ∨ b = 2 ∨ b = 3 ∨ b = 4 ∨ b = 5 ∨ b = 6 ∨ (b < 0 ∨ 6 < b) := by omega
                              rcases hsw with hsw | hsw | hsw | hsw | hsw | hsw | hsw | hsw
                              · first
                                  | (exfalso; omega)
                                  | skip
                                    refine aw_tabIn (tgt := 72) dX7_hive_30 (by omega) (by omega) (off := 42) (by rw [hsw]; rfl) (by decide) ?_
                                    refine aw_aload_n dX7_hive_72 rfl ?_
                                    refine gm_7 rfl dX7_hive_73 dX7_hive_74 rfl ?_
                                    refine aw_iload_n dX7_hive_77 rfl ?_
                                    refine aw_iaload dX7_hive_78 m_a1 (by omega) (by omega) ?_
                                    refine c_X7_76 rfl dX7_hive_79 m_ob (Nat.le_of_ble_eq_true rfl) (by omega) (C_m_gives ?_)
                                    refine aK_i ?_
                                    refine aw_ireturn dX7_hive_82 rfl ?_
                                    first
                                      | (exfalso; omega)
                                      | (refine XR.sameE h ?_ ?_ ?_ ?_ ?_ ?_
                                         · first
                                             | rfl
                                             | (subst hsw; rfl)
                                             | omega
                                         · repeat (first | exact xs.rf | refine xs.up ?_ (by decide))
                                         · repeat (first | exact mss.rf | refine mss.up0 ?_ (by decide))
                                         · first
                                             | (simp [aup, hv2, hv3, hv4]; done)
                                             | (simp [aup, hv2, hv3, hv4]; omega)
                                             | (rw [aup_s, aup_s, hu]; split <;> omega)
                                         · simp [aup, hv2, hv3, hv4]
                                         · simp [aup, hv2, hv3, hv4])
                              · first
                                  | (exfalso; omega)
                                  | skip
                                    refine aw_tabIn (tgt := 83) dX7_hive_30 (by omega) (by omega) (off := 53) (by rw [hsw]; rfl) (by decide) ?_
                                    refine aw_aload_n dX7_hive_83 rfl ?_
                                    refine gm_7 rfl dX7_hive_84 dX7_hive_85 rfl ?_
                                    refine aw_iload_n dX7_hive_88 rfl ?_
                                    refine aw_iconst dX7_hive_89 (by decide) ?_
                                    refine aw_iaddr dX7_hive_90 (by omega) ?_
                                    refine aw_iaload dX7_hive_91 m_a1 (by omega) (by omega) ?_
                                    refine c_X7_76 rfl dX7_hive_92 m_ob (Nat.le_of_ble_eq_true rfl) (by omega) (C_m_gives ?_)
                                    refine aK_i ?_
                                    refine aw_ireturn dX7_hive_95 rfl ?_
                                    first
                                      | (exfalso; omega)
                                      | (refine XR.sameE h ?_ ?_ ?_ ?_ ?_ ?_
                                         · first
                                             | rfl
                                             | (subst hsw; rfl)
                                             | omega
                                         · repeat (first | exact xs.rf | refine xs.up ?_ (by decide))
                                         · repeat (first | exact mss.rf | refine mss.up0 ?_ (by decide))
                                         · first
                                             | (simp [aup, hv2, hv3, hv4]; done)
                                             | (simp [aup, hv2, hv3, hv4]; omega)
                                             | (rw [aup_s, aup_s, hu]; split <;> omega)
                                         · simp [aup, hv2, hv3, hv4]
                                         · simp [aup, hv2, hv3, hv4])
                              · first
                                  | (exfalso; omega)
                                  | skip
                                    refine aw_tabIn (tgt := 122) dX7_hive_30 (by omega) (by omega) (off := 92) (by rw [hsw]; rfl) (by decide) ?_
                                    refine aw_aload_n dX7_hive_122 rfl ?_
                                    refine aw_aload_n dX7_hive_123 rfl ?_
                                    refine aw_iload_n dX7_hive_124 rfl ?_
                                    refine aw_iload_n dX7_hive_125 rfl ?_
                                    refine aw_iconst dX7_hive_126 (by decide) ?_
                                    refine aw_isubr dX7_hive_127 (by omega) ?_
                                    refine c_X7_283 rfl dX7_hive_128 m_ob (Nat.le_of_ble_eq_true rfl) (by omega) (C_m_sumOf rfl gh.1 (by omega) gh.2.1 ?_)
                                    refine aK_i ?_
                                    refine c_X7_76 rfl dX7_hive_131 m_ob (Nat.le_of_ble_eq_true rfl) (by omega) (C_m_gives ?_)
                                    refine aK_i ?_
                                    refine aw_ireturn dX7_hive_134 rfl ?_
                                    first
                                      | (exfalso; omega)
                                      | (refine XR.sameE h ?_ ?_ ?_ ?_ ?_ ?_
                                         · first
                                             | rfl
                                             | (subst hsw; rfl)
                                             | omega
                                         · repeat (first | exact xs.rf | refine xs.up ?_ (by decide))
                                         · repeat (first | exact mss.rf | refine mss.up0 ?_ (by decide))
                                         · first
                                             | (simp [aup, hv2, hv3, hv4]; done)
                                             | (simp [aup, hv2, hv3, hv4]; omega)
                                             | (rw [aup_s, aup_s, hu]; split <;> omega)
                                         · simp [aup, hv2, hv3, hv4]
                                         · simp [aup, hv2, hv3, hv4])
                              · first
                                  | (exfalso; omega)
                                  | skip
                                    refine aw_tabIn (tgt := 122) dX7_hive_30 (by omega) (by omega) (off := 92) (by rw [hsw]; rfl) (by decide) ?_
                                    refine aw_aload_n dX7_hive_122 rfl ?_
                                    refine aw_aload_n dX7_hive_123 rfl ?_
                                    refine aw_iload_n dX7_hive_124 rfl ?_
                                    refine aw_iload_n dX7_hive_125 rfl ?_
                                    refine aw_iconst dX7_hive_126 (by decide) ?_
                                    refine aw_isubr dX7_hive_127 (by omega) ?_
                                    refine c_X7_283 rfl dX7_hive_128 m_ob (Nat.le_of_ble_eq_true rfl) (by omega) (C_m_sumOf rfl gh.1 (by omega) gh.2.1 ?_)
                                    refine aK_i ?_
                                    refine c_X7_76 rfl dX7_hive_131 m_ob (Nat.le_of_ble_eq_true rfl) (by omega) (C_m_gives ?_)
                                    refine aK_i ?_
                                    refine aw_ireturn dX7_hive_134 rfl ?_
                                    first
                                      | (exfalso; omega)
                                      | (refine XR.sameE h ?_ ?_ ?_ ?_ ?_ ?_
                                         · first
                                             | rfl
                                             | (subst hsw; rfl)
                                             | omega
                                         · repeat (first | exact xs.rf | refine xs.up ?_ (by decide))
                                         · repeat (first | exact mss.rf | refine mss.up0 ?_ (by decide))
                                         · first
                                             | (simp [aup, hv2, hv3, hv4]; done)
                                             | (simp [aup, hv2, hv3, hv4]; omega)
                                             | (rw [aup_s, aup_s, hu]; split <;> omega)
                                         · simp [aup, hv2, hv3, hv4]
                                         · simp [aup, hv2, hv3, hv4])
                              · first
                                  | (exfalso; omega)
                                  | skip
                                    refine aw_tabIn (tgt := 122) dX7_hive_30 (by omega) (by omega) (off := 92) (by rw [hsw]; rfl) (by decide) ?_
                                    refine aw_aload_n dX7_hive_122 rfl ?_
                                    refine aw_aload_n dX7_hive_123 rfl ?_
                                    refine aw_iload_n dX7_hive_124 rfl ?_
                                    refine aw_iload_n dX7_hive_125 rfl ?_
                                    refine aw_iconst dX7_hive_126 (by decide) ?_
                                    refine aw_isubr dX7_hive_127 (by omega) ?_
                                    refine c_X7_283 rfl dX7_hive_128 m_ob (Nat.le_of_ble_eq_true rfl) (by omega) (C_m_sumOf rfl gh.1 (by omega) gh.2.1 ?_)
                                    refine aK_i ?_
                                    refine c_X7_76 rfl dX7_hive_131 m_ob (Nat.le_of_ble_eq_true rfl) (by omega) (C_m_gives ?_)
                                    refine aK_i ?_
                                    refine aw_ireturn dX7_hive_134 rfl ?_
                                    first
                                      | (exfalso; omega)
                                      | (refine XR.sameE h ?_ ?_ ?_ ?_ ?_ ?_
                                         · first
                                             | rfl
                                             | (subst hsw; rfl)
                                             | omega
                                         · repeat (first | exact xs.rf | refine xs.up ?_ (by decide))
                                         · repeat (first | exact mss.rf | refine mss.up0 ?_ (by decide))
                                         · first
                                             | (simp [aup, hv2, hv3, hv4]; done)
                                             | (simp [aup, hv2, hv3, hv4]; omega)
                                             | (rw [aup_s, aup_s, hu]; split <;> omega)
                                         · simp [aup, hv2, hv3, hv4]
                                         · simp [aup, hv2, hv3, hv4])
                              · first
                                  | (exfalso; omega)
                                  | skip
                                    refine aw_tabIn (tgt := 96) dX7_hive_30 (by omega) (by omega) (off := 66) (by rw [hsw]; rfl) (by decide) ?_
                                    refine aw_aload_n dX7_hive_96 rfl ?_
                                    refine gm_7 rfl dX7_hive_97 dX7_hive_98 rfl ?_
                                    refine aw_iload_n dX7_hive_101 rfl ?_
                                    refine aw_iconst dX7_hive_102 (by decide) ?_
                                    refine aw_iaddr dX7_hive_103 (by omega) ?_
                                    refine aw_iaload dX7_hive_104 m_a1 (by omega) (by omega) ?_
                                    refine c_X7_76 rfl dX7_hive_105 m_ob (Nat.le_of_ble_eq_true rfl) (by omega) (C_m_gives ?_)
                                    refine aK_i ?_
                                    refine aw_ireturn dX7_hive_108 rfl ?_
                                    first
                                      | (exfalso; omega)
                                      | (refine XR.sameE h ?_ ?_ ?_ ?_ ?_ ?_
                                         · first
                                             | rfl
                                             | (subst hsw; rfl)
                                             | omega
                                         · repeat (first | exact xs.rf | refine xs.up ?_ (by decide))
                                         · repeat (first | exact mss.rf | refine mss.up0 ?_ (by decide))
                                         · first
                                             | (simp [aup, hv2, hv3, hv4]; done)
                                             | (simp [aup, hv2, hv3, hv4]; omega)
                                             | (rw [aup_s, aup_s, hu]; split <;> omega)
                                         · simp [aup, hv2, hv3, hv4]
                                         · simp [aup, hv2, hv3, hv4])
                              · first
                                  | (exfalso; omega)
                                  | skip
                                    refine aw_tabIn (tgt := 109) dX7_hive_30 (by omega) (by omega) (off := 79) (by rw [hsw]; rfl) (by decide) ?_
                                    refine aw_aload_n dX7_hive_109 rfl ?_
                                    refine gm_7 rfl dX7_hive_110 dX7_hive_111 rfl ?_
                                    refine aw_iload_n dX7_hive_114 rfl ?_
                                    refine aw_iconst dX7_hive_115 (by decide) ?_
                                    refine aw_iaddr dX7_hive_116 (by omega) ?_
                                    refine aw_iaload dX7_hive_117 m_a1 (by omega) (by omega) ?_
                                    refine c_X7_280 rfl dX7_hive_118 m_ob (Nat.le_of_ble_eq_true rfl) (by omega) (C_m_orNone (fun hz => ?_) (fun hz => ?_))
                                    · first
                                        | (exfalso; omega)
                                        | skip
                                          refine aK_i ?_
                                          refine aw_ireturn dX7_hive_121 rfl ?_
                                          first
                                            | (exfalso; omega)
                                            | (refine XR.sameE h ?_ ?_ ?_ ?_ ?_ ?_
                                               · first
                                                   | rfl
                                                   | (subst hsw; rfl)
                                                   | omega
                                               · repeat (first | exact xs.rf | refine xs.up ?_ (by decide))
                                               · repeat (first | exact mss.rf | refine mss.up0 ?_ (by decide))
                                               · first
                                                   | (simp [aup, hv2, hv3, hv4]; done)
                                                   | (simp [aup, hv2, hv3, hv4]; omega)
                                                   | (rw [aup_s, aup_s, hu]; split <;> omega)
                                               · simp [aup, hv2, hv3, hv4]
                                               · simp [aup, hv2, hv3, hv4])
                                    · first
                                        | (exfalso; omega)
                                        | skip
                                          refine aK_i ?_
                                          refine aw_ireturn dX7_hive_121 rfl ?_
                                          first
                                            | (exfalso; omega)
                                            | (refine XR.sameE h ?_ ?_ ?_ ?_ ?_ ?_
                                               · first
                                                   | rfl
                                                   | (subst hsw; rfl)
                                                   | omega
                                               · repeat (first | exact xs.rf | refine xs.up ?_ (by decide))
                                               · repeat (first | exact mss.rf | refine mss.up0 ?_ (by decide))
                                               · first
                                                   | (simp [aup, hv2, hv3, hv4]; done)
                                                   | (simp [aup, hv2, hv3, hv4]; omega)
                                                   | (rw [aup_s, aup_s, hu]; split <;> omega)
                                               · simp [aup, hv2, hv3, hv4]
                                               · simp [aup, hv2, hv3, hv4])
                              · first
                                  | (exfalso; omega)
                                  | skip
                                    refine aw_tabOut (tgt := 122) dX7_hive_30 (by omega) (by decide) ?_
                                    refine aw_aload_n dX7_hive_122 rfl ?_
                                    refine aw_aload_n dX7_hive_123 rfl ?_
                                    refine aw_iload_n dX7_hive_124 rfl ?_
                                    refine aw_iload_n dX7_hive_125 rfl ?_
                                    refine aw_iconst dX7_hive_126 (by decide) ?_
                                    refine aw_isubr dX7_hive_127 (by omega) ?_
                                    refine c_X7_283 rfl dX7_hive_128 m_ob (Nat.le_of_ble_eq_true rfl) (by omega) (C_m_sumOf rfl gh.1 (by omega) gh.2.1 ?_)
                                    refine aK_i ?_
                                    refine c_X7_76 rfl dX7_hive_131 m_ob (Nat.le_of_ble_eq_true rfl) (by omega) (C_m_gives ?_)
                                    refine aK_i ?_
                                    refine aw_ireturn dX7_hive_134 rfl ?_
                                    first
                                      | (exfalso; omega)
                                      | (refine XR.sameE h ?_ ?_ ?_ ?_ ?_ ?_
                                         · first
                                             | rfl
                                             | (subst hsw; rfl)
                                             | omega
                                         · repeat (first | exact xs.rf | refine xs.up ?_ (by decide))
                                         · repeat (first | exact mss.rf | refine mss.up0 ?_ (by decide))
                                         · first
                                             | (simp [aup, hv2, hv3, hv4]; done)
                                             | (simp [aup, hv2, hv3, hv4]; omega)
                                             | (rw [aup_s, aup_s, hu]; split <;> omega)
                                         · simp [aup, hv2, hv3, hv4]
                                         · simp [aup, hv2, hv3, hv4])
                        · first
                            | (exfalso; omega)
                            | skip
                              refine aw_aload_n dX7_hive_18 rfl ?_
                              refine aw_iconst dX7_hive_19 (by decide) ?_
                              refine c_X7_72 rfl dX7_hive_20 m_ob (Nat.le_of_ble_eq_true rfl) (by omega) (C_m_refuse ?_)
                              refine aK_i ?_
                              refine aw_ireturn dX7_hive_23 rfl ?_
                              first
                                | (exfalso; omega)
                                | (refine XR.sameE h ?_ ?_ ?_ ?_ ?_ ?_
                                   · first
                                       | rfl
                                       | (subst hsw; rfl)
                                       | omega
                                   · repeat (first | exact xs.rf | refine xs.up ?_ (by decide))
                                   · repeat (first | exact mss.rf | refine mss.up0 ?_ (by decide))
                                   · first
                                       | (simp [aup, hv2, hv3, hv4]; done)
                                       | (simp [aup, hv2, hv3, hv4]; omega)
                                       | (rw [aup_s, aup_s, hu]; split <;> omega)
                                   · simp [aup, hv2, hv3, hv4]
                                   · simp [aup, hv2, hv3, hv4])
            · first
                | (exfalso; omega)
                | skip
                  refine aK_i ?_
                  refine aw_ifeq (tgt := 18) dX7_hive_5 (by decide) (fun _ => ?_) (fun h => absurd h (by decide))
                  refine aw_aload_n dX7_hive_18 rfl ?_
                  refine aw_iconst dX7_hive_19 (by decide) ?_
                  refine c_X7_72 rfl dX7_hive_20 m_ob (Nat.le_of_ble_eq_true rfl) (by omega) (C_m_refuse ?_)
                  refine aK_i ?_
                  refine aw_ireturn dX7_hive_23 rfl ?_
                  first
                    | (exfalso; omega)
                    | (refine XR.sameE h ?_ ?_ ?_ ?_ ?_ ?_
                       · first
                           | rfl
                           | (subst hsw; rfl)
                           | omega
                       · repeat (first | exact xs.rf | refine xs.up ?_ (by decide))
                       · repeat (first | exact mss.rf | refine mss.up0 ?_ (by decide))
                       · first
                           | (simp [aup, hv2, hv3, hv4]; done)
                           | (simp [aup, hv2, hv3, hv4]; omega)
                           | (rw [aup_s, aup_s, hu]; split <;> omega)
                       · simp [aup, hv2, hv3, hv4]
                       · simp [aup, hv2, hv3, hv4])
      · first
          | (exfalso; omega)
          | skip
            refine aw_tabIn (tgt := 100) dX0_hive_45 (by omega) (by omega) (off := 55) (by rw [hsw]; rfl) (by decide) ?_
            refine aw_aload_n dX0_hive_100 rfl ?_
            refine c_X0_271 rfl dX0_hive_101 g1.1 (Nat.le_of_ble_eq_true rfl) (by omega) (C_x_brood g1 g2 gh.2.1 ?_)
            refine aK_i ?_
            refine aw_ireturn dX0_hive_104 rfl ?_
            refine ⟨_, rfl, ?_⟩
            refine AMet.go (L := [some (vR 0), some (vI a), some (vI b), none]) mok_X7_hive (Nat.le_of_ble_eq_true rfl) rfl ?_
            refine aw_aload_n dX7_hive_0 rfl ?_
            refine aw_iload_n dX7_hive_1 rfl ?_
            refine c_X7_274 rfl dX7_hive_2 m_ob (Nat.le_of_ble_eq_true rfl) (by omega) (C_m_isHive (fun hh => ?_) (fun hh => ?_))
            · first
                | (exfalso; omega)
                | skip
                  refine aK_i ?_
                  refine aw_ifeq (tgt := 18) dX7_hive_5 (by decide) (fun h => absurd h (by decide)) (fun _ => ?_)
                  refine aw_iload_n dX7_hive_8 rfl ?_
                  refine aw_iflt (tgt := 18) dX7_hive_9 (by decide) (fun h9 => ?_) (fun h9 => ?_)
                  · first
                      | (exfalso; omega)
                      | skip
                        refine aw_aload_n dX7_hive_18 rfl ?_
                        refine aw_iconst dX7_hive_19 (by decide) ?_
                        refine c_X7_72 rfl dX7_hive_20 m_ob (Nat.le_of_ble_eq_true rfl) (by omega) (C_m_refuse ?_)
                        refine aK_i ?_
                        refine aw_ireturn dX7_hive_23 rfl ?_
                        first
                          | (exfalso; omega)
                          | (refine XR.sameE h ?_ ?_ ?_ ?_ ?_ ?_
                             · first
                                 | rfl
                                 | (subst hsw; rfl)
                                 | omega
                             · repeat (first | exact xs.rf | refine xs.up ?_ (by decide))
                             · repeat (first | exact mss.rf | refine mss.up0 ?_ (by decide))
                             · first
                                 | (simp [aup, hv2, hv3, hv4]; done)
                                 | (simp [aup, hv2, hv3, hv4]; omega)
                                 | (rw [aup_s, aup_s, hu]; split <;> omega)
                             · simp [aup, hv2, hv3, hv4]
                             · simp [aup, hv2, hv3, hv4])
                  · first
                      | (exfalso; omega)
                      | skip
                        refine aw_iload_n dX7_hive_12 rfl ?_
                        refine aw_bipush dX7_hive_13 (by decide) ?_
                        refine aw_icmple (tgt := 24) dX7_hive_15 (by decide) (fun h15 => ?_) (fun h15 => ?_)
                        · first
                            | (exfalso; omega)
                            | skip
                              refine aw_iload_n dX7_hive_24 rfl ?_
                              refine c_X7_217 rfl dX7_hive_25  (Nat.le_of_ble_eq_true rfl) (by omega) (C_m_hiveRow (by omega) ?_)
                              refine aK_i ?_
                              refine aw_istore3 dX7_hive_28 (by decide) rfl ?_
                              refine aw_iload_n dX7_hive_29 rfl ?_
                              have hsw : b = 0 ∨ b = 1 ∨ b = 2 ∨ b = 3 ∨ b = 4 ∨ b = 5 ∨ b = 6 ∨ (b < 0 ∨ 6 < b) := by omega
                              rcases hsw with hsw | hsw | hsw | hsw | hsw | hsw | hsw | hsw
                              · first
                                  | (exfalso; omega)
                                  | skip
                                    refine aw_tabIn (tgt := 72) dX7_hive_30 (by omega) (by omega) (off := 42) (by rw [hsw]; rfl) (by decide) ?_
                                    refine aw_aload_n dX7_hive_72 rfl ?_
                                    refine gm_7 rfl dX7_hive_73 dX7_hive_74 rfl ?_
                                    refine aw_iload_n dX7_hive_77 rfl ?_
                                    refine aw_iaload dX7_hive_78 m_a1 (by omega) (by omega) ?_
                                    refine c_X7_76 rfl dX7_hive_79 m_ob (Nat.le_of_ble_eq_true rfl) (by omega) (C_m_gives ?_)
                                    refine aK_i ?_
                                    refine aw_ireturn dX7_hive_82 rfl ?_
                                    first
                                      | (exfalso; omega)
                                      | (refine XR.sameE h ?_ ?_ ?_ ?_ ?_ ?_
                                         · first
                                             | rfl
                                             | (subst hsw; rfl)
                                             | omega
                                         · repeat (first | exact xs.rf | refine xs.up ?_ (by decide))
                                         · repeat (first | exact mss.rf | refine mss.up0 ?_ (by decide))
                                         · first
                                             | (simp [aup, hv2, hv3, hv4]; done)
                                             | (simp [aup, hv2, hv3, hv4]; omega)
                                             | (rw [aup_s, aup_s, hu]; split <;> omega)
                                         · simp [aup, hv2, hv3, hv4]
                                         · simp [aup, hv2, hv3, hv4])
                              · first
                                  | (exfalso; omega)
                                  | skip
                                    refine aw_tabIn (tgt := 83) dX7_hive_30 (by omega) (by omega) (off := 53) (by rw [hsw]; rfl) (by decide) ?_
                                    refine aw_aload_n dX7_hive_83 rfl ?_
                                    refine gm_7 rfl dX7_hive_84 dX7_hive_85 rfl ?_
                                    refine aw_iload_n dX7_hive_88 rfl ?_
                                    refine aw_iconst dX7_hive_89 (by decide) ?_
                                    refine aw_iaddr dX7_hive_90 (by omega) ?_
                                    refine aw_iaload dX7_hive_91 m_a1 (by omega) (by omega) ?_
                                    refine c_X7_76 rfl dX7_hive_92 m_ob (Nat.le_of_ble_eq_true rfl) (by omega) (C_m_gives ?_)
                                    refine aK_i ?_
                                    refine aw_ireturn dX7_hive_95 rfl ?_
                                    first
                                      | (exfalso; omega)
                                      | (refine XR.sameE h ?_ ?_ ?_ ?_ ?_ ?_
                                         · first
                                             | rfl
                                             | (subst hsw; rfl)
                                             | omega
                                         · repeat (first | exact xs.rf | refine xs.up ?_ (by decide))
                                         · repeat (first | exact mss.rf | refine mss.up0 ?_ (by decide))
                                         · first
                                             | (simp [aup, hv2, hv3, hv4]; done)
                                             | (simp [aup, hv2, hv3, hv4]; omega)
                                             | (rw [aup_s, aup_s, hu]; split <;> omega)
                                         · simp [aup, hv2, hv3, hv4]
                                         · simp [aup, hv2, hv3, hv4])
                              · first
                                  | (exfalso; omega)
                                  | skip
                                    refine aw_tabIn (tgt := 122) dX7_hive_30 (by omega) (by omega) (off := 92) (by rw [hsw]; rfl) (by decide) ?_
                                    refine aw_aload_n dX7_hive_122 rfl ?_
                                    refine aw_aload_n dX7_hive_123 rfl ?_
                                    refine aw_iload_n dX7_hive_124 rfl ?_
                                    refine aw_iload_n dX7_hive_125 rfl ?_
                                    refine aw_iconst dX7_hive_126 (by decide) ?_
                                    refine aw_isubr dX7_hive_127 (by omega) ?_
                                    refine c_X7_283 rfl dX7_hive_128 m_ob (Nat.le_of_ble_eq_true rfl) (by omega) (C_m_sumOf rfl gh.1 (by omega) gh.2.1 ?_)
                                    refine aK_i ?_
                                    refine c_X7_76 rfl dX7_hive_131 m_ob (Nat.le_of_ble_eq_true rfl) (by omega) (C_m_gives ?_)
                                    refine aK_i ?_
                                    refine aw_ireturn dX7_hive_134 rfl ?_
                                    first
                                      | (exfalso; omega)
                                      | (refine XR.sameE h ?_ ?_ ?_ ?_ ?_ ?_
                                         · first
                                             | rfl
                                             | (subst hsw; rfl)
                                             | omega
                                         · repeat (first | exact xs.rf | refine xs.up ?_ (by decide))
                                         · repeat (first | exact mss.rf | refine mss.up0 ?_ (by decide))
                                         · first
                                             | (simp [aup, hv2, hv3, hv4]; done)
                                             | (simp [aup, hv2, hv3, hv4]; omega)
                                             | (rw [aup_s, aup_s, hu]; split <;> omega)
                                         · simp [aup, hv2, hv3, hv4]
                                         · simp [aup, hv2, hv3, hv4])
                              · first
                                  | (exfalso; omega)
                                  | skip
                                    refine aw_tabIn (tgt := 122) dX7_hive_30 (by omega) (by omega) (off := 92) (by rw [hsw]; rfl) (by decide) ?_
                                    refine aw_aload_n dX7_hive_122 rfl ?_
                                    refine aw_aload_n dX7_hive_123 rfl ?_
                                    refine aw_iload_n dX7_hive_124 rfl ?_
                                    refine aw_iload_n dX7_hive_125 rfl ?_
                                    refine aw_iconst dX7_hive_126 (by decide) ?_
                                    refine aw_isubr dX7_hive_127 (by omega) ?_
                                    refine c_X7_283 rfl dX7_hive_128 m_ob (Nat.le_of_ble_eq_true rfl) (by omega) (C_m_sumOf rfl gh.1 (by omega) gh.2.1 ?_)
                                    refine aK_i ?_
                                    refine c_X7_76 rfl dX7_hive_131 m_ob (Nat.le_of_ble_eq_true rfl) (by omega) (C_m_gives ?_)
                                    refine aK_i ?_
                                    refine aw_ireturn dX7_hive_134 rfl ?_
                                    first
                                      | (exfalso; omega)
                                      | (refine XR.sameE h ?_ ?_ ?_ ?_ ?_ ?_
                                         · first
                                             | rfl
                                             | (subst hsw; rfl)
                                             | omega
                                         · repeat (first | exact xs.rf | refine xs.up ?_ (by decide))
                                         · repeat (first | exact mss.rf | refine mss.up0 ?_ (by decide))
                                         · first
                                             | (simp [aup, hv2, hv3, hv4]; done)
                                             | (simp [aup, hv2, hv3, hv4]; omega)
                                             | (rw [aup_s, aup_s, hu]; split <;> omega)
                                         · simp [aup, hv2, hv3, hv4]
                                         · simp [aup, hv2, hv3, hv4])
                              · first
                                  | (exfalso; omega)
                                  | skip
                                    refine aw_tabIn (tgt := 122) dX7_hive_30 (by omega) (by omega) (off := 92) (by rw [hsw]; rfl) (by decide) ?_
                                    refine aw_aload_n dX7_hive_122 rfl ?_
                                    refine aw_aload_n dX7_hive_123 rfl ?_
                                    refine aw_iload_n dX7_hive_124 rfl ?_
                                    refine aw_iload_n dX7_hive_125 rfl ?_
                                    refine aw_iconst dX7_hive_126 (by decide) ?_
                                    refine aw_isubr dX7_hive_127 (by omega) ?_
                                    refine c_X7_283 rfl dX7_hive_128 m_ob (Nat.le_of_ble_eq_true rfl) (by omega) (C_m_sumOf rfl gh.1 (by omega) gh.2.1 ?_)
                                    refine aK_i ?_
                                    refine c_X7_76 rfl dX7_hive_131 m_ob (Nat.le_of_ble_eq_true rfl) (by omega) (C_m_gives ?_)
                                    refine aK_i ?_
                                    refine aw_ireturn dX7_hive_134 rfl ?_
                                    first
                                      | (exfalso; omega)
                                      | (refine XR.sameE h ?_ ?_ ?_ ?_ ?_ ?_
                                         · first
                                             | rfl
                                             | (subst hsw; rfl)
                                             | omega
                                         · repeat (first | exact xs.rf | refine xs.up ?_ (by decide))
                                         · repeat (first | exact mss.rf | refine mss.up0 ?_ (by decide))
                                         · first
                                             | (simp [aup, hv2, hv3, hv4]; done)
                                             | (simp [aup, hv2, hv3, hv4]; omega)
                                             | (rw [aup_s, aup_s, hu]; split <;> omega)
                                         · simp [aup, hv2, hv3, hv4]
                                         · simp [aup, hv2, hv3, hv4])
                              · first
                                  | (exfalso; omega)
                                  | skip
                                    refine aw_tabIn (tgt := 96) dX7_hive_30 (by omega) (by omega) (off := 66) (by rw [hsw]; rfl) (by decide) ?_
                                    refine aw_aload_n dX7_hive_96 rfl ?_
                                    refine gm_7 rfl dX7_hive_97 dX7_hive_98 rfl ?_
                                    refine aw_iload_n dX7_hive_101 rfl ?_
                                    refine aw_iconst dX7_hive_102 (by decide) ?_
                                    refine aw_iaddr dX7_hive_103 (by omega) ?_
                                    refine aw_iaload dX7_hive_104 m_a1 (by omega) (by omega) ?_
                                    refine c_X7_76 rfl dX7_hive_105 m_ob (Nat.le_of_ble_eq_true rfl) (by omega) (C_m_gives ?_)
                                    refine aK_i ?_
                                    refine aw_ireturn dX7_hive_108 rfl ?_
                                    first
                                      | (exfalso; omega)
                                      | (refine XR.sameE h ?_ ?_ ?_ ?_ ?_ ?_
                                         · first
                                             | rfl
                                             | (subst hsw; rfl)
                                             | omega
                                         · repeat (first | exact xs.rf | refine xs.up ?_ (by decide))
                                         · repeat (first | exact mss.rf | refine mss.up0 ?_ (by decide))
                                         · first
                                             | (simp [aup, hv2, hv3, hv4]; done)
                                             | (simp [aup, hv2, hv3, hv4]; omega)
                                             | (rw [aup_s, aup_s, hu]; split <;> omega)
                                         · simp [aup, hv2, hv3, hv4]
                                         · simp [aup, hv2, hv3, hv4])
                              · first
                                  | (exfalso; omega)
                                  | skip
                                    refine aw_tabIn (tgt := 109) dX7_hive_30 (by omega) (by omega) (off := 79) (by rw [hsw]; rfl) (by decide) ?_
                                    refine aw_aload_n dX7_hive_109 rfl ?_
                                    refine gm_7 rfl dX7_hive_110 dX7_hive_111 rfl ?_
                                    refine aw_iload_n dX7_hive_114 rfl ?_
                                    refine aw_iconst dX7_hive_115 (by decide) ?_
                                    refine aw_iaddr dX7_hive_116 (by omega) ?_
                                    refine aw_iaload dX7_hive_117 m_a1 (by omega) (by omega) ?_
                                    refine c_X7_280 rfl dX7_hive_118 m_ob (Nat.le_of_ble_eq_true rfl) (by omega) (C_m_orNone (fun hz => ?_) (fun hz => ?_))
                                    · first
                                        | (exfalso; omega)
                                        | skip
                                          refine aK_i ?_
                                          refine aw_ireturn dX7_hive_121 rfl ?_
                                          first
                                            | (exfalso; omega)
                                            | (refine XR.sameE h ?_ ?_ ?_ ?_ ?_ ?_
                                               · first
                                                   | rfl
                                                   | (subst hsw; rfl)
                                                   | omega
                                               · repeat (first | exact xs.rf | refine xs.up ?_ (by decide))
                                               · repeat (first | exact mss.rf | refine mss.up0 ?_ (by decide))
                                               · first
                                                   | (simp [aup, hv2, hv3, hv4]; done)
                                                   | (simp [aup, hv2, hv3, hv4]; omega)
                                                   | (rw [aup_s, aup_s, hu]; split <;> omega)
                                               · simp [aup, hv2, hv3, hv4]
                                               · simp [aup, hv2, hv3, hv4])
                                    · first
                                        | (exfalso; omega)
                                        | skip
                                          refine aK_i ?_
                                          refine aw_ireturn dX7_hive_121 rfl ?_
                                          first
                                            | (exfalso; omega)
                                            | (refine XR.sameE h ?_ ?_ ?_ ?_ ?_ ?_
                                               · first
                                                   | rfl
                                                   | (subst hsw; rfl)
                                                   | omega
                                               · repeat (first | exact xs.rf | refine xs.up ?_ (by decide))
                                               · repeat (first | exact mss.rf | refine mss.up0 ?_ (by decide))
                                               · first
                                                   | (simp [aup, hv2, hv3, hv4]; done)
                                                   | (simp [aup, hv2, hv3, hv4]; omega)
                                                   | (rw [aup_s, aup_s, hu]; split <;> omega)
                                               · simp [aup, hv2, hv3, hv4]
                                               · simp [aup, hv2, hv3, hv4])
                              · first
                                  | (exfalso; omega)
                                  | skip
                                    refine aw_tabOut (tgt := 122) dX7_hive_30 (by omega) (by decide) ?_
                                    refine aw_aload_n dX7_hive_122 rfl ?_
                                    refine aw_aload_n dX7_hive_123 rfl ?_
                                    refine aw_iload_n dX7_hive_124 rfl ?_
                                    refine aw_iload_n dX7_hive_125 rfl ?_
                                    refine aw_iconst dX7_hive_126 (by decide) ?_
                                    refine aw_isubr dX7_hive_127 (by omega) ?_
                                    refine c_X7_283 rfl dX7_hive_128 m_ob (Nat.le_of_ble_eq_true rfl) (by omega) (C_m_sumOf rfl gh.1 (by omega) gh.2.1 ?_)
                                    refine aK_i ?_
                                    refine c_X7_76 rfl dX7_hive_131 m_ob (Nat.le_of_ble_eq_true rfl) (by omega) (C_m_gives ?_)
                                    refine aK_i ?_
                                    refine aw_ireturn dX7_hive_134 rfl ?_
                                    first
                                      | (exfalso; omega)
                                      | (refine XR.sameE h ?_ ?_ ?_ ?_ ?_ ?_
                                         · first
                                             | rfl
                                             | (subst hsw; rfl)
                                             | omega
                                         · repeat (first | exact xs.rf | refine xs.up ?_ (by decide))
                                         · repeat (first | exact mss.rf | refine mss.up0 ?_ (by decide))
                                         · first
                                             | (simp [aup, hv2, hv3, hv4]; done)
                                             | (simp [aup, hv2, hv3, hv4]; omega)
                                             | (rw [aup_s, aup_s, hu]; split <;> omega)
                                         · simp [aup, hv2, hv3, hv4]
                                         · simp [aup, hv2, hv3, hv4])
                        · first
                            | (exfalso; omega)
                            | skip
                              refine aw_aload_n dX7_hive_18 rfl ?_
                              refine aw_iconst dX7_hive_19 (by decide) ?_
                              refine c_X7_72 rfl dX7_hive_20 m_ob (Nat.le_of_ble_eq_true rfl) (by omega) (C_m_refuse ?_)
                              refine aK_i ?_
                              refine aw_ireturn dX7_hive_23 rfl ?_
                              first
                                | (exfalso; omega)
                                | (refine XR.sameE h ?_ ?_ ?_ ?_ ?_ ?_
                                   · first
                                       | rfl
                                       | (subst hsw; rfl)
                                       | omega
                                   · repeat (first | exact xs.rf | refine xs.up ?_ (by decide))
                                   · repeat (first | exact mss.rf | refine mss.up0 ?_ (by decide))
                                   · first
                                       | (simp [aup, hv2, hv3, hv4]; done)
                                       | (simp [aup, hv2, hv3, hv4]; omega)
                                       | (rw [aup_s, aup_s, hu]; split <;> omega)
                                   · simp [aup, hv2, hv3, hv4]
                                   · simp [aup, hv2, hv3, hv4])
            · first
                | (exfalso; omega)
                | skip
                  refine aK_i ?_
                  refine aw_ifeq (tgt := 18) dX7_hive_5 (by decide) (fun _ => ?_) (fun h => absurd h (by decide))
                  refine aw_aload_n dX7_hive_18 rfl ?_
                  refine aw_iconst dX7_hive_19 (by decide) ?_
                  refine c_X7_72 rfl dX7_hive_20 m_ob (Nat.le_of_ble_eq_true rfl) (by omega) (C_m_refuse ?_)
                  refine aK_i ?_
                  refine aw_ireturn dX7_hive_23 rfl ?_
                  first
                    | (exfalso; omega)
                    | (refine XR.sameE h ?_ ?_ ?_ ?_ ?_ ?_
                       · first
                           | rfl
                           | (subst hsw; rfl)
                           | omega
                       · repeat (first | exact xs.rf | refine xs.up ?_ (by decide))
                       · repeat (first | exact mss.rf | refine mss.up0 ?_ (by decide))
                       · first
                           | (simp [aup, hv2, hv3, hv4]; done)
                           | (simp [aup, hv2, hv3, hv4]; omega)
                           | (rw [aup_s, aup_s, hu]; split <;> omega)
                       · simp [aup, hv2, hv3, hv4]
                       · simp [aup, hv2, hv3, hv4])
      · first
          | (exfalso; omega)
          | skip
            refine aw_tabIn (tgt := 105) dX0_hive_45 (by omega) (by omega) (off := 60) (by rw [hsw]; rfl) (by decide) ?_
            refine aw_aload_n dX0_hive_105 rfl ?_
            refine c_X0_274 rfl dX0_hive_106 g1.1 (Nat.le_of_ble_eq_true rfl) (by omega) (C_x_empty g1 g2 gh.2.1 ?_)
            refine aK_i ?_
            refine aw_ireturn dX0_hive_109 rfl ?_
            refine ⟨_, rfl, ?_⟩
            refine AMet.go (L := [some (vR 0), some (vI a), some (vI b), none]) mok_X7_hive (Nat.le_of_ble_eq_true rfl) rfl ?_
            refine aw_aload_n dX7_hive_0 rfl ?_
            refine aw_iload_n dX7_hive_1 rfl ?_
            refine c_X7_274 rfl dX7_hive_2 m_ob (Nat.le_of_ble_eq_true rfl) (by omega) (C_m_isHive (fun hh => ?_) (fun hh => ?_))
            · first
                | (exfalso; omega)
                | skip
                  refine aK_i ?_
                  refine aw_ifeq (tgt := 18) dX7_hive_5 (by decide) (fun h => absurd h (by decide)) (fun _ => ?_)
                  refine aw_iload_n dX7_hive_8 rfl ?_
                  refine aw_iflt (tgt := 18) dX7_hive_9 (by decide) (fun h9 => ?_) (fun h9 => ?_)
                  · first
                      | (exfalso; omega)
                      | skip
                        refine aw_aload_n dX7_hive_18 rfl ?_
                        refine aw_iconst dX7_hive_19 (by decide) ?_
                        refine c_X7_72 rfl dX7_hive_20 m_ob (Nat.le_of_ble_eq_true rfl) (by omega) (C_m_refuse ?_)
                        refine aK_i ?_
                        refine aw_ireturn dX7_hive_23 rfl ?_
                        first
                          | (exfalso; omega)
                          | (refine XR.sameE h ?_ ?_ ?_ ?_ ?_ ?_
                             · first
                                 | rfl
                                 | (subst hsw; rfl)
                                 | omega
                             · repeat (first | exact xs.rf | refine xs.up ?_ (by decide))
                             · repeat (first | exact mss.rf | refine mss.up0 ?_ (by decide))
                             · first
                                 | (simp [aup, hv2, hv3, hv4]; done)
                                 | (simp [aup, hv2, hv3, hv4]; omega)
                                 | (rw [aup_s, aup_s, hu]; split <;> omega)
                             · simp [aup, hv2, hv3, hv4]
                             · simp [aup, hv2, hv3, hv4])
                  · first
                      | (exfalso; omega)
                      | skip
                        refine aw_iload_n dX7_hive_12 rfl ?_
                        refine aw_bipush dX7_hive_13 (by decide) ?_
                        refine aw_icmple (tgt := 24) dX7_hive_15 (by decide) (fun h15 => ?_) (fun h15 => ?_)
                        · first
                            | (exfalso; omega)
                            | skip
                              refine aw_iload_n dX7_hive_24 rfl ?_
                              refine c_X7_217 rfl dX7_hive_25  (Nat.le_of_ble_eq_true rfl) (by omega) (C_m_hiveRow (by omega) ?_)
                              refine aK_i ?_
                              refine aw_istore3 dX7_hive_28 (by decide) rfl ?_
                              refine aw_iload_n dX7_hive_29 rfl ?_
                              have hsw : b = 0 ∨ b = 1 ∨ b = 2 ∨ b = 3 ∨ b = 4 ∨ b = 5 ∨ b = 6 ∨ (b < 0 ∨ 6 < b) := by omega
                              rcases hsw with hsw | hsw | hsw | hsw | hsw | hsw | hsw | hsw
                              · first
                                  | (exfalso; omega)
                                  | skip
                                    refine aw_tabIn (tgt := 72) dX7_hive_30 (by omega) (by omega) (off := 42) (by rw [hsw]; rfl) (by decide) ?_
                                    refine aw_aload_n dX7_hive_72 rfl ?_
                                    refine gm_7 rfl dX7_hive_73 dX7_hive_74 rfl ?_
                                    refine aw_iload_n dX7_hive_77 rfl ?_
                                    refine aw_iaload dX7_hive_78 m_a1 (by omega) (by omega) ?_
                                    refine c_X7_76 rfl dX7_hive_79 m_ob (Nat.le_of_ble_eq_true rfl) (by omega) (C_m_gives ?_)
                                    refine aK_i ?_
                                    refine aw_ireturn dX7_hive_82 rfl ?_
                                    first
                                      | (exfalso; omega)
                                      | (refine XR.sameE h ?_ ?_ ?_ ?_ ?_ ?_
                                         · first
                                             | rfl
                                             | (subst hsw; rfl)
                                             | omega
                                         · repeat (first | exact xs.rf | refine xs.up ?_ (by decide))
                                         · repeat (first | exact mss.rf | refine mss.up0 ?_ (by decide))
                                         · first
                                             | (simp [aup, hv2, hv3, hv4]; done)
                                             | (simp [aup, hv2, hv3, hv4]; omega)
                                             | (rw [aup_s, aup_s, hu]; split <;> omega)
                                         · simp [aup, hv2, hv3, hv4]
                                         · simp [aup, hv2, hv3, hv4])
                              · first
                                  | (exfalso; omega)
                                  | skip
                                    refine aw_tabIn (tgt := 83) dX7_hive_30 (by omega) (by omega) (off := 53) (by rw [hsw]; rfl) (by decide) ?_
                                    refine aw_aload_n dX7_hive_83 rfl ?_
                                    refine gm_7 rfl dX7_hive_84 dX7_hive_85 rfl ?_
                                    refine aw_iload_n dX7_hive_88 rfl ?_
                                    refine aw_iconst dX7_hive_89 (by decide) ?_
                                    refine aw_iaddr dX7_hive_90 (by omega) ?_
                                    refine aw_iaload dX7_hive_91 m_a1 (by omega) (by omega) ?_
                                    refine c_X7_76 rfl dX7_hive_92 m_ob (Nat.le_of_ble_eq_true rfl) (by omega) (C_m_gives ?_)
                                    refine aK_i ?_
                                    refine aw_ireturn dX7_hive_95 rfl ?_
                                    first
                                      | (exfalso; omega)
                                      | (refine XR.sameE h ?_ ?_ ?_ ?_ ?_ ?_
                                         · first
                                             | rfl
                                             | (subst hsw; rfl)
                                             | omega
                                         · repeat (first | exact xs.rf | refine xs.up ?_ (by decide))
                                         · repeat (first | exact mss.rf | refine mss.up0 ?_ (by decide))
                                         · first
                                             | (simp [aup, hv2, hv3, hv4]; done)
                                             | (simp [aup, hv2, hv3, hv4]; omega)
                                             | (rw [aup_s, aup_s, hu]; split <;> omega)
                                         · simp [aup, hv2, hv3, hv4]
                                         · simp [aup, hv2, hv3, hv4])
                              · first
                                  | (exfalso; omega)
                                  | skip
                                    refine aw_tabIn (tgt := 122) dX7_hive_30 (by omega) (by omega) (off := 92) (by rw [hsw]; rfl) (by decide) ?_
                                    refine aw_aload_n dX7_hive_122 rfl ?_
                                    refine aw_aload_n dX7_hive_123 rfl ?_
                                    refine aw_iload_n dX7_hive_124 rfl ?_
                                    refine aw_iload_n dX7_hive_125 rfl ?_
                                    refine aw_iconst dX7_hive_126 (by decide) ?_
                                    refine aw_isubr dX7_hive_127 (by omega) ?_
                                    refine c_X7_283 rfl dX7_hive_128 m_ob (Nat.le_of_ble_eq_true rfl) (by omega) (C_m_sumOf rfl gh.1 (by omega) gh.2.1 ?_)
                                    refine aK_i ?_
                                    refine c_X7_76 rfl dX7_hive_131 m_ob (Nat.le_of_ble_eq_true rfl) (by omega) (C_m_gives ?_)
                                    refine aK_i ?_
                                    refine aw_ireturn dX7_hive_134 rfl ?_
                                    first
                                      | (exfalso; omega)
                                      | (refine XR.sameE h ?_ ?_ ?_ ?_ ?_ ?_
                                         · first
                                             | rfl
                                             | (subst hsw; rfl)
                                             | omega
                                         · repeat (first | exact xs.rf | refine xs.up ?_ (by decide))
                                         · repeat (first | exact mss.rf | refine mss.up0 ?_ (by decide))
                                         · first
                                             | (simp [aup, hv2, hv3, hv4]; done)
                                             | (simp [aup, hv2, hv3, hv4]; omega)
                                             | (rw [aup_s, aup_s, hu]; split <;> omega)
                                         · simp [aup, hv2, hv3, hv4]
                                         · simp [aup, hv2, hv3, hv4])
                              · first
                                  | (exfalso; omega)
                                  | skip
                                    refine aw_tabIn (tgt := 122) dX7_hive_30 (by omega) (by omega) (off := 92) (by rw [hsw]; rfl) (by decide) ?_
                                    refine aw_aload_n dX7_hive_122 rfl ?_
                                    refine aw_aload_n dX7_hive_123 rfl ?_
                                    refine aw_iload_n dX7_hive_124 rfl ?_
                                    refine aw_iload_n dX7_hive_125 rfl ?_
                                    refine aw_iconst dX7_hive_126 (by decide) ?_
                                    refine aw_isubr dX7_hive_127 (by omega) ?_
                                    refine c_X7_283 rfl dX7_hive_128 m_ob (Nat.le_of_ble_eq_true rfl) (by omega) (C_m_sumOf rfl gh.1 (by omega) gh.2.1 ?_)
                                    refine aK_i ?_
                                    refine c_X7_76 rfl dX7_hive_131 m_ob (Nat.le_of_ble_eq_true rfl) (by omega) (C_m_gives ?_)
                                    refine aK_i ?_
                                    refine aw_ireturn dX7_hive_134 rfl ?_
                                    first
                                      | (exfalso; omega)
                                      | (refine XR.sameE h ?_ ?_ ?_ ?_ ?_ ?_
                                         · first
                                             | rfl
                                             | (subst hsw; rfl)
                                             | omega
                                         · repeat (first | exact xs.rf | refine xs.up ?_ (by decide))
                                         · repeat (first | exact mss.rf | refine mss.up0 ?_ (by decide))
                                         · first
                                             | (simp [aup, hv2, hv3, hv4]; done)
                                             | (simp [aup, hv2, hv3, hv4]; omega)
                                             | (rw [aup_s, aup_s, hu]; split <;> omega)
                                         · simp [aup, hv2, hv3, hv4]
                                         · simp [aup, hv2, hv3, hv4])
                              · first
                                  | (exfalso; omega)
                                  | skip
                                    refine aw_tabIn (tgt := 122) dX7_hive_30 (by omega) (by omega) (off := 92) (by rw [hsw]; rfl) (by decide) ?_
                                    refine aw_aload_n dX7_hive_122 rfl ?_
                                    refine aw_aload_n dX7_hive_123 rfl ?_
                                    refine aw_iload_n dX7_hive_124 rfl ?_
                                    refine aw_iload_n dX7_hive_125 rfl ?_
                                    refine aw_iconst dX7_hive_126 (by decide) ?_
                                    refine aw_isubr dX7_hive_127 (by omega) ?_
                                    refine c_X7_283 rfl dX7_hive_128 m_ob (Nat.le_of_ble_eq_true rfl) (by omega) (C_m_sumOf rfl gh.1 (by omega) gh.2.1 ?_)
                                    refine aK_i ?_
                                    refine c_X7_76 rfl dX7_hive_131 m_ob (Nat.le_of_ble_eq_true rfl) (by omega) (C_m_gives ?_)
                                    refine aK_i ?_
                                    refine aw_ireturn dX7_hive_134 rfl ?_
                                    first
                                      | (exfalso; omega)
                                      | (refine XR.sameE h ?_ ?_ ?_ ?_ ?_ ?_
                                         · first
                                             | rfl
                                             | (subst hsw; rfl)
                                             | omega
                                         · repeat (first | exact xs.rf | refine xs.up ?_ (by decide))
                                         · repeat (first | exact mss.rf | refine mss.up0 ?_ (by decide))
                                         · first
                                             | (simp [aup, hv2, hv3, hv4]; done)
                                             | (simp [aup, hv2, hv3, hv4]; omega)
                                             | (rw [aup_s, aup_s, hu]; split <;> omega)
                                         · simp [aup, hv2, hv3, hv4]
                                         · simp [aup, hv2, hv3, hv4])
                              · first
                                  | (exfalso; omega)
                                  | skip
                                    refine aw_tabIn (tgt := 96) dX7_hive_30 (by omega) (by omega) (off := 66) (by rw [hsw]; rfl) (by decide) ?_
                                    refine aw_aload_n dX7_hive_96 rfl ?_
                                    refine gm_7 rfl dX7_hive_97 dX7_hive_98 rfl ?_
                                    refine aw_iload_n dX7_hive_101 rfl ?_
                                    refine aw_iconst dX7_hive_102 (by decide) ?_
                                    refine aw_iaddr dX7_hive_103 (by omega) ?_
                                    refine aw_iaload dX7_hive_104 m_a1 (by omega) (by omega) ?_
                                    refine c_X7_76 rfl dX7_hive_105 m_ob (Nat.le_of_ble_eq_true rfl) (by omega) (C_m_gives ?_)
                                    refine aK_i ?_
                                    refine aw_ireturn dX7_hive_108 rfl ?_
                                    first
                                      | (exfalso; omega)
                                      | (refine XR.sameE h ?_ ?_ ?_ ?_ ?_ ?_
                                         · first
                                             | rfl
                                             | (subst hsw; rfl)
                                             | omega
                                         · repeat (first | exact xs.rf | refine xs.up ?_ (by decide))
                                         · repeat (first | exact mss.rf | refine mss.up0 ?_ (by decide))
                                         · first
                                             | (simp [aup, hv2, hv3, hv4]; done)
                                             | (simp [aup, hv2, hv3, hv4]; omega)
                                             | (rw [aup_s, aup_s, hu]; split <;> omega)
                                         · simp [aup, hv2, hv3, hv4]
                                         · simp [aup, hv2, hv3, hv4])
                              · first
                                  | (exfalso; omega)
                                  | skip
                                    refine aw_tabIn (tgt := 109) dX7_hive_30 (by omega) (by omega) (off := 79) (by rw [hsw]; rfl) (by decide) ?_
                                    refine aw_aload_n dX7_hive_109 rfl ?_
                                    refine gm_7 rfl dX7_hive_110 dX7_hive_111 rfl ?_
                                    refine aw_iload_n dX7_hive_114 rfl ?_
                                    refine aw_iconst dX7_hive_115 (by decide) ?_
                                    refine aw_iaddr dX7_hive_116 (by omega) ?_
                                    refine aw_iaload dX7_hive_117 m_a1 (by omega) (by omega) ?_
                                    refine c_X7_280 rfl dX7_hive_118 m_ob (Nat.le_of_ble_eq_true rfl) (by omega) (C_m_orNone (fun hz => ?_) (fun hz => ?_))
                                    · first
                                        | (exfalso; omega)
                                        | skip
                                          refine aK_i ?_
                                          refine aw_ireturn dX7_hive_121 rfl ?_
                                          first
                                            | (exfalso; omega)
                                            | (refine XR.sameE h ?_ ?_ ?_ ?_ ?_ ?_
                                               · first
                                                   | rfl
                                                   | (subst hsw; rfl)
                                                   | omega
                                               · repeat (first | exact xs.rf | refine xs.up ?_ (by decide))
                                               · repeat (first | exact mss.rf | refine mss.up0 ?_ (by decide))
                                               · first
                                                   | (simp [aup, hv2, hv3, hv4]; done)
                                                   | (simp [aup, hv2, hv3, hv4]; omega)
                                                   | (rw [aup_s, aup_s, hu]; split <;> omega)
                                               · simp [aup, hv2, hv3, hv4]
                                               · simp [aup, hv2, hv3, hv4])
                                    · first
                                        | (exfalso; omega)
                                        | skip
                                          refine aK_i ?_
                                          refine aw_ireturn dX7_hive_121 rfl ?_
                                          first
                                            | (exfalso; omega)
                                            | (refine XR.sameE h ?_ ?_ ?_ ?_ ?_ ?_
                                               · first
                                                   | rfl
                                                   | (subst hsw; rfl)
                                                   | omega
                                               · repeat (first | exact xs.rf | refine xs.up ?_ (by decide))
                                               · repeat (first | exact mss.rf | refine mss.up0 ?_ (by decide))
                                               · first
                                                   | (simp [aup, hv2, hv3, hv4]; done)
                                                   | (simp [aup, hv2, hv3, hv4]; omega)
                                                   | (rw [aup_s, aup_s, hu]; split <;> omega)
                                               · simp [aup, hv2, hv3, hv4]
                                               · simp [aup, hv2, hv3, hv4])
                              · first
                                  | (exfalso; omega)
                                  | skip
                                    refine aw_tabOut (tgt := 122) dX7_hive_30 (by omega) (by decide) ?_
                                    refine aw_aload_n dX7_hive_122 rfl ?_
                                    refine aw_aload_n dX7_hive_123 rfl ?_
                                    refine aw_iload_n dX7_hive_124 rfl ?_
                                    refine aw_iload_n dX7_hive_125 rfl ?_
                                    refine aw_iconst dX7_hive_126 (by decide) ?_
                                    refine aw_isubr dX7_hive_127 (by omega) ?_
                                    refine c_X7_283 rfl dX7_hive_128 m_ob (Nat.le_of_ble_eq_true rfl) (by omega) (C_m_sumOf rfl gh.1 (by omega) gh.2.1 ?_)
                                    refine aK_i ?_
                                    refine c_X7_76 rfl dX7_hive_131 m_ob (Nat.le_of_ble_eq_true rfl) (by omega) (C_m_gives ?_)
                                    refine aK_i ?_
                                    refine aw_ireturn dX7_hive_134 rfl ?_
                                    first
                                      | (exfalso; omega)
                                      | (refine XR.sameE h ?_ ?_ ?_ ?_ ?_ ?_
                                         · first
                                             | rfl
                                             | (subst hsw; rfl)
                                             | omega
                                         · repeat (first | exact xs.rf | refine xs.up ?_ (by decide))
                                         · repeat (first | exact mss.rf | refine mss.up0 ?_ (by decide))
                                         · first
                                             | (simp [aup, hv2, hv3, hv4]; done)
                                             | (simp [aup, hv2, hv3, hv4]; omega)
                                             | (rw [aup_s, aup_s, hu]; split <;> omega)
                                         · simp [aup, hv2, hv3, hv4]
                                         · simp [aup, hv2, hv3, hv4])
                        · first
                            | (exfalso; omega)
                            | skip
                              refine aw_aload_n dX7_hive_18 rfl ?_
                              refine aw_iconst dX7_hive_19 (by decide) ?_
                              refine c_X7_72 rfl dX7_hive_20 m_ob (Nat.le_of_ble_eq_true rfl) (by omega) (C_m_refuse ?_)
                              refine aK_i ?_
                              refine aw_ireturn dX7_hive_23 rfl ?_
                              first
                                | (exfalso; omega)
                                | (refine XR.sameE h ?_ ?_ ?_ ?_ ?_ ?_
                                   · first
                                       | rfl
                                       | (subst hsw; rfl)
                                       | omega
                                   · repeat (first | exact xs.rf | refine xs.up ?_ (by decide))
                                   · repeat (first | exact mss.rf | refine mss.up0 ?_ (by decide))
                                   · first
                                       | (simp [aup, hv2, hv3, hv4]; done)
                                       | (simp [aup, hv2, hv3, hv4]; omega)
                                       | (rw [aup_s, aup_s, hu]; split <;> omega)
                                   · simp [aup, hv2, hv3, hv4]
                                   · simp [aup, hv2, hv3, hv4])
            · first
                | (exfalso; omega)
                | skip
                  refine aK_i ?_
                  refine aw_ifeq (tgt := 18) dX7_hive_5 (by decide) (fun _ => ?_) (fun h => absurd h (by decide))
                  refine aw_aload_n dX7_hive_18 rfl ?_
                  refine aw_iconst dX7_hive_19 (by decide) ?_
                  refine c_X7_72 rfl dX7_hive_20 m_ob (Nat.le_of_ble_eq_true rfl) (by omega) (C_m_refuse ?_)
                  refine aK_i ?_
                  refine aw_ireturn dX7_hive_23 rfl ?_
                  first
                    | (exfalso; omega)
                    | (refine XR.sameE h ?_ ?_ ?_ ?_ ?_ ?_
                       · first
                           | rfl
                           | (subst hsw; rfl)
                           | omega
                       · repeat (first | exact xs.rf | refine xs.up ?_ (by decide))
                       · repeat (first | exact mss.rf | refine mss.up0 ?_ (by decide))
                       · first
                           | (simp [aup, hv2, hv3, hv4]; done)
                           | (simp [aup, hv2, hv3, hv4]; omega)
                           | (rw [aup_s, aup_s, hu]; split <;> omega)
                       · simp [aup, hv2, hv3, hv4]
                       · simp [aup, hv2, hv3, hv4])
      · first
          | (exfalso; omega)
          | skip
            refine aw_tabIn (tgt := 110) dX0_hive_45 (by omega) (by omega) (off := 65) (by rw [hsw]; rfl) (by decide) ?_
            refine aw_aload_n dX0_hive_110 rfl ?_
            refine g_X0_277_9 rfl dX0_hive_111 g1.1 ?_
            rw [g4]
            refine aw_ireturn dX0_hive_114 rfl ?_
            refine ⟨_, rfl, ?_⟩
            refine AMet.go (L := [some (vR 0), some (vI a), some (vI b), none]) mok_X7_hive (Nat.le_of_ble_eq_true rfl) rfl ?_
            refine aw_aload_n dX7_hive_0 rfl ?_
            refine aw_iload_n dX7_hive_1 rfl ?_
            refine c_X7_274 rfl dX7_hive_2 m_ob (Nat.le_of_ble_eq_true rfl) (by omega) (C_m_isHive (fun hh => ?_) (fun hh => ?_))
            · first
                | (exfalso; omega)
                | skip
                  refine aK_i ?_
                  refine aw_ifeq (tgt := 18) dX7_hive_5 (by decide) (fun h => absurd h (by decide)) (fun _ => ?_)
                  refine aw_iload_n dX7_hive_8 rfl ?_
                  refine aw_iflt (tgt := 18) dX7_hive_9 (by decide) (fun h9 => ?_) (fun h9 => ?_)
                  · first
                      | (exfalso; omega)
                      | skip
                        refine aw_aload_n dX7_hive_18 rfl ?_
                        refine aw_iconst dX7_hive_19 (by decide) ?_
                        refine c_X7_72 rfl dX7_hive_20 m_ob (Nat.le_of_ble_eq_true rfl) (by omega) (C_m_refuse ?_)
                        refine aK_i ?_
                        refine aw_ireturn dX7_hive_23 rfl ?_
                        first
                          | (exfalso; omega)
                          | (refine XR.sameE h ?_ ?_ ?_ ?_ ?_ ?_
                             · first
                                 | rfl
                                 | (subst hsw; rfl)
                                 | omega
                             · repeat (first | exact xs.rf | refine xs.up ?_ (by decide))
                             · repeat (first | exact mss.rf | refine mss.up0 ?_ (by decide))
                             · first
                                 | (simp [aup, hv2, hv3, hv4]; done)
                                 | (simp [aup, hv2, hv3, hv4]; omega)
                                 | (rw [aup_s, aup_s, hu]; split <;> omega)
                             · simp [aup, hv2, hv3, hv4]
                             · simp [aup, hv2, hv3, hv4])
                  · first
                      | (exfalso; omega)
                      | skip
                        refine aw_iload_n dX7_hive_12 rfl ?_
                        refine aw_bipush dX7_hive_13 (by decide) ?_
                        refine aw_icmple (tgt := 24) dX7_hive_15 (by decide) (fun h15 => ?_) (fun h15 => ?_)
                        · first
                            | (exfalso; omega)
                            | skip
                              refine aw_iload_n dX7_hive_24 rfl ?_
                              refine c_X7_217 rfl dX7_hive_25  (Nat.le_of_ble_eq_true rfl) (by omega) (C_m_hiveRow (by omega) ?_)
                              refine aK_i ?_
                              refine aw_istore3 dX7_hive_28 (by decide) rfl ?_
                              refine aw_iload_n dX7_hive_29 rfl ?_
                              have hsw : b = 0 ∨ b = 1 ∨ b = 2 ∨ b = 3 ∨ b = 4 ∨ b = 5 ∨ b = 6 ∨ (b < 0 ∨ 6 < b) := by omega
                              rcases hsw with hsw | hsw | hsw | hsw | hsw | hsw | hsw | hsw
                              · first
                                  | (exfalso; omega)
                                  | skip
                                    refine aw_tabIn (tgt := 72) dX7_hive_30 (by omega) (by omega) (off := 42) (by rw [hsw]; rfl) (by decide) ?_
                                    refine aw_aload_n dX7_hive_72 rfl ?_
                                    refine gm_7 rfl dX7_hive_73 dX7_hive_74 rfl ?_
                                    refine aw_iload_n dX7_hive_77 rfl ?_
                                    refine aw_iaload dX7_hive_78 m_a1 (by omega) (by omega) ?_
                                    refine c_X7_76 rfl dX7_hive_79 m_ob (Nat.le_of_ble_eq_true rfl) (by omega) (C_m_gives ?_)
                                    refine aK_i ?_
                                    refine aw_ireturn dX7_hive_82 rfl ?_
                                    first
                                      | (exfalso; omega)
                                      | (refine XR.sameE h ?_ ?_ ?_ ?_ ?_ ?_
                                         · first
                                             | rfl
                                             | (subst hsw; rfl)
                                             | omega
                                         · repeat (first | exact xs.rf | refine xs.up ?_ (by decide))
                                         · repeat (first | exact mss.rf | refine mss.up0 ?_ (by decide))
                                         · first
                                             | (simp [aup, hv2, hv3, hv4]; done)
                                             | (simp [aup, hv2, hv3, hv4]; omega)
                                             | (rw [aup_s, aup_s, hu]; split <;> omega)
                                         · simp [aup, hv2, hv3, hv4]
                                         · simp [aup, hv2, hv3, hv4])
                              · first
                                  | (exfalso; omega)
                                  | skip
                                    refine aw_tabIn (tgt := 83) dX7_hive_30 (by omega) (by omega) (off := 53) (by rw [hsw]; rfl) (by decide) ?_
                                    refine aw_aload_n dX7_hive_83 rfl ?_
                                    refine gm_7 rfl dX7_hive_84 dX7_hive_85 rfl ?_
                                    refine aw_iload_n dX7_hive_88 rfl ?_
                                    refine aw_iconst dX7_hive_89 (by decide) ?_
                                    refine aw_iaddr dX7_hive_90 (by omega) ?_
                                    refine aw_iaload dX7_hive_91 m_a1 (by omega) (by omega) ?_
                                    refine c_X7_76 rfl dX7_hive_92 m_ob (Nat.le_of_ble_eq_true rfl) (by omega) (C_m_gives ?_)
                                    refine aK_i ?_
                                    refine aw_ireturn dX7_hive_95 rfl ?_
                                    first
                                      | (exfalso; omega)
                                      | (refine XR.sameE h ?_ ?_ ?_ ?_ ?_ ?_
                                         · first
                                             | rfl
                                             | (subst hsw; rfl)
                                             | omega
                                         · repeat (first | exact xs.rf | refine xs.up ?_ (by decide))
                                         · repeat (first | exact mss.rf | refine mss.up0 ?_ (by decide))
                                         · first
                                             | (simp [aup, hv2, hv3, hv4]; done)
                                             | (simp [aup, hv2, hv3, hv4]; omega)
                                             | (rw [aup_s, aup_s, hu]; split <;> omega)
                                         · simp [aup, hv2, hv3, hv4]
                                         · simp [aup, hv2, hv3, hv4])
                              · first
                                  | (exfalso; omega)
                                  | skip
                                    refine aw_tabIn (tgt := 122) dX7_hive_30 (by omega) (by omega) (off := 92) (by rw [hsw]; rfl) (by decide) ?_
                                    refine aw_aload_n dX7_hive_122 rfl ?_
                                    refine aw_aload_n dX7_hive_123 rfl ?_
                                    refine aw_iload_n dX7_hive_124 rfl ?_
                                    refine aw_iload_n dX7_hive_125 rfl ?_
                                    refine aw_iconst dX7_hive_126 (by decide) ?_
                                    refine aw_isubr dX7_hive_127 (by omega) ?_
                                    refine c_X7_283 rfl dX7_hive_128 m_ob (Nat.le_of_ble_eq_true rfl) (by omega) (C_m_sumOf rfl gh.1 (by omega) gh.2.1 ?_)
                                    refine aK_i ?_
                                    refine c_X7_76 rfl dX7_hive_131 m_ob (Nat.le_of_ble_eq_true rfl) (by omega) (C_m_gives ?_)
                                    refine aK_i ?_
                                    refine aw_ireturn dX7_hive_134 rfl ?_
                                    first
                                      | (exfalso; omega)
                                      | (refine XR.sameE h ?_ ?_ ?_ ?_ ?_ ?_
                                         · first
                                             | rfl
                                             | (subst hsw; rfl)
                                             | omega
                                         · repeat (first | exact xs.rf | refine xs.up ?_ (by decide))
                                         · repeat (first | exact mss.rf | refine mss.up0 ?_ (by decide))
                                         · first
                                             | (simp [aup, hv2, hv3, hv4]; done)
                                             | (simp [aup, hv2, hv3, hv4]; omega)
                                             | (rw [aup_s, aup_s, hu]; split <;> omega)
                                         · simp [aup, hv2, hv3, hv4]
                                         · simp [aup, hv2, hv3, hv4])
                              · first
                                  | (exfalso; omega)
                                  | skip
                                    refine aw_tabIn (tgt := 122) dX7_hive_30 (by omega) (by omega) (off := 92) (by rw [hsw]; rfl) (by decide) ?_
                                    refine aw_aload_n dX7_hive_122 rfl ?_
                                    refine aw_aload_n dX7_hive_123 rfl ?_
                                    refine aw_iload_n dX7_hive_124 rfl ?_
                                    refine aw_iload_n dX7_hive_125 rfl ?_
                                    refine aw_iconst dX7_hive_126 (by decide) ?_
                                    refine aw_isubr dX7_hive_127 (by omega) ?_
                                    refine c_X7_283 rfl dX7_hive_128 m_ob (Nat.le_of_ble_eq_true rfl) (by omega) (C_m_sumOf rfl gh.1 (by omega) gh.2.1 ?_)
                                    refine aK_i ?_
                                    refine c_X7_76 rfl dX7_hive_131 m_ob (Nat.le_of_ble_eq_true rfl) (by omega) (C_m_gives ?_)
                                    refine aK_i ?_
                                    refine aw_ireturn dX7_hive_134 rfl ?_
                                    first
                                      | (exfalso; omega)
                                      | (refine XR.sameE h ?_ ?_ ?_ ?_ ?_ ?_
                                         · first
                                             | rfl
                                             | (subst hsw; rfl)
                                             | omega
                                         · repeat (first | exact xs.rf | refine xs.up ?_ (by decide))
                                         · repeat (first | exact mss.rf | refine mss.up0 ?_ (by decide))
                                         · first
                                             | (simp [aup, hv2, hv3, hv4]; done)
                                             | (simp [aup, hv2, hv3, hv4]; omega)
                                             | (rw [aup_s, aup_s, hu]; split <;> omega)
                                         · simp [aup, hv2, hv3, hv4]
                                         · simp [aup, hv2, hv3, hv4])
                              · first
                                  | (exfalso; omega)
                                  | skip
                                    refine aw_tabIn (tgt := 122) dX7_hive_30 (by omega) (by omega) (off := 92) (by rw [hsw]; rfl) (by decide) ?_
                                    refine aw_aload_n dX7_hive_122 rfl ?_
                                    refine aw_aload_n dX7_hive_123 rfl ?_
                                    refine aw_iload_n dX7_hive_124 rfl ?_
                                    refine aw_iload_n dX7_hive_125 rfl ?_
                                    refine aw_iconst dX7_hive_126 (by decide) ?_
                                    refine aw_isubr dX7_hive_127 (by omega) ?_
                                    refine c_X7_283 rfl dX7_hive_128 m_ob (Nat.le_of_ble_eq_true rfl) (by omega) (C_m_sumOf rfl gh.1 (by omega) gh.2.1 ?_)
                                    refine aK_i ?_
                                    refine c_X7_76 rfl dX7_hive_131 m_ob (Nat.le_of_ble_eq_true rfl) (by omega) (C_m_gives ?_)
                                    refine aK_i ?_
                                    refine aw_ireturn dX7_hive_134 rfl ?_
                                    first
                                      | (exfalso; omega)
                                      | (refine XR.sameE h ?_ ?_ ?_ ?_ ?_ ?_
                                         · first
                                             | rfl
                                             | (subst hsw; rfl)
                                             | omega
                                         · repeat (first | exact xs.rf | refine xs.up ?_ (by decide))
                                         · repeat (first | exact mss.rf | refine mss.up0 ?_ (by decide))
                                         · first
                                             | (simp [aup, hv2, hv3, hv4]; done)
                                             | (simp [aup, hv2, hv3, hv4]; omega)
                                             | (rw [aup_s, aup_s, hu]; split <;> omega)
                                         · simp [aup, hv2, hv3, hv4]
                                         · simp [aup, hv2, hv3, hv4])
                              · first
                                  | (exfalso; omega)
                                  | skip
                                    refine aw_tabIn (tgt := 96) dX7_hive_30 (by omega) (by omega) (off := 66) (by rw [hsw]; rfl) (by decide) ?_
                                    refine aw_aload_n dX7_hive_96 rfl ?_
                                    refine gm_7 rfl dX7_hive_97 dX7_hive_98 rfl ?_
                                    refine aw_iload_n dX7_hive_101 rfl ?_
                                    refine aw_iconst dX7_hive_102 (by decide) ?_
                                    refine aw_iaddr dX7_hive_103 (by omega) ?_
                                    refine aw_iaload dX7_hive_104 m_a1 (by omega) (by omega) ?_
                                    refine c_X7_76 rfl dX7_hive_105 m_ob (Nat.le_of_ble_eq_true rfl) (by omega) (C_m_gives ?_)
                                    refine aK_i ?_
                                    refine aw_ireturn dX7_hive_108 rfl ?_
                                    first
                                      | (exfalso; omega)
                                      | (refine XR.sameE h ?_ ?_ ?_ ?_ ?_ ?_
                                         · first
                                             | rfl
                                             | (subst hsw; rfl)
                                             | omega
                                         · repeat (first | exact xs.rf | refine xs.up ?_ (by decide))
                                         · repeat (first | exact mss.rf | refine mss.up0 ?_ (by decide))
                                         · first
                                             | (simp [aup, hv2, hv3, hv4]; done)
                                             | (simp [aup, hv2, hv3, hv4]; omega)
                                             | (rw [aup_s, aup_s, hu]; split <;> omega)
                                         · simp [aup, hv2, hv3, hv4]
                                         · simp [aup, hv2, hv3, hv4])
                              · first
                                  | (exfalso; omega)
                                  | skip
                                    refine aw_tabIn (tgt := 109) dX7_hive_30 (by omega) (by omega) (off := 79) (by rw [hsw]; rfl) (by decide) ?_
                                    refine aw_aload_n dX7_hive_109 rfl ?_
                                    refine gm_7 rfl dX7_hive_110 dX7_hive_111 rfl ?_
                                    refine aw_iload_n dX7_hive_114 rfl ?_
                                    refine aw_iconst dX7_hive_115 (by decide) ?_
                                    refine aw_iaddr dX7_hive_116 (by omega) ?_
                                    refine aw_iaload dX7_hive_117 m_a1 (by omega) (by omega) ?_
                                    refine c_X7_280 rfl dX7_hive_118 m_ob (Nat.le_of_ble_eq_true rfl) (by omega) (C_m_orNone (fun hz => ?_) (fun hz => ?_))
                                    · first
                                        | (exfalso; omega)
                                        | skip
                                          refine aK_i ?_
                                          refine aw_ireturn dX7_hive_121 rfl ?_
                                          first
                                            | (exfalso; omega)
                                            | (refine XR.sameE h ?_ ?_ ?_ ?_ ?_ ?_
                                               · first
                                                   | rfl
                                                   | (subst hsw; rfl)
                                                   | omega
                                               · repeat (first | exact xs.rf | refine xs.up ?_ (by decide))
                                               · repeat (first | exact mss.rf | refine mss.up0 ?_ (by decide))
                                               · first
                                                   | (simp [aup, hv2, hv3, hv4]; done)
                                                   | (simp [aup, hv2, hv3, hv4]; omega)
                                                   | (rw [aup_s, aup_s, hu]; split <;> omega)
                                               · simp [aup, hv2, hv3, hv4]
                                               · simp [aup, hv2, hv3, hv4])
                                    · first
                                        | (exfalso; omega)
                                        | skip
                                          refine aK_i ?_
                                          refine aw_ireturn dX7_hive_121 rfl ?_
                                          first
                                            | (exfalso; omega)
                                            | (refine XR.sameE h ?_ ?_ ?_ ?_ ?_ ?_
                                               · first
                                                   | rfl
                                                   | (subst hsw; rfl)
                                                   | omega
                                               · repeat (first | exact xs.rf | refine xs.up ?_ (by decide))
                                               · repeat (first | exact mss.rf | refine mss.up0 ?_ (by decide))
                                               · first
                                                   | (simp [aup, hv2, hv3, hv4]; done)
                                                   | (simp [aup, hv2, hv3, hv4]; omega)
                                                   | (rw [aup_s, aup_s, hu]; split <;> omega)
                                               · simp [aup, hv2, hv3, hv4]
                                               · simp [aup, hv2, hv3, hv4])
                              · first
                                  | (exfalso; omega)
                                  | skip
                                    refine aw_tabOut (tgt := 122) dX7_hive_30 (by omega) (by decide) ?_
                                    refine aw_aload_n dX7_hive_122 rfl ?_
                                    refine aw_aload_n dX7_hive_123 rfl ?_
                                    refine aw_iload_n dX7_hive_124 rfl ?_
                                    refine aw_iload_n dX7_hive_125 rfl ?_
                                    refine aw_iconst dX7_hive_126 (by decide) ?_
                                    refine aw_isubr dX7_hive_127 (by omega) ?_
                                    refine c_X7_283 rfl dX7_hive_128 m_ob (Nat.le_of_ble_eq_true rfl) (by omega) (C_m_sumOf rfl gh.1 (by omega) gh.2.1 ?_)
                                    refine aK_i ?_
                                    refine c_X7_76 rfl dX7_hive_131 m_ob (Nat.le_of_ble_eq_true rfl) (by omega) (C_m_gives ?_)
                                    refine aK_i ?_
                                    refine aw_ireturn dX7_hive_134 rfl ?_
                                    first
                                      | (exfalso; omega)
                                      | (refine XR.sameE h ?_ ?_ ?_ ?_ ?_ ?_
                                         · first
                                             | rfl
                                             | (subst hsw; rfl)
                                             | omega
                                         · repeat (first | exact xs.rf | refine xs.up ?_ (by decide))
                                         · repeat (first | exact mss.rf | refine mss.up0 ?_ (by decide))
                                         · first
                                             | (simp [aup, hv2, hv3, hv4]; done)
                                             | (simp [aup, hv2, hv3, hv4]; omega)
                                             | (rw [aup_s, aup_s, hu]; split <;> omega)
                                         · simp [aup, hv2, hv3, hv4]
                                         · simp [aup, hv2, hv3, hv4])
                        · first
                            | (exfalso; omega)
                            | skip
                              refine aw_aload_n dX7_hive_18 rfl ?_
                              refine aw_iconst dX7_hive_19 (by decide) ?_
                              refine c_X7_72 rfl dX7_hive_20 m_ob (Nat.le_of_ble_eq_true rfl) (by omega) (C_m_refuse ?_)
                              refine aK_i ?_
                              refine aw_ireturn dX7_hive_23 rfl ?_
                              first
                                | (exfalso; omega)
                                | (refine XR.sameE h ?_ ?_ ?_ ?_ ?_ ?_
                                   · first
                                       | rfl
                                       | (subst hsw; rfl)
                                       | omega
                                   · repeat (first | exact xs.rf | refine xs.up ?_ (by decide))
                                   · repeat (first | exact mss.rf | refine mss.up0 ?_ (by decide))
                                   · first
                                       | (simp [aup, hv2, hv3, hv4]; done)
                                       | (simp [aup, hv2, hv3, hv4]; omega)
                                       | (rw [aup_s, aup_s, hu]; split <;> omega)
                                   · simp [aup, hv2, hv3, hv4]
                                   · simp [aup, hv2, hv3, hv4])
            · first
                | (exfalso; omega)
                | skip
                  refine aK_i ?_
                  refine aw_ifeq (tgt := 18) dX7_hive_5 (by decide) (fun _ => ?_) (fun h => absurd h (by decide))
                  refine aw_aload_n dX7_hive_18 rfl ?_
                  refine aw_iconst dX7_hive_19 (by decide) ?_
                  refine c_X7_72 rfl dX7_hive_20 m_ob (Nat.le_of_ble_eq_true rfl) (by omega) (C_m_refuse ?_)
                  refine aK_i ?_
                  refine aw_ireturn dX7_hive_23 rfl ?_
                  first
                    | (exfalso; omega)
                    | (refine XR.sameE h ?_ ?_ ?_ ?_ ?_ ?_
                       · first
                           | rfl
                           | (subst hsw; rfl)
                           | omega
                       · repeat (first | exact xs.rf | refine xs.up ?_ (by decide))
                       · repeat (first | exact mss.rf | refine mss.up0 ?_ (by decide))
                       · first
                           | (simp [aup, hv2, hv3, hv4]; done)
                           | (simp [aup, hv2, hv3, hv4]; omega)
                           | (rw [aup_s, aup_s, hu]; split <;> omega)
                       · simp [aup, hv2, hv3, hv4]
                       · simp [aup, hv2, hv3, hv4])
      · first
          | (exfalso; omega)
          | skip
            refine aw_tabOut (tgt := 115) dX0_hive_45 (by omega) (by decide) ?_
            refine aw_aload_n dX0_hive_115 rfl ?_
            refine aw_aload_n dX0_hive_116 rfl ?_
            refine g_X0_280_9 rfl dX0_hive_117 g1.1 ?_
            rw [g5]
            refine c_X0_283 rfl dX0_hive_120 hR.o0 (Nat.le_of_ble_eq_true rfl) (by omega) (C_x_answer (hR.up0 (j := 7) (v := 0)) (fun u hu => ?_))
            refine aK_i ?_
            refine aw_ireturn dX0_hive_123 rfl ?_
            refine ⟨_, rfl, ?_⟩
            refine AMet.go (L := [some (vR 0), some (vI a), some (vI b), none]) mok_X7_hive (Nat.le_of_ble_eq_true rfl) rfl ?_
            refine aw_aload_n dX7_hive_0 rfl ?_
            refine aw_iload_n dX7_hive_1 rfl ?_
            refine c_X7_274 rfl dX7_hive_2 m_ob (Nat.le_of_ble_eq_true rfl) (by omega) (C_m_isHive (fun hh => ?_) (fun hh => ?_))
            · first
                | (exfalso; omega)
                | skip
                  refine aK_i ?_
                  refine aw_ifeq (tgt := 18) dX7_hive_5 (by decide) (fun h => absurd h (by decide)) (fun _ => ?_)
                  refine aw_iload_n dX7_hive_8 rfl ?_
                  refine aw_iflt (tgt := 18) dX7_hive_9 (by decide) (fun h9 => ?_) (fun h9 => ?_)
                  · first
                      | (exfalso; omega)
                      | skip
                        refine aw_aload_n dX7_hive_18 rfl ?_
                        refine aw_iconst dX7_hive_19 (by decide) ?_
                        refine c_X7_72 rfl dX7_hive_20 m_ob (Nat.le_of_ble_eq_true rfl) (by omega) (C_m_refuse ?_)
                        refine aK_i ?_
                        refine aw_ireturn dX7_hive_23 rfl ?_
                        first
                          | (exfalso; omega)
                          | (refine XR.sameE h ?_ ?_ ?_ ?_ ?_ ?_
                             · first
                                 | rfl
                                 | (subst hsw; rfl)
                                 | omega
                             · repeat (first | exact xs.rf | refine xs.up ?_ (by decide))
                             · repeat (first | exact mss.rf | refine mss.up0 ?_ (by decide))
                             · first
                                 | (simp [aup, hv2, hv3, hv4]; done)
                                 | (simp [aup, hv2, hv3, hv4]; omega)
                                 | (rw [aup_s, aup_s, hu]; split <;> omega)
                             · simp [aup, hv2, hv3, hv4]
                             · simp [aup, hv2, hv3, hv4])
                  · first
                      | (exfalso; omega)
                      | skip
                        refine aw_iload_n dX7_hive_12 rfl ?_
                        refine aw_bipush dX7_hive_13 (by decide) ?_
                        refine aw_icmple (tgt := 24) dX7_hive_15 (by decide) (fun h15 => ?_) (fun h15 => ?_)
                        · first
                            | (exfalso; omega)
                            | skip
                              refine aw_iload_n dX7_hive_24 rfl ?_
                              refine c_X7_217 rfl dX7_hive_25  (Nat.le_of_ble_eq_true rfl) (by omega) (C_m_hiveRow (by omega) ?_)
                              refine aK_i ?_
                              refine aw_istore3 dX7_hive_28 (by decide) rfl ?_
                              refine aw_iload_n dX7_hive_29 rfl ?_
                              have hsw : b = 0 ∨ b = 1 ∨ b = 2 ∨ b = 3 ∨ b = 4 ∨ b = 5 ∨ b = 6 ∨ (b < 0 ∨ 6 < b) := by omega
                              rcases hsw with hsw | hsw | hsw | hsw | hsw | hsw | hsw | hsw
                              · first
                                  | (exfalso; omega)
                                  | skip
                                    refine aw_tabIn (tgt := 72) dX7_hive_30 (by omega) (by omega) (off := 42) (by rw [hsw]; rfl) (by decide) ?_
                                    refine aw_aload_n dX7_hive_72 rfl ?_
                                    refine gm_7 rfl dX7_hive_73 dX7_hive_74 rfl ?_
                                    refine aw_iload_n dX7_hive_77 rfl ?_
                                    refine aw_iaload dX7_hive_78 m_a1 (by omega) (by omega) ?_
                                    refine c_X7_76 rfl dX7_hive_79 m_ob (Nat.le_of_ble_eq_true rfl) (by omega) (C_m_gives ?_)
                                    refine aK_i ?_
                                    refine aw_ireturn dX7_hive_82 rfl ?_
                                    first
                                      | (exfalso; omega)
                                      | (refine XR.sameE h ?_ ?_ ?_ ?_ ?_ ?_
                                         · first
                                             | rfl
                                             | (subst hsw; rfl)
                                             | omega
                                         · repeat (first | exact xs.rf | refine xs.up ?_ (by decide))
                                         · repeat (first | exact mss.rf | refine mss.up0 ?_ (by decide))
                                         · first
                                             | (simp [aup, hv2, hv3, hv4]; done)
                                             | (simp [aup, hv2, hv3, hv4]; omega)
                                             | (rw [aup_s, aup_s, hu]; split <;> omega)
                                         · simp [aup, hv2, hv3, hv4]
                                         · simp [aup, hv2, hv3, hv4])
                              · first
                                  | (exfalso; omega)
                                  | skip
                                    refine aw_tabIn (tgt := 83) dX7_hive_30 (by omega) (by omega) (off := 53) (by rw [hsw]; rfl) (by decide) ?_
                                    refine aw_aload_n dX7_hive_83 rfl ?_
                                    refine gm_7 rfl dX7_hive_84 dX7_hive_85 rfl ?_
                                    refine aw_iload_n dX7_hive_88 rfl ?_
                                    refine aw_iconst dX7_hive_89 (by decide) ?_
                                    refine aw_iaddr dX7_hive_90 (by omega) ?_
                                    refine aw_iaload dX7_hive_91 m_a1 (by omega) (by omega) ?_
                                    refine c_X7_76 rfl dX7_hive_92 m_ob (Nat.le_of_ble_eq_true rfl) (by omega) (C_m_gives ?_)
                                    refine aK_i ?_
                                    refine aw_ireturn dX7_hive_95 rfl ?_
                                    first
                                      | (exfalso; omega)
                                      | (refine XR.sameE h ?_ ?_ ?_ ?_ ?_ ?_
                                         · first
                                             | rfl
                                             | (subst hsw; rfl)
                                             | omega
                                         · repeat (first | exact xs.rf | refine xs.up ?_ (by decide))
                                         · repeat (first | exact mss.rf | refine mss.up0 ?_ (by decide))
                                         · first
                                             | (simp [aup, hv2, hv3, hv4]; done)
                                             | (simp [aup, hv2, hv3, hv4]; omega)
                                             | (rw [aup_s, aup_s, hu]; split <;> omega)
                                         · simp [aup, hv2, hv3, hv4]
                                         · simp [aup, hv2, hv3, hv4])
                              · first
                                  | (exfalso; omega)
                                  | skip
                                    refine aw_tabIn (tgt := 122) dX7_hive_30 (by omega) (by omega) (off := 92) (by rw [hsw]; rfl) (by decide) ?_
                                    refine aw_aload_n dX7_hive_122 rfl ?_
                                    refine aw_aload_n dX7_hive_123 rfl ?_
                                    refine aw_iload_n dX7_hive_124 rfl ?_
                                    refine aw_iload_n dX7_hive_125 rfl ?_
                                    refine aw_iconst dX7_hive_126 (by decide) ?_
                                    refine aw_isubr dX7_hive_127 (by omega) ?_
                                    refine c_X7_283 rfl dX7_hive_128 m_ob (Nat.le_of_ble_eq_true rfl) (by omega) (C_m_sumOf rfl gh.1 (by omega) gh.2.1 ?_)
                                    refine aK_i ?_
                                    refine c_X7_76 rfl dX7_hive_131 m_ob (Nat.le_of_ble_eq_true rfl) (by omega) (C_m_gives ?_)
                                    refine aK_i ?_
                                    refine aw_ireturn dX7_hive_134 rfl ?_
                                    first
                                      | (exfalso; omega)
                                      | (refine XR.sameE h ?_ ?_ ?_ ?_ ?_ ?_
                                         · first
                                             | rfl
                                             | (subst hsw; rfl)
                                             | omega
                                         · repeat (first | exact xs.rf | refine xs.up ?_ (by decide))
                                         · repeat (first | exact mss.rf | refine mss.up0 ?_ (by decide))
                                         · first
                                             | (simp [aup, hv2, hv3, hv4]; done)
                                             | (simp [aup, hv2, hv3, hv4]; omega)
                                             | (rw [aup_s, aup_s, hu]; split <;> omega)
                                         · simp [aup, hv2, hv3, hv4]
                                         · simp [aup, hv2, hv3, hv4])
                              · first
                                  | (exfalso; omega)
                                  | skip
                                    refine aw_tabIn (tgt := 122) dX7_hive_30 (by omega) (by omega) (off := 92) (by rw [hsw]; rfl) (by decide) ?_
                                    refine aw_aload_n dX7_hive_122 rfl ?_
                                    refine aw_aload_n dX7_hive_123 rfl ?_
                                    refine aw_iload_n dX7_hive_124 rfl ?_
                                    refine aw_iload_n dX7_hive_125 rfl ?_
                                    refine aw_iconst dX7_hive_126 (by decide) ?_
                                    refine aw_isubr dX7_hive_127 (by omega) ?_
                                    refine c_X7_283 rfl dX7_hive_128 m_ob (Nat.le_of_ble_eq_true rfl) (by omega) (C_m_sumOf rfl gh.1 (by omega) gh.2.1 ?_)
                                    refine aK_i ?_
                                    refine c_X7_76 rfl dX7_hive_131 m_ob (Nat.le_of_ble_eq_true rfl) (by omega) (C_m_gives ?_)
                                    refine aK_i ?_
                                    refine aw_ireturn dX7_hive_134 rfl ?_
                                    first
                                      | (exfalso; omega)
                                      | (refine XR.sameE h ?_ ?_ ?_ ?_ ?_ ?_
                                         · first
                                             | rfl
                                             | (subst hsw; rfl)
                                             | omega
                                         · repeat (first | exact xs.rf | refine xs.up ?_ (by decide))
                                         · repeat (first | exact mss.rf | refine mss.up0 ?_ (by decide))
                                         · first
                                             | (simp [aup, hv2, hv3, hv4]; done)
                                             | (simp [aup, hv2, hv3, hv4]; omega)
                                             | (rw [aup_s, aup_s, hu]; split <;> omega)
                                         · simp [aup, hv2, hv3, hv4]
                                         · simp [aup, hv2, hv3, hv4])
                              · first
                                  | (exfalso; omega)
                                  | skip
                                    refine aw_tabIn (tgt := 122) dX7_hive_30 (by omega) (by omega) (off := 92) (by rw [hsw]; rfl) (by decide) ?_
                                    refine aw_aload_n dX7_hive_122 rfl ?_
                                    refine aw_aload_n dX7_hive_123 rfl ?_
                                    refine aw_iload_n dX7_hive_124 rfl ?_
                                    refine aw_iload_n dX7_hive_125 rfl ?_
                                    refine aw_iconst dX7_hive_126 (by decide) ?_
                                    refine aw_isubr dX7_hive_127 (by omega) ?_
                                    refine c_X7_283 rfl dX7_hive_128 m_ob (Nat.le_of_ble_eq_true rfl) (by omega) (C_m_sumOf rfl gh.1 (by omega) gh.2.1 ?_)
                                    refine aK_i ?_
                                    refine c_X7_76 rfl dX7_hive_131 m_ob (Nat.le_of_ble_eq_true rfl) (by omega) (C_m_gives ?_)
                                    refine aK_i ?_
                                    refine aw_ireturn dX7_hive_134 rfl ?_
                                    first
                                      | (exfalso; omega)
                                      | (refine XR.sameE h ?_ ?_ ?_ ?_ ?_ ?_
                                         · first
                                             | rfl
                                             | (subst hsw; rfl)
                                             | omega
                                         · repeat (first | exact xs.rf | refine xs.up ?_ (by decide))
                                         · repeat (first | exact mss.rf | refine mss.up0 ?_ (by decide))
                                         · first
                                             | (simp [aup, hv2, hv3, hv4]; done)
                                             | (simp [aup, hv2, hv3, hv4]; omega)
                                             | (rw [aup_s, aup_s, hu]; split <;> omega)
                                         · simp [aup, hv2, hv3, hv4]
                                         · simp [aup, hv2, hv3, hv4])
                              · first
                                  | (exfalso; omega)
                                  | skip
                                    refine aw_tabIn (tgt := 96) dX7_hive_30 (by omega) (by omega) (off := 66) (by rw [hsw]; rfl) (by decide) ?_
                                    refine aw_aload_n dX7_hive_96 rfl ?_
                                    refine gm_7 rfl dX7_hive_97 dX7_hive_98 rfl ?_
                                    refine aw_iload_n dX7_hive_101 rfl ?_
                                    refine aw_iconst dX7_hive_102 (by decide) ?_
                                    refine aw_iaddr dX7_hive_103 (by omega) ?_
                                    refine aw_iaload dX7_hive_104 m_a1 (by omega) (by omega) ?_
                                    refine c_X7_76 rfl dX7_hive_105 m_ob (Nat.le_of_ble_eq_true rfl) (by omega) (C_m_gives ?_)
                                    refine aK_i ?_
                                    refine aw_ireturn dX7_hive_108 rfl ?_
                                    first
                                      | (exfalso; omega)
                                      | (refine XR.sameE h ?_ ?_ ?_ ?_ ?_ ?_
                                         · first
                                             | rfl
                                             | (subst hsw; rfl)
                                             | omega
                                         · repeat (first | exact xs.rf | refine xs.up ?_ (by decide))
                                         · repeat (first | exact mss.rf | refine mss.up0 ?_ (by decide))
                                         · first
                                             | (simp [aup, hv2, hv3, hv4]; done)
                                             | (simp [aup, hv2, hv3, hv4]; omega)
                                             | (rw [aup_s, aup_s, hu]; split <;> omega)
                                         · simp [aup, hv2, hv3, hv4]
                                         · simp [aup, hv2, hv3, hv4])
                              · first
                                  | (exfalso; omega)
                                  | skip
                                    refine aw_tabIn (tgt := 109) dX7_hive_30 (by omega) (by omega) (off := 79) (by rw [hsw]; rfl) (by decide) ?_
                                    refine aw_aload_n dX7_hive_109 rfl ?_
                                    refine gm_7 rfl dX7_hive_110 dX7_hive_111 rfl ?_
                                    refine aw_iload_n dX7_hive_114 rfl ?_
                                    refine aw_iconst dX7_hive_115 (by decide) ?_
                                    refine aw_iaddr dX7_hive_116 (by omega) ?_
                                    refine aw_iaload dX7_hive_117 m_a1 (by omega) (by omega) ?_
                                    refine c_X7_280 rfl dX7_hive_118 m_ob (Nat.le_of_ble_eq_true rfl) (by omega) (C_m_orNone (fun hz => ?_) (fun hz => ?_))
                                    · first
                                        | (exfalso; omega)
                                        | skip
                                          refine aK_i ?_
                                          refine aw_ireturn dX7_hive_121 rfl ?_
                                          first
                                            | (exfalso; omega)
                                            | (refine XR.sameE h ?_ ?_ ?_ ?_ ?_ ?_
                                               · first
                                                   | rfl
                                                   | (subst hsw; rfl)
                                                   | omega
                                               · repeat (first | exact xs.rf | refine xs.up ?_ (by decide))
                                               · repeat (first | exact mss.rf | refine mss.up0 ?_ (by decide))
                                               · first
                                                   | (simp [aup, hv2, hv3, hv4]; done)
                                                   | (simp [aup, hv2, hv3, hv4]; omega)
                                                   | (rw [aup_s, aup_s, hu]; split <;> omega)
                                               · simp [aup, hv2, hv3, hv4]
                                               · simp [aup, hv2, hv3, hv4])
                                    · first
                                        | (exfalso; omega)
                                        | skip
                                          refine aK_i ?_
                                          refine aw_ireturn dX7_hive_121 rfl ?_
                                          first
                                            | (exfalso; omega)
                                            | (refine XR.sameE h ?_ ?_ ?_ ?_ ?_ ?_
                                               · first
                                                   | rfl
                                                   | (subst hsw; rfl)
                                                   | omega
                                               · repeat (first | exact xs.rf | refine xs.up ?_ (by decide))
                                               · repeat (first | exact mss.rf | refine mss.up0 ?_ (by decide))
                                               · first
                                                   | (simp [aup, hv2, hv3, hv4]; done)
                                                   | (simp [aup, hv2, hv3, hv4]; omega)
                                                   | (rw [aup_s, aup_s, hu]; split <;> omega)
                                               · simp [aup, hv2, hv3, hv4]
                                               · simp [aup, hv2, hv3, hv4])
                              · first
                                  | (exfalso; omega)
                                  | skip
                                    refine aw_tabOut (tgt := 122) dX7_hive_30 (by omega) (by decide) ?_
                                    refine aw_aload_n dX7_hive_122 rfl ?_
                                    refine aw_aload_n dX7_hive_123 rfl ?_
                                    refine aw_iload_n dX7_hive_124 rfl ?_
                                    refine aw_iload_n dX7_hive_125 rfl ?_
                                    refine aw_iconst dX7_hive_126 (by decide) ?_
                                    refine aw_isubr dX7_hive_127 (by omega) ?_
                                    refine c_X7_283 rfl dX7_hive_128 m_ob (Nat.le_of_ble_eq_true rfl) (by omega) (C_m_sumOf rfl gh.1 (by omega) gh.2.1 ?_)
                                    refine aK_i ?_
                                    refine c_X7_76 rfl dX7_hive_131 m_ob (Nat.le_of_ble_eq_true rfl) (by omega) (C_m_gives ?_)
                                    refine aK_i ?_
                                    refine aw_ireturn dX7_hive_134 rfl ?_
                                    first
                                      | (exfalso; omega)
                                      | (refine XR.sameE h ?_ ?_ ?_ ?_ ?_ ?_
                                         · first
                                             | rfl
                                             | (subst hsw; rfl)
                                             | omega
                                         · repeat (first | exact xs.rf | refine xs.up ?_ (by decide))
                                         · repeat (first | exact mss.rf | refine mss.up0 ?_ (by decide))
                                         · first
                                             | (simp [aup, hv2, hv3, hv4]; done)
                                             | (simp [aup, hv2, hv3, hv4]; omega)
                                             | (rw [aup_s, aup_s, hu]; split <;> omega)
                                         · simp [aup, hv2, hv3, hv4]
                                         · simp [aup, hv2, hv3, hv4])
                        · first
                            | (exfalso; omega)
                            | skip
                              refine aw_aload_n dX7_hive_18 rfl ?_
                              refine aw_iconst dX7_hive_19 (by decide) ?_
                              refine c_X7_72 rfl dX7_hive_20 m_ob (Nat.le_of_ble_eq_true rfl) (by omega) (C_m_refuse ?_)
                              refine aK_i ?_
                              refine aw_ireturn dX7_hive_23 rfl ?_
                              first
                                | (exfalso; omega)
                                | (refine XR.sameE h ?_ ?_ ?_ ?_ ?_ ?_
                                   · first
                                       | rfl
                                       | (subst hsw; rfl)
                                       | omega
                                   · repeat (first | exact xs.rf | refine xs.up ?_ (by decide))
                                   · repeat (first | exact mss.rf | refine mss.up0 ?_ (by decide))
                                   · first
                                       | (simp [aup, hv2, hv3, hv4]; done)
                                       | (simp [aup, hv2, hv3, hv4]; omega)
                                       | (rw [aup_s, aup_s, hu]; split <;> omega)
                                   · simp [aup, hv2, hv3, hv4]
                                   · simp [aup, hv2, hv3, hv4])
            · first
                | (exfalso; omega)
                | skip
                  refine aK_i ?_
                  refine aw_ifeq (tgt := 18) dX7_hive_5 (by decide) (fun _ => ?_) (fun h => absurd h (by decide))
                  refine aw_aload_n dX7_hive_18 rfl ?_
                  refine aw_iconst dX7_hive_19 (by decide) ?_
                  refine c_X7_72 rfl dX7_hive_20 m_ob (Nat.le_of_ble_eq_true rfl) (by omega) (C_m_refuse ?_)
                  refine aK_i ?_
                  refine aw_ireturn dX7_hive_23 rfl ?_
                  first
                    | (exfalso; omega)
                    | (refine XR.sameE h ?_ ?_ ?_ ?_ ?_ ?_
                       · first
                           | rfl
                           | (subst hsw; rfl)
                           | omega
                       · repeat (first | exact xs.rf | refine xs.up ?_ (by decide))
                       · repeat (first | exact mss.rf | refine mss.up0 ?_ (by decide))
                       · first
                           | (simp [aup, hv2, hv3, hv4]; done)
                           | (simp [aup, hv2, hv3, hv4]; omega)
                           | (rw [aup_s, aup_s, hu]; split <;> omega)
                       · simp [aup, hv2, hv3, hv4]
                       · simp [aup, hv2, hv3, hv4])
    · refine aK_i ?_
      refine aw_ifeq (tgt := 25) dX0_hive_18 (by decide) (fun _ => ?_) (fun h => absurd h (by decide))
      refine aw_iconst dX0_hive_25 (by decide) ?_
      refine p_X0_73_0 rfl dX0_hive_26 hR.o0 ?_
      refine aw_aload_n dX0_hive_29 rfl ?_
      refine g_X0_73_0 rfl dX0_hive_30 hR.o0 ?_
      repeat (first | rw [aup_s] | rw [aup_n (by omega)])
      refine aw_ifle (tgt := 38) dX0_hive_33 (by decide) (fun h => absurd h (by decide)) (fun _ => ?_)
      refine aw_iconst dX0_hive_36 (by decide) ?_
      refine aw_ireturn dX0_hive_37 rfl ?_
      refine ⟨_, rfl, ?_⟩
      refine AMet.go (L := [some (vR 0), some (vI a), some (vI b), none]) mok_X7_hive (Nat.le_of_ble_eq_true rfl) rfl ?_
      refine aw_aload_n dX7_hive_0 rfl ?_
      refine aw_iload_n dX7_hive_1 rfl ?_
      refine c_X7_274 rfl dX7_hive_2 m_ob (Nat.le_of_ble_eq_true rfl) (by omega) (C_m_isHive (fun hh => ?_) (fun hh => ?_))
      · first
          | (exfalso; omega)
          | skip
            refine aK_i ?_
            refine aw_ifeq (tgt := 18) dX7_hive_5 (by decide) (fun h => absurd h (by decide)) (fun _ => ?_)
            refine aw_iload_n dX7_hive_8 rfl ?_
            refine aw_iflt (tgt := 18) dX7_hive_9 (by decide) (fun h9 => ?_) (fun h9 => ?_)
            · first
                | (exfalso; omega)
                | skip
                  refine aw_aload_n dX7_hive_18 rfl ?_
                  refine aw_iconst dX7_hive_19 (by decide) ?_
                  refine c_X7_72 rfl dX7_hive_20 m_ob (Nat.le_of_ble_eq_true rfl) (by omega) (C_m_refuse ?_)
                  refine aK_i ?_
                  refine aw_ireturn dX7_hive_23 rfl ?_
                  first
                    | (exfalso; omega)
                    | (refine XR.sameE h ?_ ?_ ?_ ?_ ?_ ?_
                       · first
                           | rfl
                           | (subst hsw; rfl)
                           | omega
                       · repeat (first | exact xs.rf | refine xs.up ?_ (by decide))
                       · repeat (first | exact mss.rf | refine mss.up0 ?_ (by decide))
                       · first
                           | (simp [aup, hv2, hv3, hv4]; done)
                           | (simp [aup, hv2, hv3, hv4]; omega)
                           | (rw [aup_s, aup_s, hu]; split <;> omega)
                       · simp [aup, hv2, hv3, hv4]
                       · simp [aup, hv2, hv3, hv4])
            · first
                | (exfalso; omega)
                | skip
                  refine aw_iload_n dX7_hive_12 rfl ?_
                  refine aw_bipush dX7_hive_13 (by decide) ?_
                  refine aw_icmple (tgt := 24) dX7_hive_15 (by decide) (fun h15 => ?_) (fun h15 => ?_)
                  · first
                      | (exfalso; omega)
                      | skip
                        refine aw_iload_n dX7_hive_24 rfl ?_
                        refine c_X7_217 rfl dX7_hive_25  (Nat.le_of_ble_eq_true rfl) (by omega) (C_m_hiveRow (by omega) ?_)
                        refine aK_i ?_
                        refine aw_istore3 dX7_hive_28 (by decide) rfl ?_
                        refine aw_iload_n dX7_hive_29 rfl ?_
                        have hsw : b = 0 ∨ b = 1 ∨ b = 2 ∨ b = 3 ∨ b = 4 ∨ b = 5 ∨ b = 6 ∨ (b < 0 ∨ 6 < b) := by omega
                        rcases hsw with hsw | hsw | hsw | hsw | hsw | hsw | hsw | hsw
                        · first
                            | (exfalso; omega)
                            | skip
                              refine aw_tabIn (tgt := 72) dX7_hive_30 (by omega) (by omega) (off := 42) (by rw [hsw]; rfl) (by decide) ?_
                              refine aw_aload_n dX7_hive_72 rfl ?_
                              refine gm_7 rfl dX7_hive_73 dX7_hive_74 rfl ?_
                              refine aw_iload_n dX7_hive_77 rfl ?_
                              refine aw_iaload dX7_hive_78 m_a1 (by omega) (by omega) ?_
                              refine c_X7_76 rfl dX7_hive_79 m_ob (Nat.le_of_ble_eq_true rfl) (by omega) (C_m_gives ?_)
                              refine aK_i ?_
                              refine aw_ireturn dX7_hive_82 rfl ?_
                              first
                                | (exfalso; omega)
                                | (refine XR.sameE h ?_ ?_ ?_ ?_ ?_ ?_
                                   · first
                                       | rfl
                                       | (subst hsw; rfl)
                                       | omega
                                   · repeat (first | exact xs.rf | refine xs.up ?_ (by decide))
                                   · repeat (first | exact mss.rf | refine mss.up0 ?_ (by decide))
                                   · first
                                       | (simp [aup, hv2, hv3, hv4]; done)
                                       | (simp [aup, hv2, hv3, hv4]; omega)
                                       | (rw [aup_s, aup_s, hu]; split <;> omega)
                                   · simp [aup, hv2, hv3, hv4]
                                   · simp [aup, hv2, hv3, hv4])
                        · first
                            | (exfalso; omega)
                            | skip
                              refine aw_tabIn (tgt := 83) dX7_hive_30 (by omega) (by omega) (off := 53) (by rw [hsw]; rfl) (by decide) ?_
                              refine aw_aload_n dX7_hive_83 rfl ?_
                              refine gm_7 rfl dX7_hive_84 dX7_hive_85 rfl ?_
                              refine aw_iload_n dX7_hive_88 rfl ?_
                              refine aw_iconst dX7_hive_89 (by decide) ?_
                              refine aw_iaddr dX7_hive_90 (by omega) ?_
                              refine aw_iaload dX7_hive_91 m_a1 (by omega) (by omega) ?_
                              refine c_X7_76 rfl dX7_hive_92 m_ob (Nat.le_of_ble_eq_true rfl) (by omega) (C_m_gives ?_)
                              refine aK_i ?_
                              refine aw_ireturn dX7_hive_95 rfl ?_
                              first
                                | (exfalso; omega)
                                | (refine XR.sameE h ?_ ?_ ?_ ?_ ?_ ?_
                                   · first
                                       | rfl
                                       | (subst hsw; rfl)
                                       | omega
                                   · repeat (first | exact xs.rf | refine xs.up ?_ (by decide))
                                   · repeat (first | exact mss.rf | refine mss.up0 ?_ (by decide))
                                   · first
                                       | (simp [aup, hv2, hv3, hv4]; done)
                                       | (simp [aup, hv2, hv3, hv4]; omega)
                                       | (rw [aup_s, aup_s, hu]; split <;> omega)
                                   · simp [aup, hv2, hv3, hv4]
                                   · simp [aup, hv2, hv3, hv4])
                        · first
                            | (exfalso; omega)
                            | skip
                              refine aw_tabIn (tgt := 122) dX7_hive_30 (by omega) (by omega) (off := 92) (by rw [hsw]; rfl) (by decide) ?_
                              refine aw_aload_n dX7_hive_122 rfl ?_
                              refine aw_aload_n dX7_hive_123 rfl ?_
                              refine aw_iload_n dX7_hive_124 rfl ?_
                              refine aw_iload_n dX7_hive_125 rfl ?_
                              refine aw_iconst dX7_hive_126 (by decide) ?_
                              refine aw_isubr dX7_hive_127 (by omega) ?_
                              refine c_X7_283 rfl dX7_hive_128 m_ob (Nat.le_of_ble_eq_true rfl) (by omega) (C_m_sumOf rfl gh.1 (by omega) gh.2.1 ?_)
                              refine aK_i ?_
                              refine c_X7_76 rfl dX7_hive_131 m_ob (Nat.le_of_ble_eq_true rfl) (by omega) (C_m_gives ?_)
                              refine aK_i ?_
                              refine aw_ireturn dX7_hive_134 rfl ?_
                              first
                                | (exfalso; omega)
                                | (refine XR.sameE h ?_ ?_ ?_ ?_ ?_ ?_
                                   · first
                                       | rfl
                                       | (subst hsw; rfl)
                                       | omega
                                   · repeat (first | exact xs.rf | refine xs.up ?_ (by decide))
                                   · repeat (first | exact mss.rf | refine mss.up0 ?_ (by decide))
                                   · first
                                       | (simp [aup, hv2, hv3, hv4]; done)
                                       | (simp [aup, hv2, hv3, hv4]; omega)
                                       | (rw [aup_s, aup_s, hu]; split <;> omega)
                                   · simp [aup, hv2, hv3, hv4]
                                   · simp [aup, hv2, hv3, hv4])
                        · first
                            | (exfalso; omega)
                            | skip
                              refine aw_tabIn (tgt := 122) dX7_hive_30 (by omega) (by omega) (off := 92) (by rw [hsw]; rfl) (by decide) ?_
                              refine aw_aload_n dX7_hive_122 rfl ?_
                              refine aw_aload_n dX7_hive_123 rfl ?_
                              refine aw_iload_n dX7_hive_124 rfl ?_
                              refine aw_iload_n dX7_hive_125 rfl ?_
                              refine aw_iconst dX7_hive_126 (by decide) ?_
                              refine aw_isubr dX7_hive_127 (by omega) ?_
                              refine c_X7_283 rfl dX7_hive_128 m_ob (Nat.le_of_ble_eq_true rfl) (by omega) (C_m_sumOf rfl gh.1 (by omega) gh.2.1 ?_)
                              refine aK_i ?_
                              refine c_X7_76 rfl dX7_hive_131 m_ob (Nat.le_of_ble_eq_true rfl) (by omega) (C_m_gives ?_)
                              refine aK_i ?_
                              refine aw_ireturn dX7_hive_134 rfl ?_
                              first
                                | (exfalso; omega)
                                | (refine XR.sameE h ?_ ?_ ?_ ?_ ?_ ?_
                                   · first
                                       | rfl
                                       | (subst hsw; rfl)
                                       | omega
                                   · repeat (first | exact xs.rf | refine xs.up ?_ (by decide))
                                   · repeat (first | exact mss.rf | refine mss.up0 ?_ (by decide))
                                   · first
                                       | (simp [aup, hv2, hv3, hv4]; done)
                                       | (simp [aup, hv2, hv3, hv4]; omega)
                                       | (rw [aup_s, aup_s, hu]; split <;> omega)
                                   · simp [aup, hv2, hv3, hv4]
                                   · simp [aup, hv2, hv3, hv4])
                        · first
                            | (exfalso; omega)
                            | skip
                              refine aw_tabIn (tgt := 122) dX7_hive_30 (by omega) (by omega) (off := 92) (by rw [hsw]; rfl) (by decide) ?_
                              refine aw_aload_n dX7_hive_122 rfl ?_
                              refine aw_aload_n dX7_hive_123 rfl ?_
                              refine aw_iload_n dX7_hive_124 rfl ?_
                              refine aw_iload_n dX7_hive_125 rfl ?_
                              refine aw_iconst dX7_hive_126 (by decide) ?_
                              refine aw_isubr dX7_hive_127 (by omega) ?_
                              refine c_X7_283 rfl dX7_hive_128 m_ob (Nat.le_of_ble_eq_true rfl) (by omega) (C_m_sumOf rfl gh.1 (by omega) gh.2.1 ?_)
                              refine aK_i ?_
                              refine c_X7_76 rfl dX7_hive_131 m_ob (Nat.le_of_ble_eq_true rfl) (by omega) (C_m_gives ?_)
                              refine aK_i ?_
                              refine aw_ireturn dX7_hive_134 rfl ?_
                              first
                                | (exfalso; omega)
                                | (refine XR.sameE h ?_ ?_ ?_ ?_ ?_ ?_
                                   · first
                                       | rfl
                                       | (subst hsw; rfl)
                                       | omega
                                   · repeat (first | exact xs.rf | refine xs.up ?_ (by decide))
                                   · repeat (first | exact mss.rf | refine mss.up0 ?_ (by decide))
                                   · first
                                       | (simp [aup, hv2, hv3, hv4]; done)
                                       | (simp [aup, hv2, hv3, hv4]; omega)
                                       | (rw [aup_s, aup_s, hu]; split <;> omega)
                                   · simp [aup, hv2, hv3, hv4]
                                   · simp [aup, hv2, hv3, hv4])
                        · first
                            | (exfalso; omega)
                            | skip
                              refine aw_tabIn (tgt := 96) dX7_hive_30 (by omega) (by omega) (off := 66) (by rw [hsw]; rfl) (by decide) ?_
                              refine aw_aload_n dX7_hive_96 rfl ?_
                              refine gm_7 rfl dX7_hive_97 dX7_hive_98 rfl ?_
                              refine aw_iload_n dX7_hive_101 rfl ?_
                              refine aw_iconst dX7_hive_102 (by decide) ?_
                              refine aw_iaddr dX7_hive_103 (by omega) ?_
                              refine aw_iaload dX7_hive_104 m_a1 (by omega) (by omega) ?_
                              refine c_X7_76 rfl dX7_hive_105 m_ob (Nat.le_of_ble_eq_true rfl) (by omega) (C_m_gives ?_)
                              refine aK_i ?_
                              refine aw_ireturn dX7_hive_108 rfl ?_
                              first
                                | (exfalso; omega)
                                | (refine XR.sameE h ?_ ?_ ?_ ?_ ?_ ?_
                                   · first
                                       | rfl
                                       | (subst hsw; rfl)
                                       | omega
                                   · repeat (first | exact xs.rf | refine xs.up ?_ (by decide))
                                   · repeat (first | exact mss.rf | refine mss.up0 ?_ (by decide))
                                   · first
                                       | (simp [aup, hv2, hv3, hv4]; done)
                                       | (simp [aup, hv2, hv3, hv4]; omega)
                                       | (rw [aup_s, aup_s, hu]; split <;> omega)
                                   · simp [aup, hv2, hv3, hv4]
                                   · simp [aup, hv2, hv3, hv4])
                        · first
                            | (exfalso; omega)
                            | skip
                              refine aw_tabIn (tgt := 109) dX7_hive_30 (by omega) (by omega) (off := 79) (by rw [hsw]; rfl) (by decide) ?_
                              refine aw_aload_n dX7_hive_109 rfl ?_
                              refine gm_7 rfl dX7_hive_110 dX7_hive_111 rfl ?_
                              refine aw_iload_n dX7_hive_114 rfl ?_
                              refine aw_iconst dX7_hive_115 (by decide) ?_
                              refine aw_iaddr dX7_hive_116 (by omega) ?_
                              refine aw_iaload dX7_hive_117 m_a1 (by omega) (by omega) ?_
                              refine c_X7_280 rfl dX7_hive_118 m_ob (Nat.le_of_ble_eq_true rfl) (by omega) (C_m_orNone (fun hz => ?_) (fun hz => ?_))
                              · first
                                  | (exfalso; omega)
                                  | skip
                                    refine aK_i ?_
                                    refine aw_ireturn dX7_hive_121 rfl ?_
                                    first
                                      | (exfalso; omega)
                                      | (refine XR.sameE h ?_ ?_ ?_ ?_ ?_ ?_
                                         · first
                                             | rfl
                                             | (subst hsw; rfl)
                                             | omega
                                         · repeat (first | exact xs.rf | refine xs.up ?_ (by decide))
                                         · repeat (first | exact mss.rf | refine mss.up0 ?_ (by decide))
                                         · first
                                             | (simp [aup, hv2, hv3, hv4]; done)
                                             | (simp [aup, hv2, hv3, hv4]; omega)
                                             | (rw [aup_s, aup_s, hu]; split <;> omega)
                                         · simp [aup, hv2, hv3, hv4]
                                         · simp [aup, hv2, hv3, hv4])
                              · first
                                  | (exfalso; omega)
                                  | skip
                                    refine aK_i ?_
                                    refine aw_ireturn dX7_hive_121 rfl ?_
                                    first
                                      | (exfalso; omega)
                                      | (refine XR.sameE h ?_ ?_ ?_ ?_ ?_ ?_
                                         · first
                                             | rfl
                                             | (subst hsw; rfl)
                                             | omega
                                         · repeat (first | exact xs.rf | refine xs.up ?_ (by decide))
                                         · repeat (first | exact mss.rf | refine mss.up0 ?_ (by decide))
                                         · first
                                             | (simp [aup, hv2, hv3, hv4]; done)
                                             | (simp [aup, hv2, hv3, hv4]; omega)
                                             | (rw [aup_s, aup_s, hu]; split <;> omega)
                                         · simp [aup, hv2, hv3, hv4]
                                         · simp [aup, hv2, hv3, hv4])
                        · first
                            | (exfalso; omega)
                            | skip
                              refine aw_tabOut (tgt := 122) dX7_hive_30 (by omega) (by decide) ?_
                              refine aw_aload_n dX7_hive_122 rfl ?_
                              refine aw_aload_n dX7_hive_123 rfl ?_
                              refine aw_iload_n dX7_hive_124 rfl ?_
                              refine aw_iload_n dX7_hive_125 rfl ?_
                              refine aw_iconst dX7_hive_126 (by decide) ?_
                              refine aw_isubr dX7_hive_127 (by omega) ?_
                              refine c_X7_283 rfl dX7_hive_128 m_ob (Nat.le_of_ble_eq_true rfl) (by omega) (C_m_sumOf rfl gh.1 (by omega) gh.2.1 ?_)
                              refine aK_i ?_
                              refine c_X7_76 rfl dX7_hive_131 m_ob (Nat.le_of_ble_eq_true rfl) (by omega) (C_m_gives ?_)
                              refine aK_i ?_
                              refine aw_ireturn dX7_hive_134 rfl ?_
                              first
                                | (exfalso; omega)
                                | (refine XR.sameE h ?_ ?_ ?_ ?_ ?_ ?_
                                   · first
                                       | rfl
                                       | (subst hsw; rfl)
                                       | omega
                                   · repeat (first | exact xs.rf | refine xs.up ?_ (by decide))
                                   · repeat (first | exact mss.rf | refine mss.up0 ?_ (by decide))
                                   · first
                                       | (simp [aup, hv2, hv3, hv4]; done)
                                       | (simp [aup, hv2, hv3, hv4]; omega)
                                       | (rw [aup_s, aup_s, hu]; split <;> omega)
                                   · simp [aup, hv2, hv3, hv4]
                                   · simp [aup, hv2, hv3, hv4])
                  · first
                      | (exfalso; omega)
                      | skip
                        refine aw_aload_n dX7_hive_18 rfl ?_
                        refine aw_iconst dX7_hive_19 (by decide) ?_
                        refine c_X7_72 rfl dX7_hive_20 m_ob (Nat.le_of_ble_eq_true rfl) (by omega) (C_m_refuse ?_)
                        refine aK_i ?_
                        refine aw_ireturn dX7_hive_23 rfl ?_
                        first
                          | (exfalso; omega)
                          | (refine XR.sameE h ?_ ?_ ?_ ?_ ?_ ?_
                             · first
                                 | rfl
                                 | (subst hsw; rfl)
                                 | omega
                             · repeat (first | exact xs.rf | refine xs.up ?_ (by decide))
                             · repeat (first | exact mss.rf | refine mss.up0 ?_ (by decide))
                             · first
                                 | (simp [aup, hv2, hv3, hv4]; done)
                                 | (simp [aup, hv2, hv3, hv4]; omega)
                                 | (rw [aup_s, aup_s, hu]; split <;> omega)
                             · simp [aup, hv2, hv3, hv4]
                             · simp [aup, hv2, hv3, hv4])
      · first
          | (exfalso; omega)
          | skip
            refine aK_i ?_
            refine aw_ifeq (tgt := 18) dX7_hive_5 (by decide) (fun _ => ?_) (fun h => absurd h (by decide))
            refine aw_aload_n dX7_hive_18 rfl ?_
            refine aw_iconst dX7_hive_19 (by decide) ?_
            refine c_X7_72 rfl dX7_hive_20 m_ob (Nat.le_of_ble_eq_true rfl) (by omega) (C_m_refuse ?_)
            refine aK_i ?_
            refine aw_ireturn dX7_hive_23 rfl ?_
            first
              | (exfalso; omega)
              | (refine XR.sameE h ?_ ?_ ?_ ?_ ?_ ?_
                 · first
                     | rfl
                     | (subst hsw; rfl)
                     | omega
                 · repeat (first | exact xs.rf | refine xs.up ?_ (by decide))
                 · repeat (first | exact mss.rf | refine mss.up0 ?_ (by decide))
                 · first
                     | (simp [aup, hv2, hv3, hv4]; done)
                     | (simp [aup, hv2, hv3, hv4]; omega)
                     | (rw [aup_s, aup_s, hu]; split <;> omega)
                 · simp [aup, hv2, hv3, hv4]
                 · simp [aup, hv2, hv3, hv4])
  · refine aK_i ?_
    refine aw_ifeq (tgt := 25) dX0_hive_6 (by decide) (fun _ => ?_) (fun h => absurd h (by decide))
    refine aw_iconst dX0_hive_25 (by decide) ?_
    refine p_X0_73_0 rfl dX0_hive_26 hR.o0 ?_
    refine aw_aload_n dX0_hive_29 rfl ?_
    refine g_X0_73_0 rfl dX0_hive_30 hR.o0 ?_
    repeat (first | rw [aup_s] | rw [aup_n (by omega)])
    refine aw_ifle (tgt := 38) dX0_hive_33 (by decide) (fun h => absurd h (by decide)) (fun _ => ?_)
    refine aw_iconst dX0_hive_36 (by decide) ?_
    refine aw_ireturn dX0_hive_37 rfl ?_
    refine ⟨_, rfl, ?_⟩
    refine AMet.go (L := [some (vR 0), some (vI a), some (vI b), none]) mok_X7_hive (Nat.le_of_ble_eq_true rfl) rfl ?_
    refine aw_aload_n dX7_hive_0 rfl ?_
    refine aw_iload_n dX7_hive_1 rfl ?_
    refine c_X7_274 rfl dX7_hive_2 m_ob (Nat.le_of_ble_eq_true rfl) (by omega) (C_m_isHive (fun hh => ?_) (fun hh => ?_))
    · first
        | (exfalso; omega)
        | skip
          refine aK_i ?_
          refine aw_ifeq (tgt := 18) dX7_hive_5 (by decide) (fun h => absurd h (by decide)) (fun _ => ?_)
          refine aw_iload_n dX7_hive_8 rfl ?_
          refine aw_iflt (tgt := 18) dX7_hive_9 (by decide) (fun h9 => ?_) (fun h9 => ?_)
          · first
              | (exfalso; omega)
              | skip
                refine aw_aload_n dX7_hive_18 rfl ?_
                refine aw_iconst dX7_hive_19 (by decide) ?_
                refine c_X7_72 rfl dX7_hive_20 m_ob (Nat.le_of_ble_eq_true rfl) (by omega) (C_m_refuse ?_)
                refine aK_i ?_
                refine aw_ireturn dX7_hive_23 rfl ?_
                first
                  | (exfalso; omega)
                  | (refine XR.sameE h ?_ ?_ ?_ ?_ ?_ ?_
                     · first
                         | rfl
                         | (subst hsw; rfl)
                         | omega
                     · repeat (first | exact xs.rf | refine xs.up ?_ (by decide))
                     · repeat (first | exact mss.rf | refine mss.up0 ?_ (by decide))
                     · first
                         | (simp [aup, hv2, hv3, hv4]; done)
                         | (simp [aup, hv2, hv3, hv4]; omega)
                         | (rw [aup_s, aup_s, hu]; split <;> omega)
                     · simp [aup, hv2, hv3, hv4]
                     · simp [aup, hv2, hv3, hv4])
          · first
              | (exfalso; omega)
              | skip
                refine aw_iload_n dX7_hive_12 rfl ?_
                refine aw_bipush dX7_hive_13 (by decide) ?_
                refine aw_icmple (tgt := 24) dX7_hive_15 (by decide) (fun h15 => ?_) (fun h15 => ?_)
                · first
                    | (exfalso; omega)
                    | skip
                      refine aw_iload_n dX7_hive_24 rfl ?_
                      refine c_X7_217 rfl dX7_hive_25  (Nat.le_of_ble_eq_true rfl) (by omega) (C_m_hiveRow (by omega) ?_)
                      refine aK_i ?_
                      refine aw_istore3 dX7_hive_28 (by decide) rfl ?_
                      refine aw_iload_n dX7_hive_29 rfl ?_
                      have hsw : b = 0 ∨ b = 1 ∨ b = 2 ∨ b = 3 ∨ b = 4 ∨ b = 5 ∨ b = 6 ∨ (b < 0 ∨ 6 < b) := by omega
                      rcases hsw with hsw | hsw | hsw | hsw | hsw | hsw | hsw | hsw
                      · first
                          | (exfalso; omega)
                          | skip
                            refine aw_tabIn (tgt := 72) dX7_hive_30 (by omega) (by omega) (off := 42) (by rw [hsw]; rfl) (by decide) ?_
                            refine aw_aload_n dX7_hive_72 rfl ?_
                            refine gm_7 rfl dX7_hive_73 dX7_hive_74 rfl ?_
                            refine aw_iload_n dX7_hive_77 rfl ?_
                            refine aw_iaload dX7_hive_78 m_a1 (by omega) (by omega) ?_
                            refine c_X7_76 rfl dX7_hive_79 m_ob (Nat.le_of_ble_eq_true rfl) (by omega) (C_m_gives ?_)
                            refine aK_i ?_
                            refine aw_ireturn dX7_hive_82 rfl ?_
                            first
                              | (exfalso; omega)
                              | (refine XR.sameE h ?_ ?_ ?_ ?_ ?_ ?_
                                 · first
                                     | rfl
                                     | (subst hsw; rfl)
                                     | omega
                                 · repeat (first | exact xs.rf | refine xs.up ?_ (by decide))
                                 · repeat (first | exact mss.rf | refine mss.up0 ?_ (by decide))
                                 · first
                                     | (simp [aup, hv2, hv3, hv4]; done)
                                     | (simp [aup, hv2, hv3, hv4]; omega)
                                     | (rw [aup_s, aup_s, hu]; split <;> omega)
                                 · simp [aup, hv2, hv3, hv4]
                                 · simp [aup, hv2, hv3, hv4])
                      · first
                          | (exfalso; omega)
                          | skip
                            refine aw_tabIn (tgt := 83) dX7_hive_30 (by omega) (by omega) (off := 53) (by rw [hsw]; rfl) (by decide) ?_
                            refine aw_aload_n dX7_hive_83 rfl ?_
                            refine gm_7 rfl dX7_hive_84 dX7_hive_85 rfl ?_
                            refine aw_iload_n dX7_hive_88 rfl ?_
                            refine aw_iconst dX7_hive_89 (by decide) ?_
                            refine aw_iaddr dX7_hive_90 (by omega) ?_
                            refine aw_iaload dX7_hive_91 m_a1 (by omega) (by omega) ?_
                            refine c_X7_76 rfl dX7_hive_92 m_ob (Nat.le_of_ble_eq_true rfl) (by omega) (C_m_gives ?_)
                            refine aK_i ?_
                            refine aw_ireturn dX7_hive_95 rfl ?_
                            first
                              | (exfalso; omega)
                              | (refine XR.sameE h ?_ ?_ ?_ ?_ ?_ ?_
                                 · first
                                     | rfl
                                     | (subst hsw; rfl)
                                     | omega
                                 · repeat (first | exact xs.rf | refine xs.up ?_ (by decide))
                                 · repeat (first | exact mss.rf | refine mss.up0 ?_ (by decide))
                                 · first
                                     | (simp [aup, hv2, hv3, hv4]; done)
                                     | (simp [aup, hv2, hv3, hv4]; omega)
                                     | (rw [aup_s, aup_s, hu]; split <;> omega)
                                 · simp [aup, hv2, hv3, hv4]
                                 · simp [aup, hv2, hv3, hv4])
                      · first
                          | (exfalso; omega)
                          | skip
                            refine aw_tabIn (tgt := 122) dX7_hive_30 (by omega) (by omega) (off := 92) (by rw [hsw]; rfl) (by decide) ?_
                            refine aw_aload_n dX7_hive_122 rfl ?_
                            refine aw_aload_n dX7_hive_123 rfl ?_
                            refine aw_iload_n dX7_hive_124 rfl ?_
                            refine aw_iload_n dX7_hive_125 rfl ?_
                            refine aw_iconst dX7_hive_126 (by decide) ?_
                            refine aw_isubr dX7_hive_127 (by omega) ?_
                            refine c_X7_283 rfl dX7_hive_128 m_ob (Nat.le_of_ble_eq_true rfl) (by omega) (C_m_sumOf rfl gh.1 (by omega) gh.2.1 ?_)
                            refine aK_i ?_
                            refine c_X7_76 rfl dX7_hive_131 m_ob (Nat.le_of_ble_eq_true rfl) (by omega) (C_m_gives ?_)
                            refine aK_i ?_
                            refine aw_ireturn dX7_hive_134 rfl ?_
                            first
                              | (exfalso; omega)
                              | (refine XR.sameE h ?_ ?_ ?_ ?_ ?_ ?_
                                 · first
                                     | rfl
                                     | (subst hsw; rfl)
                                     | omega
                                 · repeat (first | exact xs.rf | refine xs.up ?_ (by decide))
                                 · repeat (first | exact mss.rf | refine mss.up0 ?_ (by decide))
                                 · first
                                     | (simp [aup, hv2, hv3, hv4]; done)
                                     | (simp [aup, hv2, hv3, hv4]; omega)
                                     | (rw [aup_s, aup_s, hu]; split <;> omega)
                                 · simp [aup, hv2, hv3, hv4]
                                 · simp [aup, hv2, hv3, hv4])
                      · first
                          | (exfalso; omega)
                          | skip
                            refine aw_tabIn (tgt := 122) dX7_hive_30 (by omega) (by omega) (off := 92) (by rw [hsw]; rfl) (by decide) ?_
                            refine aw_aload_n dX7_hive_122 rfl ?_
                            refine aw_aload_n dX7_hive_123 rfl ?_
                            refine aw_iload_n dX7_hive_124 rfl ?_
                            refine aw_iload_n dX7_hive_125 rfl ?_
                            refine aw_iconst dX7_hive_126 (by decide) ?_
                            refine aw_isubr dX7_hive_127 (by omega) ?_
                            refine c_X7_283 rfl dX7_hive_128 m_ob (Nat.le_of_ble_eq_true rfl) (by omega) (C_m_sumOf rfl gh.1 (by omega) gh.2.1 ?_)
                            refine aK_i ?_
                            refine c_X7_76 rfl dX7_hive_131 m_ob (Nat.le_of_ble_eq_true rfl) (by omega) (C_m_gives ?_)
                            refine aK_i ?_
                            refine aw_ireturn dX7_hive_134 rfl ?_
                            first
                              | (exfalso; omega)
                              | (refine XR.sameE h ?_ ?_ ?_ ?_ ?_ ?_
                                 · first
                                     | rfl
                                     | (subst hsw; rfl)
                                     | omega
                                 · repeat (first | exact xs.rf | refine xs.up ?_ (by decide))
                                 · repeat (first | exact mss.rf | refine mss.up0 ?_ (by decide))
                                 · first
                                     | (simp [aup, hv2, hv3, hv4]; done)
                                     | (simp [aup, hv2, hv3, hv4]; omega)
                                     | (rw [aup_s, aup_s, hu]; split <;> omega)
                                 · simp [aup, hv2, hv3, hv4]
                                 · simp [aup, hv2, hv3, hv4])
                      · first
                          | (exfalso; omega)
                          | skip
                            refine aw_tabIn (tgt := 122) dX7_hive_30 (by omega) (by omega) (off := 92) (by rw [hsw]; rfl) (by decide) ?_
                            refine aw_aload_n dX7_hive_122 rfl ?_
                            refine aw_aload_n dX7_hive_123 rfl ?_
                            refine aw_iload_n dX7_hive_124 rfl ?_
                            refine aw_iload_n dX7_hive_125 rfl ?_
                            refine aw_iconst dX7_hive_126 (by decide) ?_
                            refine aw_isubr dX7_hive_127 (by omega) ?_
                            refine c_X7_283 rfl dX7_hive_128 m_ob (Nat.le_of_ble_eq_true rfl) (by omega) (C_m_sumOf rfl gh.1 (by omega) gh.2.1 ?_)
                            refine aK_i ?_
                            refine c_X7_76 rfl dX7_hive_131 m_ob (Nat.le_of_ble_eq_true rfl) (by omega) (C_m_gives ?_)
                            refine aK_i ?_
                            refine aw_ireturn dX7_hive_134 rfl ?_
                            first
                              | (exfalso; omega)
                              | (refine XR.sameE h ?_ ?_ ?_ ?_ ?_ ?_
                                 · first
                                     | rfl
                                     | (subst hsw; rfl)
                                     | omega
                                 · repeat (first | exact xs.rf | refine xs.up ?_ (by decide))
                                 · repeat (first | exact mss.rf | refine mss.up0 ?_ (by decide))
                                 · first
                                     | (simp [aup, hv2, hv3, hv4]; done)
                                     | (simp [aup, hv2, hv3, hv4]; omega)
                                     | (rw [aup_s, aup_s, hu]; split <;> omega)
                                 · simp [aup, hv2, hv3, hv4]
                                 · simp [aup, hv2, hv3, hv4])
                      · first
                          | (exfalso; omega)
                          | skip
                            refine aw_tabIn (tgt := 96) dX7_hive_30 (by omega) (by omega) (off := 66) (by rw [hsw]; rfl) (by decide) ?_
                            refine aw_aload_n dX7_hive_96 rfl ?_
                            refine gm_7 rfl dX7_hive_97 dX7_hive_98 rfl ?_
                            refine aw_iload_n dX7_hive_101 rfl ?_
                            refine aw_iconst dX7_hive_102 (by decide) ?_
                            refine aw_iaddr dX7_hive_103 (by omega) ?_
                            refine aw_iaload dX7_hive_104 m_a1 (by omega) (by omega) ?_
                            refine c_X7_76 rfl dX7_hive_105 m_ob (Nat.le_of_ble_eq_true rfl) (by omega) (C_m_gives ?_)
                            refine aK_i ?_
                            refine aw_ireturn dX7_hive_108 rfl ?_
                            first
                              | (exfalso; omega)
                              | (refine XR.sameE h ?_ ?_ ?_ ?_ ?_ ?_
                                 · first
                                     | rfl
                                     | (subst hsw; rfl)
                                     | omega
                                 · repeat (first | exact xs.rf | refine xs.up ?_ (by decide))
                                 · repeat (first | exact mss.rf | refine mss.up0 ?_ (by decide))
                                 · first
                                     | (simp [aup, hv2, hv3, hv4]; done)
                                     | (simp [aup, hv2, hv3, hv4]; omega)
                                     | (rw [aup_s, aup_s, hu]; split <;> omega)
                                 · simp [aup, hv2, hv3, hv4]
                                 · simp [aup, hv2, hv3, hv4])
                      · first
                          | (exfalso; omega)
                          | skip
                            refine aw_tabIn (tgt := 109) dX7_hive_30 (by omega) (by omega) (off := 79) (by rw [hsw]; rfl) (by decide) ?_
                            refine aw_aload_n dX7_hive_109 rfl ?_
                            refine gm_7 rfl dX7_hive_110 dX7_hive_111 rfl ?_
                            refine aw_iload_n dX7_hive_114 rfl ?_
                            refine aw_iconst dX7_hive_115 (by decide) ?_
                            refine aw_iaddr dX7_hive_116 (by omega) ?_
                            refine aw_iaload dX7_hive_117 m_a1 (by omega) (by omega) ?_
                            refine c_X7_280 rfl dX7_hive_118 m_ob (Nat.le_of_ble_eq_true rfl) (by omega) (C_m_orNone (fun hz => ?_) (fun hz => ?_))
                            · first
                                | (exfalso; omega)
                                | skip
                                  refine aK_i ?_
                                  refine aw_ireturn dX7_hive_121 rfl ?_
                                  first
                                    | (exfalso; omega)
                                    | (refine XR.sameE h ?_ ?_ ?_ ?_ ?_ ?_
                                       · first
                                           | rfl
                                           | (subst hsw; rfl)
                                           | omega
                                       · repeat (first | exact xs.rf | refine xs.up ?_ (by decide))
                                       · repeat (first | exact mss.rf | refine mss.up0 ?_ (by decide))
                                       · first
                                           | (simp [aup, hv2, hv3, hv4]; done)
                                           | (simp [aup, hv2, hv3, hv4]; omega)
                                           | (rw [aup_s, aup_s, hu]; split <;> omega)
                                       · simp [aup, hv2, hv3, hv4]
                                       · simp [aup, hv2, hv3, hv4])
                            · first
                                | (exfalso; omega)
                                | skip
                                  refine aK_i ?_
                                  refine aw_ireturn dX7_hive_121 rfl ?_
                                  first
                                    | (exfalso; omega)
                                    | (refine XR.sameE h ?_ ?_ ?_ ?_ ?_ ?_
                                       · first
                                           | rfl
                                           | (subst hsw; rfl)
                                           | omega
                                       · repeat (first | exact xs.rf | refine xs.up ?_ (by decide))
                                       · repeat (first | exact mss.rf | refine mss.up0 ?_ (by decide))
                                       · first
                                           | (simp [aup, hv2, hv3, hv4]; done)
                                           | (simp [aup, hv2, hv3, hv4]; omega)
                                           | (rw [aup_s, aup_s, hu]; split <;> omega)
                                       · simp [aup, hv2, hv3, hv4]
                                       · simp [aup, hv2, hv3, hv4])
                      · first
                          | (exfalso; omega)
                          | skip
                            refine aw_tabOut (tgt := 122) dX7_hive_30 (by omega) (by decide) ?_
                            refine aw_aload_n dX7_hive_122 rfl ?_
                            refine aw_aload_n dX7_hive_123 rfl ?_
                            refine aw_iload_n dX7_hive_124 rfl ?_
                            refine aw_iload_n dX7_hive_125 rfl ?_
                            refine aw_iconst dX7_hive_126 (by decide) ?_
                            refine aw_isubr dX7_hive_127 (by omega) ?_
                            refine c_X7_283 rfl dX7_hive_128 m_ob (Nat.le_of_ble_eq_true rfl) (by omega) (C_m_sumOf rfl gh.1 (by omega) gh.2.1 ?_)
                            refine aK_i ?_
                            refine c_X7_76 rfl dX7_hive_131 m_ob (Nat.le_of_ble_eq_true rfl) (by omega) (C_m_gives ?_)
                            refine aK_i ?_
                            refine aw_ireturn dX7_hive_134 rfl ?_
                            first
                              | (exfalso; omega)
                              | (refine XR.sameE h ?_ ?_ ?_ ?_ ?_ ?_
                                 · first
                                     | rfl
                                     | (subst hsw; rfl)
                                     | omega
                                 · repeat (first | exact xs.rf | refine xs.up ?_ (by decide))
                                 · repeat (first | exact mss.rf | refine mss.up0 ?_ (by decide))
                                 · first
                                     | (simp [aup, hv2, hv3, hv4]; done)
                                     | (simp [aup, hv2, hv3, hv4]; omega)
                                     | (rw [aup_s, aup_s, hu]; split <;> omega)
                                 · simp [aup, hv2, hv3, hv4]
                                 · simp [aup, hv2, hv3, hv4])
                · first
                    | (exfalso; omega)
                    | skip
                      refine aw_aload_n dX7_hive_18 rfl ?_
                      refine aw_iconst dX7_hive_19 (by decide) ?_
                      refine c_X7_72 rfl dX7_hive_20 m_ob (Nat.le_of_ble_eq_true rfl) (by omega) (C_m_refuse ?_)
                      refine aK_i ?_
                      refine aw_ireturn dX7_hive_23 rfl ?_
                      first
                        | (exfalso; omega)
                        | (refine XR.sameE h ?_ ?_ ?_ ?_ ?_ ?_
                           · first
                               | rfl
                               | (subst hsw; rfl)
                               | omega
                           · repeat (first | exact xs.rf | refine xs.up ?_ (by decide))
                           · repeat (first | exact mss.rf | refine mss.up0 ?_ (by decide))
                           · first
                               | (simp [aup, hv2, hv3, hv4]; done)
                               | (simp [aup, hv2, hv3, hv4]; omega)
                               | (rw [aup_s, aup_s, hu]; split <;> omega)
                           · simp [aup, hv2, hv3, hv4]
                           · simp [aup, hv2, hv3, hv4])
    · first
        | (exfalso; omega)
        | skip
          refine aK_i ?_
          refine aw_ifeq (tgt := 18) dX7_hive_5 (by decide) (fun _ => ?_) (fun h => absurd h (by decide))
          refine aw_aload_n dX7_hive_18 rfl ?_
          refine aw_iconst dX7_hive_19 (by decide) ?_
          refine c_X7_72 rfl dX7_hive_20 m_ob (Nat.le_of_ble_eq_true rfl) (by omega) (C_m_refuse ?_)
          refine aK_i ?_
          refine aw_ireturn dX7_hive_23 rfl ?_
          first
            | (exfalso; omega)
            | (refine XR.sameE h ?_ ?_ ?_ ?_ ?_ ?_
               · first
                   | rfl
                   | (subst hsw; rfl)
                   | omega
               · repeat (first | exact xs.rf | refine xs.up ?_ (by decide))
               · repeat (first | exact mss.rf | refine mss.up0 ?_ (by decide))
               · first
                   | (simp [aup, hv2, hv3, hv4]; done)
                   | (simp [aup, hv2, hv3, hv4]; omega)
                   | (rw [aup_s, aup_s, hu]; split <;> omega)
               · simp [aup, hv2, hv3, hv4]
               · simp [aup, hv2, hv3, hv4])
theorem OP_crowded {sz : Int} {im : Int → aIm} {ct cm : Int → Int → Int} (h : XR (sz, im, ct) cm) {a : Int} (r0 : -2147483648 ≤ a ∧ a < 2147483648)  : AMet md_X0_crowded 5 0 0 [vR 0, vI a] (sz, im, ct) (XQ md_X7_crowded 4 [vR 0, vI a] cm) := by
  obtain ⟨own, N, hR, HY, HL, HN, HS, HP, HF, HX, hv2, hv3, hv4⟩ := id h
  dsimp only at hR HY HL HS HX hv2 hv3 hv4
  have hp0 := HP.1
  have hp3 := HP.2.1
  have hpq := HP.2.2.2.1.1
  have hps := HP.2.2.2.2.2
  refine AMet.go (L := [some (vR 0), some (vI a)]) mok_X0_crowded (Nat.le_of_ble_eq_true rfl) rfl ?_
  refine aw_aload_n dX0_crowded_0 rfl ?_
  refine aw_aload_n dX0_crowded_1 rfl ?_
  refine aw_iload_n dX0_crowded_2 rfl ?_
  refine c_X0_168 rfl dX0_crowded_3 hR.o0 (Nat.le_of_ble_eq_true rfl) (by omega) (C_x_isHive hR HY (fun xh => ?_) (fun xh => ?_))
  · refine aK_i ?_
    refine aw_ifeq (tgt := 13) dX0_crowded_6 (by decide) (fun h => absurd h (by decide)) (fun _ => ?_)
    refine aw_iconst dX0_crowded_9 (by decide) ?_
    refine aw_goto (tgt := 14) dX0_crowded_10 (by decide) ?_
    refine p_X0_73_0 rfl dX0_crowded_14 hR.o0 ?_
    refine aw_aload_n dX0_crowded_17 rfl ?_
    refine g_X0_73_0 rfl dX0_crowded_18 hR.o0 ?_
    repeat (first | rw [aup_s] | rw [aup_n (by omega)])
    refine aw_ifle (tgt := 28) dX0_crowded_21 (by decide) (fun _ => ?_) (fun h => absurd h (by decide))
    obtain ⟨hv, ehv, ⟨g1, g2, ⟨g3, g4, g5, g6, g7⟩, g8, g9, -⟩, nhv0, nhv10, nhv9, nv0, nvhv, nv10, ohv⟩ := (HY.up0 (j := 7) (v := 0) hR.1.2 (by decide)).hv (hR.up0 (j := 7) (v := 0)) (k := a) (by omega) (by omega)
    have gn := g1.2.2.2
    have gh := HP.2.2.1 a (by omega) (by omega)
    have gq := gh.2.2.2.2.1
    have gp := HP.pd.2.1 a (by omega) (by omega)
    refine aw_aload_n dX0_crowded_28 rfl ?_
    refine aw_iload_n dX0_crowded_29 rfl ?_
    refine c_X0_172 rfl dX0_crowded_30 hR.o0 (Nat.le_of_ble_eq_true rfl) (by omega) (C_x_xat2 (a := hv) hR HY (by omega) (by repeat (first | exact ehv | rw [aup_rn nvhv] | rw [aup_rn nv10] | rw [aup_rn nv0])) ?_)
    refine aK_i ?_
    refine c_X0_363 rfl dX0_crowded_33 g1.1 (Nat.le_of_ble_eq_true rfl) (by omega) (C_x_isCrowded g1 g2 gh.2.1 (fun xc => ?_) (fun xc => ?_))
    · rw [g5, g3] at xc
      refine aK_i ?_
      refine aw_ifeq (tgt := 43) dX0_crowded_36 (by decide) (fun h => absurd h (by decide)) (fun _ => ?_)
      refine aw_iconst dX0_crowded_39 (by decide) ?_
      refine aw_goto (tgt := 44) dX0_crowded_40 (by decide) ?_
      refine aw_ireturn dX0_crowded_44 rfl ?_
      refine ⟨_, rfl, ?_⟩
      refine AMet.go (L := [some (vR 0), some (vI a)]) mok_X7_crowded (Nat.le_of_ble_eq_true rfl) rfl ?_
      refine aw_aload_n dX7_crowded_0 rfl ?_
      refine aw_iload_n dX7_crowded_1 rfl ?_
      refine c_X7_274 rfl dX7_crowded_2 m_ob (Nat.le_of_ble_eq_true rfl) (by omega) (C_m_isHive (fun hh => ?_) (fun hh => ?_))
      · first
          | (exfalso; omega)
          | skip
            refine aK_i ?_
            refine aw_ifeq (tgt := 28) dX7_crowded_5 (by decide) (fun h => absurd h (by decide)) (fun _ => ?_)
            refine aw_aload_n dX7_crowded_8 rfl ?_
            refine aw_aload_n dX7_crowded_9 rfl ?_
            refine aw_iload_n dX7_crowded_10 rfl ?_
            refine c_X7_334 rfl dX7_crowded_11 m_ob (Nat.le_of_ble_eq_true rfl) (by omega) (C_m_isCrowded (by omega) gh.1 gh.2.1 (fun mc => ?_) (fun mc => ?_))
            · first
                | (exfalso; omega)
                | skip
                  unfold crw at mc
                  refine aK_i ?_
                  refine aw_ifeq (tgt := 21) dX7_crowded_14 (by decide) (fun h => absurd h (by decide)) (fun _ => ?_)
                  refine aw_iconst dX7_crowded_17 (by decide) ?_
                  refine aw_goto (tgt := 22) dX7_crowded_18 (by decide) ?_
                  refine c_X7_76 rfl dX7_crowded_22 m_ob (Nat.le_of_ble_eq_true rfl) (by omega) (C_m_gives ?_)
                  refine aK_i ?_
                  refine aw_goto (tgt := 33) dX7_crowded_25 (by decide) ?_
                  refine aw_ireturn dX7_crowded_33 rfl ?_
                  first
                    | (exfalso; omega)
                    | (refine XR.sameE h ?_ ?_ ?_ ?_ ?_ ?_
                       · first
                           | rfl
                           | omega
                       · repeat (first | exact xs.rf | refine xs.up ?_ (by decide))
                       · repeat (first | exact mss.rf | refine mss.up0 ?_ (by decide))
                       · first
                           | (simp [aup, hv2, hv3, hv4]; done)
                           | (simp [aup, hv2, hv3, hv4]; omega)
                       · simp [aup, hv2, hv3, hv4]
                       · simp [aup, hv2, hv3, hv4])
            · first
                | (exfalso; omega)
                | skip
                  unfold crw at mc
                  refine aK_i ?_
                  refine aw_ifeq (tgt := 21) dX7_crowded_14 (by decide) (fun _ => ?_) (fun h => absurd h (by decide))
                  refine aw_iconst dX7_crowded_21 (by decide) ?_
                  refine c_X7_76 rfl dX7_crowded_22 m_ob (Nat.le_of_ble_eq_true rfl) (by omega) (C_m_gives ?_)
                  refine aK_i ?_
                  refine aw_goto (tgt := 33) dX7_crowded_25 (by decide) ?_
                  refine aw_ireturn dX7_crowded_33 rfl ?_
                  first
                    | (exfalso; omega)
                    | (refine XR.sameE h ?_ ?_ ?_ ?_ ?_ ?_
                       · first
                           | rfl
                           | omega
                       · repeat (first | exact xs.rf | refine xs.up ?_ (by decide))
                       · repeat (first | exact mss.rf | refine mss.up0 ?_ (by decide))
                       · first
                           | (simp [aup, hv2, hv3, hv4]; done)
                           | (simp [aup, hv2, hv3, hv4]; omega)
                       · simp [aup, hv2, hv3, hv4]
                       · simp [aup, hv2, hv3, hv4])
      · first
          | (exfalso; omega)
          | skip
            refine aK_i ?_
            refine aw_ifeq (tgt := 28) dX7_crowded_5 (by decide) (fun _ => ?_) (fun h => absurd h (by decide))
            refine aw_aload_n dX7_crowded_28 rfl ?_
            refine aw_iconst dX7_crowded_29 (by decide) ?_
            refine c_X7_72 rfl dX7_crowded_30 m_ob (Nat.le_of_ble_eq_true rfl) (by omega) (C_m_refuse ?_)
            refine aK_i ?_
            refine aw_ireturn dX7_crowded_33 rfl ?_
            first
              | (exfalso; omega)
              | (refine XR.sameE h ?_ ?_ ?_ ?_ ?_ ?_
                 · first
                     | rfl
                     | omega
                 · repeat (first | exact xs.rf | refine xs.up ?_ (by decide))
                 · repeat (first | exact mss.rf | refine mss.up0 ?_ (by decide))
                 · first
                     | (simp [aup, hv2, hv3, hv4]; done)
                     | (simp [aup, hv2, hv3, hv4]; omega)
                 · simp [aup, hv2, hv3, hv4]
                 · simp [aup, hv2, hv3, hv4])
    · rw [g5, g3] at xc
      refine aK_i ?_
      refine aw_ifeq (tgt := 43) dX0_crowded_36 (by decide) (fun _ => ?_) (fun h => absurd h (by decide))
      refine aw_iconst dX0_crowded_43 (by decide) ?_
      refine aw_ireturn dX0_crowded_44 rfl ?_
      refine ⟨_, rfl, ?_⟩
      refine AMet.go (L := [some (vR 0), some (vI a)]) mok_X7_crowded (Nat.le_of_ble_eq_true rfl) rfl ?_
      refine aw_aload_n dX7_crowded_0 rfl ?_
      refine aw_iload_n dX7_crowded_1 rfl ?_
      refine c_X7_274 rfl dX7_crowded_2 m_ob (Nat.le_of_ble_eq_true rfl) (by omega) (C_m_isHive (fun hh => ?_) (fun hh => ?_))
      · first
          | (exfalso; omega)
          | skip
            refine aK_i ?_
            refine aw_ifeq (tgt := 28) dX7_crowded_5 (by decide) (fun h => absurd h (by decide)) (fun _ => ?_)
            refine aw_aload_n dX7_crowded_8 rfl ?_
            refine aw_aload_n dX7_crowded_9 rfl ?_
            refine aw_iload_n dX7_crowded_10 rfl ?_
            refine c_X7_334 rfl dX7_crowded_11 m_ob (Nat.le_of_ble_eq_true rfl) (by omega) (C_m_isCrowded (by omega) gh.1 gh.2.1 (fun mc => ?_) (fun mc => ?_))
            · first
                | (exfalso; omega)
                | skip
                  unfold crw at mc
                  refine aK_i ?_
                  refine aw_ifeq (tgt := 21) dX7_crowded_14 (by decide) (fun h => absurd h (by decide)) (fun _ => ?_)
                  refine aw_iconst dX7_crowded_17 (by decide) ?_
                  refine aw_goto (tgt := 22) dX7_crowded_18 (by decide) ?_
                  refine c_X7_76 rfl dX7_crowded_22 m_ob (Nat.le_of_ble_eq_true rfl) (by omega) (C_m_gives ?_)
                  refine aK_i ?_
                  refine aw_goto (tgt := 33) dX7_crowded_25 (by decide) ?_
                  refine aw_ireturn dX7_crowded_33 rfl ?_
                  first
                    | (exfalso; omega)
                    | (refine XR.sameE h ?_ ?_ ?_ ?_ ?_ ?_
                       · first
                           | rfl
                           | omega
                       · repeat (first | exact xs.rf | refine xs.up ?_ (by decide))
                       · repeat (first | exact mss.rf | refine mss.up0 ?_ (by decide))
                       · first
                           | (simp [aup, hv2, hv3, hv4]; done)
                           | (simp [aup, hv2, hv3, hv4]; omega)
                       · simp [aup, hv2, hv3, hv4]
                       · simp [aup, hv2, hv3, hv4])
            · first
                | (exfalso; omega)
                | skip
                  unfold crw at mc
                  refine aK_i ?_
                  refine aw_ifeq (tgt := 21) dX7_crowded_14 (by decide) (fun _ => ?_) (fun h => absurd h (by decide))
                  refine aw_iconst dX7_crowded_21 (by decide) ?_
                  refine c_X7_76 rfl dX7_crowded_22 m_ob (Nat.le_of_ble_eq_true rfl) (by omega) (C_m_gives ?_)
                  refine aK_i ?_
                  refine aw_goto (tgt := 33) dX7_crowded_25 (by decide) ?_
                  refine aw_ireturn dX7_crowded_33 rfl ?_
                  first
                    | (exfalso; omega)
                    | (refine XR.sameE h ?_ ?_ ?_ ?_ ?_ ?_
                       · first
                           | rfl
                           | omega
                       · repeat (first | exact xs.rf | refine xs.up ?_ (by decide))
                       · repeat (first | exact mss.rf | refine mss.up0 ?_ (by decide))
                       · first
                           | (simp [aup, hv2, hv3, hv4]; done)
                           | (simp [aup, hv2, hv3, hv4]; omega)
                       · simp [aup, hv2, hv3, hv4]
                       · simp [aup, hv2, hv3, hv4])
      · first
          | (exfalso; omega)
          | skip
            refine aK_i ?_
            refine aw_ifeq (tgt := 28) dX7_crowded_5 (by decide) (fun _ => ?_) (fun h => absurd h (by decide))
            refine aw_aload_n dX7_crowded_28 rfl ?_
            refine aw_iconst dX7_crowded_29 (by decide) ?_
            refine c_X7_72 rfl dX7_crowded_30 m_ob (Nat.le_of_ble_eq_true rfl) (by omega) (C_m_refuse ?_)
            refine aK_i ?_
            refine aw_ireturn dX7_crowded_33 rfl ?_
            first
              | (exfalso; omega)
              | (refine XR.sameE h ?_ ?_ ?_ ?_ ?_ ?_
                 · first
                     | rfl
                     | omega
                 · repeat (first | exact xs.rf | refine xs.up ?_ (by decide))
                 · repeat (first | exact mss.rf | refine mss.up0 ?_ (by decide))
                 · first
                     | (simp [aup, hv2, hv3, hv4]; done)
                     | (simp [aup, hv2, hv3, hv4]; omega)
                 · simp [aup, hv2, hv3, hv4]
                 · simp [aup, hv2, hv3, hv4])
  · refine aK_i ?_
    refine aw_ifeq (tgt := 13) dX0_crowded_6 (by decide) (fun _ => ?_) (fun h => absurd h (by decide))
    refine aw_iconst dX0_crowded_13 (by decide) ?_
    refine p_X0_73_0 rfl dX0_crowded_14 hR.o0 ?_
    refine aw_aload_n dX0_crowded_17 rfl ?_
    refine g_X0_73_0 rfl dX0_crowded_18 hR.o0 ?_
    repeat (first | rw [aup_s] | rw [aup_n (by omega)])
    refine aw_ifle (tgt := 28) dX0_crowded_21 (by decide) (fun h => absurd h (by decide)) (fun _ => ?_)
    refine aw_iconst dX0_crowded_24 (by decide) ?_
    refine aw_goto (tgt := 44) dX0_crowded_25 (by decide) ?_
    refine aw_ireturn dX0_crowded_44 rfl ?_
    refine ⟨_, rfl, ?_⟩
    refine AMet.go (L := [some (vR 0), some (vI a)]) mok_X7_crowded (Nat.le_of_ble_eq_true rfl) rfl ?_
    refine aw_aload_n dX7_crowded_0 rfl ?_
    refine aw_iload_n dX7_crowded_1 rfl ?_
    refine c_X7_274 rfl dX7_crowded_2 m_ob (Nat.le_of_ble_eq_true rfl) (by omega) (C_m_isHive (fun hh => ?_) (fun hh => ?_))
    · first
        | (exfalso; omega)
        | skip
          refine aK_i ?_
          refine aw_ifeq (tgt := 28) dX7_crowded_5 (by decide) (fun h => absurd h (by decide)) (fun _ => ?_)
          refine aw_aload_n dX7_crowded_8 rfl ?_
          refine aw_aload_n dX7_crowded_9 rfl ?_
          refine aw_iload_n dX7_crowded_10 rfl ?_
          refine c_X7_334 rfl dX7_crowded_11 m_ob (Nat.le_of_ble_eq_true rfl) (by omega) (C_m_isCrowded (by omega) gh.1 gh.2.1 (fun mc => ?_) (fun mc => ?_))
          · first
              | (exfalso; omega)
              | skip
                unfold crw at mc
                refine aK_i ?_
                refine aw_ifeq (tgt := 21) dX7_crowded_14 (by decide) (fun h => absurd h (by decide)) (fun _ => ?_)
                refine aw_iconst dX7_crowded_17 (by decide) ?_
                refine aw_goto (tgt := 22) dX7_crowded_18 (by decide) ?_
                refine c_X7_76 rfl dX7_crowded_22 m_ob (Nat.le_of_ble_eq_true rfl) (by omega) (C_m_gives ?_)
                refine aK_i ?_
                refine aw_goto (tgt := 33) dX7_crowded_25 (by decide) ?_
                refine aw_ireturn dX7_crowded_33 rfl ?_
                first
                  | (exfalso; omega)
                  | (refine XR.sameE h ?_ ?_ ?_ ?_ ?_ ?_
                     · first
                         | rfl
                         | omega
                     · repeat (first | exact xs.rf | refine xs.up ?_ (by decide))
                     · repeat (first | exact mss.rf | refine mss.up0 ?_ (by decide))
                     · first
                         | (simp [aup, hv2, hv3, hv4]; done)
                         | (simp [aup, hv2, hv3, hv4]; omega)
                     · simp [aup, hv2, hv3, hv4]
                     · simp [aup, hv2, hv3, hv4])
          · first
              | (exfalso; omega)
              | skip
                unfold crw at mc
                refine aK_i ?_
                refine aw_ifeq (tgt := 21) dX7_crowded_14 (by decide) (fun _ => ?_) (fun h => absurd h (by decide))
                refine aw_iconst dX7_crowded_21 (by decide) ?_
                refine c_X7_76 rfl dX7_crowded_22 m_ob (Nat.le_of_ble_eq_true rfl) (by omega) (C_m_gives ?_)
                refine aK_i ?_
                refine aw_goto (tgt := 33) dX7_crowded_25 (by decide) ?_
                refine aw_ireturn dX7_crowded_33 rfl ?_
                first
                  | (exfalso; omega)
                  | (refine XR.sameE h ?_ ?_ ?_ ?_ ?_ ?_
                     · first
                         | rfl
                         | omega
                     · repeat (first | exact xs.rf | refine xs.up ?_ (by decide))
                     · repeat (first | exact mss.rf | refine mss.up0 ?_ (by decide))
                     · first
                         | (simp [aup, hv2, hv3, hv4]; done)
                         | (simp [aup, hv2, hv3, hv4]; omega)
                     · simp [aup, hv2, hv3, hv4]
                     · simp [aup, hv2, hv3, hv4])
    · first
        | (exfalso; omega)
        | skip
          refine aK_i ?_
          refine aw_ifeq (tgt := 28) dX7_crowded_5 (by decide) (fun _ => ?_) (fun h => absurd h (by decide))
          refine aw_aload_n dX7_crowded_28 rfl ?_
          refine aw_iconst dX7_crowded_29 (by decide) ?_
          refine c_X7_72 rfl dX7_crowded_30 m_ob (Nat.le_of_ble_eq_true rfl) (by omega) (C_m_refuse ?_)
          refine aK_i ?_
          refine aw_ireturn dX7_crowded_33 rfl ?_
          first
            | (exfalso; omega)
            | (refine XR.sameE h ?_ ?_ ?_ ?_ ?_ ?_
               · first
                   | rfl
                   | omega
               · repeat (first | exact xs.rf | refine xs.up ?_ (by decide))
               · repeat (first | exact mss.rf | refine mss.up0 ?_ (by decide))
               · first
                   | (simp [aup, hv2, hv3, hv4]; done)
                   | (simp [aup, hv2, hv3, hv4]; omega)
               · simp [aup, hv2, hv3, hv4]
               · simp [aup, hv2, hv3, hv4])
theorem OP_swarmOut {sz : Int} {im : Int → aIm} {ct cm : Int → Int → Int} (h : XR (sz, im, ct) cm) {a : Int} (r0 : -2147483648 ≤ a ∧ a < 2147483648)  : AMet md_X0_swarmOut 3 0 0 [vR 0, vI a] (sz, im, ct) (XQ md_X7_swarmOut 3 [vR 0, vI a] cm) := by
  obtain ⟨own, N, hR, HY, HL, HN, HS, HP, HF, HX, hv2, hv3, hv4⟩ := id h
  dsimp only at hR HY HL HS HX hv2 hv3 hv4
  have hp0 := HP.1
  have hp3 := HP.2.1
  have hpq := HP.2.2.2.1.1
  have hps := HP.2.2.2.2.2
  refine AMet.go (L := [some (vR 0), some (vI a)]) mok_X0_swarmOut (Nat.le_of_ble_eq_true rfl) rfl ?_
  refine aw_aload_n dX0_swarmOut_0 rfl ?_
  refine aw_iload_n dX0_swarmOut_1 rfl ?_
  refine aw_i2l dX0_swarmOut_2 ?_
  refine aw_lconst0 dX0_swarmOut_3 ?_
  refine aw_lconst1 dX0_swarmOut_4 ?_
  refine c_X0_164 rfl dX0_swarmOut_5  (Nat.le_of_ble_eq_true rfl) (by omega) (C_x_isIn (fun hi => ?_) (fun hi => ?_))
  · refine aK_i ?_
    refine aw_ifne (tgt := 15) dX0_swarmOut_8 (by decide) (fun _ => ?_) (fun h => absurd h (by decide))
    refine aw_aload_n dX0_swarmOut_15 rfl ?_
    refine c_X0_158 rfl dX0_swarmOut_16 hR.o0 (Nat.le_of_ble_eq_true rfl) (by omega) (C_x_yard2 hR ?_)
    refine aK_i ?_
    refine g_X0_367_5 rfl dX0_swarmOut_19 HY.1 ?_
    repeat (first | rw [aup_s] | rw [aup_n (by omega)])
    rw [HY.2.2.2.2.2.2.1.1]
    refine aw_ifge (tgt := 30) dX0_swarmOut_22 (by decide) (fun h22 => ?_) (fun h22 => ?_)
    · refine aw_iconst dX0_swarmOut_30 (by decide) ?_
      refine p_X0_73_0 rfl dX0_swarmOut_31 hR.o0 ?_
      refine aw_aload_n dX0_swarmOut_34 rfl ?_
      refine g_X0_73_0 rfl dX0_swarmOut_35 hR.o0 ?_
      repeat (first | rw [aup_s] | rw [aup_n (by omega)])
      refine aw_ifle (tgt := 45) dX0_swarmOut_38 (by decide) (fun _ => ?_) (fun h => absurd h (by decide))
      refine aw_iload_n dX0_swarmOut_45 rfl ?_
      refine aw_ifne (tgt := 59) dX0_swarmOut_46 (by decide) (fun h46 => ?_) (fun h46 => ?_)
      · refine aw_aload_n dX0_swarmOut_59 rfl ?_
        refine c_X0_158 rfl dX0_swarmOut_60 hR.o0 (Nat.le_of_ble_eq_true rfl) (by omega) (C_x_yard2 hR ?_)
        refine aK_i ?_
        refine g_X0_367_5 rfl dX0_swarmOut_63 HY.1 ?_
        repeat (first | rw [aup_s] | rw [aup_n (by omega)])
        rw [HY.2.2.2.2.2.2.1.1]
        refine aw_ireturn dX0_swarmOut_66 rfl ?_
        refine ⟨_, rfl, ?_⟩
        refine AMet.go (L := [some (vR 0), some (vI a)]) mok_X7_swarmOut (Nat.le_of_ble_eq_true rfl) rfl ?_
        refine aw_iload_n dX7_swarmOut_0 rfl ?_
        refine aw_iflt (tgt := 9) dX7_swarmOut_1 (by decide) (fun h1 => ?_) (fun h1 => ?_)
        · first
            | (exfalso; omega)
            | skip
              refine aw_aload_n dX7_swarmOut_9 rfl ?_
              refine aw_iconst dX7_swarmOut_10 (by decide) ?_
              refine c_X7_72 rfl dX7_swarmOut_11 m_ob (Nat.le_of_ble_eq_true rfl) (by omega) (C_m_refuse ?_)
              refine aK_i ?_
              refine aw_goto (tgt := 30) dX7_swarmOut_14 (by decide) ?_
              refine aw_ireturn dX7_swarmOut_30 rfl ?_
              first
                | (exfalso; omega)
                | (refine XR.sameE h ?_ ?_ ?_ ?_ ?_ ?_
                   · first
                       | rfl
                       | omega
                   · repeat (first | exact xs.rf | refine xs.up ?_ (by decide))
                   · repeat (first | exact mss.rf | refine mss.up0 ?_ (by decide))
                   · first
                       | (simp [aup, hv2, hv3, hv4]; done)
                       | (simp [aup, hv2, hv3, hv4]; omega)
                   · simp [aup, hv2, hv3, hv4]
                   · simp [aup, hv2, hv3, hv4])
        · first
            | (exfalso; omega)
            | skip
              refine aw_iload_n dX7_swarmOut_4 rfl ?_
              refine aw_iconst dX7_swarmOut_5 (by decide) ?_
              refine aw_icmple (tgt := 17) dX7_swarmOut_6 (by decide) (fun h6 => ?_) (fun h6 => ?_)
              · first
                  | (exfalso; omega)
                  | skip
                    refine aw_aload_n dX7_swarmOut_17 rfl ?_
                    refine gm_7 rfl dX7_swarmOut_18 dX7_swarmOut_19 rfl ?_
                    refine aw_bipush dX7_swarmOut_22 (by decide) ?_
                    refine aw_iload_n dX7_swarmOut_24 rfl ?_
                    refine aw_iaddr dX7_swarmOut_25 (by omega) ?_
                    refine aw_iaload dX7_swarmOut_26 m_a1 (by omega) (by omega) ?_
                    have e9 : (a = 0 ∧ cm 1 (11 + a) = cm 1 11) ∨ (a = 1 ∧ cm 1 (11 + a) = cm 1 12) := by
                      rcases (by omega : a = 0 ∨ a = 1) with rfl | rfl
                      · exact Or.inl ⟨rfl, rfl⟩
                      · exact Or.inr ⟨rfl, rfl⟩
                    refine c_X7_280 rfl dX7_swarmOut_27 m_ob (Nat.le_of_ble_eq_true rfl) (by omega) (C_m_orNone (fun hz => ?_) (fun hz => ?_))
                    · first
                        | (exfalso; omega)
                        | skip
                          refine aK_i ?_
                          refine aw_ireturn dX7_swarmOut_30 rfl ?_
                          first
                            | (exfalso; omega)
                            | (refine XR.sameE h ?_ ?_ ?_ ?_ ?_ ?_
                               · first
                                   | rfl
                                   | omega
                               · repeat (first | exact xs.rf | refine xs.up ?_ (by decide))
                               · repeat (first | exact mss.rf | refine mss.up0 ?_ (by decide))
                               · first
                                   | (simp [aup, hv2, hv3, hv4]; done)
                                   | (simp [aup, hv2, hv3, hv4]; omega)
                               · simp [aup, hv2, hv3, hv4]
                               · simp [aup, hv2, hv3, hv4])
                    · first
                        | (exfalso; omega)
                        | skip
                          refine aK_i ?_
                          refine aw_ireturn dX7_swarmOut_30 rfl ?_
                          first
                            | (exfalso; omega)
                            | (refine XR.sameE h ?_ ?_ ?_ ?_ ?_ ?_
                               · first
                                   | rfl
                                   | omega
                               · repeat (first | exact xs.rf | refine xs.up ?_ (by decide))
                               · repeat (first | exact mss.rf | refine mss.up0 ?_ (by decide))
                               · first
                                   | (simp [aup, hv2, hv3, hv4]; done)
                                   | (simp [aup, hv2, hv3, hv4]; omega)
                               · simp [aup, hv2, hv3, hv4]
                               · simp [aup, hv2, hv3, hv4])
              · first
                  | (exfalso; omega)
                  | skip
                    refine aw_aload_n dX7_swarmOut_9 rfl ?_
                    refine aw_iconst dX7_swarmOut_10 (by decide) ?_
                    refine c_X7_72 rfl dX7_swarmOut_11 m_ob (Nat.le_of_ble_eq_true rfl) (by omega) (C_m_refuse ?_)
                    refine aK_i ?_
                    refine aw_goto (tgt := 30) dX7_swarmOut_14 (by decide) ?_
                    refine aw_ireturn dX7_swarmOut_30 rfl ?_
                    first
                      | (exfalso; omega)
                      | (refine XR.sameE h ?_ ?_ ?_ ?_ ?_ ?_
                         · first
                             | rfl
                             | omega
                         · repeat (first | exact xs.rf | refine xs.up ?_ (by decide))
                         · repeat (first | exact mss.rf | refine mss.up0 ?_ (by decide))
                         · first
                             | (simp [aup, hv2, hv3, hv4]; done)
                             | (simp [aup, hv2, hv3, hv4]; omega)
                         · simp [aup, hv2, hv3, hv4]
                         · simp [aup, hv2, hv3, hv4])
      · refine aw_aload_n dX0_swarmOut_49 rfl ?_
        refine c_X0_158 rfl dX0_swarmOut_50 hR.o0 (Nat.le_of_ble_eq_true rfl) (by omega) (C_x_yard2 hR ?_)
        refine aK_i ?_
        refine g_X0_370_5 rfl dX0_swarmOut_53 HY.1 ?_
        repeat (first | rw [aup_s] | rw [aup_n (by omega)])
        rw [HY.2.2.2.2.2.2.1.2 (by omega)]
        refine aw_goto (tgt := 66) dX0_swarmOut_56 (by decide) ?_
        refine aw_ireturn dX0_swarmOut_66 rfl ?_
        refine ⟨_, rfl, ?_⟩
        refine AMet.go (L := [some (vR 0), some (vI a)]) mok_X7_swarmOut (Nat.le_of_ble_eq_true rfl) rfl ?_
        refine aw_iload_n dX7_swarmOut_0 rfl ?_
        refine aw_iflt (tgt := 9) dX7_swarmOut_1 (by decide) (fun h1 => ?_) (fun h1 => ?_)
        · first
            | (exfalso; omega)
            | skip
              refine aw_aload_n dX7_swarmOut_9 rfl ?_
              refine aw_iconst dX7_swarmOut_10 (by decide) ?_
              refine c_X7_72 rfl dX7_swarmOut_11 m_ob (Nat.le_of_ble_eq_true rfl) (by omega) (C_m_refuse ?_)
              refine aK_i ?_
              refine aw_goto (tgt := 30) dX7_swarmOut_14 (by decide) ?_
              refine aw_ireturn dX7_swarmOut_30 rfl ?_
              first
                | (exfalso; omega)
                | (refine XR.sameE h ?_ ?_ ?_ ?_ ?_ ?_
                   · first
                       | rfl
                       | omega
                   · repeat (first | exact xs.rf | refine xs.up ?_ (by decide))
                   · repeat (first | exact mss.rf | refine mss.up0 ?_ (by decide))
                   · first
                       | (simp [aup, hv2, hv3, hv4]; done)
                       | (simp [aup, hv2, hv3, hv4]; omega)
                   · simp [aup, hv2, hv3, hv4]
                   · simp [aup, hv2, hv3, hv4])
        · first
            | (exfalso; omega)
            | skip
              refine aw_iload_n dX7_swarmOut_4 rfl ?_
              refine aw_iconst dX7_swarmOut_5 (by decide) ?_
              refine aw_icmple (tgt := 17) dX7_swarmOut_6 (by decide) (fun h6 => ?_) (fun h6 => ?_)
              · first
                  | (exfalso; omega)
                  | skip
                    refine aw_aload_n dX7_swarmOut_17 rfl ?_
                    refine gm_7 rfl dX7_swarmOut_18 dX7_swarmOut_19 rfl ?_
                    refine aw_bipush dX7_swarmOut_22 (by decide) ?_
                    refine aw_iload_n dX7_swarmOut_24 rfl ?_
                    refine aw_iaddr dX7_swarmOut_25 (by omega) ?_
                    refine aw_iaload dX7_swarmOut_26 m_a1 (by omega) (by omega) ?_
                    have e9 : (a = 0 ∧ cm 1 (11 + a) = cm 1 11) ∨ (a = 1 ∧ cm 1 (11 + a) = cm 1 12) := by
                      rcases (by omega : a = 0 ∨ a = 1) with rfl | rfl
                      · exact Or.inl ⟨rfl, rfl⟩
                      · exact Or.inr ⟨rfl, rfl⟩
                    refine c_X7_280 rfl dX7_swarmOut_27 m_ob (Nat.le_of_ble_eq_true rfl) (by omega) (C_m_orNone (fun hz => ?_) (fun hz => ?_))
                    · first
                        | (exfalso; omega)
                        | skip
                          refine aK_i ?_
                          refine aw_ireturn dX7_swarmOut_30 rfl ?_
                          first
                            | (exfalso; omega)
                            | (refine XR.sameE h ?_ ?_ ?_ ?_ ?_ ?_
                               · first
                                   | rfl
                                   | omega
                               · repeat (first | exact xs.rf | refine xs.up ?_ (by decide))
                               · repeat (first | exact mss.rf | refine mss.up0 ?_ (by decide))
                               · first
                                   | (simp [aup, hv2, hv3, hv4]; done)
                                   | (simp [aup, hv2, hv3, hv4]; omega)
                               · simp [aup, hv2, hv3, hv4]
                               · simp [aup, hv2, hv3, hv4])
                    · first
                        | (exfalso; omega)
                        | skip
                          refine aK_i ?_
                          refine aw_ireturn dX7_swarmOut_30 rfl ?_
                          first
                            | (exfalso; omega)
                            | (refine XR.sameE h ?_ ?_ ?_ ?_ ?_ ?_
                               · first
                                   | rfl
                                   | omega
                               · repeat (first | exact xs.rf | refine xs.up ?_ (by decide))
                               · repeat (first | exact mss.rf | refine mss.up0 ?_ (by decide))
                               · first
                                   | (simp [aup, hv2, hv3, hv4]; done)
                                   | (simp [aup, hv2, hv3, hv4]; omega)
                               · simp [aup, hv2, hv3, hv4]
                               · simp [aup, hv2, hv3, hv4])
              · first
                  | (exfalso; omega)
                  | skip
                    refine aw_aload_n dX7_swarmOut_9 rfl ?_
                    refine aw_iconst dX7_swarmOut_10 (by decide) ?_
                    refine c_X7_72 rfl dX7_swarmOut_11 m_ob (Nat.le_of_ble_eq_true rfl) (by omega) (C_m_refuse ?_)
                    refine aK_i ?_
                    refine aw_goto (tgt := 30) dX7_swarmOut_14 (by decide) ?_
                    refine aw_ireturn dX7_swarmOut_30 rfl ?_
                    first
                      | (exfalso; omega)
                      | (refine XR.sameE h ?_ ?_ ?_ ?_ ?_ ?_
                         · first
                             | rfl
                             | omega
                         · repeat (first | exact xs.rf | refine xs.up ?_ (by decide))
                         · repeat (first | exact mss.rf | refine mss.up0 ?_ (by decide))
                         · first
                             | (simp [aup, hv2, hv3, hv4]; done)
                             | (simp [aup, hv2, hv3, hv4]; omega)
                         · simp [aup, hv2, hv3, hv4]
                         · simp [aup, hv2, hv3, hv4])
    · refine aw_bipush dX0_swarmOut_25 (by decide) ?_
      refine aw_goto (tgt := 31) dX0_swarmOut_27 (by decide) ?_
      refine p_X0_73_0 rfl dX0_swarmOut_31 hR.o0 ?_
      refine aw_aload_n dX0_swarmOut_34 rfl ?_
      refine g_X0_73_0 rfl dX0_swarmOut_35 hR.o0 ?_
      repeat (first | rw [aup_s] | rw [aup_n (by omega)])
      refine aw_ifle (tgt := 45) dX0_swarmOut_38 (by decide) (fun h => absurd h (by decide)) (fun _ => ?_)
      refine aw_iconst dX0_swarmOut_41 (by decide) ?_
      refine aw_goto (tgt := 66) dX0_swarmOut_42 (by decide) ?_
      refine aw_ireturn dX0_swarmOut_66 rfl ?_
      refine ⟨_, rfl, ?_⟩
      refine AMet.go (L := [some (vR 0), some (vI a)]) mok_X7_swarmOut (Nat.le_of_ble_eq_true rfl) rfl ?_
      refine aw_iload_n dX7_swarmOut_0 rfl ?_
      refine aw_iflt (tgt := 9) dX7_swarmOut_1 (by decide) (fun h1 => ?_) (fun h1 => ?_)
      · first
          | (exfalso; omega)
          | skip
            refine aw_aload_n dX7_swarmOut_9 rfl ?_
            refine aw_iconst dX7_swarmOut_10 (by decide) ?_
            refine c_X7_72 rfl dX7_swarmOut_11 m_ob (Nat.le_of_ble_eq_true rfl) (by omega) (C_m_refuse ?_)
            refine aK_i ?_
            refine aw_goto (tgt := 30) dX7_swarmOut_14 (by decide) ?_
            refine aw_ireturn dX7_swarmOut_30 rfl ?_
            first
              | (exfalso; omega)
              | (refine XR.sameE h ?_ ?_ ?_ ?_ ?_ ?_
                 · first
                     | rfl
                     | omega
                 · repeat (first | exact xs.rf | refine xs.up ?_ (by decide))
                 · repeat (first | exact mss.rf | refine mss.up0 ?_ (by decide))
                 · first
                     | (simp [aup, hv2, hv3, hv4]; done)
                     | (simp [aup, hv2, hv3, hv4]; omega)
                 · simp [aup, hv2, hv3, hv4]
                 · simp [aup, hv2, hv3, hv4])
      · first
          | (exfalso; omega)
          | skip
            refine aw_iload_n dX7_swarmOut_4 rfl ?_
            refine aw_iconst dX7_swarmOut_5 (by decide) ?_
            refine aw_icmple (tgt := 17) dX7_swarmOut_6 (by decide) (fun h6 => ?_) (fun h6 => ?_)
            · first
                | (exfalso; omega)
                | skip
                  refine aw_aload_n dX7_swarmOut_17 rfl ?_
                  refine gm_7 rfl dX7_swarmOut_18 dX7_swarmOut_19 rfl ?_
                  refine aw_bipush dX7_swarmOut_22 (by decide) ?_
                  refine aw_iload_n dX7_swarmOut_24 rfl ?_
                  refine aw_iaddr dX7_swarmOut_25 (by omega) ?_
                  refine aw_iaload dX7_swarmOut_26 m_a1 (by omega) (by omega) ?_
                  have e9 : (a = 0 ∧ cm 1 (11 + a) = cm 1 11) ∨ (a = 1 ∧ cm 1 (11 + a) = cm 1 12) := by
                    rcases (by omega : a = 0 ∨ a = 1) with rfl | rfl
                    · exact Or.inl ⟨rfl, rfl⟩
                    · exact Or.inr ⟨rfl, rfl⟩
                  refine c_X7_280 rfl dX7_swarmOut_27 m_ob (Nat.le_of_ble_eq_true rfl) (by omega) (C_m_orNone (fun hz => ?_) (fun hz => ?_))
                  · first
                      | (exfalso; omega)
                      | skip
                        refine aK_i ?_
                        refine aw_ireturn dX7_swarmOut_30 rfl ?_
                        first
                          | (exfalso; omega)
                          | (refine XR.sameE h ?_ ?_ ?_ ?_ ?_ ?_
                             · first
                                 | rfl
                                 | omega
                             · repeat (first | exact xs.rf | refine xs.up ?_ (by decide))
                             · repeat (first | exact mss.rf | refine mss.up0 ?_ (by decide))
                             · first
                                 | (simp [aup, hv2, hv3, hv4]; done)
                                 | (simp [aup, hv2, hv3, hv4]; omega)
                             · simp [aup, hv2, hv3, hv4]
                             · simp [aup, hv2, hv3, hv4])
                  · first
                      | (exfalso; omega)
                      | skip
                        refine aK_i ?_
                        refine aw_ireturn dX7_swarmOut_30 rfl ?_
                        first
                          | (exfalso; omega)
                          | (refine XR.sameE h ?_ ?_ ?_ ?_ ?_ ?_
                             · first
                                 | rfl
                                 | omega
                             · repeat (first | exact xs.rf | refine xs.up ?_ (by decide))
                             · repeat (first | exact mss.rf | refine mss.up0 ?_ (by decide))
                             · first
                                 | (simp [aup, hv2, hv3, hv4]; done)
                                 | (simp [aup, hv2, hv3, hv4]; omega)
                             · simp [aup, hv2, hv3, hv4]
                             · simp [aup, hv2, hv3, hv4])
            · first
                | (exfalso; omega)
                | skip
                  refine aw_aload_n dX7_swarmOut_9 rfl ?_
                  refine aw_iconst dX7_swarmOut_10 (by decide) ?_
                  refine c_X7_72 rfl dX7_swarmOut_11 m_ob (Nat.le_of_ble_eq_true rfl) (by omega) (C_m_refuse ?_)
                  refine aK_i ?_
                  refine aw_goto (tgt := 30) dX7_swarmOut_14 (by decide) ?_
                  refine aw_ireturn dX7_swarmOut_30 rfl ?_
                  first
                    | (exfalso; omega)
                    | (refine XR.sameE h ?_ ?_ ?_ ?_ ?_ ?_
                       · first
                           | rfl
                           | omega
                       · repeat (first | exact xs.rf | refine xs.up ?_ (by decide))
                       · repeat (first | exact mss.rf | refine mss.up0 ?_ (by decide))
                       · first
                           | (simp [aup, hv2, hv3, hv4]; done)
                           | (simp [aup, hv2, hv3, hv4]; omega)
                       · simp [aup, hv2, hv3, hv4]
                       · simp [aup, hv2, hv3, hv4])
  · refine aK_i ?_
    refine aw_ifne (tgt := 15) dX0_swarmOut_8 (by decide) (fun h => absurd h (by decide)) (fun _ => ?_)
    refine aw_iconst dX0_swarmOut_11 (by decide) ?_
    refine aw_goto (tgt := 31) dX0_swarmOut_12 (by decide) ?_
    refine p_X0_73_0 rfl dX0_swarmOut_31 hR.o0 ?_
    refine aw_aload_n dX0_swarmOut_34 rfl ?_
    refine g_X0_73_0 rfl dX0_swarmOut_35 hR.o0 ?_
    repeat (first | rw [aup_s] | rw [aup_n (by omega)])
    refine aw_ifle (tgt := 45) dX0_swarmOut_38 (by decide) (fun h => absurd h (by decide)) (fun _ => ?_)
    refine aw_iconst dX0_swarmOut_41 (by decide) ?_
    refine aw_goto (tgt := 66) dX0_swarmOut_42 (by decide) ?_
    refine aw_ireturn dX0_swarmOut_66 rfl ?_
    refine ⟨_, rfl, ?_⟩
    refine AMet.go (L := [some (vR 0), some (vI a)]) mok_X7_swarmOut (Nat.le_of_ble_eq_true rfl) rfl ?_
    refine aw_iload_n dX7_swarmOut_0 rfl ?_
    refine aw_iflt (tgt := 9) dX7_swarmOut_1 (by decide) (fun h1 => ?_) (fun h1 => ?_)
    · first
        | (exfalso; omega)
        | skip
          refine aw_aload_n dX7_swarmOut_9 rfl ?_
          refine aw_iconst dX7_swarmOut_10 (by decide) ?_
          refine c_X7_72 rfl dX7_swarmOut_11 m_ob (Nat.le_of_ble_eq_true rfl) (by omega) (C_m_refuse ?_)
          refine aK_i ?_
          refine aw_goto (tgt := 30) dX7_swarmOut_14 (by decide) ?_
          refine aw_ireturn dX7_swarmOut_30 rfl ?_
          first
            | (exfalso; omega)
            | (refine XR.sameE h ?_ ?_ ?_ ?_ ?_ ?_
               · first
                   | rfl
                   | omega
               · repeat (first | exact xs.rf | refine xs.up ?_ (by decide))
               · repeat (first | exact mss.rf | refine mss.up0 ?_ (by decide))
               · first
                   | (simp [aup, hv2, hv3, hv4]; done)
                   | (simp [aup, hv2, hv3, hv4]; omega)
               · simp [aup, hv2, hv3, hv4]
               · simp [aup, hv2, hv3, hv4])
    · first
        | (exfalso; omega)
        | skip
          refine aw_iload_n dX7_swarmOut_4 rfl ?_
          refine aw_iconst dX7_swarmOut_5 (by decide) ?_
          refine aw_icmple (tgt := 17) dX7_swarmOut_6 (by decide) (fun h6 => ?_) (fun h6 => ?_)
          · first
              | (exfalso; omega)
              | skip
                refine aw_aload_n dX7_swarmOut_17 rfl ?_
                refine gm_7 rfl dX7_swarmOut_18 dX7_swarmOut_19 rfl ?_
                refine aw_bipush dX7_swarmOut_22 (by decide) ?_
                refine aw_iload_n dX7_swarmOut_24 rfl ?_
                refine aw_iaddr dX7_swarmOut_25 (by omega) ?_
                refine aw_iaload dX7_swarmOut_26 m_a1 (by omega) (by omega) ?_
                have e9 : (a = 0 ∧ cm 1 (11 + a) = cm 1 11) ∨ (a = 1 ∧ cm 1 (11 + a) = cm 1 12) := by
                  rcases (by omega : a = 0 ∨ a = 1) with rfl | rfl
                  · exact Or.inl ⟨rfl, rfl⟩
                  · exact Or.inr ⟨rfl, rfl⟩
                refine c_X7_280 rfl dX7_swarmOut_27 m_ob (Nat.le_of_ble_eq_true rfl) (by omega) (C_m_orNone (fun hz => ?_) (fun hz => ?_))
                · first
                    | (exfalso; omega)
                    | skip
                      refine aK_i ?_
                      refine aw_ireturn dX7_swarmOut_30 rfl ?_
                      first
                        | (exfalso; omega)
                        | (refine XR.sameE h ?_ ?_ ?_ ?_ ?_ ?_
                           · first
                               | rfl
                               | omega
                           · repeat (first | exact xs.rf | refine xs.up ?_ (by decide))
                           · repeat (first | exact mss.rf | refine mss.up0 ?_ (by decide))
                           · first
                               | (simp [aup, hv2, hv3, hv4]; done)
                               | (simp [aup, hv2, hv3, hv4]; omega)
                           · simp [aup, hv2, hv3, hv4]
                           · simp [aup, hv2, hv3, hv4])
                · first
                    | (exfalso; omega)
                    | skip
                      refine aK_i ?_
                      refine aw_ireturn dX7_swarmOut_30 rfl ?_
                      first
                        | (exfalso; omega)
                        | (refine XR.sameE h ?_ ?_ ?_ ?_ ?_ ?_
                           · first
                               | rfl
                               | omega
                           · repeat (first | exact xs.rf | refine xs.up ?_ (by decide))
                           · repeat (first | exact mss.rf | refine mss.up0 ?_ (by decide))
                           · first
                               | (simp [aup, hv2, hv3, hv4]; done)
                               | (simp [aup, hv2, hv3, hv4]; omega)
                           · simp [aup, hv2, hv3, hv4]
                           · simp [aup, hv2, hv3, hv4])
          · first
              | (exfalso; omega)
              | skip
                refine aw_aload_n dX7_swarmOut_9 rfl ?_
                refine aw_iconst dX7_swarmOut_10 (by decide) ?_
                refine c_X7_72 rfl dX7_swarmOut_11 m_ob (Nat.le_of_ble_eq_true rfl) (by omega) (C_m_refuse ?_)
                refine aK_i ?_
                refine aw_goto (tgt := 30) dX7_swarmOut_14 (by decide) ?_
                refine aw_ireturn dX7_swarmOut_30 rfl ?_
                first
                  | (exfalso; omega)
                  | (refine XR.sameE h ?_ ?_ ?_ ?_ ?_ ?_
                     · first
                         | rfl
                         | omega
                     · repeat (first | exact xs.rf | refine xs.up ?_ (by decide))
                     · repeat (first | exact mss.rf | refine mss.up0 ?_ (by decide))
                     · first
                         | (simp [aup, hv2, hv3, hv4]; done)
                         | (simp [aup, hv2, hv3, hv4]; omega)
                     · simp [aup, hv2, hv3, hv4]
                     · simp [aup, hv2, hv3, hv4])
theorem OP_lasts {sz : Int} {im : Int → aIm} {ct cm : Int → Int → Int} (h : XR (sz, im, ct) cm) {a : Int} (r0 : -2147483648 ≤ a ∧ a < 2147483648)  : AMet md_X0_lasts 4 0 0 [vR 0, vI a] (sz, im, ct) (XQ md_X7_lasts 3 [vR 0, vI a] cm) := by
  obtain ⟨own, N, hR, HY, HL, HN, HS, HP, HF, HX, hv2, hv3, hv4⟩ := id h
  dsimp only at hR HY HL HS HX hv2 hv3 hv4
  have hp0 := HP.1
  have hp3 := HP.2.1
  have hpq := HP.2.2.2.1.1
  have hps := HP.2.2.2.2.2
  refine AMet.go (L := [some (vR 0), some (vI a)]) mok_X0_lasts (Nat.le_of_ble_eq_true rfl) rfl ?_
  refine aw_aload_n dX0_lasts_0 rfl ?_
  refine aw_aload_n dX0_lasts_1 rfl ?_
  refine aw_iload_n dX0_lasts_2 rfl ?_
  refine c_X0_168 rfl dX0_lasts_3 hR.o0 (Nat.le_of_ble_eq_true rfl) (by omega) (C_x_isHive hR HY (fun xh => ?_) (fun xh => ?_))
  · refine aK_i ?_
    refine aw_ifne (tgt := 13) dX0_lasts_6 (by decide) (fun _ => ?_) (fun h => absurd h (by decide))
    obtain ⟨hv, ehv, ⟨g1, g2, ⟨g3, g4, g5, g6, g7⟩, g8, g9, -⟩, nhv0, nhv10, nhv9, nv0, nvhv, nv10, ohv⟩ := HY.hv hR (k := a) (by omega) (by omega)
    have gn := g1.2.2.2
    have gh := HP.2.2.1 a (by omega) (by omega)
    have gq := gh.2.2.2.2.1
    have gp := HP.pd.2.1 a (by omega) (by omega)
    refine aw_aload_n dX0_lasts_13 rfl ?_
    refine aw_iload_n dX0_lasts_14 rfl ?_
    refine c_X0_172 rfl dX0_lasts_15 hR.o0 (Nat.le_of_ble_eq_true rfl) (by omega) (C_x_xat2 (a := hv) hR HY (by omega) ehv ?_)
    refine aK_i ?_
    refine g_X0_264_9 rfl dX0_lasts_18 g1.1 ?_
    rw [g3]
    refine aw_ifne (tgt := 29) dX0_lasts_21 (by decide) (fun h21 => ?_) (fun h21 => ?_)
    · refine aw_iconst dX0_lasts_29 (by decide) ?_
      refine p_X0_73_0 rfl dX0_lasts_30 hR.o0 ?_
      refine aw_aload_n dX0_lasts_33 rfl ?_
      refine g_X0_73_0 rfl dX0_lasts_34 hR.o0 ?_
      repeat (first | rw [aup_s] | rw [aup_n (by omega)])
      refine aw_ifle (tgt := 44) dX0_lasts_37 (by decide) (fun _ => ?_) (fun h => absurd h (by decide))
      obtain ⟨hv2, ehv2, ⟨g1, g2, ⟨g3, g4, g5, g6, g7⟩, g8, g9, -⟩, nhv0, nhv10, nhv9, nv0, nvhv, nv10, ohv⟩ := (HY.up0 (j := 7) (v := 0) hR.1.2 (by decide)).hv (hR.up0 (j := 7) (v := 0)) (k := a) (by omega) (by omega)
      have gn := g1.2.2.2
      have gh := HP.2.2.1 a (by omega) (by omega)
      have gq := gh.2.2.2.2.1
      have gp := HP.pd.2.1 a (by omega) (by omega)
      have hvv : hv = hv2 := by rw [← ehv2, ← ehv, aup_rn nv0]
      subst hvv
      have hb9 := isum_bd (g := fun i => sv 0 (sh (64 + 198 * a) (cm 1) i)) (B := 100) (n := nF (cm 1 (64 + 198 * a))) fun i i0 i1 => sv_bd (gh.2.1 i i0 (by unfold nF at i1; omega)).1
      have hnf : ((nF (cm 1 (64 + 198 * a)) : Nat) : Int) = 16 * cm 1 (64 + 198 * a) := by unfold nF; omega
      have hu9 := (HP.pd).2.1 a (by omega) (by omega)
      refine aw_iconst dX0_lasts_44 (by decide) ?_
      refine aw_bipush dX0_lasts_45 (by decide) ?_
      refine aw_aload_n dX0_lasts_47 rfl ?_
      refine aw_iload_n dX0_lasts_48 rfl ?_
      refine c_X0_172 rfl dX0_lasts_49 hR.o0 (Nat.le_of_ble_eq_true rfl) (by omega) (C_x_xat2 (a := hv) hR HY (by omega) (by repeat (first | exact ehv | rw [aup_rn nvhv] | rw [aup_rn nv10] | rw [aup_rn nv0])) ?_)
      refine aK_i ?_
      refine c_X0_267 rfl dX0_lasts_52 g1.1 (Nat.le_of_ble_eq_true rfl) (by omega) (C_x_honey g1 g2 gh.2.1 ?_)
      refine aK_i ?_
      refine aw_imulr dX0_lasts_55 (by omega) ?_
      refine aw_bipush dX0_lasts_56 (by decide) ?_
      refine aw_iaddr dX0_lasts_58 (by omega) ?_
      refine aw_aload_n dX0_lasts_59 rfl ?_
      refine aw_iload_n dX0_lasts_60 rfl ?_
      refine c_X0_172 rfl dX0_lasts_61 hR.o0 (Nat.le_of_ble_eq_true rfl) (by omega) (C_x_xat2 (a := hv) hR HY (by omega) (by repeat (first | exact ehv | rw [aup_rn nvhv] | rw [aup_rn nv10] | rw [aup_rn nv0])) ?_)
      refine aK_i ?_
      refine g_X0_277_9 rfl dX0_lasts_64 g1.1 ?_
      rw [g4]
      refine aw_isubr dX0_lasts_67 (by omega) ?_
      refine aw_aload_n dX0_lasts_68 rfl ?_
      refine aw_iload_n dX0_lasts_69 rfl ?_
      refine c_X0_172 rfl dX0_lasts_70 hR.o0 (Nat.le_of_ble_eq_true rfl) (by omega) (C_x_xat2 (a := hv) hR HY (by omega) (by repeat (first | exact ehv | rw [aup_rn nvhv] | rw [aup_rn nv10] | rw [aup_rn nv0])) ?_)
      refine aK_i ?_
      refine g_X0_264_9 rfl dX0_lasts_73 g1.1 ?_
      rw [g3]
      refine aw_idiv dX0_lasts_76 (by omega) ?_
      refine aw_mmax dX0_lasts_77 q1234 q1235 q137 q1236 (Nat.le_of_ble_eq_true rfl) (by omega) ?_
      refine aw_ireturn dX0_lasts_80 rfl ?_
      refine ⟨_, rfl, ?_⟩
      refine AMet.go (L := [some (vR 0), some (vI a), none]) mok_X7_lasts (Nat.le_of_ble_eq_true rfl) rfl ?_
      refine aw_aload_n dX7_lasts_0 rfl ?_
      refine aw_iload_n dX7_lasts_1 rfl ?_
      refine c_X7_274 rfl dX7_lasts_2 m_ob (Nat.le_of_ble_eq_true rfl) (by omega) (C_m_isHive (fun hh => ?_) (fun hh => ?_))
      · first
          | (exfalso; omega)
          | skip
            refine aK_i ?_
            refine aw_ifne (tgt := 14) dX7_lasts_5 (by decide) (fun _ => ?_) (fun h => absurd h (by decide))
            refine aw_iload_n dX7_lasts_14 rfl ?_
            refine c_X7_217 rfl dX7_lasts_15  (Nat.le_of_ble_eq_true rfl) (by omega) (C_m_hiveRow (by omega) ?_)
            refine aK_i ?_
            refine aw_istore2 dX7_lasts_18 (by decide) rfl ?_
            refine gm_7 rfl dX7_lasts_19 dX7_lasts_20 rfl ?_
            refine aw_iload_n dX7_lasts_23 rfl ?_
            refine aw_iconst dX7_lasts_24 (by decide) ?_
            refine aw_iaddr dX7_lasts_25 (by omega) ?_
            refine aw_iaload dX7_lasts_26 m_a1 (by omega) (by omega) ?_
            refine aw_ifne (tgt := 39) dX7_lasts_27 (by decide) (fun h27 => ?_) (fun h27 => ?_)
            · first
                | (exfalso; omega)
                | skip
                  refine aw_aload_n dX7_lasts_39 rfl ?_
                  refine aw_iconst dX7_lasts_40 (by decide) ?_
                  refine aw_bipush dX7_lasts_41 (by decide) ?_
                  refine aw_aload_n dX7_lasts_43 rfl ?_
                  refine aw_iload_n dX7_lasts_44 rfl ?_
                  refine aw_iconst dX7_lasts_45 (by decide) ?_
                  refine c_X7_283 rfl dX7_lasts_46 m_ob (Nat.le_of_ble_eq_true rfl) (by omega) (C_m_sumOf rfl gh.1 (by omega) gh.2.1 ?_)
                  refine aK_i ?_
                  refine aw_imulr dX7_lasts_49 (by omega) ?_
                  refine aw_bipush dX7_lasts_50 (by decide) ?_
                  refine aw_iaddr dX7_lasts_52 (by omega) ?_
                  refine gm_7 rfl dX7_lasts_53 dX7_lasts_54 rfl ?_
                  refine aw_iload_n dX7_lasts_57 rfl ?_
                  refine aw_iconst dX7_lasts_58 (by decide) ?_
                  refine aw_iaddr dX7_lasts_59 (by omega) ?_
                  refine aw_iaload dX7_lasts_60 m_a1 (by omega) (by omega) ?_
                  refine aw_isubr dX7_lasts_61 (by omega) ?_
                  refine gm_7 rfl dX7_lasts_62 dX7_lasts_63 rfl ?_
                  refine aw_iload_n dX7_lasts_66 rfl ?_
                  refine aw_iconst dX7_lasts_67 (by decide) ?_
                  refine aw_iaddr dX7_lasts_68 (by omega) ?_
                  refine aw_iaload dX7_lasts_69 m_a1 (by omega) (by omega) ?_
                  refine aw_idiv dX7_lasts_70 (by omega) ?_
                  refine aw_mmax dX7_lasts_71 q1983 q1235 q137 q1236 (Nat.le_of_ble_eq_true rfl) (by omega) ?_
                  refine c_X7_76 rfl dX7_lasts_74 m_ob (Nat.le_of_ble_eq_true rfl) (by omega) (C_m_gives ?_)
                  refine aK_i ?_
                  refine aw_ireturn dX7_lasts_77 rfl ?_
                  first
                    | (exfalso; omega)
                    | (refine XR.sameE h ?_ ?_ ?_ ?_ ?_ ?_
                       · first
                           | rfl
                           | omega
                       · repeat (first | exact xs.rf | refine xs.up ?_ (by decide))
                       · repeat (first | exact mss.rf | refine mss.up0 ?_ (by decide))
                       · first
                           | (simp [aup, hv2, hv3, hv4]; done)
                           | (simp [aup, hv2, hv3, hv4]; omega)
                       · simp [aup, hv2, hv3, hv4]
                       · simp [aup, hv2, hv3, hv4])
            · first
                | (exfalso; omega)
                | skip
                  refine aw_aload_n dX7_lasts_30 rfl ?_
                  refine aw_bipush dX7_lasts_31 (by decide) ?_
                  refine c_X7_72 rfl dX7_lasts_33 m_ob (Nat.le_of_ble_eq_true rfl) (by omega) (C_m_refuse ?_)
                  refine aK_i ?_
                  refine aw_goto (tgt := 77) dX7_lasts_36 (by decide) ?_
                  refine aw_ireturn dX7_lasts_77 rfl ?_
                  first
                    | (exfalso; omega)
                    | (refine XR.sameE h ?_ ?_ ?_ ?_ ?_ ?_
                       · first
                           | rfl
                           | omega
                       · repeat (first | exact xs.rf | refine xs.up ?_ (by decide))
                       · repeat (first | exact mss.rf | refine mss.up0 ?_ (by decide))
                       · first
                           | (simp [aup, hv2, hv3, hv4]; done)
                           | (simp [aup, hv2, hv3, hv4]; omega)
                       · simp [aup, hv2, hv3, hv4]
                       · simp [aup, hv2, hv3, hv4])
      · first
          | (exfalso; omega)
          | skip
            refine aK_i ?_
            refine aw_ifne (tgt := 14) dX7_lasts_5 (by decide) (fun h => absurd h (by decide)) (fun _ => ?_)
            refine aw_aload_n dX7_lasts_8 rfl ?_
            refine aw_iconst dX7_lasts_9 (by decide) ?_
            refine c_X7_72 rfl dX7_lasts_10 m_ob (Nat.le_of_ble_eq_true rfl) (by omega) (C_m_refuse ?_)
            refine aK_i ?_
            refine aw_ireturn dX7_lasts_13 rfl ?_
            first
              | (exfalso; omega)
              | (refine XR.sameE h ?_ ?_ ?_ ?_ ?_ ?_
                 · first
                     | rfl
                     | omega
                 · repeat (first | exact xs.rf | refine xs.up ?_ (by decide))
                 · repeat (first | exact mss.rf | refine mss.up0 ?_ (by decide))
                 · first
                     | (simp [aup, hv2, hv3, hv4]; done)
                     | (simp [aup, hv2, hv3, hv4]; omega)
                 · simp [aup, hv2, hv3, hv4]
                 · simp [aup, hv2, hv3, hv4])
    · refine aw_bipush dX0_lasts_24 (by decide) ?_
      refine aw_goto (tgt := 30) dX0_lasts_26 (by decide) ?_
      refine p_X0_73_0 rfl dX0_lasts_30 hR.o0 ?_
      refine aw_aload_n dX0_lasts_33 rfl ?_
      refine g_X0_73_0 rfl dX0_lasts_34 hR.o0 ?_
      repeat (first | rw [aup_s] | rw [aup_n (by omega)])
      refine aw_ifle (tgt := 44) dX0_lasts_37 (by decide) (fun h => absurd h (by decide)) (fun _ => ?_)
      refine aw_iconst dX0_lasts_40 (by decide) ?_
      refine aw_goto (tgt := 80) dX0_lasts_41 (by decide) ?_
      refine aw_ireturn dX0_lasts_80 rfl ?_
      refine ⟨_, rfl, ?_⟩
      refine AMet.go (L := [some (vR 0), some (vI a), none]) mok_X7_lasts (Nat.le_of_ble_eq_true rfl) rfl ?_
      refine aw_aload_n dX7_lasts_0 rfl ?_
      refine aw_iload_n dX7_lasts_1 rfl ?_
      refine c_X7_274 rfl dX7_lasts_2 m_ob (Nat.le_of_ble_eq_true rfl) (by omega) (C_m_isHive (fun hh => ?_) (fun hh => ?_))
      · first
          | (exfalso; omega)
          | skip
            refine aK_i ?_
            refine aw_ifne (tgt := 14) dX7_lasts_5 (by decide) (fun _ => ?_) (fun h => absurd h (by decide))
            refine aw_iload_n dX7_lasts_14 rfl ?_
            refine c_X7_217 rfl dX7_lasts_15  (Nat.le_of_ble_eq_true rfl) (by omega) (C_m_hiveRow (by omega) ?_)
            refine aK_i ?_
            refine aw_istore2 dX7_lasts_18 (by decide) rfl ?_
            refine gm_7 rfl dX7_lasts_19 dX7_lasts_20 rfl ?_
            refine aw_iload_n dX7_lasts_23 rfl ?_
            refine aw_iconst dX7_lasts_24 (by decide) ?_
            refine aw_iaddr dX7_lasts_25 (by omega) ?_
            refine aw_iaload dX7_lasts_26 m_a1 (by omega) (by omega) ?_
            refine aw_ifne (tgt := 39) dX7_lasts_27 (by decide) (fun h27 => ?_) (fun h27 => ?_)
            · first
                | (exfalso; omega)
                | skip
                  refine aw_aload_n dX7_lasts_39 rfl ?_
                  refine aw_iconst dX7_lasts_40 (by decide) ?_
                  refine aw_bipush dX7_lasts_41 (by decide) ?_
                  refine aw_aload_n dX7_lasts_43 rfl ?_
                  refine aw_iload_n dX7_lasts_44 rfl ?_
                  refine aw_iconst dX7_lasts_45 (by decide) ?_
                  refine c_X7_283 rfl dX7_lasts_46 m_ob (Nat.le_of_ble_eq_true rfl) (by omega) (C_m_sumOf rfl gh.1 (by omega) gh.2.1 ?_)
                  refine aK_i ?_
                  refine aw_imulr dX7_lasts_49 (by omega) ?_
                  refine aw_bipush dX7_lasts_50 (by decide) ?_
                  refine aw_iaddr dX7_lasts_52 (by omega) ?_
                  refine gm_7 rfl dX7_lasts_53 dX7_lasts_54 rfl ?_
                  refine aw_iload_n dX7_lasts_57 rfl ?_
                  refine aw_iconst dX7_lasts_58 (by decide) ?_
                  refine aw_iaddr dX7_lasts_59 (by omega) ?_
                  refine aw_iaload dX7_lasts_60 m_a1 (by omega) (by omega) ?_
                  refine aw_isubr dX7_lasts_61 (by omega) ?_
                  refine gm_7 rfl dX7_lasts_62 dX7_lasts_63 rfl ?_
                  refine aw_iload_n dX7_lasts_66 rfl ?_
                  refine aw_iconst dX7_lasts_67 (by decide) ?_
                  refine aw_iaddr dX7_lasts_68 (by omega) ?_
                  refine aw_iaload dX7_lasts_69 m_a1 (by omega) (by omega) ?_
                  refine aw_idiv dX7_lasts_70 (by omega) ?_
                  refine aw_mmax dX7_lasts_71 q1983 q1235 q137 q1236 (Nat.le_of_ble_eq_true rfl) (by omega) ?_
                  refine c_X7_76 rfl dX7_lasts_74 m_ob (Nat.le_of_ble_eq_true rfl) (by omega) (C_m_gives ?_)
                  refine aK_i ?_
                  refine aw_ireturn dX7_lasts_77 rfl ?_
                  first
                    | (exfalso; omega)
                    | (refine XR.sameE h ?_ ?_ ?_ ?_ ?_ ?_
                       · first
                           | rfl
                           | omega
                       · repeat (first | exact xs.rf | refine xs.up ?_ (by decide))
                       · repeat (first | exact mss.rf | refine mss.up0 ?_ (by decide))
                       · first
                           | (simp [aup, hv2, hv3, hv4]; done)
                           | (simp [aup, hv2, hv3, hv4]; omega)
                       · simp [aup, hv2, hv3, hv4]
                       · simp [aup, hv2, hv3, hv4])
            · first
                | (exfalso; omega)
                | skip
                  refine aw_aload_n dX7_lasts_30 rfl ?_
                  refine aw_bipush dX7_lasts_31 (by decide) ?_
                  refine c_X7_72 rfl dX7_lasts_33 m_ob (Nat.le_of_ble_eq_true rfl) (by omega) (C_m_refuse ?_)
                  refine aK_i ?_
                  refine aw_goto (tgt := 77) dX7_lasts_36 (by decide) ?_
                  refine aw_ireturn dX7_lasts_77 rfl ?_
                  first
                    | (exfalso; omega)
                    | (refine XR.sameE h ?_ ?_ ?_ ?_ ?_ ?_
                       · first
                           | rfl
                           | omega
                       · repeat (first | exact xs.rf | refine xs.up ?_ (by decide))
                       · repeat (first | exact mss.rf | refine mss.up0 ?_ (by decide))
                       · first
                           | (simp [aup, hv2, hv3, hv4]; done)
                           | (simp [aup, hv2, hv3, hv4]; omega)
                       · simp [aup, hv2, hv3, hv4]
                       · simp [aup, hv2, hv3, hv4])
      · first
          | (exfalso; omega)
          | skip
            refine aK_i ?_
            refine aw_ifne (tgt := 14) dX7_lasts_5 (by decide) (fun h => absurd h (by decide)) (fun _ => ?_)
            refine aw_aload_n dX7_lasts_8 rfl ?_
            refine aw_iconst dX7_lasts_9 (by decide) ?_
            refine c_X7_72 rfl dX7_lasts_10 m_ob (Nat.le_of_ble_eq_true rfl) (by omega) (C_m_refuse ?_)
            refine aK_i ?_
            refine aw_ireturn dX7_lasts_13 rfl ?_
            first
              | (exfalso; omega)
              | (refine XR.sameE h ?_ ?_ ?_ ?_ ?_ ?_
                 · first
                     | rfl
                     | omega
                 · repeat (first | exact xs.rf | refine xs.up ?_ (by decide))
                 · repeat (first | exact mss.rf | refine mss.up0 ?_ (by decide))
                 · first
                     | (simp [aup, hv2, hv3, hv4]; done)
                     | (simp [aup, hv2, hv3, hv4]; omega)
                 · simp [aup, hv2, hv3, hv4]
                 · simp [aup, hv2, hv3, hv4])
  · refine aK_i ?_
    refine aw_ifne (tgt := 13) dX0_lasts_6 (by decide) (fun h => absurd h (by decide)) (fun _ => ?_)
    refine aw_iconst dX0_lasts_9 (by decide) ?_
    refine aw_goto (tgt := 30) dX0_lasts_10 (by decide) ?_
    refine p_X0_73_0 rfl dX0_lasts_30 hR.o0 ?_
    refine aw_aload_n dX0_lasts_33 rfl ?_
    refine g_X0_73_0 rfl dX0_lasts_34 hR.o0 ?_
    repeat (first | rw [aup_s] | rw [aup_n (by omega)])
    refine aw_ifle (tgt := 44) dX0_lasts_37 (by decide) (fun h => absurd h (by decide)) (fun _ => ?_)
    refine aw_iconst dX0_lasts_40 (by decide) ?_
    refine aw_goto (tgt := 80) dX0_lasts_41 (by decide) ?_
    refine aw_ireturn dX0_lasts_80 rfl ?_
    refine ⟨_, rfl, ?_⟩
    refine AMet.go (L := [some (vR 0), some (vI a), none]) mok_X7_lasts (Nat.le_of_ble_eq_true rfl) rfl ?_
    refine aw_aload_n dX7_lasts_0 rfl ?_
    refine aw_iload_n dX7_lasts_1 rfl ?_
    refine c_X7_274 rfl dX7_lasts_2 m_ob (Nat.le_of_ble_eq_true rfl) (by omega) (C_m_isHive (fun hh => ?_) (fun hh => ?_))
    · first
        | (exfalso; omega)
        | skip
          refine aK_i ?_
          refine aw_ifne (tgt := 14) dX7_lasts_5 (by decide) (fun _ => ?_) (fun h => absurd h (by decide))
          refine aw_iload_n dX7_lasts_14 rfl ?_
          refine c_X7_217 rfl dX7_lasts_15  (Nat.le_of_ble_eq_true rfl) (by omega) (C_m_hiveRow (by omega) ?_)
          refine aK_i ?_
          refine aw_istore2 dX7_lasts_18 (by decide) rfl ?_
          refine gm_7 rfl dX7_lasts_19 dX7_lasts_20 rfl ?_
          refine aw_iload_n dX7_lasts_23 rfl ?_
          refine aw_iconst dX7_lasts_24 (by decide) ?_
          refine aw_iaddr dX7_lasts_25 (by omega) ?_
          refine aw_iaload dX7_lasts_26 m_a1 (by omega) (by omega) ?_
          refine aw_ifne (tgt := 39) dX7_lasts_27 (by decide) (fun h27 => ?_) (fun h27 => ?_)
          · first
              | (exfalso; omega)
              | skip
                refine aw_aload_n dX7_lasts_39 rfl ?_
                refine aw_iconst dX7_lasts_40 (by decide) ?_
                refine aw_bipush dX7_lasts_41 (by decide) ?_
                refine aw_aload_n dX7_lasts_43 rfl ?_
                refine aw_iload_n dX7_lasts_44 rfl ?_
                refine aw_iconst dX7_lasts_45 (by decide) ?_
                refine c_X7_283 rfl dX7_lasts_46 m_ob (Nat.le_of_ble_eq_true rfl) (by omega) (C_m_sumOf rfl gh.1 (by omega) gh.2.1 ?_)
                refine aK_i ?_
                refine aw_imulr dX7_lasts_49 (by omega) ?_
                refine aw_bipush dX7_lasts_50 (by decide) ?_
                refine aw_iaddr dX7_lasts_52 (by omega) ?_
                refine gm_7 rfl dX7_lasts_53 dX7_lasts_54 rfl ?_
                refine aw_iload_n dX7_lasts_57 rfl ?_
                refine aw_iconst dX7_lasts_58 (by decide) ?_
                refine aw_iaddr dX7_lasts_59 (by omega) ?_
                refine aw_iaload dX7_lasts_60 m_a1 (by omega) (by omega) ?_
                refine aw_isubr dX7_lasts_61 (by omega) ?_
                refine gm_7 rfl dX7_lasts_62 dX7_lasts_63 rfl ?_
                refine aw_iload_n dX7_lasts_66 rfl ?_
                refine aw_iconst dX7_lasts_67 (by decide) ?_
                refine aw_iaddr dX7_lasts_68 (by omega) ?_
                refine aw_iaload dX7_lasts_69 m_a1 (by omega) (by omega) ?_
                refine aw_idiv dX7_lasts_70 (by omega) ?_
                refine aw_mmax dX7_lasts_71 q1983 q1235 q137 q1236 (Nat.le_of_ble_eq_true rfl) (by omega) ?_
                refine c_X7_76 rfl dX7_lasts_74 m_ob (Nat.le_of_ble_eq_true rfl) (by omega) (C_m_gives ?_)
                refine aK_i ?_
                refine aw_ireturn dX7_lasts_77 rfl ?_
                first
                  | (exfalso; omega)
                  | (refine XR.sameE h ?_ ?_ ?_ ?_ ?_ ?_
                     · first
                         | rfl
                         | omega
                     · repeat (first | exact xs.rf | refine xs.up ?_ (by decide))
                     · repeat (first | exact mss.rf | refine mss.up0 ?_ (by decide))
                     · first
                         | (simp [aup, hv2, hv3, hv4]; done)
                         | (simp [aup, hv2, hv3, hv4]; omega)
                     · simp [aup, hv2, hv3, hv4]
                     · simp [aup, hv2, hv3, hv4])
          · first
              | (exfalso; omega)
              | skip
                refine aw_aload_n dX7_lasts_30 rfl ?_
                refine aw_bipush dX7_lasts_31 (by decide) ?_
                refine c_X7_72 rfl dX7_lasts_33 m_ob (Nat.le_of_ble_eq_true rfl) (by omega) (C_m_refuse ?_)
                refine aK_i ?_
                refine aw_goto (tgt := 77) dX7_lasts_36 (by decide) ?_
                refine aw_ireturn dX7_lasts_77 rfl ?_
                first
                  | (exfalso; omega)
                  | (refine XR.sameE h ?_ ?_ ?_ ?_ ?_ ?_
                     · first
                         | rfl
                         | omega
                     · repeat (first | exact xs.rf | refine xs.up ?_ (by decide))
                     · repeat (first | exact mss.rf | refine mss.up0 ?_ (by decide))
                     · first
                         | (simp [aup, hv2, hv3, hv4]; done)
                         | (simp [aup, hv2, hv3, hv4]; omega)
                     · simp [aup, hv2, hv3, hv4]
                     · simp [aup, hv2, hv3, hv4])
    · first
        | (exfalso; omega)
        | skip
          refine aK_i ?_
          refine aw_ifne (tgt := 14) dX7_lasts_5 (by decide) (fun h => absurd h (by decide)) (fun _ => ?_)
          refine aw_aload_n dX7_lasts_8 rfl ?_
          refine aw_iconst dX7_lasts_9 (by decide) ?_
          refine c_X7_72 rfl dX7_lasts_10 m_ob (Nat.le_of_ble_eq_true rfl) (by omega) (C_m_refuse ?_)
          refine aK_i ?_
          refine aw_ireturn dX7_lasts_13 rfl ?_
          first
            | (exfalso; omega)
            | (refine XR.sameE h ?_ ?_ ?_ ?_ ?_ ?_
               · first
                   | rfl
                   | omega
               · repeat (first | exact xs.rf | refine xs.up ?_ (by decide))
               · repeat (first | exact mss.rf | refine mss.up0 ?_ (by decide))
               · first
                   | (simp [aup, hv2, hv3, hv4]; done)
                   | (simp [aup, hv2, hv3, hv4]; omega)
               · simp [aup, hv2, hv3, hv4]
               · simp [aup, hv2, hv3, hv4])
theorem OP_fault {sz : Int} {im : Int → aIm} {ct cm : Int → Int → Int} (h : XR (sz, im, ct) cm) {a : Int} (r0 : -2147483648 ≤ a ∧ a < 2147483648)  : AMet md_X0_fault 1 0 0 [vR 0, vI a] (sz, im, ct) (XQ md_X7_fault 1 [vR 0, vI a] cm) := by
  obtain ⟨own, N, hR, HY, HL, HN, HS, HP, HF, HX, hv2, hv3, hv4⟩ := id h
  dsimp only at hR HY HL HS HX hv2 hv3 hv4
  have hp0 := HP.1
  have hp3 := HP.2.1
  have hpq := HP.2.2.2.1.1
  have hps := HP.2.2.2.2.2
  refine AMet.go (L := [some (vR 0), some (vI a)]) mok_X0_fault (Nat.le_of_ble_eq_true rfl) rfl ?_
  refine aw_iload_n dX0_fault_0 rfl ?_
  refine aw_ifne (tgt := 11) dX0_fault_1 (by decide) (fun h1 => ?_) (fun h1 => ?_)
  · refine aw_iload_n dX0_fault_11 rfl ?_
    refine aw_iconst dX0_fault_12 (by decide) ?_
    refine aw_icmpne (tgt := 23) dX0_fault_13 (by decide) (fun h13 => ?_) (fun h13 => ?_)
    · refine aw_iconst dX0_fault_23 (by decide) ?_
      refine aw_ireturn dX0_fault_24 rfl ?_
      refine ⟨_, rfl, ?_⟩
      refine AMet.go (L := [some (vR 0), some (vI a)]) mok_X7_fault (Nat.le_of_ble_eq_true rfl) rfl ?_
      refine aw_iload_n dX7_fault_0 rfl ?_
      refine aw_ifne (tgt := 11) dX7_fault_1 (by decide) (fun h1 => ?_) (fun h1 => ?_)
      · first
          | (exfalso; omega)
          | skip
            refine aw_iload_n dX7_fault_11 rfl ?_
            refine aw_iconst dX7_fault_12 (by decide) ?_
            refine aw_icmpne (tgt := 23) dX7_fault_13 (by decide) (fun h13 => ?_) (fun h13 => ?_)
            · first
                | (exfalso; omega)
                | skip
                  refine aw_iconst dX7_fault_23 (by decide) ?_
                  refine aw_ireturn dX7_fault_24 rfl ?_
                  first
                    | (exfalso; omega)
                    | (refine XR.sameE h ?_ ?_ ?_ ?_ ?_ ?_
                       · first
                           | rfl
                           | omega
                       · repeat (first | exact xs.rf | refine xs.up ?_ (by decide))
                       · repeat (first | exact mss.rf | refine mss.up0 ?_ (by decide))
                       · first
                           | (simp [aup, hv2, hv3, hv4]; done)
                           | (simp [aup, hv2, hv3, hv4]; omega)
                       · simp [aup, hv2, hv3, hv4]
                       · simp [aup, hv2, hv3, hv4])
            · first
                | (exfalso; omega)
                | skip
                  refine gm_41 rfl dX7_fault_16 dX7_fault_17 rfl ?_
                  refine aw_goto (tgt := 24) dX7_fault_20 (by decide) ?_
                  refine aw_ireturn dX7_fault_24 rfl ?_
                  first
                    | (exfalso; omega)
                    | (refine XR.sameE h ?_ ?_ ?_ ?_ ?_ ?_
                       · first
                           | rfl
                           | omega
                       · repeat (first | exact xs.rf | refine xs.up ?_ (by decide))
                       · repeat (first | exact mss.rf | refine mss.up0 ?_ (by decide))
                       · first
                           | (simp [aup, hv2, hv3, hv4]; done)
                           | (simp [aup, hv2, hv3, hv4]; omega)
                       · simp [aup, hv2, hv3, hv4]
                       · simp [aup, hv2, hv3, hv4])
      · first
          | (exfalso; omega)
          | skip
            refine gm_37 rfl dX7_fault_4 dX7_fault_5 rfl ?_
            refine aw_goto (tgt := 24) dX7_fault_8 (by decide) ?_
            refine aw_ireturn dX7_fault_24 rfl ?_
            first
              | (exfalso; omega)
              | (refine XR.sameE h ?_ ?_ ?_ ?_ ?_ ?_
                 · first
                     | rfl
                     | omega
                 · repeat (first | exact xs.rf | refine xs.up ?_ (by decide))
                 · repeat (first | exact mss.rf | refine mss.up0 ?_ (by decide))
                 · first
                     | (simp [aup, hv2, hv3, hv4]; done)
                     | (simp [aup, hv2, hv3, hv4]; omega)
                 · simp [aup, hv2, hv3, hv4]
                 · simp [aup, hv2, hv3, hv4])
    · refine aw_aload_n dX0_fault_16 rfl ?_
      refine g_X0_31_0 rfl dX0_fault_17 hR.o0 ?_
      rw [HX.2.2.2.1.2.2.2.1]
      refine aw_goto (tgt := 24) dX0_fault_20 (by decide) ?_
      refine aw_ireturn dX0_fault_24 rfl ?_
      refine ⟨_, rfl, ?_⟩
      refine AMet.go (L := [some (vR 0), some (vI a)]) mok_X7_fault (Nat.le_of_ble_eq_true rfl) rfl ?_
      refine aw_iload_n dX7_fault_0 rfl ?_
      refine aw_ifne (tgt := 11) dX7_fault_1 (by decide) (fun h1 => ?_) (fun h1 => ?_)
      · first
          | (exfalso; omega)
          | skip
            refine aw_iload_n dX7_fault_11 rfl ?_
            refine aw_iconst dX7_fault_12 (by decide) ?_
            refine aw_icmpne (tgt := 23) dX7_fault_13 (by decide) (fun h13 => ?_) (fun h13 => ?_)
            · first
                | (exfalso; omega)
                | skip
                  refine aw_iconst dX7_fault_23 (by decide) ?_
                  refine aw_ireturn dX7_fault_24 rfl ?_
                  first
                    | (exfalso; omega)
                    | (refine XR.sameE h ?_ ?_ ?_ ?_ ?_ ?_
                       · first
                           | rfl
                           | omega
                       · repeat (first | exact xs.rf | refine xs.up ?_ (by decide))
                       · repeat (first | exact mss.rf | refine mss.up0 ?_ (by decide))
                       · first
                           | (simp [aup, hv2, hv3, hv4]; done)
                           | (simp [aup, hv2, hv3, hv4]; omega)
                       · simp [aup, hv2, hv3, hv4]
                       · simp [aup, hv2, hv3, hv4])
            · first
                | (exfalso; omega)
                | skip
                  refine gm_41 rfl dX7_fault_16 dX7_fault_17 rfl ?_
                  refine aw_goto (tgt := 24) dX7_fault_20 (by decide) ?_
                  refine aw_ireturn dX7_fault_24 rfl ?_
                  first
                    | (exfalso; omega)
                    | (refine XR.sameE h ?_ ?_ ?_ ?_ ?_ ?_
                       · first
                           | rfl
                           | omega
                       · repeat (first | exact xs.rf | refine xs.up ?_ (by decide))
                       · repeat (first | exact mss.rf | refine mss.up0 ?_ (by decide))
                       · first
                           | (simp [aup, hv2, hv3, hv4]; done)
                           | (simp [aup, hv2, hv3, hv4]; omega)
                       · simp [aup, hv2, hv3, hv4]
                       · simp [aup, hv2, hv3, hv4])
      · first
          | (exfalso; omega)
          | skip
            refine gm_37 rfl dX7_fault_4 dX7_fault_5 rfl ?_
            refine aw_goto (tgt := 24) dX7_fault_8 (by decide) ?_
            refine aw_ireturn dX7_fault_24 rfl ?_
            first
              | (exfalso; omega)
              | (refine XR.sameE h ?_ ?_ ?_ ?_ ?_ ?_
                 · first
                     | rfl
                     | omega
                 · repeat (first | exact xs.rf | refine xs.up ?_ (by decide))
                 · repeat (first | exact mss.rf | refine mss.up0 ?_ (by decide))
                 · first
                     | (simp [aup, hv2, hv3, hv4]; done)
                     | (simp [aup, hv2, hv3, hv4]; omega)
                 · simp [aup, hv2, hv3, hv4]
                 · simp [aup, hv2, hv3, hv4])
  · refine aw_aload_n dX0_fault_4 rfl ?_
    refine g_X0_27_0 rfl dX0_fault_5 hR.o0 ?_
    rw [HX.2.2.2.1.2.2.1]
    refine aw_goto (tgt := 24) dX0_fault_8 (by decide) ?_
    refine aw_ireturn dX0_fault_24 rfl ?_
    refine ⟨_, rfl, ?_⟩
    refine AMet.go (L := [some (vR 0), some (vI a)]) mok_X7_fault (Nat.le_of_ble_eq_true rfl) rfl ?_
    refine aw_iload_n dX7_fault_0 rfl ?_
    refine aw_ifne (tgt := 11) dX7_fault_1 (by decide) (fun h1 => ?_) (fun h1 => ?_)
    · first
        | (exfalso; omega)
        | skip
          refine aw_iload_n dX7_fault_11 rfl ?_
          refine aw_iconst dX7_fault_12 (by decide) ?_
          refine aw_icmpne (tgt := 23) dX7_fault_13 (by decide) (fun h13 => ?_) (fun h13 => ?_)
          · first
              | (exfalso; omega)
              | skip
                refine aw_iconst dX7_fault_23 (by decide) ?_
                refine aw_ireturn dX7_fault_24 rfl ?_
                first
                  | (exfalso; omega)
                  | (refine XR.sameE h ?_ ?_ ?_ ?_ ?_ ?_
                     · first
                         | rfl
                         | omega
                     · repeat (first | exact xs.rf | refine xs.up ?_ (by decide))
                     · repeat (first | exact mss.rf | refine mss.up0 ?_ (by decide))
                     · first
                         | (simp [aup, hv2, hv3, hv4]; done)
                         | (simp [aup, hv2, hv3, hv4]; omega)
                     · simp [aup, hv2, hv3, hv4]
                     · simp [aup, hv2, hv3, hv4])
          · first
              | (exfalso; omega)
              | skip
                refine gm_41 rfl dX7_fault_16 dX7_fault_17 rfl ?_
                refine aw_goto (tgt := 24) dX7_fault_20 (by decide) ?_
                refine aw_ireturn dX7_fault_24 rfl ?_
                first
                  | (exfalso; omega)
                  | (refine XR.sameE h ?_ ?_ ?_ ?_ ?_ ?_
                     · first
                         | rfl
                         | omega
                     · repeat (first | exact xs.rf | refine xs.up ?_ (by decide))
                     · repeat (first | exact mss.rf | refine mss.up0 ?_ (by decide))
                     · first
                         | (simp [aup, hv2, hv3, hv4]; done)
                         | (simp [aup, hv2, hv3, hv4]; omega)
                     · simp [aup, hv2, hv3, hv4]
                     · simp [aup, hv2, hv3, hv4])
    · first
        | (exfalso; omega)
        | skip
          refine gm_37 rfl dX7_fault_4 dX7_fault_5 rfl ?_
          refine aw_goto (tgt := 24) dX7_fault_8 (by decide) ?_
          refine aw_ireturn dX7_fault_24 rfl ?_
          first
            | (exfalso; omega)
            | (refine XR.sameE h ?_ ?_ ?_ ?_ ?_ ?_
               · first
                   | rfl
                   | omega
               · repeat (first | exact xs.rf | refine xs.up ?_ (by decide))
               · repeat (first | exact mss.rf | refine mss.up0 ?_ (by decide))
               · first
                   | (simp [aup, hv2, hv3, hv4]; done)
                   | (simp [aup, hv2, hv3, hv4]; omega)
               · simp [aup, hv2, hv3, hv4]
               · simp [aup, hv2, hv3, hv4])
theorem OP_lived {sz : Int} {im : Int → aIm} {ct cm : Int → Int → Int} (h : XR (sz, im, ct) cm) {a : Int} (r0 : -2147483648 ≤ a ∧ a < 2147483648)  : AMet md_X0_lived 2 0 0 [vR 0, vI a] (sz, im, ct) (XQ md_X7_lived 2 [vR 0, vI a] cm) := by
  obtain ⟨own, N, hR, HY, HL, HN, HS, HP, HF, HX, hv2, hv3, hv4⟩ := id h
  dsimp only at hR HY HL HS HX hv2 hv3 hv4
  have hp0 := HP.1
  have hp3 := HP.2.1
  have hpq := HP.2.2.2.1.1
  have hps := HP.2.2.2.2.2
  refine AMet.go (L := [some (vR 0), some (vI a)]) mok_X0_lived (Nat.le_of_ble_eq_true rfl) rfl ?_
  refine aw_aload_n dX0_lived_0 rfl ?_
  refine aw_iload_n dX0_lived_1 rfl ?_
  refine aw_i2l dX0_lived_2 ?_
  refine aw_lconst0 dX0_lived_3 ?_
  refine aw_ldc2 (x := 2) dX0_lived_4 q1039 (by decide) ?_
  refine c_X0_164 rfl dX0_lived_7  (Nat.le_of_ble_eq_true rfl) (by omega) (C_x_isIn (fun hi => ?_) (fun hi => ?_))
  · refine aK_i ?_
    refine aw_ifne (tgt := 17) dX0_lived_10 (by decide) (fun _ => ?_) (fun h => absurd h (by decide))
    refine aw_aload_n dX0_lived_17 rfl ?_
    refine g_X0_442_0 rfl dX0_lived_18 hR.o0 ?_
    rw [HX.2.2.2.1.2.2.2.2.1]
    refine aw_ifeq (tgt := 28) dX0_lived_21 (by decide) (fun h21 => ?_) (fun h21 => ?_)
    · refine aw_bipush dX0_lived_28 (by decide) ?_
      refine p_X0_73_0 rfl dX0_lived_30 hR.o0 ?_
      refine aw_aload_n dX0_lived_33 rfl ?_
      refine g_X0_73_0 rfl dX0_lived_34 hR.o0 ?_
      repeat (first | rw [aup_s] | rw [aup_n (by omega)])
      refine aw_ifle (tgt := 44) dX0_lived_37 (by decide) (fun h => absurd h (by decide)) (fun _ => ?_)
      refine aw_iconst dX0_lived_40 (by decide) ?_
      refine aw_goto (tgt := 50) dX0_lived_41 (by decide) ?_
      try rw [aup_n (by omega), HX.2.2.2.2.2 a (by omega) (by omega)]
      refine aw_ireturn dX0_lived_50 rfl ?_
      refine ⟨_, rfl, ?_⟩
      refine AMet.go (L := [some (vR 0), some (vI a)]) mok_X7_lived (Nat.le_of_ble_eq_true rfl) rfl ?_
      refine aw_iload_n dX7_lived_0 rfl ?_
      refine aw_iflt (tgt := 9) dX7_lived_1 (by decide) (fun h1 => ?_) (fun h1 => ?_)
      · first
          | (exfalso; omega)
          | skip
            refine aw_aload_n dX7_lived_9 rfl ?_
            refine aw_iconst dX7_lived_10 (by decide) ?_
            refine c_X7_72 rfl dX7_lived_11 m_ob (Nat.le_of_ble_eq_true rfl) (by omega) (C_m_refuse ?_)
            refine aK_i ?_
            refine aw_goto (tgt := 43) dX7_lived_14 (by decide) ?_
            refine aw_ireturn dX7_lived_43 rfl ?_
            first
              | (exfalso; omega)
              | (refine XR.sameE h ?_ ?_ ?_ ?_ ?_ ?_
                 · first
                     | rfl
                     | omega
                 · repeat (first | exact xs.rf | refine xs.up ?_ (by decide))
                 · repeat (first | exact mss.rf | refine mss.up0 ?_ (by decide))
                 · first
                     | (simp [aup, hv2, hv3, hv4]; done)
                     | (simp [aup, hv2, hv3, hv4]; omega)
                 · simp [aup, hv2, hv3, hv4]
                 · simp [aup, hv2, hv3, hv4])
      · first
          | (exfalso; omega)
          | skip
            refine aw_iload_n dX7_lived_4 rfl ?_
            refine aw_iconst dX7_lived_5 (by decide) ?_
            refine aw_icmple (tgt := 17) dX7_lived_6 (by decide) (fun h6 => ?_) (fun h6 => ?_)
            · first
                | (exfalso; omega)
                | skip
                  refine gm_395 rfl dX7_lived_17 dX7_lived_18 rfl ?_
                  refine aw_ifeq (tgt := 37) dX7_lived_21 (by decide) (fun h21 => ?_) (fun h21 => ?_)
                  · first
                      | (exfalso; omega)
                      | skip
                        refine aw_aload_n dX7_lived_37 rfl ?_
                        refine aw_bipush dX7_lived_38 (by decide) ?_
                        refine c_X7_72 rfl dX7_lived_40 m_ob (Nat.le_of_ble_eq_true rfl) (by omega) (C_m_refuse ?_)
                        refine aK_i ?_
                        refine aw_ireturn dX7_lived_43 rfl ?_
                        first
                          | (exfalso; omega)
                          | (refine XR.sameE h ?_ ?_ ?_ ?_ ?_ ?_
                             · first
                                 | rfl
                                 | omega
                             · repeat (first | exact xs.rf | refine xs.up ?_ (by decide))
                             · repeat (first | exact mss.rf | refine mss.up0 ?_ (by decide))
                             · first
                                 | (simp [aup, hv2, hv3, hv4]; done)
                                 | (simp [aup, hv2, hv3, hv4]; omega)
                             · simp [aup, hv2, hv3, hv4]
                             · simp [aup, hv2, hv3, hv4])
                  · first
                      | (exfalso; omega)
                      | skip
                        refine aw_aload_n dX7_lived_24 rfl ?_
                        refine gm_59 rfl dX7_lived_25 dX7_lived_26 rfl ?_
                        refine aw_iload_n dX7_lived_29 rfl ?_
                        refine aw_iaload dX7_lived_30 m_a13 (by omega) (by omega) ?_
                        refine c_X7_76 rfl dX7_lived_31 m_ob (Nat.le_of_ble_eq_true rfl) (by omega) (C_m_gives ?_)
                        refine aK_i ?_
                        refine aw_goto (tgt := 43) dX7_lived_34 (by decide) ?_
                        refine aw_ireturn dX7_lived_43 rfl ?_
                        first
                          | (exfalso; omega)
                          | (refine XR.sameE h ?_ ?_ ?_ ?_ ?_ ?_
                             · first
                                 | rfl
                                 | omega
                             · repeat (first | exact xs.rf | refine xs.up ?_ (by decide))
                             · repeat (first | exact mss.rf | refine mss.up0 ?_ (by decide))
                             · first
                                 | (simp [aup, hv2, hv3, hv4]; done)
                                 | (simp [aup, hv2, hv3, hv4]; omega)
                             · simp [aup, hv2, hv3, hv4]
                             · simp [aup, hv2, hv3, hv4])
            · first
                | (exfalso; omega)
                | skip
                  refine aw_aload_n dX7_lived_9 rfl ?_
                  refine aw_iconst dX7_lived_10 (by decide) ?_
                  refine c_X7_72 rfl dX7_lived_11 m_ob (Nat.le_of_ble_eq_true rfl) (by omega) (C_m_refuse ?_)
                  refine aK_i ?_
                  refine aw_goto (tgt := 43) dX7_lived_14 (by decide) ?_
                  refine aw_ireturn dX7_lived_43 rfl ?_
                  first
                    | (exfalso; omega)
                    | (refine XR.sameE h ?_ ?_ ?_ ?_ ?_ ?_
                       · first
                           | rfl
                           | omega
                       · repeat (first | exact xs.rf | refine xs.up ?_ (by decide))
                       · repeat (first | exact mss.rf | refine mss.up0 ?_ (by decide))
                       · first
                           | (simp [aup, hv2, hv3, hv4]; done)
                           | (simp [aup, hv2, hv3, hv4]; omega)
                       · simp [aup, hv2, hv3, hv4]
                       · simp [aup, hv2, hv3, hv4])
    · refine aw_iconst dX0_lived_24 (by decide) ?_
      refine aw_goto (tgt := 30) dX0_lived_25 (by decide) ?_
      refine p_X0_73_0 rfl dX0_lived_30 hR.o0 ?_
      refine aw_aload_n dX0_lived_33 rfl ?_
      refine g_X0_73_0 rfl dX0_lived_34 hR.o0 ?_
      repeat (first | rw [aup_s] | rw [aup_n (by omega)])
      refine aw_ifle (tgt := 44) dX0_lived_37 (by decide) (fun _ => ?_) (fun h => absurd h (by decide))
      refine aw_aload_n dX0_lived_44 rfl ?_
      refine g_X0_70_0 rfl dX0_lived_45 hR.o0 ?_
      rw [hR.e29]
      refine aw_iload_n dX0_lived_48 rfl ?_
      refine aw_iaload dX0_lived_49 hR.a29 (by omega) (by omega) ?_
      try rw [aup_n (by omega), HX.2.2.2.2.2 a (by omega) (by omega)]
      refine aw_ireturn dX0_lived_50 rfl ?_
      refine ⟨_, rfl, ?_⟩
      refine AMet.go (L := [some (vR 0), some (vI a)]) mok_X7_lived (Nat.le_of_ble_eq_true rfl) rfl ?_
      refine aw_iload_n dX7_lived_0 rfl ?_
      refine aw_iflt (tgt := 9) dX7_lived_1 (by decide) (fun h1 => ?_) (fun h1 => ?_)
      · first
          | (exfalso; omega)
          | skip
            refine aw_aload_n dX7_lived_9 rfl ?_
            refine aw_iconst dX7_lived_10 (by decide) ?_
            refine c_X7_72 rfl dX7_lived_11 m_ob (Nat.le_of_ble_eq_true rfl) (by omega) (C_m_refuse ?_)
            refine aK_i ?_
            refine aw_goto (tgt := 43) dX7_lived_14 (by decide) ?_
            refine aw_ireturn dX7_lived_43 rfl ?_
            first
              | (exfalso; omega)
              | (refine XR.sameE h ?_ ?_ ?_ ?_ ?_ ?_
                 · first
                     | rfl
                     | omega
                 · repeat (first | exact xs.rf | refine xs.up ?_ (by decide))
                 · repeat (first | exact mss.rf | refine mss.up0 ?_ (by decide))
                 · first
                     | (simp [aup, hv2, hv3, hv4]; done)
                     | (simp [aup, hv2, hv3, hv4]; omega)
                 · simp [aup, hv2, hv3, hv4]
                 · simp [aup, hv2, hv3, hv4])
      · first
          | (exfalso; omega)
          | skip
            refine aw_iload_n dX7_lived_4 rfl ?_
            refine aw_iconst dX7_lived_5 (by decide) ?_
            refine aw_icmple (tgt := 17) dX7_lived_6 (by decide) (fun h6 => ?_) (fun h6 => ?_)
            · first
                | (exfalso; omega)
                | skip
                  refine gm_395 rfl dX7_lived_17 dX7_lived_18 rfl ?_
                  refine aw_ifeq (tgt := 37) dX7_lived_21 (by decide) (fun h21 => ?_) (fun h21 => ?_)
                  · first
                      | (exfalso; omega)
                      | skip
                        refine aw_aload_n dX7_lived_37 rfl ?_
                        refine aw_bipush dX7_lived_38 (by decide) ?_
                        refine c_X7_72 rfl dX7_lived_40 m_ob (Nat.le_of_ble_eq_true rfl) (by omega) (C_m_refuse ?_)
                        refine aK_i ?_
                        refine aw_ireturn dX7_lived_43 rfl ?_
                        first
                          | (exfalso; omega)
                          | (refine XR.sameE h ?_ ?_ ?_ ?_ ?_ ?_
                             · first
                                 | rfl
                                 | omega
                             · repeat (first | exact xs.rf | refine xs.up ?_ (by decide))
                             · repeat (first | exact mss.rf | refine mss.up0 ?_ (by decide))
                             · first
                                 | (simp [aup, hv2, hv3, hv4]; done)
                                 | (simp [aup, hv2, hv3, hv4]; omega)
                             · simp [aup, hv2, hv3, hv4]
                             · simp [aup, hv2, hv3, hv4])
                  · first
                      | (exfalso; omega)
                      | skip
                        refine aw_aload_n dX7_lived_24 rfl ?_
                        refine gm_59 rfl dX7_lived_25 dX7_lived_26 rfl ?_
                        refine aw_iload_n dX7_lived_29 rfl ?_
                        refine aw_iaload dX7_lived_30 m_a13 (by omega) (by omega) ?_
                        refine c_X7_76 rfl dX7_lived_31 m_ob (Nat.le_of_ble_eq_true rfl) (by omega) (C_m_gives ?_)
                        refine aK_i ?_
                        refine aw_goto (tgt := 43) dX7_lived_34 (by decide) ?_
                        refine aw_ireturn dX7_lived_43 rfl ?_
                        first
                          | (exfalso; omega)
                          | (refine XR.sameE h ?_ ?_ ?_ ?_ ?_ ?_
                             · first
                                 | rfl
                                 | omega
                             · repeat (first | exact xs.rf | refine xs.up ?_ (by decide))
                             · repeat (first | exact mss.rf | refine mss.up0 ?_ (by decide))
                             · first
                                 | (simp [aup, hv2, hv3, hv4]; done)
                                 | (simp [aup, hv2, hv3, hv4]; omega)
                             · simp [aup, hv2, hv3, hv4]
                             · simp [aup, hv2, hv3, hv4])
            · first
                | (exfalso; omega)
                | skip
                  refine aw_aload_n dX7_lived_9 rfl ?_
                  refine aw_iconst dX7_lived_10 (by decide) ?_
                  refine c_X7_72 rfl dX7_lived_11 m_ob (Nat.le_of_ble_eq_true rfl) (by omega) (C_m_refuse ?_)
                  refine aK_i ?_
                  refine aw_goto (tgt := 43) dX7_lived_14 (by decide) ?_
                  refine aw_ireturn dX7_lived_43 rfl ?_
                  first
                    | (exfalso; omega)
                    | (refine XR.sameE h ?_ ?_ ?_ ?_ ?_ ?_
                       · first
                           | rfl
                           | omega
                       · repeat (first | exact xs.rf | refine xs.up ?_ (by decide))
                       · repeat (first | exact mss.rf | refine mss.up0 ?_ (by decide))
                       · first
                           | (simp [aup, hv2, hv3, hv4]; done)
                           | (simp [aup, hv2, hv3, hv4]; omega)
                       · simp [aup, hv2, hv3, hv4]
                       · simp [aup, hv2, hv3, hv4])
  · refine aK_i ?_
    refine aw_ifne (tgt := 17) dX0_lived_10 (by decide) (fun h => absurd h (by decide)) (fun _ => ?_)
    refine aw_iconst dX0_lived_13 (by decide) ?_
    refine aw_goto (tgt := 30) dX0_lived_14 (by decide) ?_
    refine p_X0_73_0 rfl dX0_lived_30 hR.o0 ?_
    refine aw_aload_n dX0_lived_33 rfl ?_
    refine g_X0_73_0 rfl dX0_lived_34 hR.o0 ?_
    repeat (first | rw [aup_s] | rw [aup_n (by omega)])
    refine aw_ifle (tgt := 44) dX0_lived_37 (by decide) (fun h => absurd h (by decide)) (fun _ => ?_)
    refine aw_iconst dX0_lived_40 (by decide) ?_
    refine aw_goto (tgt := 50) dX0_lived_41 (by decide) ?_
    try rw [aup_n (by omega), HX.2.2.2.2.2 a (by omega) (by omega)]
    refine aw_ireturn dX0_lived_50 rfl ?_
    refine ⟨_, rfl, ?_⟩
    refine AMet.go (L := [some (vR 0), some (vI a)]) mok_X7_lived (Nat.le_of_ble_eq_true rfl) rfl ?_
    refine aw_iload_n dX7_lived_0 rfl ?_
    refine aw_iflt (tgt := 9) dX7_lived_1 (by decide) (fun h1 => ?_) (fun h1 => ?_)
    · first
        | (exfalso; omega)
        | skip
          refine aw_aload_n dX7_lived_9 rfl ?_
          refine aw_iconst dX7_lived_10 (by decide) ?_
          refine c_X7_72 rfl dX7_lived_11 m_ob (Nat.le_of_ble_eq_true rfl) (by omega) (C_m_refuse ?_)
          refine aK_i ?_
          refine aw_goto (tgt := 43) dX7_lived_14 (by decide) ?_
          refine aw_ireturn dX7_lived_43 rfl ?_
          first
            | (exfalso; omega)
            | (refine XR.sameE h ?_ ?_ ?_ ?_ ?_ ?_
               · first
                   | rfl
                   | omega
               · repeat (first | exact xs.rf | refine xs.up ?_ (by decide))
               · repeat (first | exact mss.rf | refine mss.up0 ?_ (by decide))
               · first
                   | (simp [aup, hv2, hv3, hv4]; done)
                   | (simp [aup, hv2, hv3, hv4]; omega)
               · simp [aup, hv2, hv3, hv4]
               · simp [aup, hv2, hv3, hv4])
    · first
        | (exfalso; omega)
        | skip
          refine aw_iload_n dX7_lived_4 rfl ?_
          refine aw_iconst dX7_lived_5 (by decide) ?_
          refine aw_icmple (tgt := 17) dX7_lived_6 (by decide) (fun h6 => ?_) (fun h6 => ?_)
          · first
              | (exfalso; omega)
              | skip
                refine gm_395 rfl dX7_lived_17 dX7_lived_18 rfl ?_
                refine aw_ifeq (tgt := 37) dX7_lived_21 (by decide) (fun h21 => ?_) (fun h21 => ?_)
                · first
                    | (exfalso; omega)
                    | skip
                      refine aw_aload_n dX7_lived_37 rfl ?_
                      refine aw_bipush dX7_lived_38 (by decide) ?_
                      refine c_X7_72 rfl dX7_lived_40 m_ob (Nat.le_of_ble_eq_true rfl) (by omega) (C_m_refuse ?_)
                      refine aK_i ?_
                      refine aw_ireturn dX7_lived_43 rfl ?_
                      first
                        | (exfalso; omega)
                        | (refine XR.sameE h ?_ ?_ ?_ ?_ ?_ ?_
                           · first
                               | rfl
                               | omega
                           · repeat (first | exact xs.rf | refine xs.up ?_ (by decide))
                           · repeat (first | exact mss.rf | refine mss.up0 ?_ (by decide))
                           · first
                               | (simp [aup, hv2, hv3, hv4]; done)
                               | (simp [aup, hv2, hv3, hv4]; omega)
                           · simp [aup, hv2, hv3, hv4]
                           · simp [aup, hv2, hv3, hv4])
                · first
                    | (exfalso; omega)
                    | skip
                      refine aw_aload_n dX7_lived_24 rfl ?_
                      refine gm_59 rfl dX7_lived_25 dX7_lived_26 rfl ?_
                      refine aw_iload_n dX7_lived_29 rfl ?_
                      refine aw_iaload dX7_lived_30 m_a13 (by omega) (by omega) ?_
                      refine c_X7_76 rfl dX7_lived_31 m_ob (Nat.le_of_ble_eq_true rfl) (by omega) (C_m_gives ?_)
                      refine aK_i ?_
                      refine aw_goto (tgt := 43) dX7_lived_34 (by decide) ?_
                      refine aw_ireturn dX7_lived_43 rfl ?_
                      first
                        | (exfalso; omega)
                        | (refine XR.sameE h ?_ ?_ ?_ ?_ ?_ ?_
                           · first
                               | rfl
                               | omega
                           · repeat (first | exact xs.rf | refine xs.up ?_ (by decide))
                           · repeat (first | exact mss.rf | refine mss.up0 ?_ (by decide))
                           · first
                               | (simp [aup, hv2, hv3, hv4]; done)
                               | (simp [aup, hv2, hv3, hv4]; omega)
                           · simp [aup, hv2, hv3, hv4]
                           · simp [aup, hv2, hv3, hv4])
          · first
              | (exfalso; omega)
              | skip
                refine aw_aload_n dX7_lived_9 rfl ?_
                refine aw_iconst dX7_lived_10 (by decide) ?_
                refine c_X7_72 rfl dX7_lived_11 m_ob (Nat.le_of_ble_eq_true rfl) (by omega) (C_m_refuse ?_)
                refine aK_i ?_
                refine aw_goto (tgt := 43) dX7_lived_14 (by decide) ?_
                refine aw_ireturn dX7_lived_43 rfl ?_
                first
                  | (exfalso; omega)
                  | (refine XR.sameE h ?_ ?_ ?_ ?_ ?_ ?_
                     · first
                         | rfl
                         | omega
                     · repeat (first | exact xs.rf | refine xs.up ?_ (by decide))
                     · repeat (first | exact mss.rf | refine mss.up0 ?_ (by decide))
                     · first
                         | (simp [aup, hv2, hv3, hv4]; done)
                         | (simp [aup, hv2, hv3, hv4]; omega)
                     · simp [aup, hv2, hv3, hv4]
                     · simp [aup, hv2, hv3, hv4])
