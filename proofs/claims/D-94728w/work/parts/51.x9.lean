set_option maxRecDepth 100000
/-! operations, 2 -/
theorem C_x_xat2 {own : Int → Int} {sz : Int} {im : Int → aIm} {ct ct0 ct1 : Int → Int → Int} {dd : Int} {s N : Int → Int} {h a : Int} {Q : aPost} (hR : RT own sz im ct0) (HY : YR own 0 sz im ct1 10 s dd N) (h0 : 0 ≤ h ∧ h < 4) (ea : ct ((im 10).2.2 1) h = a) (hQ : Q (.inl (some (vR a))) (sz, im, ct)) : AMet md_X0_at 1 0 0 [vR 0, vI h] (sz, im, ct) Q := by
  refine AMet.go (L := [some (vR 0), some (vI h)]) mok_X0_at (Nat.le_of_ble_eq_true rfl) rfl ?_
  refine aw_aload_n dX0_at_0 rfl ?_
  refine g_X0_55_0 rfl dX0_at_1 hR.o0 ?_
  rw [hR.e9]
  refine g_X0_147_4 rfl dX0_at_4 hR.o9 ?_
  rw [hR.e10]
  refine g_X0_150_5 rfl dX0_at_7 HY.1 ?_
  refine aw_iload_n dX0_at_10 rfl ?_
  refine aw_aaload dX0_at_11 HY.2.2.1 (by decide) (by omega) (by omega) ?_
  refine aw_areturn dX0_at_12 rfl (Or.inl ⟨_, rfl⟩) ?_
  rw [ea]
  exact hQ
set_option maxHeartbeats 2000000 in
theorem OP_told {sz : Int} {im : Int → aIm} {ct cm : Int → Int → Int} (h : XR (sz, im, ct) cm) {a : Int} (r0 : -2147483648 ≤ a ∧ a < 2147483648)  : AMet md_X0_told 2 0 0 [vR 0, vI a] (sz, im, ct) (XQ md_X7_told 2 [vR 0, vI a] cm) := by
  obtain ⟨own, N, hR, HY, HL, HN, HS, HP, HF, HX, hv2, hv3, hv4⟩ := id h
  dsimp only at hR HY HL HS HX hv2 hv3 hv4
  have hp0 := HP.1
  have hp3 := HP.2.1
  have hpq := HP.2.2.2.1.1
  have hps := HP.2.2.2.2.2
  have nl0 : ct 10 0 ≠ 0 := fun e => by have := HL.2.2.1.1; rw [e] at this; have := hR.1.2; omega
  refine AMet.go (L := [some (vR 0), some (vI a)]) mok_X0_told (Nat.le_of_ble_eq_true rfl) rfl ?_
  refine aw_aload_n dX0_told_0 rfl ?_
  refine aw_iload_n dX0_told_1 rfl ?_
  refine aw_i2l dX0_told_2 ?_
  refine aw_lconst0 dX0_told_3 ?_
  refine aw_ldc2 (x := 9) dX0_told_4 q997 (by decide) ?_
  refine c_X0_164 rfl dX0_told_7  (Nat.le_of_ble_eq_true rfl) (by omega) (C_x_isIn (fun hi => ?_) (fun hi => ?_))
  · refine aK_i ?_
    refine aw_ifeq (tgt := 17) dX0_told_10 (by decide) (fun h => absurd h (by decide)) (fun _ => ?_)
    refine aw_iconst dX0_told_13 (by decide) ?_
    refine aw_goto (tgt := 18) dX0_told_14 (by decide) ?_
    refine p_X0_73_0 rfl dX0_told_18 hR.o0 ?_
    refine aw_iload_n dX0_told_21 rfl ?_
    have hsw : a = 0 ∨ a = 1 ∨ a = 2 ∨ a = 3 ∨ a = 4 ∨ a = 5 ∨ a = 6 ∨ a = 7 ∨ a = 8 ∨ a = 9 ∨ (a < 0 ∨ 9 < a) := by omega
    rcases hsw with hsw | hsw | hsw | hsw | hsw | hsw | hsw | hsw | hsw | hsw | hsw
    · first
        | (exfalso; omega)
        | skip
          refine aw_tabIn (tgt := 76) dX0_told_22 (by omega) (by omega) (off := 54) (by rw [hsw]; rfl) (by decide) ?_
          refine aw_aload_n dX0_told_76 rfl ?_
          refine c_X0_158 rfl dX0_told_77 hR.o0 (Nat.le_of_ble_eq_true rfl) (by omega) (C_x_yard2 hR ?_)
          refine aK_i ?_
          refine g_X0_161_5 rfl dX0_told_80 HY.1 ?_
          repeat (first | rw [aup_s] | rw [aup_n (by omega)])
          rw [HY.2.2.2.2.2.1.1]
          refine aw_ireturn dX0_told_83 rfl ?_
          refine ⟨_, rfl, ?_⟩
          refine AMet.go (L := [some (vR 0), some (vI a)]) mok_X7_told (Nat.le_of_ble_eq_true rfl) rfl ?_
          refine aw_iload_n dX7_told_0 rfl ?_
          refine aw_iflt (tgt := 10) dX7_told_1 (by decide) (fun h1 => ?_) (fun h1 => ?_)
          · first
              | (exfalso; omega)
              | skip
                refine aw_aload_n dX7_told_10 rfl ?_
                refine aw_iconst dX7_told_11 (by decide) ?_
                refine c_X7_72 rfl dX7_told_12 m_ob (Nat.le_of_ble_eq_true rfl) (by omega) (C_m_refuse ?_)
                refine aK_i ?_
                refine aw_goto (tgt := 28) dX7_told_15 (by decide) ?_
                refine aw_ireturn dX7_told_28 rfl ?_
                first
                  | (exfalso; omega)
                  | (refine XR.sameE h ?_ ?_ ?_ ?_ ?_ ?_
                     · first
                         | rfl
                         | (subst hsw; rfl)
                         | omega
                     · repeat (first | exact xs.rf | refine xs.up ?_ (by decide))
                     · repeat (first | exact mss.rf | refine mss.up0 ?_ (by decide))
                     · first
                         | (simp [aup, hv2, hv3, hv4]; done)
                         | (simp [aup, hv2, hv3, hv4]; omega)
                     · simp [aup, hv2, hv3, hv4]
                     · simp [aup, hv2, hv3, hv4])
          · first
              | (exfalso; omega)
              | skip
                refine aw_iload_n dX7_told_4 rfl ?_
                refine aw_bipush dX7_told_5 (by decide) ?_
                refine aw_icmple (tgt := 18) dX7_told_7 (by decide) (fun h7 => ?_) (fun h7 => ?_)
                · first
                    | (exfalso; omega)
                    | skip
                      refine aw_aload_n dX7_told_18 rfl ?_
                      refine gm_7 rfl dX7_told_19 dX7_told_20 rfl ?_
                      refine aw_iload_n dX7_told_23 rfl ?_
                      refine aw_iaload dX7_told_24 m_a1 (by omega) (by omega) ?_
                      refine c_X7_76 rfl dX7_told_25 m_ob (Nat.le_of_ble_eq_true rfl) (by omega) (C_m_gives ?_)
                      refine aK_i ?_
                      refine aw_ireturn dX7_told_28 rfl ?_
                      first
                        | (exfalso; omega)
                        | (refine XR.sameE h ?_ ?_ ?_ ?_ ?_ ?_
                           · first
                               | rfl
                               | (subst hsw; rfl)
                               | omega
                           · repeat (first | exact xs.rf | refine xs.up ?_ (by decide))
                           · repeat (first | exact mss.rf | refine mss.up0 ?_ (by decide))
                           · first
                               | (simp [aup, hv2, hv3, hv4]; done)
                               | (simp [aup, hv2, hv3, hv4]; omega)
                           · simp [aup, hv2, hv3, hv4]
                           · simp [aup, hv2, hv3, hv4])
                · first
                    | (exfalso; omega)
                    | skip
                      refine aw_aload_n dX7_told_10 rfl ?_
                      refine aw_iconst dX7_told_11 (by decide) ?_
                      refine c_X7_72 rfl dX7_told_12 m_ob (Nat.le_of_ble_eq_true rfl) (by omega) (C_m_refuse ?_)
                      refine aK_i ?_
                      refine aw_goto (tgt := 28) dX7_told_15 (by decide) ?_
                      refine aw_ireturn dX7_told_28 rfl ?_
                      first
                        | (exfalso; omega)
                        | (refine XR.sameE h ?_ ?_ ?_ ?_ ?_ ?_
                           · first
                               | rfl
                               | (subst hsw; rfl)
                               | omega
                           · repeat (first | exact xs.rf | refine xs.up ?_ (by decide))
                           · repeat (first | exact mss.rf | refine mss.up0 ?_ (by decide))
                           · first
                               | (simp [aup, hv2, hv3, hv4]; done)
                               | (simp [aup, hv2, hv3, hv4]; omega)
                           · simp [aup, hv2, hv3, hv4]
                           · simp [aup, hv2, hv3, hv4])
    · first
        | (exfalso; omega)
        | skip
          refine aw_tabIn (tgt := 84) dX0_told_22 (by omega) (by omega) (off := 62) (by rw [hsw]; rfl) (by decide) ?_
          refine aw_aload_n dX0_told_84 rfl ?_
          refine c_X0_182 rfl dX0_told_85 hR.o0 (Nat.le_of_ble_eq_true rfl) (by omega) (C_x_lines hR HY ?_)
          repeat (first | rw [aup_s] | rw [aup_n (by omega)])
          refine aK_i ?_
          refine g_X0_185_6 rfl dX0_told_88 HL.1 ?_
          repeat (first | rw [aup_s] | rw [aup_n (by omega)])
          rw [HL.2.2.2.1.1]
          refine aw_ireturn dX0_told_91 rfl ?_
          refine ⟨_, rfl, ?_⟩
          refine AMet.go (L := [some (vR 0), some (vI a)]) mok_X7_told (Nat.le_of_ble_eq_true rfl) rfl ?_
          refine aw_iload_n dX7_told_0 rfl ?_
          refine aw_iflt (tgt := 10) dX7_told_1 (by decide) (fun h1 => ?_) (fun h1 => ?_)
          · first
              | (exfalso; omega)
              | skip
                refine aw_aload_n dX7_told_10 rfl ?_
                refine aw_iconst dX7_told_11 (by decide) ?_
                refine c_X7_72 rfl dX7_told_12 m_ob (Nat.le_of_ble_eq_true rfl) (by omega) (C_m_refuse ?_)
                refine aK_i ?_
                refine aw_goto (tgt := 28) dX7_told_15 (by decide) ?_
                refine aw_ireturn dX7_told_28 rfl ?_
                first
                  | (exfalso; omega)
                  | (refine XR.sameE h ?_ ?_ ?_ ?_ ?_ ?_
                     · first
                         | rfl
                         | (subst hsw; rfl)
                         | omega
                     · repeat (first | exact xs.rf | refine xs.up ?_ (by decide))
                     · repeat (first | exact mss.rf | refine mss.up0 ?_ (by decide))
                     · first
                         | (simp [aup, hv2, hv3, hv4]; done)
                         | (simp [aup, hv2, hv3, hv4]; omega)
                     · simp [aup, hv2, hv3, hv4]
                     · simp [aup, hv2, hv3, hv4])
          · first
              | (exfalso; omega)
              | skip
                refine aw_iload_n dX7_told_4 rfl ?_
                refine aw_bipush dX7_told_5 (by decide) ?_
                refine aw_icmple (tgt := 18) dX7_told_7 (by decide) (fun h7 => ?_) (fun h7 => ?_)
                · first
                    | (exfalso; omega)
                    | skip
                      refine aw_aload_n dX7_told_18 rfl ?_
                      refine gm_7 rfl dX7_told_19 dX7_told_20 rfl ?_
                      refine aw_iload_n dX7_told_23 rfl ?_
                      refine aw_iaload dX7_told_24 m_a1 (by omega) (by omega) ?_
                      refine c_X7_76 rfl dX7_told_25 m_ob (Nat.le_of_ble_eq_true rfl) (by omega) (C_m_gives ?_)
                      refine aK_i ?_
                      refine aw_ireturn dX7_told_28 rfl ?_
                      first
                        | (exfalso; omega)
                        | (refine XR.sameE h ?_ ?_ ?_ ?_ ?_ ?_
                           · first
                               | rfl
                               | (subst hsw; rfl)
                               | omega
                           · repeat (first | exact xs.rf | refine xs.up ?_ (by decide))
                           · repeat (first | exact mss.rf | refine mss.up0 ?_ (by decide))
                           · first
                               | (simp [aup, hv2, hv3, hv4]; done)
                               | (simp [aup, hv2, hv3, hv4]; omega)
                           · simp [aup, hv2, hv3, hv4]
                           · simp [aup, hv2, hv3, hv4])
                · first
                    | (exfalso; omega)
                    | skip
                      refine aw_aload_n dX7_told_10 rfl ?_
                      refine aw_iconst dX7_told_11 (by decide) ?_
                      refine c_X7_72 rfl dX7_told_12 m_ob (Nat.le_of_ble_eq_true rfl) (by omega) (C_m_refuse ?_)
                      refine aK_i ?_
                      refine aw_goto (tgt := 28) dX7_told_15 (by decide) ?_
                      refine aw_ireturn dX7_told_28 rfl ?_
                      first
                        | (exfalso; omega)
                        | (refine XR.sameE h ?_ ?_ ?_ ?_ ?_ ?_
                           · first
                               | rfl
                               | (subst hsw; rfl)
                               | omega
                           · repeat (first | exact xs.rf | refine xs.up ?_ (by decide))
                           · repeat (first | exact mss.rf | refine mss.up0 ?_ (by decide))
                           · first
                               | (simp [aup, hv2, hv3, hv4]; done)
                               | (simp [aup, hv2, hv3, hv4]; omega)
                           · simp [aup, hv2, hv3, hv4]
                           · simp [aup, hv2, hv3, hv4])
    · first
        | (exfalso; omega)
        | skip
          refine aw_tabIn (tgt := 92) dX0_told_22 (by omega) (by omega) (off := 70) (by rw [hsw]; rfl) (by decide) ?_
          refine aw_aload_n dX0_told_92 rfl ?_
          refine c_X0_182 rfl dX0_told_93 hR.o0 (Nat.le_of_ble_eq_true rfl) (by omega) (C_x_lines hR HY ?_)
          repeat (first | rw [aup_s] | rw [aup_n (by omega)])
          refine aK_i ?_
          refine g_X0_238_6 rfl dX0_told_96 HL.1 ?_
          repeat (first | rw [aup_s] | rw [aup_n (by omega)])
          rw [HL.2.2.2.1.2]
          refine aw_ireturn dX0_told_99 rfl ?_
          refine ⟨_, rfl, ?_⟩
          refine AMet.go (L := [some (vR 0), some (vI a)]) mok_X7_told (Nat.le_of_ble_eq_true rfl) rfl ?_
          refine aw_iload_n dX7_told_0 rfl ?_
          refine aw_iflt (tgt := 10) dX7_told_1 (by decide) (fun h1 => ?_) (fun h1 => ?_)
          · first
              | (exfalso; omega)
              | skip
                refine aw_aload_n dX7_told_10 rfl ?_
                refine aw_iconst dX7_told_11 (by decide) ?_
                refine c_X7_72 rfl dX7_told_12 m_ob (Nat.le_of_ble_eq_true rfl) (by omega) (C_m_refuse ?_)
                refine aK_i ?_
                refine aw_goto (tgt := 28) dX7_told_15 (by decide) ?_
                refine aw_ireturn dX7_told_28 rfl ?_
                first
                  | (exfalso; omega)
                  | (refine XR.sameE h ?_ ?_ ?_ ?_ ?_ ?_
                     · first
                         | rfl
                         | (subst hsw; rfl)
                         | omega
                     · repeat (first | exact xs.rf | refine xs.up ?_ (by decide))
                     · repeat (first | exact mss.rf | refine mss.up0 ?_ (by decide))
                     · first
                         | (simp [aup, hv2, hv3, hv4]; done)
                         | (simp [aup, hv2, hv3, hv4]; omega)
                     · simp [aup, hv2, hv3, hv4]
                     · simp [aup, hv2, hv3, hv4])
          · first
              | (exfalso; omega)
              | skip
                refine aw_iload_n dX7_told_4 rfl ?_
                refine aw_bipush dX7_told_5 (by decide) ?_
                refine aw_icmple (tgt := 18) dX7_told_7 (by decide) (fun h7 => ?_) (fun h7 => ?_)
                · first
                    | (exfalso; omega)
                    | skip
                      refine aw_aload_n dX7_told_18 rfl ?_
                      refine gm_7 rfl dX7_told_19 dX7_told_20 rfl ?_
                      refine aw_iload_n dX7_told_23 rfl ?_
                      refine aw_iaload dX7_told_24 m_a1 (by omega) (by omega) ?_
                      refine c_X7_76 rfl dX7_told_25 m_ob (Nat.le_of_ble_eq_true rfl) (by omega) (C_m_gives ?_)
                      refine aK_i ?_
                      refine aw_ireturn dX7_told_28 rfl ?_
                      first
                        | (exfalso; omega)
                        | (refine XR.sameE h ?_ ?_ ?_ ?_ ?_ ?_
                           · first
                               | rfl
                               | (subst hsw; rfl)
                               | omega
                           · repeat (first | exact xs.rf | refine xs.up ?_ (by decide))
                           · repeat (first | exact mss.rf | refine mss.up0 ?_ (by decide))
                           · first
                               | (simp [aup, hv2, hv3, hv4]; done)
                               | (simp [aup, hv2, hv3, hv4]; omega)
                           · simp [aup, hv2, hv3, hv4]
                           · simp [aup, hv2, hv3, hv4])
                · first
                    | (exfalso; omega)
                    | skip
                      refine aw_aload_n dX7_told_10 rfl ?_
                      refine aw_iconst dX7_told_11 (by decide) ?_
                      refine c_X7_72 rfl dX7_told_12 m_ob (Nat.le_of_ble_eq_true rfl) (by omega) (C_m_refuse ?_)
                      refine aK_i ?_
                      refine aw_goto (tgt := 28) dX7_told_15 (by decide) ?_
                      refine aw_ireturn dX7_told_28 rfl ?_
                      first
                        | (exfalso; omega)
                        | (refine XR.sameE h ?_ ?_ ?_ ?_ ?_ ?_
                           · first
                               | rfl
                               | (subst hsw; rfl)
                               | omega
                           · repeat (first | exact xs.rf | refine xs.up ?_ (by decide))
                           · repeat (first | exact mss.rf | refine mss.up0 ?_ (by decide))
                           · first
                               | (simp [aup, hv2, hv3, hv4]; done)
                               | (simp [aup, hv2, hv3, hv4]; omega)
                           · simp [aup, hv2, hv3, hv4]
                           · simp [aup, hv2, hv3, hv4])
    · first
        | (exfalso; omega)
        | skip
          refine aw_tabIn (tgt := 100) dX0_told_22 (by omega) (by omega) (off := 78) (by rw [hsw]; rfl) (by decide) ?_
          refine aw_aload_n dX0_told_100 rfl ?_
          refine c_X0_158 rfl dX0_told_101 hR.o0 (Nat.le_of_ble_eq_true rfl) (by omega) (C_x_yard2 hR ?_)
          refine aK_i ?_
          refine g_X0_241_5 rfl dX0_told_104 HY.1 ?_
          repeat (first | rw [aup_s] | rw [aup_n (by omega)])
          rw [HY.2.2.2.2.2.1.2.1]
          refine aw_ireturn dX0_told_107 rfl ?_
          refine ⟨_, rfl, ?_⟩
          refine AMet.go (L := [some (vR 0), some (vI a)]) mok_X7_told (Nat.le_of_ble_eq_true rfl) rfl ?_
          refine aw_iload_n dX7_told_0 rfl ?_
          refine aw_iflt (tgt := 10) dX7_told_1 (by decide) (fun h1 => ?_) (fun h1 => ?_)
          · first
              | (exfalso; omega)
              | skip
                refine aw_aload_n dX7_told_10 rfl ?_
                refine aw_iconst dX7_told_11 (by decide) ?_
                refine c_X7_72 rfl dX7_told_12 m_ob (Nat.le_of_ble_eq_true rfl) (by omega) (C_m_refuse ?_)
                refine aK_i ?_
                refine aw_goto (tgt := 28) dX7_told_15 (by decide) ?_
                refine aw_ireturn dX7_told_28 rfl ?_
                first
                  | (exfalso; omega)
                  | (refine XR.sameE h ?_ ?_ ?_ ?_ ?_ ?_
                     · first
                         | rfl
                         | (subst hsw; rfl)
                         | omega
                     · repeat (first | exact xs.rf | refine xs.up ?_ (by decide))
                     · repeat (first | exact mss.rf | refine mss.up0 ?_ (by decide))
                     · first
                         | (simp [aup, hv2, hv3, hv4]; done)
                         | (simp [aup, hv2, hv3, hv4]; omega)
                     · simp [aup, hv2, hv3, hv4]
                     · simp [aup, hv2, hv3, hv4])
          · first
              | (exfalso; omega)
              | skip
                refine aw_iload_n dX7_told_4 rfl ?_
                refine aw_bipush dX7_told_5 (by decide) ?_
                refine aw_icmple (tgt := 18) dX7_told_7 (by decide) (fun h7 => ?_) (fun h7 => ?_)
                · first
                    | (exfalso; omega)
                    | skip
                      refine aw_aload_n dX7_told_18 rfl ?_
                      refine gm_7 rfl dX7_told_19 dX7_told_20 rfl ?_
                      refine aw_iload_n dX7_told_23 rfl ?_
                      refine aw_iaload dX7_told_24 m_a1 (by omega) (by omega) ?_
                      refine c_X7_76 rfl dX7_told_25 m_ob (Nat.le_of_ble_eq_true rfl) (by omega) (C_m_gives ?_)
                      refine aK_i ?_
                      refine aw_ireturn dX7_told_28 rfl ?_
                      first
                        | (exfalso; omega)
                        | (refine XR.sameE h ?_ ?_ ?_ ?_ ?_ ?_
                           · first
                               | rfl
                               | (subst hsw; rfl)
                               | omega
                           · repeat (first | exact xs.rf | refine xs.up ?_ (by decide))
                           · repeat (first | exact mss.rf | refine mss.up0 ?_ (by decide))
                           · first
                               | (simp [aup, hv2, hv3, hv4]; done)
                               | (simp [aup, hv2, hv3, hv4]; omega)
                           · simp [aup, hv2, hv3, hv4]
                           · simp [aup, hv2, hv3, hv4])
                · first
                    | (exfalso; omega)
                    | skip
                      refine aw_aload_n dX7_told_10 rfl ?_
                      refine aw_iconst dX7_told_11 (by decide) ?_
                      refine c_X7_72 rfl dX7_told_12 m_ob (Nat.le_of_ble_eq_true rfl) (by omega) (C_m_refuse ?_)
                      refine aK_i ?_
                      refine aw_goto (tgt := 28) dX7_told_15 (by decide) ?_
                      refine aw_ireturn dX7_told_28 rfl ?_
                      first
                        | (exfalso; omega)
                        | (refine XR.sameE h ?_ ?_ ?_ ?_ ?_ ?_
                           · first
                               | rfl
                               | (subst hsw; rfl)
                               | omega
                           · repeat (first | exact xs.rf | refine xs.up ?_ (by decide))
                           · repeat (first | exact mss.rf | refine mss.up0 ?_ (by decide))
                           · first
                               | (simp [aup, hv2, hv3, hv4]; done)
                               | (simp [aup, hv2, hv3, hv4]; omega)
                           · simp [aup, hv2, hv3, hv4]
                           · simp [aup, hv2, hv3, hv4])
    · first
        | (exfalso; omega)
        | skip
          refine aw_tabIn (tgt := 108) dX0_told_22 (by omega) (by omega) (off := 86) (by rw [hsw]; rfl) (by decide) ?_
          refine aw_aload_n dX0_told_108 rfl ?_
          refine c_X0_158 rfl dX0_told_109 hR.o0 (Nat.le_of_ble_eq_true rfl) (by omega) (C_x_yard2 hR ?_)
          refine aK_i ?_
          refine g_X0_244_5 rfl dX0_told_112 HY.1 ?_
          repeat (first | rw [aup_s] | rw [aup_n (by omega)])
          rw [HY.2.2.2.2.2.1.2.2.2.2.2.2.2]
          refine aw_ireturn dX0_told_115 rfl ?_
          refine ⟨_, rfl, ?_⟩
          refine AMet.go (L := [some (vR 0), some (vI a)]) mok_X7_told (Nat.le_of_ble_eq_true rfl) rfl ?_
          refine aw_iload_n dX7_told_0 rfl ?_
          refine aw_iflt (tgt := 10) dX7_told_1 (by decide) (fun h1 => ?_) (fun h1 => ?_)
          · first
              | (exfalso; omega)
              | skip
                refine aw_aload_n dX7_told_10 rfl ?_
                refine aw_iconst dX7_told_11 (by decide) ?_
                refine c_X7_72 rfl dX7_told_12 m_ob (Nat.le_of_ble_eq_true rfl) (by omega) (C_m_refuse ?_)
                refine aK_i ?_
                refine aw_goto (tgt := 28) dX7_told_15 (by decide) ?_
                refine aw_ireturn dX7_told_28 rfl ?_
                first
                  | (exfalso; omega)
                  | (refine XR.sameE h ?_ ?_ ?_ ?_ ?_ ?_
                     · first
                         | rfl
                         | (subst hsw; rfl)
                         | omega
                     · repeat (first | exact xs.rf | refine xs.up ?_ (by decide))
                     · repeat (first | exact mss.rf | refine mss.up0 ?_ (by decide))
                     · first
                         | (simp [aup, hv2, hv3, hv4]; done)
                         | (simp [aup, hv2, hv3, hv4]; omega)
                     · simp [aup, hv2, hv3, hv4]
                     · simp [aup, hv2, hv3, hv4])
          · first
              | (exfalso; omega)
              | skip
                refine aw_iload_n dX7_told_4 rfl ?_
                refine aw_bipush dX7_told_5 (by decide) ?_
                refine aw_icmple (tgt := 18) dX7_told_7 (by decide) (fun h7 => ?_) (fun h7 => ?_)
                · first
                    | (exfalso; omega)
                    | skip
                      refine aw_aload_n dX7_told_18 rfl ?_
                      refine gm_7 rfl dX7_told_19 dX7_told_20 rfl ?_
                      refine aw_iload_n dX7_told_23 rfl ?_
                      refine aw_iaload dX7_told_24 m_a1 (by omega) (by omega) ?_
                      refine c_X7_76 rfl dX7_told_25 m_ob (Nat.le_of_ble_eq_true rfl) (by omega) (C_m_gives ?_)
                      refine aK_i ?_
                      refine aw_ireturn dX7_told_28 rfl ?_
                      first
                        | (exfalso; omega)
                        | (refine XR.sameE h ?_ ?_ ?_ ?_ ?_ ?_
                           · first
                               | rfl
                               | (subst hsw; rfl)
                               | omega
                           · repeat (first | exact xs.rf | refine xs.up ?_ (by decide))
                           · repeat (first | exact mss.rf | refine mss.up0 ?_ (by decide))
                           · first
                               | (simp [aup, hv2, hv3, hv4]; done)
                               | (simp [aup, hv2, hv3, hv4]; omega)
                           · simp [aup, hv2, hv3, hv4]
                           · simp [aup, hv2, hv3, hv4])
                · first
                    | (exfalso; omega)
                    | skip
                      refine aw_aload_n dX7_told_10 rfl ?_
                      refine aw_iconst dX7_told_11 (by decide) ?_
                      refine c_X7_72 rfl dX7_told_12 m_ob (Nat.le_of_ble_eq_true rfl) (by omega) (C_m_refuse ?_)
                      refine aK_i ?_
                      refine aw_goto (tgt := 28) dX7_told_15 (by decide) ?_
                      refine aw_ireturn dX7_told_28 rfl ?_
                      first
                        | (exfalso; omega)
                        | (refine XR.sameE h ?_ ?_ ?_ ?_ ?_ ?_
                           · first
                               | rfl
                               | (subst hsw; rfl)
                               | omega
                           · repeat (first | exact xs.rf | refine xs.up ?_ (by decide))
                           · repeat (first | exact mss.rf | refine mss.up0 ?_ (by decide))
                           · first
                               | (simp [aup, hv2, hv3, hv4]; done)
                               | (simp [aup, hv2, hv3, hv4]; omega)
                           · simp [aup, hv2, hv3, hv4]
                           · simp [aup, hv2, hv3, hv4])
    · first
        | (exfalso; omega)
        | skip
          refine aw_tabIn (tgt := 116) dX0_told_22 (by omega) (by omega) (off := 94) (by rw [hsw]; rfl) (by decide) ?_
          refine aw_aload_n dX0_told_116 rfl ?_
          refine c_X0_158 rfl dX0_told_117 hR.o0 (Nat.le_of_ble_eq_true rfl) (by omega) (C_x_yard2 hR ?_)
          refine aK_i ?_
          refine g_X0_247_5 rfl dX0_told_120 HY.1 ?_
          repeat (first | rw [aup_s] | rw [aup_n (by omega)])
          rw [HY.2.2.2.2.2.1.2.2.1]
          refine aw_ireturn dX0_told_123 rfl ?_
          refine ⟨_, rfl, ?_⟩
          refine AMet.go (L := [some (vR 0), some (vI a)]) mok_X7_told (Nat.le_of_ble_eq_true rfl) rfl ?_
          refine aw_iload_n dX7_told_0 rfl ?_
          refine aw_iflt (tgt := 10) dX7_told_1 (by decide) (fun h1 => ?_) (fun h1 => ?_)
          · first
              | (exfalso; omega)
              | skip
                refine aw_aload_n dX7_told_10 rfl ?_
                refine aw_iconst dX7_told_11 (by decide) ?_
                refine c_X7_72 rfl dX7_told_12 m_ob (Nat.le_of_ble_eq_true rfl) (by omega) (C_m_refuse ?_)
                refine aK_i ?_
                refine aw_goto (tgt := 28) dX7_told_15 (by decide) ?_
                refine aw_ireturn dX7_told_28 rfl ?_
                first
                  | (exfalso; omega)
                  | (refine XR.sameE h ?_ ?_ ?_ ?_ ?_ ?_
                     · first
                         | rfl
                         | (subst hsw; rfl)
                         | omega
                     · repeat (first | exact xs.rf | refine xs.up ?_ (by decide))
                     · repeat (first | exact mss.rf | refine mss.up0 ?_ (by decide))
                     · first
                         | (simp [aup, hv2, hv3, hv4]; done)
                         | (simp [aup, hv2, hv3, hv4]; omega)
                     · simp [aup, hv2, hv3, hv4]
                     · simp [aup, hv2, hv3, hv4])
          · first
              | (exfalso; omega)
              | skip
                refine aw_iload_n dX7_told_4 rfl ?_
                refine aw_bipush dX7_told_5 (by decide) ?_
                refine aw_icmple (tgt := 18) dX7_told_7 (by decide) (fun h7 => ?_) (fun h7 => ?_)
                · first
                    | (exfalso; omega)
                    | skip
                      refine aw_aload_n dX7_told_18 rfl ?_
                      refine gm_7 rfl dX7_told_19 dX7_told_20 rfl ?_
                      refine aw_iload_n dX7_told_23 rfl ?_
                      refine aw_iaload dX7_told_24 m_a1 (by omega) (by omega) ?_
                      refine c_X7_76 rfl dX7_told_25 m_ob (Nat.le_of_ble_eq_true rfl) (by omega) (C_m_gives ?_)
                      refine aK_i ?_
                      refine aw_ireturn dX7_told_28 rfl ?_
                      first
                        | (exfalso; omega)
                        | (refine XR.sameE h ?_ ?_ ?_ ?_ ?_ ?_
                           · first
                               | rfl
                               | (subst hsw; rfl)
                               | omega
                           · repeat (first | exact xs.rf | refine xs.up ?_ (by decide))
                           · repeat (first | exact mss.rf | refine mss.up0 ?_ (by decide))
                           · first
                               | (simp [aup, hv2, hv3, hv4]; done)
                               | (simp [aup, hv2, hv3, hv4]; omega)
                           · simp [aup, hv2, hv3, hv4]
                           · simp [aup, hv2, hv3, hv4])
                · first
                    | (exfalso; omega)
                    | skip
                      refine aw_aload_n dX7_told_10 rfl ?_
                      refine aw_iconst dX7_told_11 (by decide) ?_
                      refine c_X7_72 rfl dX7_told_12 m_ob (Nat.le_of_ble_eq_true rfl) (by omega) (C_m_refuse ?_)
                      refine aK_i ?_
                      refine aw_goto (tgt := 28) dX7_told_15 (by decide) ?_
                      refine aw_ireturn dX7_told_28 rfl ?_
                      first
                        | (exfalso; omega)
                        | (refine XR.sameE h ?_ ?_ ?_ ?_ ?_ ?_
                           · first
                               | rfl
                               | (subst hsw; rfl)
                               | omega
                           · repeat (first | exact xs.rf | refine xs.up ?_ (by decide))
                           · repeat (first | exact mss.rf | refine mss.up0 ?_ (by decide))
                           · first
                               | (simp [aup, hv2, hv3, hv4]; done)
                               | (simp [aup, hv2, hv3, hv4]; omega)
                           · simp [aup, hv2, hv3, hv4]
                           · simp [aup, hv2, hv3, hv4])
    · first
        | (exfalso; omega)
        | skip
          refine aw_tabIn (tgt := 124) dX0_told_22 (by omega) (by omega) (off := 102) (by rw [hsw]; rfl) (by decide) ?_
          refine aw_aload_n dX0_told_124 rfl ?_
          refine c_X0_158 rfl dX0_told_125 hR.o0 (Nat.le_of_ble_eq_true rfl) (by omega) (C_x_yard2 hR ?_)
          refine aK_i ?_
          refine g_X0_250_5 rfl dX0_told_128 HY.1 ?_
          repeat (first | rw [aup_s] | rw [aup_n (by omega)])
          rw [HY.2.2.2.2.2.1.2.2.2.1]
          refine aw_ireturn dX0_told_131 rfl ?_
          refine ⟨_, rfl, ?_⟩
          refine AMet.go (L := [some (vR 0), some (vI a)]) mok_X7_told (Nat.le_of_ble_eq_true rfl) rfl ?_
          refine aw_iload_n dX7_told_0 rfl ?_
          refine aw_iflt (tgt := 10) dX7_told_1 (by decide) (fun h1 => ?_) (fun h1 => ?_)
          · first
              | (exfalso; omega)
              | skip
                refine aw_aload_n dX7_told_10 rfl ?_
                refine aw_iconst dX7_told_11 (by decide) ?_
                refine c_X7_72 rfl dX7_told_12 m_ob (Nat.le_of_ble_eq_true rfl) (by omega) (C_m_refuse ?_)
                refine aK_i ?_
                refine aw_goto (tgt := 28) dX7_told_15 (by decide) ?_
                refine aw_ireturn dX7_told_28 rfl ?_
                first
                  | (exfalso; omega)
                  | (refine XR.sameE h ?_ ?_ ?_ ?_ ?_ ?_
                     · first
                         | rfl
                         | (subst hsw; rfl)
                         | omega
                     · repeat (first | exact xs.rf | refine xs.up ?_ (by decide))
                     · repeat (first | exact mss.rf | refine mss.up0 ?_ (by decide))
                     · first
                         | (simp [aup, hv2, hv3, hv4]; done)
                         | (simp [aup, hv2, hv3, hv4]; omega)
                     · simp [aup, hv2, hv3, hv4]
                     · simp [aup, hv2, hv3, hv4])
          · first
              | (exfalso; omega)
              | skip
                refine aw_iload_n dX7_told_4 rfl ?_
                refine aw_bipush dX7_told_5 (by decide) ?_
                refine aw_icmple (tgt := 18) dX7_told_7 (by decide) (fun h7 => ?_) (fun h7 => ?_)
                · first
                    | (exfalso; omega)
                    | skip
                      refine aw_aload_n dX7_told_18 rfl ?_
                      refine gm_7 rfl dX7_told_19 dX7_told_20 rfl ?_
                      refine aw_iload_n dX7_told_23 rfl ?_
                      refine aw_iaload dX7_told_24 m_a1 (by omega) (by omega) ?_
                      refine c_X7_76 rfl dX7_told_25 m_ob (Nat.le_of_ble_eq_true rfl) (by omega) (C_m_gives ?_)
                      refine aK_i ?_
                      refine aw_ireturn dX7_told_28 rfl ?_
                      first
                        | (exfalso; omega)
                        | (refine XR.sameE h ?_ ?_ ?_ ?_ ?_ ?_
                           · first
                               | rfl
                               | (subst hsw; rfl)
                               | omega
                           · repeat (first | exact xs.rf | refine xs.up ?_ (by decide))
                           · repeat (first | exact mss.rf | refine mss.up0 ?_ (by decide))
                           · first
                               | (simp [aup, hv2, hv3, hv4]; done)
                               | (simp [aup, hv2, hv3, hv4]; omega)
                           · simp [aup, hv2, hv3, hv4]
                           · simp [aup, hv2, hv3, hv4])
                · first
                    | (exfalso; omega)
                    | skip
                      refine aw_aload_n dX7_told_10 rfl ?_
                      refine aw_iconst dX7_told_11 (by decide) ?_
                      refine c_X7_72 rfl dX7_told_12 m_ob (Nat.le_of_ble_eq_true rfl) (by omega) (C_m_refuse ?_)
                      refine aK_i ?_
                      refine aw_goto (tgt := 28) dX7_told_15 (by decide) ?_
                      refine aw_ireturn dX7_told_28 rfl ?_
                      first
                        | (exfalso; omega)
                        | (refine XR.sameE h ?_ ?_ ?_ ?_ ?_ ?_
                           · first
                               | rfl
                               | (subst hsw; rfl)
                               | omega
                           · repeat (first | exact xs.rf | refine xs.up ?_ (by decide))
                           · repeat (first | exact mss.rf | refine mss.up0 ?_ (by decide))
                           · first
                               | (simp [aup, hv2, hv3, hv4]; done)
                               | (simp [aup, hv2, hv3, hv4]; omega)
                           · simp [aup, hv2, hv3, hv4]
                           · simp [aup, hv2, hv3, hv4])
    · first
        | (exfalso; omega)
        | skip
          refine aw_tabIn (tgt := 132) dX0_told_22 (by omega) (by omega) (off := 110) (by rw [hsw]; rfl) (by decide) ?_
          refine aw_aload_n dX0_told_132 rfl ?_
          refine c_X0_158 rfl dX0_told_133 hR.o0 (Nat.le_of_ble_eq_true rfl) (by omega) (C_x_yard2 hR ?_)
          refine aK_i ?_
          refine g_X0_253_5 rfl dX0_told_136 HY.1 ?_
          repeat (first | rw [aup_s] | rw [aup_n (by omega)])
          rw [HY.2.2.2.2.2.1.2.2.2.2.1]
          refine aw_ireturn dX0_told_139 rfl ?_
          refine ⟨_, rfl, ?_⟩
          refine AMet.go (L := [some (vR 0), some (vI a)]) mok_X7_told (Nat.le_of_ble_eq_true rfl) rfl ?_
          refine aw_iload_n dX7_told_0 rfl ?_
          refine aw_iflt (tgt := 10) dX7_told_1 (by decide) (fun h1 => ?_) (fun h1 => ?_)
          · first
              | (exfalso; omega)
              | skip
                refine aw_aload_n dX7_told_10 rfl ?_
                refine aw_iconst dX7_told_11 (by decide) ?_
                refine c_X7_72 rfl dX7_told_12 m_ob (Nat.le_of_ble_eq_true rfl) (by omega) (C_m_refuse ?_)
                refine aK_i ?_
                refine aw_goto (tgt := 28) dX7_told_15 (by decide) ?_
                refine aw_ireturn dX7_told_28 rfl ?_
                first
                  | (exfalso; omega)
                  | (refine XR.sameE h ?_ ?_ ?_ ?_ ?_ ?_
                     · first
                         | rfl
                         | (subst hsw; rfl)
                         | omega
                     · repeat (first | exact xs.rf | refine xs.up ?_ (by decide))
                     · repeat (first | exact mss.rf | refine mss.up0 ?_ (by decide))
                     · first
                         | (simp [aup, hv2, hv3, hv4]; done)
                         | (simp [aup, hv2, hv3, hv4]; omega)
                     · simp [aup, hv2, hv3, hv4]
                     · simp [aup, hv2, hv3, hv4])
          · first
              | (exfalso; omega)
              | skip
                refine aw_iload_n dX7_told_4 rfl ?_
                refine aw_bipush dX7_told_5 (by decide) ?_
                refine aw_icmple (tgt := 18) dX7_told_7 (by decide) (fun h7 => ?_) (fun h7 => ?_)
                · first
                    | (exfalso; omega)
                    | skip
                      refine aw_aload_n dX7_told_18 rfl ?_
                      refine gm_7 rfl dX7_told_19 dX7_told_20 rfl ?_
                      refine aw_iload_n dX7_told_23 rfl ?_
                      refine aw_iaload dX7_told_24 m_a1 (by omega) (by omega) ?_
                      refine c_X7_76 rfl dX7_told_25 m_ob (Nat.le_of_ble_eq_true rfl) (by omega) (C_m_gives ?_)
                      refine aK_i ?_
                      refine aw_ireturn dX7_told_28 rfl ?_
                      first
                        | (exfalso; omega)
                        | (refine XR.sameE h ?_ ?_ ?_ ?_ ?_ ?_
                           · first
                               | rfl
                               | (subst hsw; rfl)
                               | omega
                           · repeat (first | exact xs.rf | refine xs.up ?_ (by decide))
                           · repeat (first | exact mss.rf | refine mss.up0 ?_ (by decide))
                           · first
                               | (simp [aup, hv2, hv3, hv4]; done)
                               | (simp [aup, hv2, hv3, hv4]; omega)
                           · simp [aup, hv2, hv3, hv4]
                           · simp [aup, hv2, hv3, hv4])
                · first
                    | (exfalso; omega)
                    | skip
                      refine aw_aload_n dX7_told_10 rfl ?_
                      refine aw_iconst dX7_told_11 (by decide) ?_
                      refine c_X7_72 rfl dX7_told_12 m_ob (Nat.le_of_ble_eq_true rfl) (by omega) (C_m_refuse ?_)
                      refine aK_i ?_
                      refine aw_goto (tgt := 28) dX7_told_15 (by decide) ?_
                      refine aw_ireturn dX7_told_28 rfl ?_
                      first
                        | (exfalso; omega)
                        | (refine XR.sameE h ?_ ?_ ?_ ?_ ?_ ?_
                           · first
                               | rfl
                               | (subst hsw; rfl)
                               | omega
                           · repeat (first | exact xs.rf | refine xs.up ?_ (by decide))
                           · repeat (first | exact mss.rf | refine mss.up0 ?_ (by decide))
                           · first
                               | (simp [aup, hv2, hv3, hv4]; done)
                               | (simp [aup, hv2, hv3, hv4]; omega)
                           · simp [aup, hv2, hv3, hv4]
                           · simp [aup, hv2, hv3, hv4])
    · first
        | (exfalso; omega)
        | skip
          refine aw_tabIn (tgt := 140) dX0_told_22 (by omega) (by omega) (off := 118) (by rw [hsw]; rfl) (by decide) ?_
          refine aw_aload_n dX0_told_140 rfl ?_
          refine c_X0_158 rfl dX0_told_141 hR.o0 (Nat.le_of_ble_eq_true rfl) (by omega) (C_x_yard2 hR ?_)
          refine aK_i ?_
          refine g_X0_256_5 rfl dX0_told_144 HY.1 ?_
          repeat (first | rw [aup_s] | rw [aup_n (by omega)])
          rw [HY.2.2.2.2.2.1.2.2.2.2.2.1]
          refine aw_ireturn dX0_told_147 rfl ?_
          refine ⟨_, rfl, ?_⟩
          refine AMet.go (L := [some (vR 0), some (vI a)]) mok_X7_told (Nat.le_of_ble_eq_true rfl) rfl ?_
          refine aw_iload_n dX7_told_0 rfl ?_
          refine aw_iflt (tgt := 10) dX7_told_1 (by decide) (fun h1 => ?_) (fun h1 => ?_)
          · first
              | (exfalso; omega)
              | skip
                refine aw_aload_n dX7_told_10 rfl ?_
                refine aw_iconst dX7_told_11 (by decide) ?_
                refine c_X7_72 rfl dX7_told_12 m_ob (Nat.le_of_ble_eq_true rfl) (by omega) (C_m_refuse ?_)
                refine aK_i ?_
                refine aw_goto (tgt := 28) dX7_told_15 (by decide) ?_
                refine aw_ireturn dX7_told_28 rfl ?_
                first
                  | (exfalso; omega)
                  | (refine XR.sameE h ?_ ?_ ?_ ?_ ?_ ?_
                     · first
                         | rfl
                         | (subst hsw; rfl)
                         | omega
                     · repeat (first | exact xs.rf | refine xs.up ?_ (by decide))
                     · repeat (first | exact mss.rf | refine mss.up0 ?_ (by decide))
                     · first
                         | (simp [aup, hv2, hv3, hv4]; done)
                         | (simp [aup, hv2, hv3, hv4]; omega)
                     · simp [aup, hv2, hv3, hv4]
                     · simp [aup, hv2, hv3, hv4])
          · first
              | (exfalso; omega)
              | skip
                refine aw_iload_n dX7_told_4 rfl ?_
                refine aw_bipush dX7_told_5 (by decide) ?_
                refine aw_icmple (tgt := 18) dX7_told_7 (by decide) (fun h7 => ?_) (fun h7 => ?_)
                · first
                    | (exfalso; omega)
                    | skip
                      refine aw_aload_n dX7_told_18 rfl ?_
                      refine gm_7 rfl dX7_told_19 dX7_told_20 rfl ?_
                      refine aw_iload_n dX7_told_23 rfl ?_
                      refine aw_iaload dX7_told_24 m_a1 (by omega) (by omega) ?_
                      refine c_X7_76 rfl dX7_told_25 m_ob (Nat.le_of_ble_eq_true rfl) (by omega) (C_m_gives ?_)
                      refine aK_i ?_
                      refine aw_ireturn dX7_told_28 rfl ?_
                      first
                        | (exfalso; omega)
                        | (refine XR.sameE h ?_ ?_ ?_ ?_ ?_ ?_
                           · first
                               | rfl
                               | (subst hsw; rfl)
                               | omega
                           · repeat (first | exact xs.rf | refine xs.up ?_ (by decide))
                           · repeat (first | exact mss.rf | refine mss.up0 ?_ (by decide))
                           · first
                               | (simp [aup, hv2, hv3, hv4]; done)
                               | (simp [aup, hv2, hv3, hv4]; omega)
                           · simp [aup, hv2, hv3, hv4]
                           · simp [aup, hv2, hv3, hv4])
                · first
                    | (exfalso; omega)
                    | skip
                      refine aw_aload_n dX7_told_10 rfl ?_
                      refine aw_iconst dX7_told_11 (by decide) ?_
                      refine c_X7_72 rfl dX7_told_12 m_ob (Nat.le_of_ble_eq_true rfl) (by omega) (C_m_refuse ?_)
                      refine aK_i ?_
                      refine aw_goto (tgt := 28) dX7_told_15 (by decide) ?_
                      refine aw_ireturn dX7_told_28 rfl ?_
                      first
                        | (exfalso; omega)
                        | (refine XR.sameE h ?_ ?_ ?_ ?_ ?_ ?_
                           · first
                               | rfl
                               | (subst hsw; rfl)
                               | omega
                           · repeat (first | exact xs.rf | refine xs.up ?_ (by decide))
                           · repeat (first | exact mss.rf | refine mss.up0 ?_ (by decide))
                           · first
                               | (simp [aup, hv2, hv3, hv4]; done)
                               | (simp [aup, hv2, hv3, hv4]; omega)
                           · simp [aup, hv2, hv3, hv4]
                           · simp [aup, hv2, hv3, hv4])
    · first
        | (exfalso; omega)
        | skip
          refine aw_tabIn (tgt := 148) dX0_told_22 (by omega) (by omega) (off := 126) (by rw [hsw]; rfl) (by decide) ?_
          refine aw_aload_n dX0_told_148 rfl ?_
          refine c_X0_158 rfl dX0_told_149 hR.o0 (Nat.le_of_ble_eq_true rfl) (by omega) (C_x_yard2 hR ?_)
          refine aK_i ?_
          refine g_X0_259_5 rfl dX0_told_152 HY.1 ?_
          repeat (first | rw [aup_s] | rw [aup_n (by omega)])
          rw [HY.2.2.2.2.2.1.2.2.2.2.2.2.1]
          refine aw_ireturn dX0_told_155 rfl ?_
          refine ⟨_, rfl, ?_⟩
          refine AMet.go (L := [some (vR 0), some (vI a)]) mok_X7_told (Nat.le_of_ble_eq_true rfl) rfl ?_
          refine aw_iload_n dX7_told_0 rfl ?_
          refine aw_iflt (tgt := 10) dX7_told_1 (by decide) (fun h1 => ?_) (fun h1 => ?_)
          · first
              | (exfalso; omega)
              | skip
                refine aw_aload_n dX7_told_10 rfl ?_
                refine aw_iconst dX7_told_11 (by decide) ?_
                refine c_X7_72 rfl dX7_told_12 m_ob (Nat.le_of_ble_eq_true rfl) (by omega) (C_m_refuse ?_)
                refine aK_i ?_
                refine aw_goto (tgt := 28) dX7_told_15 (by decide) ?_
                refine aw_ireturn dX7_told_28 rfl ?_
                first
                  | (exfalso; omega)
                  | (refine XR.sameE h ?_ ?_ ?_ ?_ ?_ ?_
                     · first
                         | rfl
                         | (subst hsw; rfl)
                         | omega
                     · repeat (first | exact xs.rf | refine xs.up ?_ (by decide))
                     · repeat (first | exact mss.rf | refine mss.up0 ?_ (by decide))
                     · first
                         | (simp [aup, hv2, hv3, hv4]; done)
                         | (simp [aup, hv2, hv3, hv4]; omega)
                     · simp [aup, hv2, hv3, hv4]
                     · simp [aup, hv2, hv3, hv4])
          · first
              | (exfalso; omega)
              | skip
                refine aw_iload_n dX7_told_4 rfl ?_
                refine aw_bipush dX7_told_5 (by decide) ?_
                refine aw_icmple (tgt := 18) dX7_told_7 (by decide) (fun h7 => ?_) (fun h7 => ?_)
                · first
                    | (exfalso; omega)
                    | skip
                      refine aw_aload_n dX7_told_18 rfl ?_
                      refine gm_7 rfl dX7_told_19 dX7_told_20 rfl ?_
                      refine aw_iload_n dX7_told_23 rfl ?_
                      refine aw_iaload dX7_told_24 m_a1 (by omega) (by omega) ?_
                      refine c_X7_76 rfl dX7_told_25 m_ob (Nat.le_of_ble_eq_true rfl) (by omega) (C_m_gives ?_)
                      refine aK_i ?_
                      refine aw_ireturn dX7_told_28 rfl ?_
                      first
                        | (exfalso; omega)
                        | (refine XR.sameE h ?_ ?_ ?_ ?_ ?_ ?_
                           · first
                               | rfl
                               | (subst hsw; rfl)
                               | omega
                           · repeat (first | exact xs.rf | refine xs.up ?_ (by decide))
                           · repeat (first | exact mss.rf | refine mss.up0 ?_ (by decide))
                           · first
                               | (simp [aup, hv2, hv3, hv4]; done)
                               | (simp [aup, hv2, hv3, hv4]; omega)
                           · simp [aup, hv2, hv3, hv4]
                           · simp [aup, hv2, hv3, hv4])
                · first
                    | (exfalso; omega)
                    | skip
                      refine aw_aload_n dX7_told_10 rfl ?_
                      refine aw_iconst dX7_told_11 (by decide) ?_
                      refine c_X7_72 rfl dX7_told_12 m_ob (Nat.le_of_ble_eq_true rfl) (by omega) (C_m_refuse ?_)
                      refine aK_i ?_
                      refine aw_goto (tgt := 28) dX7_told_15 (by decide) ?_
                      refine aw_ireturn dX7_told_28 rfl ?_
                      first
                        | (exfalso; omega)
                        | (refine XR.sameE h ?_ ?_ ?_ ?_ ?_ ?_
                           · first
                               | rfl
                               | (subst hsw; rfl)
                               | omega
                           · repeat (first | exact xs.rf | refine xs.up ?_ (by decide))
                           · repeat (first | exact mss.rf | refine mss.up0 ?_ (by decide))
                           · first
                               | (simp [aup, hv2, hv3, hv4]; done)
                               | (simp [aup, hv2, hv3, hv4]; omega)
                           · simp [aup, hv2, hv3, hv4]
                           · simp [aup, hv2, hv3, hv4])
    · first
        | (exfalso; omega)
        | skip
          refine aw_tabOut (tgt := 156) dX0_told_22 (by omega) (by decide) ?_
          refine aw_iconst dX0_told_156 (by decide) ?_
          refine aw_ireturn dX0_told_157 rfl ?_
          refine ⟨_, rfl, ?_⟩
          refine AMet.go (L := [some (vR 0), some (vI a)]) mok_X7_told (Nat.le_of_ble_eq_true rfl) rfl ?_
          refine aw_iload_n dX7_told_0 rfl ?_
          refine aw_iflt (tgt := 10) dX7_told_1 (by decide) (fun h1 => ?_) (fun h1 => ?_)
          · first
              | (exfalso; omega)
              | skip
                refine aw_aload_n dX7_told_10 rfl ?_
                refine aw_iconst dX7_told_11 (by decide) ?_
                refine c_X7_72 rfl dX7_told_12 m_ob (Nat.le_of_ble_eq_true rfl) (by omega) (C_m_refuse ?_)
                refine aK_i ?_
                refine aw_goto (tgt := 28) dX7_told_15 (by decide) ?_
                refine aw_ireturn dX7_told_28 rfl ?_
                first
                  | (exfalso; omega)
                  | (refine XR.sameE h ?_ ?_ ?_ ?_ ?_ ?_
                     · first
                         | rfl
                         | (subst hsw; rfl)
                         | omega
                     · repeat (first | exact xs.rf | refine xs.up ?_ (by decide))
                     · repeat (first | exact mss.rf | refine mss.up0 ?_ (by decide))
                     · first
                         | (simp [aup, hv2, hv3, hv4]; done)
                         | (simp [aup, hv2, hv3, hv4]; omega)
                     · simp [aup, hv2, hv3, hv4]
                     · simp [aup, hv2, hv3, hv4])
          · first
              | (exfalso; omega)
              | skip
                refine aw_iload_n dX7_told_4 rfl ?_
                refine aw_bipush dX7_told_5 (by decide) ?_
                refine aw_icmple (tgt := 18) dX7_told_7 (by decide) (fun h7 => ?_) (fun h7 => ?_)
                · first
                    | (exfalso; omega)
                    | skip
                      refine aw_aload_n dX7_told_18 rfl ?_
                      refine gm_7 rfl dX7_told_19 dX7_told_20 rfl ?_
                      refine aw_iload_n dX7_told_23 rfl ?_
                      refine aw_iaload dX7_told_24 m_a1 (by omega) (by omega) ?_
                      refine c_X7_76 rfl dX7_told_25 m_ob (Nat.le_of_ble_eq_true rfl) (by omega) (C_m_gives ?_)
                      refine aK_i ?_
                      refine aw_ireturn dX7_told_28 rfl ?_
                      first
                        | (exfalso; omega)
                        | (refine XR.sameE h ?_ ?_ ?_ ?_ ?_ ?_
                           · first
                               | rfl
                               | (subst hsw; rfl)
                               | omega
                           · repeat (first | exact xs.rf | refine xs.up ?_ (by decide))
                           · repeat (first | exact mss.rf | refine mss.up0 ?_ (by decide))
                           · first
                               | (simp [aup, hv2, hv3, hv4]; done)
                               | (simp [aup, hv2, hv3, hv4]; omega)
                           · simp [aup, hv2, hv3, hv4]
                           · simp [aup, hv2, hv3, hv4])
                · first
                    | (exfalso; omega)
                    | skip
                      refine aw_aload_n dX7_told_10 rfl ?_
                      refine aw_iconst dX7_told_11 (by decide) ?_
                      refine c_X7_72 rfl dX7_told_12 m_ob (Nat.le_of_ble_eq_true rfl) (by omega) (C_m_refuse ?_)
                      refine aK_i ?_
                      refine aw_goto (tgt := 28) dX7_told_15 (by decide) ?_
                      refine aw_ireturn dX7_told_28 rfl ?_
                      first
                        | (exfalso; omega)
                        | (refine XR.sameE h ?_ ?_ ?_ ?_ ?_ ?_
                           · first
                               | rfl
                               | (subst hsw; rfl)
                               | omega
                           · repeat (first | exact xs.rf | refine xs.up ?_ (by decide))
                           · repeat (first | exact mss.rf | refine mss.up0 ?_ (by decide))
                           · first
                               | (simp [aup, hv2, hv3, hv4]; done)
                               | (simp [aup, hv2, hv3, hv4]; omega)
                           · simp [aup, hv2, hv3, hv4]
                           · simp [aup, hv2, hv3, hv4])
  · refine aK_i ?_
    refine aw_ifeq (tgt := 17) dX0_told_10 (by decide) (fun _ => ?_) (fun h => absurd h (by decide))
    refine aw_iconst dX0_told_17 (by decide) ?_
    refine p_X0_73_0 rfl dX0_told_18 hR.o0 ?_
    refine aw_iload_n dX0_told_21 rfl ?_
    have hsw : a = 0 ∨ a = 1 ∨ a = 2 ∨ a = 3 ∨ a = 4 ∨ a = 5 ∨ a = 6 ∨ a = 7 ∨ a = 8 ∨ a = 9 ∨ (a < 0 ∨ 9 < a) := by omega
    rcases hsw with hsw | hsw | hsw | hsw | hsw | hsw | hsw | hsw | hsw | hsw | hsw
    · first
        | (exfalso; omega)
        | skip
          refine aw_tabIn (tgt := 76) dX0_told_22 (by omega) (by omega) (off := 54) (by rw [hsw]; rfl) (by decide) ?_
          refine aw_aload_n dX0_told_76 rfl ?_
          refine c_X0_158 rfl dX0_told_77 hR.o0 (Nat.le_of_ble_eq_true rfl) (by omega) (C_x_yard2 hR ?_)
          refine aK_i ?_
          refine g_X0_161_5 rfl dX0_told_80 HY.1 ?_
          repeat (first | rw [aup_s] | rw [aup_n (by omega)])
          rw [HY.2.2.2.2.2.1.1]
          refine aw_ireturn dX0_told_83 rfl ?_
          refine ⟨_, rfl, ?_⟩
          refine AMet.go (L := [some (vR 0), some (vI a)]) mok_X7_told (Nat.le_of_ble_eq_true rfl) rfl ?_
          refine aw_iload_n dX7_told_0 rfl ?_
          refine aw_iflt (tgt := 10) dX7_told_1 (by decide) (fun h1 => ?_) (fun h1 => ?_)
          · first
              | (exfalso; omega)
              | skip
                refine aw_aload_n dX7_told_10 rfl ?_
                refine aw_iconst dX7_told_11 (by decide) ?_
                refine c_X7_72 rfl dX7_told_12 m_ob (Nat.le_of_ble_eq_true rfl) (by omega) (C_m_refuse ?_)
                refine aK_i ?_
                refine aw_goto (tgt := 28) dX7_told_15 (by decide) ?_
                refine aw_ireturn dX7_told_28 rfl ?_
                first
                  | (exfalso; omega)
                  | (refine XR.sameE h ?_ ?_ ?_ ?_ ?_ ?_
                     · first
                         | rfl
                         | (subst hsw; rfl)
                         | omega
                     · repeat (first | exact xs.rf | refine xs.up ?_ (by decide))
                     · repeat (first | exact mss.rf | refine mss.up0 ?_ (by decide))
                     · first
                         | (simp [aup, hv2, hv3, hv4]; done)
                         | (simp [aup, hv2, hv3, hv4]; omega)
                     · simp [aup, hv2, hv3, hv4]
                     · simp [aup, hv2, hv3, hv4])
          · first
              | (exfalso; omega)
              | skip
                refine aw_iload_n dX7_told_4 rfl ?_
                refine aw_bipush dX7_told_5 (by decide) ?_
                refine aw_icmple (tgt := 18) dX7_told_7 (by decide) (fun h7 => ?_) (fun h7 => ?_)
                · first
                    | (exfalso; omega)
                    | skip
                      refine aw_aload_n dX7_told_18 rfl ?_
                      refine gm_7 rfl dX7_told_19 dX7_told_20 rfl ?_
                      refine aw_iload_n dX7_told_23 rfl ?_
                      refine aw_iaload dX7_told_24 m_a1 (by omega) (by omega) ?_
                      refine c_X7_76 rfl dX7_told_25 m_ob (Nat.le_of_ble_eq_true rfl) (by omega) (C_m_gives ?_)
                      refine aK_i ?_
                      refine aw_ireturn dX7_told_28 rfl ?_
                      first
                        | (exfalso; omega)
                        | (refine XR.sameE h ?_ ?_ ?_ ?_ ?_ ?_
                           · first
                               | rfl
                               | (subst hsw; rfl)
                               | omega
                           · repeat (first | exact xs.rf | refine xs.up ?_ (by decide))
                           · repeat (first | exact mss.rf | refine mss.up0 ?_ (by decide))
                           · first
                               | (simp [aup, hv2, hv3, hv4]; done)
                               | (simp [aup, hv2, hv3, hv4]; omega)
                           · simp [aup, hv2, hv3, hv4]
                           · simp [aup, hv2, hv3, hv4])
                · first
                    | (exfalso; omega)
                    | skip
                      refine aw_aload_n dX7_told_10 rfl ?_
                      refine aw_iconst dX7_told_11 (by decide) ?_
                      refine c_X7_72 rfl dX7_told_12 m_ob (Nat.le_of_ble_eq_true rfl) (by omega) (C_m_refuse ?_)
                      refine aK_i ?_
                      refine aw_goto (tgt := 28) dX7_told_15 (by decide) ?_
                      refine aw_ireturn dX7_told_28 rfl ?_
                      first
                        | (exfalso; omega)
                        | (refine XR.sameE h ?_ ?_ ?_ ?_ ?_ ?_
                           · first
                               | rfl
                               | (subst hsw; rfl)
                               | omega
                           · repeat (first | exact xs.rf | refine xs.up ?_ (by decide))
                           · repeat (first | exact mss.rf | refine mss.up0 ?_ (by decide))
                           · first
                               | (simp [aup, hv2, hv3, hv4]; done)
                               | (simp [aup, hv2, hv3, hv4]; omega)
                           · simp [aup, hv2, hv3, hv4]
                           · simp [aup, hv2, hv3, hv4])
    · first
        | (exfalso; omega)
        | skip
          refine aw_tabIn (tgt := 84) dX0_told_22 (by omega) (by omega) (off := 62) (by rw [hsw]; rfl) (by decide) ?_
          refine aw_aload_n dX0_told_84 rfl ?_
          refine c_X0_182 rfl dX0_told_85 hR.o0 (Nat.le_of_ble_eq_true rfl) (by omega) (C_x_lines hR HY ?_)
          repeat (first | rw [aup_s] | rw [aup_n (by omega)])
          refine aK_i ?_
          refine g_X0_185_6 rfl dX0_told_88 HL.1 ?_
          repeat (first | rw [aup_s] | rw [aup_n (by omega)])
          rw [HL.2.2.2.1.1]
          refine aw_ireturn dX0_told_91 rfl ?_
          refine ⟨_, rfl, ?_⟩
          refine AMet.go (L := [some (vR 0), some (vI a)]) mok_X7_told (Nat.le_of_ble_eq_true rfl) rfl ?_
          refine aw_iload_n dX7_told_0 rfl ?_
          refine aw_iflt (tgt := 10) dX7_told_1 (by decide) (fun h1 => ?_) (fun h1 => ?_)
          · first
              | (exfalso; omega)
              | skip
                refine aw_aload_n dX7_told_10 rfl ?_
                refine aw_iconst dX7_told_11 (by decide) ?_
                refine c_X7_72 rfl dX7_told_12 m_ob (Nat.le_of_ble_eq_true rfl) (by omega) (C_m_refuse ?_)
                refine aK_i ?_
                refine aw_goto (tgt := 28) dX7_told_15 (by decide) ?_
                refine aw_ireturn dX7_told_28 rfl ?_
                first
                  | (exfalso; omega)
                  | (refine XR.sameE h ?_ ?_ ?_ ?_ ?_ ?_
                     · first
                         | rfl
                         | (subst hsw; rfl)
                         | omega
                     · repeat (first | exact xs.rf | refine xs.up ?_ (by decide))
                     · repeat (first | exact mss.rf | refine mss.up0 ?_ (by decide))
                     · first
                         | (simp [aup, hv2, hv3, hv4]; done)
                         | (simp [aup, hv2, hv3, hv4]; omega)
                     · simp [aup, hv2, hv3, hv4]
                     · simp [aup, hv2, hv3, hv4])
          · first
              | (exfalso; omega)
              | skip
                refine aw_iload_n dX7_told_4 rfl ?_
                refine aw_bipush dX7_told_5 (by decide) ?_
                refine aw_icmple (tgt := 18) dX7_told_7 (by decide) (fun h7 => ?_) (fun h7 => ?_)
                · first
                    | (exfalso; omega)
                    | skip
                      refine aw_aload_n dX7_told_18 rfl ?_
                      refine gm_7 rfl dX7_told_19 dX7_told_20 rfl ?_
                      refine aw_iload_n dX7_told_23 rfl ?_
                      refine aw_iaload dX7_told_24 m_a1 (by omega) (by omega) ?_
                      refine c_X7_76 rfl dX7_told_25 m_ob (Nat.le_of_ble_eq_true rfl) (by omega) (C_m_gives ?_)
                      refine aK_i ?_
                      refine aw_ireturn dX7_told_28 rfl ?_
                      first
                        | (exfalso; omega)
                        | (refine XR.sameE h ?_ ?_ ?_ ?_ ?_ ?_
                           · first
                               | rfl
                               | (subst hsw; rfl)
                               | omega
                           · repeat (first | exact xs.rf | refine xs.up ?_ (by decide))
                           · repeat (first | exact mss.rf | refine mss.up0 ?_ (by decide))
                           · first
                               | (simp [aup, hv2, hv3, hv4]; done)
                               | (simp [aup, hv2, hv3, hv4]; omega)
                           · simp [aup, hv2, hv3, hv4]
                           · simp [aup, hv2, hv3, hv4])
                · first
                    | (exfalso; omega)
                    | skip
                      refine aw_aload_n dX7_told_10 rfl ?_
                      refine aw_iconst dX7_told_11 (by decide) ?_
                      refine c_X7_72 rfl dX7_told_12 m_ob (Nat.le_of_ble_eq_true rfl) (by omega) (C_m_refuse ?_)
                      refine aK_i ?_
                      refine aw_goto (tgt := 28) dX7_told_15 (by decide) ?_
                      refine aw_ireturn dX7_told_28 rfl ?_
                      first
                        | (exfalso; omega)
                        | (refine XR.sameE h ?_ ?_ ?_ ?_ ?_ ?_
                           · first
                               | rfl
                               | (subst hsw; rfl)
                               | omega
                           · repeat (first | exact xs.rf | refine xs.up ?_ (by decide))
                           · repeat (first | exact mss.rf | refine mss.up0 ?_ (by decide))
                           · first
                               | (simp [aup, hv2, hv3, hv4]; done)
                               | (simp [aup, hv2, hv3, hv4]; omega)
                           · simp [aup, hv2, hv3, hv4]
                           · simp [aup, hv2, hv3, hv4])
    · first
        | (exfalso; omega)
        | skip
          refine aw_tabIn (tgt := 92) dX0_told_22 (by omega) (by omega) (off := 70) (by rw [hsw]; rfl) (by decide) ?_
          refine aw_aload_n dX0_told_92 rfl ?_
          refine c_X0_182 rfl dX0_told_93 hR.o0 (Nat.le_of_ble_eq_true rfl) (by omega) (C_x_lines hR HY ?_)
          repeat (first | rw [aup_s] | rw [aup_n (by omega)])
          refine aK_i ?_
          refine g_X0_238_6 rfl dX0_told_96 HL.1 ?_
          repeat (first | rw [aup_s] | rw [aup_n (by omega)])
          rw [HL.2.2.2.1.2]
          refine aw_ireturn dX0_told_99 rfl ?_
          refine ⟨_, rfl, ?_⟩
          refine AMet.go (L := [some (vR 0), some (vI a)]) mok_X7_told (Nat.le_of_ble_eq_true rfl) rfl ?_
          refine aw_iload_n dX7_told_0 rfl ?_
          refine aw_iflt (tgt := 10) dX7_told_1 (by decide) (fun h1 => ?_) (fun h1 => ?_)
          · first
              | (exfalso; omega)
              | skip
                refine aw_aload_n dX7_told_10 rfl ?_
                refine aw_iconst dX7_told_11 (by decide) ?_
                refine c_X7_72 rfl dX7_told_12 m_ob (Nat.le_of_ble_eq_true rfl) (by omega) (C_m_refuse ?_)
                refine aK_i ?_
                refine aw_goto (tgt := 28) dX7_told_15 (by decide) ?_
                refine aw_ireturn dX7_told_28 rfl ?_
                first
                  | (exfalso; omega)
                  | (refine XR.sameE h ?_ ?_ ?_ ?_ ?_ ?_
                     · first
                         | rfl
                         | (subst hsw; rfl)
                         | omega
                     · repeat (first | exact xs.rf | refine xs.up ?_ (by decide))
                     · repeat (first | exact mss.rf | refine mss.up0 ?_ (by decide))
                     · first
                         | (simp [aup, hv2, hv3, hv4]; done)
                         | (simp [aup, hv2, hv3, hv4]; omega)
                     · simp [aup, hv2, hv3, hv4]
                     · simp [aup, hv2, hv3, hv4])
          · first
              | (exfalso; omega)
              | skip
                refine aw_iload_n dX7_told_4 rfl ?_
                refine aw_bipush dX7_told_5 (by decide) ?_
                refine aw_icmple (tgt := 18) dX7_told_7 (by decide) (fun h7 => ?_) (fun h7 => ?_)
                · first
                    | (exfalso; omega)
                    | skip
                      refine aw_aload_n dX7_told_18 rfl ?_
                      refine gm_7 rfl dX7_told_19 dX7_told_20 rfl ?_
                      refine aw_iload_n dX7_told_23 rfl ?_
                      refine aw_iaload dX7_told_24 m_a1 (by omega) (by omega) ?_
                      refine c_X7_76 rfl dX7_told_25 m_ob (Nat.le_of_ble_eq_true rfl) (by omega) (C_m_gives ?_)
                      refine aK_i ?_
                      refine aw_ireturn dX7_told_28 rfl ?_
                      first
                        | (exfalso; omega)
                        | (refine XR.sameE h ?_ ?_ ?_ ?_ ?_ ?_
                           · first
                               | rfl
                               | (subst hsw; rfl)
                               | omega
                           · repeat (first | exact xs.rf | refine xs.up ?_ (by decide))
                           · repeat (first | exact mss.rf | refine mss.up0 ?_ (by decide))
                           · first
                               | (simp [aup, hv2, hv3, hv4]; done)
                               | (simp [aup, hv2, hv3, hv4]; omega)
                           · simp [aup, hv2, hv3, hv4]
                           · simp [aup, hv2, hv3, hv4])
                · first
                    | (exfalso; omega)
                    | skip
                      refine aw_aload_n dX7_told_10 rfl ?_
                      refine aw_iconst dX7_told_11 (by decide) ?_
                      refine c_X7_72 rfl dX7_told_12 m_ob (Nat.le_of_ble_eq_true rfl) (by omega) (C_m_refuse ?_)
                      refine aK_i ?_
                      refine aw_goto (tgt := 28) dX7_told_15 (by decide) ?_
                      refine aw_ireturn dX7_told_28 rfl ?_
                      first
                        | (exfalso; omega)
                        | (refine XR.sameE h ?_ ?_ ?_ ?_ ?_ ?_
                           · first
                               | rfl
                               | (subst hsw; rfl)
                               | omega
                           · repeat (first | exact xs.rf | refine xs.up ?_ (by decide))
                           · repeat (first | exact mss.rf | refine mss.up0 ?_ (by decide))
                           · first
                               | (simp [aup, hv2, hv3, hv4]; done)
                               | (simp [aup, hv2, hv3, hv4]; omega)
                           · simp [aup, hv2, hv3, hv4]
                           · simp [aup, hv2, hv3, hv4])
    · first
        | (exfalso; omega)
        | skip
          refine aw_tabIn (tgt := 100) dX0_told_22 (by omega) (by omega) (off := 78) (by rw [hsw]; rfl) (by decide) ?_
          refine aw_aload_n dX0_told_100 rfl ?_
          refine c_X0_158 rfl dX0_told_101 hR.o0 (Nat.le_of_ble_eq_true rfl) (by omega) (C_x_yard2 hR ?_)
          refine aK_i ?_
          refine g_X0_241_5 rfl dX0_told_104 HY.1 ?_
          repeat (first | rw [aup_s] | rw [aup_n (by omega)])
          rw [HY.2.2.2.2.2.1.2.1]
          refine aw_ireturn dX0_told_107 rfl ?_
          refine ⟨_, rfl, ?_⟩
          refine AMet.go (L := [some (vR 0), some (vI a)]) mok_X7_told (Nat.le_of_ble_eq_true rfl) rfl ?_
          refine aw_iload_n dX7_told_0 rfl ?_
          refine aw_iflt (tgt := 10) dX7_told_1 (by decide) (fun h1 => ?_) (fun h1 => ?_)
          · first
              | (exfalso; omega)
              | skip
                refine aw_aload_n dX7_told_10 rfl ?_
                refine aw_iconst dX7_told_11 (by decide) ?_
                refine c_X7_72 rfl dX7_told_12 m_ob (Nat.le_of_ble_eq_true rfl) (by omega) (C_m_refuse ?_)
                refine aK_i ?_
                refine aw_goto (tgt := 28) dX7_told_15 (by decide) ?_
                refine aw_ireturn dX7_told_28 rfl ?_
                first
                  | (exfalso; omega)
                  | (refine XR.sameE h ?_ ?_ ?_ ?_ ?_ ?_
                     · first
                         | rfl
                         | (subst hsw; rfl)
                         | omega
                     · repeat (first | exact xs.rf | refine xs.up ?_ (by decide))
                     · repeat (first | exact mss.rf | refine mss.up0 ?_ (by decide))
                     · first
                         | (simp [aup, hv2, hv3, hv4]; done)
                         | (simp [aup, hv2, hv3, hv4]; omega)
                     · simp [aup, hv2, hv3, hv4]
                     · simp [aup, hv2, hv3, hv4])
          · first
              | (exfalso; omega)
              | skip
                refine aw_iload_n dX7_told_4 rfl ?_
                refine aw_bipush dX7_told_5 (by decide) ?_
                refine aw_icmple (tgt := 18) dX7_told_7 (by decide) (fun h7 => ?_) (fun h7 => ?_)
                · first
                    | (exfalso; omega)
                    | skip
                      refine aw_aload_n dX7_told_18 rfl ?_
                      refine gm_7 rfl dX7_told_19 dX7_told_20 rfl ?_
                      refine aw_iload_n dX7_told_23 rfl ?_
                      refine aw_iaload dX7_told_24 m_a1 (by omega) (by omega) ?_
                      refine c_X7_76 rfl dX7_told_25 m_ob (Nat.le_of_ble_eq_true rfl) (by omega) (C_m_gives ?_)
                      refine aK_i ?_
                      refine aw_ireturn dX7_told_28 rfl ?_
                      first
                        | (exfalso; omega)
                        | (refine XR.sameE h ?_ ?_ ?_ ?_ ?_ ?_
                           · first
                               | rfl
                               | (subst hsw; rfl)
                               | omega
                           · repeat (first | exact xs.rf | refine xs.up ?_ (by decide))
                           · repeat (first | exact mss.rf | refine mss.up0 ?_ (by decide))
                           · first
                               | (simp [aup, hv2, hv3, hv4]; done)
                               | (simp [aup, hv2, hv3, hv4]; omega)
                           · simp [aup, hv2, hv3, hv4]
                           · simp [aup, hv2, hv3, hv4])
                · first
                    | (exfalso; omega)
                    | skip
                      refine aw_aload_n dX7_told_10 rfl ?_
                      refine aw_iconst dX7_told_11 (by decide) ?_
                      refine c_X7_72 rfl dX7_told_12 m_ob (Nat.le_of_ble_eq_true rfl) (by omega) (C_m_refuse ?_)
                      refine aK_i ?_
                      refine aw_goto (tgt := 28) dX7_told_15 (by decide) ?_
                      refine aw_ireturn dX7_told_28 rfl ?_
                      first
                        | (exfalso; omega)
                        | (refine XR.sameE h ?_ ?_ ?_ ?_ ?_ ?_
                           · first
                               | rfl
                               | (subst hsw; rfl)
                               | omega
                           · repeat (first | exact xs.rf | refine xs.up ?_ (by decide))
                           · repeat (first | exact mss.rf | refine mss.up0 ?_ (by decide))
                           · first
                               | (simp [aup, hv2, hv3, hv4]; done)
                               | (simp [aup, hv2, hv3, hv4]; omega)
                           · simp [aup, hv2, hv3, hv4]
                           · simp [aup, hv2, hv3, hv4])
    · first
        | (exfalso; omega)
        | skip
          refine aw_tabIn (tgt := 108) dX0_told_22 (by omega) (by omega) (off := 86) (by rw [hsw]; rfl) (by decide) ?_
          refine aw_aload_n dX0_told_108 rfl ?_
          refine c_X0_158 rfl dX0_told_109 hR.o0 (Nat.le_of_ble_eq_true rfl) (by omega) (C_x_yard2 hR ?_)
          refine aK_i ?_
          refine g_X0_244_5 rfl dX0_told_112 HY.1 ?_
          repeat (first | rw [aup_s] | rw [aup_n (by omega)])
          rw [HY.2.2.2.2.2.1.2.2.2.2.2.2.2]
          refine aw_ireturn dX0_told_115 rfl ?_
          refine ⟨_, rfl, ?_⟩
          refine AMet.go (L := [some (vR 0), some (vI a)]) mok_X7_told (Nat.le_of_ble_eq_true rfl) rfl ?_
          refine aw_iload_n dX7_told_0 rfl ?_
          refine aw_iflt (tgt := 10) dX7_told_1 (by decide) (fun h1 => ?_) (fun h1 => ?_)
          · first
              | (exfalso; omega)
              | skip
                refine aw_aload_n dX7_told_10 rfl ?_
                refine aw_iconst dX7_told_11 (by decide) ?_
                refine c_X7_72 rfl dX7_told_12 m_ob (Nat.le_of_ble_eq_true rfl) (by omega) (C_m_refuse ?_)
                refine aK_i ?_
                refine aw_goto (tgt := 28) dX7_told_15 (by decide) ?_
                refine aw_ireturn dX7_told_28 rfl ?_
                first
                  | (exfalso; omega)
                  | (refine XR.sameE h ?_ ?_ ?_ ?_ ?_ ?_
                     · first
                         | rfl
                         | (subst hsw; rfl)
                         | omega
                     · repeat (first | exact xs.rf | refine xs.up ?_ (by decide))
                     · repeat (first | exact mss.rf | refine mss.up0 ?_ (by decide))
                     · first
                         | (simp [aup, hv2, hv3, hv4]; done)
                         | (simp [aup, hv2, hv3, hv4]; omega)
                     · simp [aup, hv2, hv3, hv4]
                     · simp [aup, hv2, hv3, hv4])
          · first
              | (exfalso; omega)
              | skip
                refine aw_iload_n dX7_told_4 rfl ?_
                refine aw_bipush dX7_told_5 (by decide) ?_
                refine aw_icmple (tgt := 18) dX7_told_7 (by decide) (fun h7 => ?_) (fun h7 => ?_)
                · first
                    | (exfalso; omega)
                    | skip
                      refine aw_aload_n dX7_told_18 rfl ?_
                      refine gm_7 rfl dX7_told_19 dX7_told_20 rfl ?_
                      refine aw_iload_n dX7_told_23 rfl ?_
                      refine aw_iaload dX7_told_24 m_a1 (by omega) (by omega) ?_
                      refine c_X7_76 rfl dX7_told_25 m_ob (Nat.le_of_ble_eq_true rfl) (by omega) (C_m_gives ?_)
                      refine aK_i ?_
                      refine aw_ireturn dX7_told_28 rfl ?_
                      first
                        | (exfalso; omega)
                        | (refine XR.sameE h ?_ ?_ ?_ ?_ ?_ ?_
                           · first
                               | rfl
                               | (subst hsw; rfl)
                               | omega
                           · repeat (first | exact xs.rf | refine xs.up ?_ (by decide))
                           · repeat (first | exact mss.rf | refine mss.up0 ?_ (by decide))
                           · first
                               | (simp [aup, hv2, hv3, hv4]; done)
                               | (simp [aup, hv2, hv3, hv4]; omega)
                           · simp [aup, hv2, hv3, hv4]
                           · simp [aup, hv2, hv3, hv4])
                · first
                    | (exfalso; omega)
                    | skip
                      refine aw_aload_n dX7_told_10 rfl ?_
                      refine aw_iconst dX7_told_11 (by decide) ?_
                      refine c_X7_72 rfl dX7_told_12 m_ob (Nat.le_of_ble_eq_true rfl) (by omega) (C_m_refuse ?_)
                      refine aK_i ?_
                      refine aw_goto (tgt := 28) dX7_told_15 (by decide) ?_
                      refine aw_ireturn dX7_told_28 rfl ?_
                      first
                        | (exfalso; omega)
                        | (refine XR.sameE h ?_ ?_ ?_ ?_ ?_ ?_
                           · first
                               | rfl
                               | (subst hsw; rfl)
                               | omega
                           · repeat (first | exact xs.rf | refine xs.up ?_ (by decide))
                           · repeat (first | exact mss.rf | refine mss.up0 ?_ (by decide))
                           · first
                               | (simp [aup, hv2, hv3, hv4]; done)
                               | (simp [aup, hv2, hv3, hv4]; omega)
                           · simp [aup, hv2, hv3, hv4]
                           · simp [aup, hv2, hv3, hv4])
    · first
        | (exfalso; omega)
        | skip
          refine aw_tabIn (tgt := 116) dX0_told_22 (by omega) (by omega) (off := 94) (by rw [hsw]; rfl) (by decide) ?_
          refine aw_aload_n dX0_told_116 rfl ?_
          refine c_X0_158 rfl dX0_told_117 hR.o0 (Nat.le_of_ble_eq_true rfl) (by omega) (C_x_yard2 hR ?_)
          refine aK_i ?_
          refine g_X0_247_5 rfl dX0_told_120 HY.1 ?_
          repeat (first | rw [aup_s] | rw [aup_n (by omega)])
          rw [HY.2.2.2.2.2.1.2.2.1]
          refine aw_ireturn dX0_told_123 rfl ?_
          refine ⟨_, rfl, ?_⟩
          refine AMet.go (L := [some (vR 0), some (vI a)]) mok_X7_told (Nat.le_of_ble_eq_true rfl) rfl ?_
          refine aw_iload_n dX7_told_0 rfl ?_
          refine aw_iflt (tgt := 10) dX7_told_1 (by decide) (fun h1 => ?_) (fun h1 => ?_)
          · first
              | (exfalso; omega)
              | skip
                refine aw_aload_n dX7_told_10 rfl ?_
                refine aw_iconst dX7_told_11 (by decide) ?_
                refine c_X7_72 rfl dX7_told_12 m_ob (Nat.le_of_ble_eq_true rfl) (by omega) (C_m_refuse ?_)
                refine aK_i ?_
                refine aw_goto (tgt := 28) dX7_told_15 (by decide) ?_
                refine aw_ireturn dX7_told_28 rfl ?_
                first
                  | (exfalso; omega)
                  | (refine XR.sameE h ?_ ?_ ?_ ?_ ?_ ?_
                     · first
                         | rfl
                         | (subst hsw; rfl)
                         | omega
                     · repeat (first | exact xs.rf | refine xs.up ?_ (by decide))
                     · repeat (first | exact mss.rf | refine mss.up0 ?_ (by decide))
                     · first
                         | (simp [aup, hv2, hv3, hv4]; done)
                         | (simp [aup, hv2, hv3, hv4]; omega)
                     · simp [aup, hv2, hv3, hv4]
                     · simp [aup, hv2, hv3, hv4])
          · first
              | (exfalso; omega)
              | skip
                refine aw_iload_n dX7_told_4 rfl ?_
                refine aw_bipush dX7_told_5 (by decide) ?_
                refine aw_icmple (tgt := 18) dX7_told_7 (by decide) (fun h7 => ?_) (fun h7 => ?_)
                · first
                    | (exfalso; omega)
                    | skip
                      refine aw_aload_n dX7_told_18 rfl ?_
                      refine gm_7 rfl dX7_told_19 dX7_told_20 rfl ?_
                      refine aw_iload_n dX7_told_23 rfl ?_
                      refine aw_iaload dX7_told_24 m_a1 (by omega) (by omega) ?_
                      refine c_X7_76 rfl dX7_told_25 m_ob (Nat.le_of_ble_eq_true rfl) (by omega) (C_m_gives ?_)
                      refine aK_i ?_
                      refine aw_ireturn dX7_told_28 rfl ?_
                      first
                        | (exfalso; omega)
                        | (refine XR.sameE h ?_ ?_ ?_ ?_ ?_ ?_
                           · first
                               | rfl
                               | (subst hsw; rfl)
                               | omega
                           · repeat (first | exact xs.rf | refine xs.up ?_ (by decide))
                           · repeat (first | exact mss.rf | refine mss.up0 ?_ (by decide))
                           · first
                               | (simp [aup, hv2, hv3, hv4]; done)
                               | (simp [aup, hv2, hv3, hv4]; omega)
                           · simp [aup, hv2, hv3, hv4]
                           · simp [aup, hv2, hv3, hv4])
                · first
                    | (exfalso; omega)
                    | skip
                      refine aw_aload_n dX7_told_10 rfl ?_
                      refine aw_iconst dX7_told_11 (by decide) ?_
                      refine c_X7_72 rfl dX7_told_12 m_ob (Nat.le_of_ble_eq_true rfl) (by omega) (C_m_refuse ?_)
                      refine aK_i ?_
                      refine aw_goto (tgt := 28) dX7_told_15 (by decide) ?_
                      refine aw_ireturn dX7_told_28 rfl ?_
                      first
                        | (exfalso; omega)
                        | (refine XR.sameE h ?_ ?_ ?_ ?_ ?_ ?_
                           · first
                               | rfl
                               | (subst hsw; rfl)
                               | omega
                           · repeat (first | exact xs.rf | refine xs.up ?_ (by decide))
                           · repeat (first | exact mss.rf | refine mss.up0 ?_ (by decide))
                           · first
                               | (simp [aup, hv2, hv3, hv4]; done)
                               | (simp [aup, hv2, hv3, hv4]; omega)
                           · simp [aup, hv2, hv3, hv4]
                           · simp [aup, hv2, hv3, hv4])
    · first
        | (exfalso; omega)
        | skip
          refine aw_tabIn (tgt := 124) dX0_told_22 (by omega) (by omega) (off := 102) (by rw [hsw]; rfl) (by decide) ?_
          refine aw_aload_n dX0_told_124 rfl ?_
          refine c_X0_158 rfl dX0_told_125 hR.o0 (Nat.le_of_ble_eq_true rfl) (by omega) (C_x_yard2 hR ?_)
          refine aK_i ?_
          refine g_X0_250_5 rfl dX0_told_128 HY.1 ?_
          repeat (first | rw [aup_s] | rw [aup_n (by omega)])
          rw [HY.2.2.2.2.2.1.2.2.2.1]
          refine aw_ireturn dX0_told_131 rfl ?_
          refine ⟨_, rfl, ?_⟩
          refine AMet.go (L := [some (vR 0), some (vI a)]) mok_X7_told (Nat.le_of_ble_eq_true rfl) rfl ?_
          refine aw_iload_n dX7_told_0 rfl ?_
          refine aw_iflt (tgt := 10) dX7_told_1 (by decide) (fun h1 => ?_) (fun h1 => ?_)
          · first
              | (exfalso; omega)
              | skip
                refine aw_aload_n dX7_told_10 rfl ?_
                refine aw_iconst dX7_told_11 (by decide) ?_
                refine c_X7_72 rfl dX7_told_12 m_ob (Nat.le_of_ble_eq_true rfl) (by omega) (C_m_refuse ?_)
                refine aK_i ?_
                refine aw_goto (tgt := 28) dX7_told_15 (by decide) ?_
                refine aw_ireturn dX7_told_28 rfl ?_
                first
                  | (exfalso; omega)
                  | (refine XR.sameE h ?_ ?_ ?_ ?_ ?_ ?_
                     · first
                         | rfl
                         | (subst hsw; rfl)
                         | omega
                     · repeat (first | exact xs.rf | refine xs.up ?_ (by decide))
                     · repeat (first | exact mss.rf | refine mss.up0 ?_ (by decide))
                     · first
                         | (simp [aup, hv2, hv3, hv4]; done)
                         | (simp [aup, hv2, hv3, hv4]; omega)
                     · simp [aup, hv2, hv3, hv4]
                     · simp [aup, hv2, hv3, hv4])
          · first
              | (exfalso; omega)
              | skip
                refine aw_iload_n dX7_told_4 rfl ?_
                refine aw_bipush dX7_told_5 (by decide) ?_
                refine aw_icmple (tgt := 18) dX7_told_7 (by decide) (fun h7 => ?_) (fun h7 => ?_)
                · first
                    | (exfalso; omega)
                    | skip
                      refine aw_aload_n dX7_told_18 rfl ?_
                      refine gm_7 rfl dX7_told_19 dX7_told_20 rfl ?_
                      refine aw_iload_n dX7_told_23 rfl ?_
                      refine aw_iaload dX7_told_24 m_a1 (by omega) (by omega) ?_
                      refine c_X7_76 rfl dX7_told_25 m_ob (Nat.le_of_ble_eq_true rfl) (by omega) (C_m_gives ?_)
                      refine aK_i ?_
                      refine aw_ireturn dX7_told_28 rfl ?_
                      first
                        | (exfalso; omega)
                        | (refine XR.sameE h ?_ ?_ ?_ ?_ ?_ ?_
                           · first
                               | rfl
                               | (subst hsw; rfl)
                               | omega
                           · repeat (first | exact xs.rf | refine xs.up ?_ (by decide))
                           · repeat (first | exact mss.rf | refine mss.up0 ?_ (by decide))
                           · first
                               | (simp [aup, hv2, hv3, hv4]; done)
                               | (simp [aup, hv2, hv3, hv4]; omega)
                           · simp [aup, hv2, hv3, hv4]
                           · simp [aup, hv2, hv3, hv4])
                · first
                    | (exfalso; omega)
                    | skip
                      refine aw_aload_n dX7_told_10 rfl ?_
                      refine aw_iconst dX7_told_11 (by decide) ?_
                      refine c_X7_72 rfl dX7_told_12 m_ob (Nat.le_of_ble_eq_true rfl) (by omega) (C_m_refuse ?_)
                      refine aK_i ?_
                      refine aw_goto (tgt := 28) dX7_told_15 (by decide) ?_
                      refine aw_ireturn dX7_told_28 rfl ?_
                      first
                        | (exfalso; omega)
                        | (refine XR.sameE h ?_ ?_ ?_ ?_ ?_ ?_
                           · first
                               | rfl
                               | (subst hsw; rfl)
                               | omega
                           · repeat (first | exact xs.rf | refine xs.up ?_ (by decide))
                           · repeat (first | exact mss.rf | refine mss.up0 ?_ (by decide))
                           · first
                               | (simp [aup, hv2, hv3, hv4]; done)
                               | (simp [aup, hv2, hv3, hv4]; omega)
                           · simp [aup, hv2, hv3, hv4]
                           · simp [aup, hv2, hv3, hv4])
    · first
        | (exfalso; omega)
        | skip
          refine aw_tabIn (tgt := 132) dX0_told_22 (by omega) (by omega) (off := 110) (by rw [hsw]; rfl) (by decide) ?_
          refine aw_aload_n dX0_told_132 rfl ?_
          refine c_X0_158 rfl dX0_told_133 hR.o0 (Nat.le_of_ble_eq_true rfl) (by omega) (C_x_yard2 hR ?_)
          refine aK_i ?_
          refine g_X0_253_5 rfl dX0_told_136 HY.1 ?_
          repeat (first | rw [aup_s] | rw [aup_n (by omega)])
          rw [HY.2.2.2.2.2.1.2.2.2.2.1]
          refine aw_ireturn dX0_told_139 rfl ?_
          refine ⟨_, rfl, ?_⟩
          refine AMet.go (L := [some (vR 0), some (vI a)]) mok_X7_told (Nat.le_of_ble_eq_true rfl) rfl ?_
          refine aw_iload_n dX7_told_0 rfl ?_
          refine aw_iflt (tgt := 10) dX7_told_1 (by decide) (fun h1 => ?_) (fun h1 => ?_)
          · first
              | (exfalso; omega)
              | skip
                refine aw_aload_n dX7_told_10 rfl ?_
                refine aw_iconst dX7_told_11 (by decide) ?_
                refine c_X7_72 rfl dX7_told_12 m_ob (Nat.le_of_ble_eq_true rfl) (by omega) (C_m_refuse ?_)
                refine aK_i ?_
                refine aw_goto (tgt := 28) dX7_told_15 (by decide) ?_
                refine aw_ireturn dX7_told_28 rfl ?_
                first
                  | (exfalso; omega)
                  | (refine XR.sameE h ?_ ?_ ?_ ?_ ?_ ?_
                     · first
                         | rfl
                         | (subst hsw; rfl)
                         | omega
                     · repeat (first | exact xs.rf | refine xs.up ?_ (by decide))
                     · repeat (first | exact mss.rf | refine mss.up0 ?_ (by decide))
                     · first
                         | (simp [aup, hv2, hv3, hv4]; done)
                         | (simp [aup, hv2, hv3, hv4]; omega)
                     · simp [aup, hv2, hv3, hv4]
                     · simp [aup, hv2, hv3, hv4])
          · first
              | (exfalso; omega)
              | skip
                refine aw_iload_n dX7_told_4 rfl ?_
                refine aw_bipush dX7_told_5 (by decide) ?_
                refine aw_icmple (tgt := 18) dX7_told_7 (by decide) (fun h7 => ?_) (fun h7 => ?_)
                · first
                    | (exfalso; omega)
                    | skip
                      refine aw_aload_n dX7_told_18 rfl ?_
                      refine gm_7 rfl dX7_told_19 dX7_told_20 rfl ?_
                      refine aw_iload_n dX7_told_23 rfl ?_
                      refine aw_iaload dX7_told_24 m_a1 (by omega) (by omega) ?_
                      refine c_X7_76 rfl dX7_told_25 m_ob (Nat.le_of_ble_eq_true rfl) (by omega) (C_m_gives ?_)
                      refine aK_i ?_
                      refine aw_ireturn dX7_told_28 rfl ?_
                      first
                        | (exfalso; omega)
                        | (refine XR.sameE h ?_ ?_ ?_ ?_ ?_ ?_
                           · first
                               | rfl
                               | (subst hsw; rfl)
                               | omega
                           · repeat (first | exact xs.rf | refine xs.up ?_ (by decide))
                           · repeat (first | exact mss.rf | refine mss.up0 ?_ (by decide))
                           · first
                               | (simp [aup, hv2, hv3, hv4]; done)
                               | (simp [aup, hv2, hv3, hv4]; omega)
                           · simp [aup, hv2, hv3, hv4]
                           · simp [aup, hv2, hv3, hv4])
                · first
                    | (exfalso; omega)
                    | skip
                      refine aw_aload_n dX7_told_10 rfl ?_
                      refine aw_iconst dX7_told_11 (by decide) ?_
                      refine c_X7_72 rfl dX7_told_12 m_ob (Nat.le_of_ble_eq_true rfl) (by omega) (C_m_refuse ?_)
                      refine aK_i ?_
                      refine aw_goto (tgt := 28) dX7_told_15 (by decide) ?_
                      refine aw_ireturn dX7_told_28 rfl ?_
                      first
                        | (exfalso; omega)
                        | (refine XR.sameE h ?_ ?_ ?_ ?_ ?_ ?_
                           · first
                               | rfl
                               | (subst hsw; rfl)
                               | omega
                           · repeat (first | exact xs.rf | refine xs.up ?_ (by decide))
                           · repeat (first | exact mss.rf | refine mss.up0 ?_ (by decide))
                           · first
                               | (simp [aup, hv2, hv3, hv4]; done)
                               | (simp [aup, hv2, hv3, hv4]; omega)
                           · simp [aup, hv2, hv3, hv4]
                           · simp [aup, hv2, hv3, hv4])
    · first
        | (exfalso; omega)
        | skip
          refine aw_tabIn (tgt := 140) dX0_told_22 (by omega) (by omega) (off := 118) (by rw [hsw]; rfl) (by decide) ?_
          refine aw_aload_n dX0_told_140 rfl ?_
          refine c_X0_158 rfl dX0_told_141 hR.o0 (Nat.le_of_ble_eq_true rfl) (by omega) (C_x_yard2 hR ?_)
          refine aK_i ?_
          refine g_X0_256_5 rfl dX0_told_144 HY.1 ?_
          repeat (first | rw [aup_s] | rw [aup_n (by omega)])
          rw [HY.2.2.2.2.2.1.2.2.2.2.2.1]
          refine aw_ireturn dX0_told_147 rfl ?_
          refine ⟨_, rfl, ?_⟩
          refine AMet.go (L := [some (vR 0), some (vI a)]) mok_X7_told (Nat.le_of_ble_eq_true rfl) rfl ?_
          refine aw_iload_n dX7_told_0 rfl ?_
          refine aw_iflt (tgt := 10) dX7_told_1 (by decide) (fun h1 => ?_) (fun h1 => ?_)
          · first
              | (exfalso; omega)
              | skip
                refine aw_aload_n dX7_told_10 rfl ?_
                refine aw_iconst dX7_told_11 (by decide) ?_
                refine c_X7_72 rfl dX7_told_12 m_ob (Nat.le_of_ble_eq_true rfl) (by omega) (C_m_refuse ?_)
                refine aK_i ?_
                refine aw_goto (tgt := 28) dX7_told_15 (by decide) ?_
                refine aw_ireturn dX7_told_28 rfl ?_
                first
                  | (exfalso; omega)
                  | (refine XR.sameE h ?_ ?_ ?_ ?_ ?_ ?_
                     · first
                         | rfl
                         | (subst hsw; rfl)
                         | omega
                     · repeat (first | exact xs.rf | refine xs.up ?_ (by decide))
                     · repeat (first | exact mss.rf | refine mss.up0 ?_ (by decide))
                     · first
                         | (simp [aup, hv2, hv3, hv4]; done)
                         | (simp [aup, hv2, hv3, hv4]; omega)
                     · simp [aup, hv2, hv3, hv4]
                     · simp [aup, hv2, hv3, hv4])
          · first
              | (exfalso; omega)
              | skip
                refine aw_iload_n dX7_told_4 rfl ?_
                refine aw_bipush dX7_told_5 (by decide) ?_
                refine aw_icmple (tgt := 18) dX7_told_7 (by decide) (fun h7 => ?_) (fun h7 => ?_)
                · first
                    | (exfalso; omega)
                    | skip
                      refine aw_aload_n dX7_told_18 rfl ?_
                      refine gm_7 rfl dX7_told_19 dX7_told_20 rfl ?_
                      refine aw_iload_n dX7_told_23 rfl ?_
                      refine aw_iaload dX7_told_24 m_a1 (by omega) (by omega) ?_
                      refine c_X7_76 rfl dX7_told_25 m_ob (Nat.le_of_ble_eq_true rfl) (by omega) (C_m_gives ?_)
                      refine aK_i ?_
                      refine aw_ireturn dX7_told_28 rfl ?_
                      first
                        | (exfalso; omega)
                        | (refine XR.sameE h ?_ ?_ ?_ ?_ ?_ ?_
                           · first
                               | rfl
                               | (subst hsw; rfl)
                               | omega
                           · repeat (first | exact xs.rf | refine xs.up ?_ (by decide))
                           · repeat (first | exact mss.rf | refine mss.up0 ?_ (by decide))
                           · first
                               | (simp [aup, hv2, hv3, hv4]; done)
                               | (simp [aup, hv2, hv3, hv4]; omega)
                           · simp [aup, hv2, hv3, hv4]
                           · simp [aup, hv2, hv3, hv4])
                · first
                    | (exfalso; omega)
                    | skip
                      refine aw_aload_n dX7_told_10 rfl ?_
                      refine aw_iconst dX7_told_11 (by decide) ?_
                      refine c_X7_72 rfl dX7_told_12 m_ob (Nat.le_of_ble_eq_true rfl) (by omega) (C_m_refuse ?_)
                      refine aK_i ?_
                      refine aw_goto (tgt := 28) dX7_told_15 (by decide) ?_
                      refine aw_ireturn dX7_told_28 rfl ?_
                      first
                        | (exfalso; omega)
                        | (refine XR.sameE h ?_ ?_ ?_ ?_ ?_ ?_
                           · first
                               | rfl
                               | (subst hsw; rfl)
                               | omega
                           · repeat (first | exact xs.rf | refine xs.up ?_ (by decide))
                           · repeat (first | exact mss.rf | refine mss.up0 ?_ (by decide))
                           · first
                               | (simp [aup, hv2, hv3, hv4]; done)
                               | (simp [aup, hv2, hv3, hv4]; omega)
                           · simp [aup, hv2, hv3, hv4]
                           · simp [aup, hv2, hv3, hv4])
    · first
        | (exfalso; omega)
        | skip
          refine aw_tabIn (tgt := 148) dX0_told_22 (by omega) (by omega) (off := 126) (by rw [hsw]; rfl) (by decide) ?_
          refine aw_aload_n dX0_told_148 rfl ?_
          refine c_X0_158 rfl dX0_told_149 hR.o0 (Nat.le_of_ble_eq_true rfl) (by omega) (C_x_yard2 hR ?_)
          refine aK_i ?_
          refine g_X0_259_5 rfl dX0_told_152 HY.1 ?_
          repeat (first | rw [aup_s] | rw [aup_n (by omega)])
          rw [HY.2.2.2.2.2.1.2.2.2.2.2.2.1]
          refine aw_ireturn dX0_told_155 rfl ?_
          refine ⟨_, rfl, ?_⟩
          refine AMet.go (L := [some (vR 0), some (vI a)]) mok_X7_told (Nat.le_of_ble_eq_true rfl) rfl ?_
          refine aw_iload_n dX7_told_0 rfl ?_
          refine aw_iflt (tgt := 10) dX7_told_1 (by decide) (fun h1 => ?_) (fun h1 => ?_)
          · first
              | (exfalso; omega)
              | skip
                refine aw_aload_n dX7_told_10 rfl ?_
                refine aw_iconst dX7_told_11 (by decide) ?_
                refine c_X7_72 rfl dX7_told_12 m_ob (Nat.le_of_ble_eq_true rfl) (by omega) (C_m_refuse ?_)
                refine aK_i ?_
                refine aw_goto (tgt := 28) dX7_told_15 (by decide) ?_
                refine aw_ireturn dX7_told_28 rfl ?_
                first
                  | (exfalso; omega)
                  | (refine XR.sameE h ?_ ?_ ?_ ?_ ?_ ?_
                     · first
                         | rfl
                         | (subst hsw; rfl)
                         | omega
                     · repeat (first | exact xs.rf | refine xs.up ?_ (by decide))
                     · repeat (first | exact mss.rf | refine mss.up0 ?_ (by decide))
                     · first
                         | (simp [aup, hv2, hv3, hv4]; done)
                         | (simp [aup, hv2, hv3, hv4]; omega)
                     · simp [aup, hv2, hv3, hv4]
                     · simp [aup, hv2, hv3, hv4])
          · first
              | (exfalso; omega)
              | skip
                refine aw_iload_n dX7_told_4 rfl ?_
                refine aw_bipush dX7_told_5 (by decide) ?_
                refine aw_icmple (tgt := 18) dX7_told_7 (by decide) (fun h7 => ?_) (fun h7 => ?_)
                · first
                    | (exfalso; omega)
                    | skip
                      refine aw_aload_n dX7_told_18 rfl ?_
                      refine gm_7 rfl dX7_told_19 dX7_told_20 rfl ?_
                      refine aw_iload_n dX7_told_23 rfl ?_
                      refine aw_iaload dX7_told_24 m_a1 (by omega) (by omega) ?_
                      refine c_X7_76 rfl dX7_told_25 m_ob (Nat.le_of_ble_eq_true rfl) (by omega) (C_m_gives ?_)
                      refine aK_i ?_
                      refine aw_ireturn dX7_told_28 rfl ?_
                      first
                        | (exfalso; omega)
                        | (refine XR.sameE h ?_ ?_ ?_ ?_ ?_ ?_
                           · first
                               | rfl
                               | (subst hsw; rfl)
                               | omega
                           · repeat (first | exact xs.rf | refine xs.up ?_ (by decide))
                           · repeat (first | exact mss.rf | refine mss.up0 ?_ (by decide))
                           · first
                               | (simp [aup, hv2, hv3, hv4]; done)
                               | (simp [aup, hv2, hv3, hv4]; omega)
                           · simp [aup, hv2, hv3, hv4]
                           · simp [aup, hv2, hv3, hv4])
                · first
                    | (exfalso; omega)
                    | skip
                      refine aw_aload_n dX7_told_10 rfl ?_
                      refine aw_iconst dX7_told_11 (by decide) ?_
                      refine c_X7_72 rfl dX7_told_12 m_ob (Nat.le_of_ble_eq_true rfl) (by omega) (C_m_refuse ?_)
                      refine aK_i ?_
                      refine aw_goto (tgt := 28) dX7_told_15 (by decide) ?_
                      refine aw_ireturn dX7_told_28 rfl ?_
                      first
                        | (exfalso; omega)
                        | (refine XR.sameE h ?_ ?_ ?_ ?_ ?_ ?_
                           · first
                               | rfl
                               | (subst hsw; rfl)
                               | omega
                           · repeat (first | exact xs.rf | refine xs.up ?_ (by decide))
                           · repeat (first | exact mss.rf | refine mss.up0 ?_ (by decide))
                           · first
                               | (simp [aup, hv2, hv3, hv4]; done)
                               | (simp [aup, hv2, hv3, hv4]; omega)
                           · simp [aup, hv2, hv3, hv4]
                           · simp [aup, hv2, hv3, hv4])
    · first
        | (exfalso; omega)
        | skip
          refine aw_tabOut (tgt := 156) dX0_told_22 (by omega) (by decide) ?_
          refine aw_iconst dX0_told_156 (by decide) ?_
          refine aw_ireturn dX0_told_157 rfl ?_
          refine ⟨_, rfl, ?_⟩
          refine AMet.go (L := [some (vR 0), some (vI a)]) mok_X7_told (Nat.le_of_ble_eq_true rfl) rfl ?_
          refine aw_iload_n dX7_told_0 rfl ?_
          refine aw_iflt (tgt := 10) dX7_told_1 (by decide) (fun h1 => ?_) (fun h1 => ?_)
          · first
              | (exfalso; omega)
              | skip
                refine aw_aload_n dX7_told_10 rfl ?_
                refine aw_iconst dX7_told_11 (by decide) ?_
                refine c_X7_72 rfl dX7_told_12 m_ob (Nat.le_of_ble_eq_true rfl) (by omega) (C_m_refuse ?_)
                refine aK_i ?_
                refine aw_goto (tgt := 28) dX7_told_15 (by decide) ?_
                refine aw_ireturn dX7_told_28 rfl ?_
                first
                  | (exfalso; omega)
                  | (refine XR.sameE h ?_ ?_ ?_ ?_ ?_ ?_
                     · first
                         | rfl
                         | (subst hsw; rfl)
                         | omega
                     · repeat (first | exact xs.rf | refine xs.up ?_ (by decide))
                     · repeat (first | exact mss.rf | refine mss.up0 ?_ (by decide))
                     · first
                         | (simp [aup, hv2, hv3, hv4]; done)
                         | (simp [aup, hv2, hv3, hv4]; omega)
                     · simp [aup, hv2, hv3, hv4]
                     · simp [aup, hv2, hv3, hv4])
          · first
              | (exfalso; omega)
              | skip
                refine aw_iload_n dX7_told_4 rfl ?_
                refine aw_bipush dX7_told_5 (by decide) ?_
                refine aw_icmple (tgt := 18) dX7_told_7 (by decide) (fun h7 => ?_) (fun h7 => ?_)
                · first
                    | (exfalso; omega)
                    | skip
                      refine aw_aload_n dX7_told_18 rfl ?_
                      refine gm_7 rfl dX7_told_19 dX7_told_20 rfl ?_
                      refine aw_iload_n dX7_told_23 rfl ?_
                      refine aw_iaload dX7_told_24 m_a1 (by omega) (by omega) ?_
                      refine c_X7_76 rfl dX7_told_25 m_ob (Nat.le_of_ble_eq_true rfl) (by omega) (C_m_gives ?_)
                      refine aK_i ?_
                      refine aw_ireturn dX7_told_28 rfl ?_
                      first
                        | (exfalso; omega)
                        | (refine XR.sameE h ?_ ?_ ?_ ?_ ?_ ?_
                           · first
                               | rfl
                               | (subst hsw; rfl)
                               | omega
                           · repeat (first | exact xs.rf | refine xs.up ?_ (by decide))
                           · repeat (first | exact mss.rf | refine mss.up0 ?_ (by decide))
                           · first
                               | (simp [aup, hv2, hv3, hv4]; done)
                               | (simp [aup, hv2, hv3, hv4]; omega)
                           · simp [aup, hv2, hv3, hv4]
                           · simp [aup, hv2, hv3, hv4])
                · first
                    | (exfalso; omega)
                    | skip
                      refine aw_aload_n dX7_told_10 rfl ?_
                      refine aw_iconst dX7_told_11 (by decide) ?_
                      refine c_X7_72 rfl dX7_told_12 m_ob (Nat.le_of_ble_eq_true rfl) (by omega) (C_m_refuse ?_)
                      refine aK_i ?_
                      refine aw_goto (tgt := 28) dX7_told_15 (by decide) ?_
                      refine aw_ireturn dX7_told_28 rfl ?_
                      first
                        | (exfalso; omega)
                        | (refine XR.sameE h ?_ ?_ ?_ ?_ ?_ ?_
                           · first
                               | rfl
                               | (subst hsw; rfl)
                               | omega
                           · repeat (first | exact xs.rf | refine xs.up ?_ (by decide))
                           · repeat (first | exact mss.rf | refine mss.up0 ?_ (by decide))
                           · first
                               | (simp [aup, hv2, hv3, hv4]; done)
                               | (simp [aup, hv2, hv3, hv4]; omega)
                           · simp [aup, hv2, hv3, hv4]
                           · simp [aup, hv2, hv3, hv4])
theorem OP_order {sz : Int} {im : Int → aIm} {ct cm : Int → Int → Int} (h : XR (sz, im, ct) cm) {a b : Int} (r0 : -2147483648 ≤ a ∧ a < 2147483648) (r1 : -2147483648 ≤ b ∧ b < 2147483648)  : AMet md_X0_order 3 0 0 [vR 0, vI a, vI b] (sz, im, ct) (XQ md_X7_order 2 [vR 0, vI a, vI b] cm) := by
  obtain ⟨own, N, hR, HY, HL, HN, HS, HP, HF, HX, hv2, hv3, hv4⟩ := id h
  dsimp only at hR HY HL HS HX hv2 hv3 hv4
  have hp0 := HP.1
  have hp3 := HP.2.1
  have hpq := HP.2.2.2.1.1
  have hps := HP.2.2.2.2.2
  refine AMet.go (L := [some (vR 0), some (vI a), some (vI b)]) mok_X0_order (Nat.le_of_ble_eq_true rfl) rfl ?_
  refine aw_aload_n dX0_order_0 rfl ?_
  refine aw_aload_n dX0_order_1 rfl ?_
  refine aw_iload_n dX0_order_2 rfl ?_
  refine c_X0_168 rfl dX0_order_3 hR.o0 (Nat.le_of_ble_eq_true rfl) (by omega) (C_x_isHive hR HY (fun xh => ?_) (fun xh => ?_))
  · refine aK_i ?_
    refine aw_ifne (tgt := 13) dX0_order_6 (by decide) (fun _ => ?_) (fun h => absurd h (by decide))
    obtain ⟨hv, ehv, ⟨g1, g2, ⟨g3, g4, g5, g6, g7⟩, g8, g9, -⟩, nhv0, nhv10, nhv9, nv0, nvhv, nv10, ohv⟩ := HY.hv hR (k := a) (by omega) (by omega)
    have gn := g1.2.2.2
    have gh := HP.2.2.1 a (by omega) (by omega)
    have gq := gh.2.2.2.2.1
    have gp := HP.pd.2.1 a (by omega) (by omega)
    refine aw_iload_n dX0_order_13 rfl ?_
    refine aw_i2l dX0_order_14 ?_
    refine aw_lconst0 dX0_order_15 ?_
    refine aw_aload_n dX0_order_16 rfl ?_
    refine aw_iload_n dX0_order_17 rfl ?_
    refine c_X0_172 rfl dX0_order_18 hR.o0 (Nat.le_of_ble_eq_true rfl) (by omega) (C_x_xat2 (a := hv) hR HY (by omega) (by repeat (first | exact ehv | rw [aup_rn nvhv] | rw [aup_rn nv10] | rw [aup_rn nv0])) ?_)
    refine aK_i ?_
    refine g_X0_176_9 rfl dX0_order_21 g1.1 ?_
    refine aw_alen dX0_order_24 g1.2.1 ?_
    refine aw_iconst dX0_order_25 (by decide) ?_
    refine aw_isubr dX0_order_26 (by omega) ?_
    refine aw_i2l dX0_order_27 ?_
    refine c_X0_164 rfl dX0_order_28  (Nat.le_of_ble_eq_true rfl) (by omega) (C_x_isIn (fun hi => ?_) (fun hi => ?_))
    · refine aK_i ?_
      refine aw_ifeq (tgt := 38) dX0_order_31 (by decide) (fun h => absurd h (by decide)) (fun _ => ?_)
      refine aw_iconst dX0_order_34 (by decide) ?_
      refine aw_goto (tgt := 40) dX0_order_35 (by decide) ?_
      refine p_X0_73_0 rfl dX0_order_40 hR.o0 ?_
      refine aw_aload_n dX0_order_43 rfl ?_
      refine g_X0_73_0 rfl dX0_order_44 hR.o0 ?_
      repeat (first | rw [aup_s] | rw [aup_n (by omega)])
      refine aw_ifle (tgt := 54) dX0_order_47 (by decide) (fun _ => ?_) (fun h => absurd h (by decide))
      have no0 : (im hv).2.2 2 ≠ 0 := fun e => by have := g1.2.2.1; rw [e] at this; exact aob_ne hR.o0 this (by decide) rfl
      refine aw_aload_n dX0_order_54 rfl ?_
      refine aw_iload_n dX0_order_55 rfl ?_
      refine c_X0_172 rfl dX0_order_56 hR.o0 (Nat.le_of_ble_eq_true rfl) (by omega) (C_x_xat2 (a := hv) hR HY (by omega) (by repeat (first | exact ehv | rw [aup_rn nvhv] | rw [aup_rn nv10] | rw [aup_rn nv0])) ?_)
      refine aK_i ?_
      refine g_X0_306_9 rfl dX0_order_59 g1.1 ?_
      refine aw_iload_n dX0_order_62 rfl ?_
      refine aw_iaload dX0_order_63 g1.2.2.1 (by omega) (by omega) ?_
      try rw [aup_n (fun z => no0 z.1), g2.1 b (by omega) (by omega)]
      refine aw_ireturn dX0_order_64 rfl ?_
      refine ⟨_, rfl, ?_⟩
      refine AMet.go (L := [some (vR 0), some (vI a), some (vI b)]) mok_X7_order (Nat.le_of_ble_eq_true rfl) rfl ?_
      refine aw_aload_n dX7_order_0 rfl ?_
      refine aw_iload_n dX7_order_1 rfl ?_
      refine c_X7_274 rfl dX7_order_2 m_ob (Nat.le_of_ble_eq_true rfl) (by omega) (C_m_isHive (fun hh => ?_) (fun hh => ?_))
      · first
          | (exfalso; omega)
          | skip
            refine aK_i ?_
            refine aw_ifne (tgt := 14) dX7_order_5 (by decide) (fun _ => ?_) (fun h => absurd h (by decide))
            refine aw_iload_n dX7_order_14 rfl ?_
            refine aw_iflt (tgt := 31) dX7_order_15 (by decide) (fun h15 => ?_) (fun h15 => ?_)
            · first
                | (exfalso; omega)
                | skip
                  refine aw_aload_n dX7_order_31 rfl ?_
                  refine aw_bipush dX7_order_32 (by decide) ?_
                  refine c_X7_72 rfl dX7_order_34 m_ob (Nat.le_of_ble_eq_true rfl) (by omega) (C_m_refuse ?_)
                  refine aK_i ?_
                  refine aw_goto (tgt := 57) dX7_order_37 (by decide) ?_
                  refine aw_ireturn dX7_order_57 rfl ?_
                  first
                    | (exfalso; omega)
                    | (refine XR.sameE h ?_ ?_ ?_ ?_ ?_ ?_
                       · first
                           | rfl
                           | omega
                       · repeat (first | exact xs.rf | refine xs.up ?_ (by decide))
                       · repeat (first | exact mss.rf | refine mss.up0 ?_ (by decide))
                       · first
                           | (simp [aup, hv2, hv3, hv4]; done)
                           | (simp [aup, hv2, hv3, hv4]; omega)
                       · simp [aup, hv2, hv3, hv4]
                       · simp [aup, hv2, hv3, hv4])
            · first
                | (exfalso; omega)
                | skip
                  refine aw_iload_n dX7_order_18 rfl ?_
                  refine gm_7 rfl dX7_order_19 dX7_order_20 rfl ?_
                  refine aw_iload_n dX7_order_23 rfl ?_
                  refine c_X7_217 rfl dX7_order_24  (Nat.le_of_ble_eq_true rfl) (by omega) (C_m_hiveRow (by omega) ?_)
                  refine aK_i ?_
                  refine aw_iaload dX7_order_27 m_a1 (by omega) (by omega) ?_
                  refine aw_icmplt (tgt := 40) dX7_order_28 (by decide) (fun h28 => ?_) (fun h28 => ?_)
                  · first
                      | (exfalso; omega)
                      | skip
                        refine aw_aload_n dX7_order_40 rfl ?_
                        refine gm_7 rfl dX7_order_41 dX7_order_42 rfl ?_
                        refine aw_iload_n dX7_order_45 rfl ?_
                        refine c_X7_217 rfl dX7_order_46  (Nat.le_of_ble_eq_true rfl) (by omega) (C_m_hiveRow (by omega) ?_)
                        refine aK_i ?_
                        refine aw_iaload dX7_order_49 m_a1 (by omega) (by omega) ?_
                        refine aw_iload_n dX7_order_50 rfl ?_
                        refine c_X7_244 rfl dX7_order_51  (Nat.le_of_ble_eq_true rfl) (by omega) (C_m_frameOf (by omega) (by omega) ?_)
                        refine aK_i ?_
                        refine c_X7_76 rfl dX7_order_54 m_ob (Nat.le_of_ble_eq_true rfl) (by omega) (C_m_gives ?_)
                        refine aK_i ?_
                        refine aw_ireturn dX7_order_57 rfl ?_
                        first
                          | (exfalso; omega)
                          | (refine XR.sameE h ?_ ?_ ?_ ?_ ?_ ?_
                             · first
                                 | rfl
                                 | omega
                             · repeat (first | exact xs.rf | refine xs.up ?_ (by decide))
                             · repeat (first | exact mss.rf | refine mss.up0 ?_ (by decide))
                             · first
                                 | (simp [aup, hv2, hv3, hv4]; done)
                                 | (simp [aup, hv2, hv3, hv4]; omega)
                             · simp [aup, hv2, hv3, hv4]
                             · simp [aup, hv2, hv3, hv4])
                  · first
                      | (exfalso; omega)
                      | skip
                        refine aw_aload_n dX7_order_31 rfl ?_
                        refine aw_bipush dX7_order_32 (by decide) ?_
                        refine c_X7_72 rfl dX7_order_34 m_ob (Nat.le_of_ble_eq_true rfl) (by omega) (C_m_refuse ?_)
                        refine aK_i ?_
                        refine aw_goto (tgt := 57) dX7_order_37 (by decide) ?_
                        refine aw_ireturn dX7_order_57 rfl ?_
                        first
                          | (exfalso; omega)
                          | (refine XR.sameE h ?_ ?_ ?_ ?_ ?_ ?_
                             · first
                                 | rfl
                                 | omega
                             · repeat (first | exact xs.rf | refine xs.up ?_ (by decide))
                             · repeat (first | exact mss.rf | refine mss.up0 ?_ (by decide))
                             · first
                                 | (simp [aup, hv2, hv3, hv4]; done)
                                 | (simp [aup, hv2, hv3, hv4]; omega)
                             · simp [aup, hv2, hv3, hv4]
                             · simp [aup, hv2, hv3, hv4])
      · first
          | (exfalso; omega)
          | skip
            refine aK_i ?_
            refine aw_ifne (tgt := 14) dX7_order_5 (by decide) (fun h => absurd h (by decide)) (fun _ => ?_)
            refine aw_aload_n dX7_order_8 rfl ?_
            refine aw_iconst dX7_order_9 (by decide) ?_
            refine c_X7_72 rfl dX7_order_10 m_ob (Nat.le_of_ble_eq_true rfl) (by omega) (C_m_refuse ?_)
            refine aK_i ?_
            refine aw_ireturn dX7_order_13 rfl ?_
            first
              | (exfalso; omega)
              | (refine XR.sameE h ?_ ?_ ?_ ?_ ?_ ?_
                 · first
                     | rfl
                     | omega
                 · repeat (first | exact xs.rf | refine xs.up ?_ (by decide))
                 · repeat (first | exact mss.rf | refine mss.up0 ?_ (by decide))
                 · first
                     | (simp [aup, hv2, hv3, hv4]; done)
                     | (simp [aup, hv2, hv3, hv4]; omega)
                 · simp [aup, hv2, hv3, hv4]
                 · simp [aup, hv2, hv3, hv4])
    · refine aK_i ?_
      refine aw_ifeq (tgt := 38) dX0_order_31 (by decide) (fun _ => ?_) (fun h => absurd h (by decide))
      refine aw_bipush dX0_order_38 (by decide) ?_
      refine p_X0_73_0 rfl dX0_order_40 hR.o0 ?_
      refine aw_aload_n dX0_order_43 rfl ?_
      refine g_X0_73_0 rfl dX0_order_44 hR.o0 ?_
      repeat (first | rw [aup_s] | rw [aup_n (by omega)])
      refine aw_ifle (tgt := 54) dX0_order_47 (by decide) (fun h => absurd h (by decide)) (fun _ => ?_)
      refine aw_iconst dX0_order_50 (by decide) ?_
      refine aw_goto (tgt := 64) dX0_order_51 (by decide) ?_
      try rw [aup_n (fun z => no0 z.1), g2.1 b (by omega) (by omega)]
      refine aw_ireturn dX0_order_64 rfl ?_
      refine ⟨_, rfl, ?_⟩
      refine AMet.go (L := [some (vR 0), some (vI a), some (vI b)]) mok_X7_order (Nat.le_of_ble_eq_true rfl) rfl ?_
      refine aw_aload_n dX7_order_0 rfl ?_
      refine aw_iload_n dX7_order_1 rfl ?_
      refine c_X7_274 rfl dX7_order_2 m_ob (Nat.le_of_ble_eq_true rfl) (by omega) (C_m_isHive (fun hh => ?_) (fun hh => ?_))
      · first
          | (exfalso; omega)
          | skip
            refine aK_i ?_
            refine aw_ifne (tgt := 14) dX7_order_5 (by decide) (fun _ => ?_) (fun h => absurd h (by decide))
            refine aw_iload_n dX7_order_14 rfl ?_
            refine aw_iflt (tgt := 31) dX7_order_15 (by decide) (fun h15 => ?_) (fun h15 => ?_)
            · first
                | (exfalso; omega)
                | skip
                  refine aw_aload_n dX7_order_31 rfl ?_
                  refine aw_bipush dX7_order_32 (by decide) ?_
                  refine c_X7_72 rfl dX7_order_34 m_ob (Nat.le_of_ble_eq_true rfl) (by omega) (C_m_refuse ?_)
                  refine aK_i ?_
                  refine aw_goto (tgt := 57) dX7_order_37 (by decide) ?_
                  refine aw_ireturn dX7_order_57 rfl ?_
                  first
                    | (exfalso; omega)
                    | (refine XR.sameE h ?_ ?_ ?_ ?_ ?_ ?_
                       · first
                           | rfl
                           | omega
                       · repeat (first | exact xs.rf | refine xs.up ?_ (by decide))
                       · repeat (first | exact mss.rf | refine mss.up0 ?_ (by decide))
                       · first
                           | (simp [aup, hv2, hv3, hv4]; done)
                           | (simp [aup, hv2, hv3, hv4]; omega)
                       · simp [aup, hv2, hv3, hv4]
                       · simp [aup, hv2, hv3, hv4])
            · first
                | (exfalso; omega)
                | skip
                  refine aw_iload_n dX7_order_18 rfl ?_
                  refine gm_7 rfl dX7_order_19 dX7_order_20 rfl ?_
                  refine aw_iload_n dX7_order_23 rfl ?_
                  refine c_X7_217 rfl dX7_order_24  (Nat.le_of_ble_eq_true rfl) (by omega) (C_m_hiveRow (by omega) ?_)
                  refine aK_i ?_
                  refine aw_iaload dX7_order_27 m_a1 (by omega) (by omega) ?_
                  refine aw_icmplt (tgt := 40) dX7_order_28 (by decide) (fun h28 => ?_) (fun h28 => ?_)
                  · first
                      | (exfalso; omega)
                      | skip
                        refine aw_aload_n dX7_order_40 rfl ?_
                        refine gm_7 rfl dX7_order_41 dX7_order_42 rfl ?_
                        refine aw_iload_n dX7_order_45 rfl ?_
                        refine c_X7_217 rfl dX7_order_46  (Nat.le_of_ble_eq_true rfl) (by omega) (C_m_hiveRow (by omega) ?_)
                        refine aK_i ?_
                        refine aw_iaload dX7_order_49 m_a1 (by omega) (by omega) ?_
                        refine aw_iload_n dX7_order_50 rfl ?_
                        refine c_X7_244 rfl dX7_order_51  (Nat.le_of_ble_eq_true rfl) (by omega) (C_m_frameOf (by omega) (by omega) ?_)
                        refine aK_i ?_
                        refine c_X7_76 rfl dX7_order_54 m_ob (Nat.le_of_ble_eq_true rfl) (by omega) (C_m_gives ?_)
                        refine aK_i ?_
                        refine aw_ireturn dX7_order_57 rfl ?_
                        first
                          | (exfalso; omega)
                          | (refine XR.sameE h ?_ ?_ ?_ ?_ ?_ ?_
                             · first
                                 | rfl
                                 | omega
                             · repeat (first | exact xs.rf | refine xs.up ?_ (by decide))
                             · repeat (first | exact mss.rf | refine mss.up0 ?_ (by decide))
                             · first
                                 | (simp [aup, hv2, hv3, hv4]; done)
                                 | (simp [aup, hv2, hv3, hv4]; omega)
                             · simp [aup, hv2, hv3, hv4]
                             · simp [aup, hv2, hv3, hv4])
                  · first
                      | (exfalso; omega)
                      | skip
                        refine aw_aload_n dX7_order_31 rfl ?_
                        refine aw_bipush dX7_order_32 (by decide) ?_
                        refine c_X7_72 rfl dX7_order_34 m_ob (Nat.le_of_ble_eq_true rfl) (by omega) (C_m_refuse ?_)
                        refine aK_i ?_
                        refine aw_goto (tgt := 57) dX7_order_37 (by decide) ?_
                        refine aw_ireturn dX7_order_57 rfl ?_
                        first
                          | (exfalso; omega)
                          | (refine XR.sameE h ?_ ?_ ?_ ?_ ?_ ?_
                             · first
                                 | rfl
                                 | omega
                             · repeat (first | exact xs.rf | refine xs.up ?_ (by decide))
                             · repeat (first | exact mss.rf | refine mss.up0 ?_ (by decide))
                             · first
                                 | (simp [aup, hv2, hv3, hv4]; done)
                                 | (simp [aup, hv2, hv3, hv4]; omega)
                             · simp [aup, hv2, hv3, hv4]
                             · simp [aup, hv2, hv3, hv4])
      · first
          | (exfalso; omega)
          | skip
            refine aK_i ?_
            refine aw_ifne (tgt := 14) dX7_order_5 (by decide) (fun h => absurd h (by decide)) (fun _ => ?_)
            refine aw_aload_n dX7_order_8 rfl ?_
            refine aw_iconst dX7_order_9 (by decide) ?_
            refine c_X7_72 rfl dX7_order_10 m_ob (Nat.le_of_ble_eq_true rfl) (by omega) (C_m_refuse ?_)
            refine aK_i ?_
            refine aw_ireturn dX7_order_13 rfl ?_
            first
              | (exfalso; omega)
              | (refine XR.sameE h ?_ ?_ ?_ ?_ ?_ ?_
                 · first
                     | rfl
                     | omega
                 · repeat (first | exact xs.rf | refine xs.up ?_ (by decide))
                 · repeat (first | exact mss.rf | refine mss.up0 ?_ (by decide))
                 · first
                     | (simp [aup, hv2, hv3, hv4]; done)
                     | (simp [aup, hv2, hv3, hv4]; omega)
                 · simp [aup, hv2, hv3, hv4]
                 · simp [aup, hv2, hv3, hv4])
  · refine aK_i ?_
    refine aw_ifne (tgt := 13) dX0_order_6 (by decide) (fun h => absurd h (by decide)) (fun _ => ?_)
    refine aw_iconst dX0_order_9 (by decide) ?_
    refine aw_goto (tgt := 40) dX0_order_10 (by decide) ?_
    refine p_X0_73_0 rfl dX0_order_40 hR.o0 ?_
    refine aw_aload_n dX0_order_43 rfl ?_
    refine g_X0_73_0 rfl dX0_order_44 hR.o0 ?_
    repeat (first | rw [aup_s] | rw [aup_n (by omega)])
    refine aw_ifle (tgt := 54) dX0_order_47 (by decide) (fun h => absurd h (by decide)) (fun _ => ?_)
    refine aw_iconst dX0_order_50 (by decide) ?_
    refine aw_goto (tgt := 64) dX0_order_51 (by decide) ?_
    try rw [aup_n (fun z => no0 z.1), g2.1 b (by omega) (by omega)]
    refine aw_ireturn dX0_order_64 rfl ?_
    refine ⟨_, rfl, ?_⟩
    refine AMet.go (L := [some (vR 0), some (vI a), some (vI b)]) mok_X7_order (Nat.le_of_ble_eq_true rfl) rfl ?_
    refine aw_aload_n dX7_order_0 rfl ?_
    refine aw_iload_n dX7_order_1 rfl ?_
    refine c_X7_274 rfl dX7_order_2 m_ob (Nat.le_of_ble_eq_true rfl) (by omega) (C_m_isHive (fun hh => ?_) (fun hh => ?_))
    · first
        | (exfalso; omega)
        | skip
          refine aK_i ?_
          refine aw_ifne (tgt := 14) dX7_order_5 (by decide) (fun _ => ?_) (fun h => absurd h (by decide))
          refine aw_iload_n dX7_order_14 rfl ?_
          refine aw_iflt (tgt := 31) dX7_order_15 (by decide) (fun h15 => ?_) (fun h15 => ?_)
          · first
              | (exfalso; omega)
              | skip
                refine aw_aload_n dX7_order_31 rfl ?_
                refine aw_bipush dX7_order_32 (by decide) ?_
                refine c_X7_72 rfl dX7_order_34 m_ob (Nat.le_of_ble_eq_true rfl) (by omega) (C_m_refuse ?_)
                refine aK_i ?_
                refine aw_goto (tgt := 57) dX7_order_37 (by decide) ?_
                refine aw_ireturn dX7_order_57 rfl ?_
                first
                  | (exfalso; omega)
                  | (refine XR.sameE h ?_ ?_ ?_ ?_ ?_ ?_
                     · first
                         | rfl
                         | omega
                     · repeat (first | exact xs.rf | refine xs.up ?_ (by decide))
                     · repeat (first | exact mss.rf | refine mss.up0 ?_ (by decide))
                     · first
                         | (simp [aup, hv2, hv3, hv4]; done)
                         | (simp [aup, hv2, hv3, hv4]; omega)
                     · simp [aup, hv2, hv3, hv4]
                     · simp [aup, hv2, hv3, hv4])
          · first
              | (exfalso; omega)
              | skip
                refine aw_iload_n dX7_order_18 rfl ?_
                refine gm_7 rfl dX7_order_19 dX7_order_20 rfl ?_
                refine aw_iload_n dX7_order_23 rfl ?_
                refine c_X7_217 rfl dX7_order_24  (Nat.le_of_ble_eq_true rfl) (by omega) (C_m_hiveRow (by omega) ?_)
                refine aK_i ?_
                refine aw_iaload dX7_order_27 m_a1 (by omega) (by omega) ?_
                refine aw_icmplt (tgt := 40) dX7_order_28 (by decide) (fun h28 => ?_) (fun h28 => ?_)
                · first
                    | (exfalso; omega)
                    | skip
                      refine aw_aload_n dX7_order_40 rfl ?_
                      refine gm_7 rfl dX7_order_41 dX7_order_42 rfl ?_
                      refine aw_iload_n dX7_order_45 rfl ?_
                      refine c_X7_217 rfl dX7_order_46  (Nat.le_of_ble_eq_true rfl) (by omega) (C_m_hiveRow (by omega) ?_)
                      refine aK_i ?_
                      refine aw_iaload dX7_order_49 m_a1 (by omega) (by omega) ?_
                      refine aw_iload_n dX7_order_50 rfl ?_
                      refine c_X7_244 rfl dX7_order_51  (Nat.le_of_ble_eq_true rfl) (by omega) (C_m_frameOf (by omega) (by omega) ?_)
                      refine aK_i ?_
                      refine c_X7_76 rfl dX7_order_54 m_ob (Nat.le_of_ble_eq_true rfl) (by omega) (C_m_gives ?_)
                      refine aK_i ?_
                      refine aw_ireturn dX7_order_57 rfl ?_
                      first
                        | (exfalso; omega)
                        | (refine XR.sameE h ?_ ?_ ?_ ?_ ?_ ?_
                           · first
                               | rfl
                               | omega
                           · repeat (first | exact xs.rf | refine xs.up ?_ (by decide))
                           · repeat (first | exact mss.rf | refine mss.up0 ?_ (by decide))
                           · first
                               | (simp [aup, hv2, hv3, hv4]; done)
                               | (simp [aup, hv2, hv3, hv4]; omega)
                           · simp [aup, hv2, hv3, hv4]
                           · simp [aup, hv2, hv3, hv4])
                · first
                    | (exfalso; omega)
                    | skip
                      refine aw_aload_n dX7_order_31 rfl ?_
                      refine aw_bipush dX7_order_32 (by decide) ?_
                      refine c_X7_72 rfl dX7_order_34 m_ob (Nat.le_of_ble_eq_true rfl) (by omega) (C_m_refuse ?_)
                      refine aK_i ?_
                      refine aw_goto (tgt := 57) dX7_order_37 (by decide) ?_
                      refine aw_ireturn dX7_order_57 rfl ?_
                      first
                        | (exfalso; omega)
                        | (refine XR.sameE h ?_ ?_ ?_ ?_ ?_ ?_
                           · first
                               | rfl
                               | omega
                           · repeat (first | exact xs.rf | refine xs.up ?_ (by decide))
                           · repeat (first | exact mss.rf | refine mss.up0 ?_ (by decide))
                           · first
                               | (simp [aup, hv2, hv3, hv4]; done)
                               | (simp [aup, hv2, hv3, hv4]; omega)
                           · simp [aup, hv2, hv3, hv4]
                           · simp [aup, hv2, hv3, hv4])
    · first
        | (exfalso; omega)
        | skip
          refine aK_i ?_
          refine aw_ifne (tgt := 14) dX7_order_5 (by decide) (fun h => absurd h (by decide)) (fun _ => ?_)
          refine aw_aload_n dX7_order_8 rfl ?_
          refine aw_iconst dX7_order_9 (by decide) ?_
          refine c_X7_72 rfl dX7_order_10 m_ob (Nat.le_of_ble_eq_true rfl) (by omega) (C_m_refuse ?_)
          refine aK_i ?_
          refine aw_ireturn dX7_order_13 rfl ?_
          first
            | (exfalso; omega)
            | (refine XR.sameE h ?_ ?_ ?_ ?_ ?_ ?_
               · first
                   | rfl
                   | omega
               · repeat (first | exact xs.rf | refine xs.up ?_ (by decide))
               · repeat (first | exact mss.rf | refine mss.up0 ?_ (by decide))
               · first
                   | (simp [aup, hv2, hv3, hv4]; done)
                   | (simp [aup, hv2, hv3, hv4]; omega)
               · simp [aup, hv2, hv3, hv4]
               · simp [aup, hv2, hv3, hv4])
