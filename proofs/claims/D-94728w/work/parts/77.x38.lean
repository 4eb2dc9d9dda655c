set_option maxRecDepth 100000
/-! operations, 24: kin, inbred, suitor -/
theorem mss.k10 {cm c1 : Int → Int → Int} (h : ∀ z, z ≠ 10 → c1 z = cm z) : mss cm c1 :=
  ⟨⟨fun i _ => by rw [h 0 (by decide)], fun i _ _ => by rw [h 1 (by decide)], fun i _ => by rw [h 2 (by decide)], h 3 (by decide), h 4 (by decide), h 5 (by decide), h 6 (by decide), h 13 (by decide)⟩, fun i _ _ => by rw [h 1 (by decide)], fun f => f.eq (by rw [h 0 (by decide)]) (h 9 (by decide))⟩
theorem OP_kin {sz : Int} {im : Int → aIm} {ct cm : Int → Int → Int} (h : XR (sz, im, ct) cm) {a b : Int} (r0 : -2147483648 ≤ a ∧ a < 2147483648) (r1 : -2147483648 ≤ b ∧ b < 2147483648)  : AMet md_X0_kin 36 0 0 [vR 0, vI a, vI b] (sz, im, ct) (XQ md_X7_kin 4 [vR 0, vI a, vI b] cm) := by
  obtain ⟨own, N, hR, HY, HL, HN, HS, HP, HF, HX, hv2, hv3, hv4⟩ := id h
  dsimp only at hR HY HL HS HX hv2 hv3 hv4
  have hp0 := HP.1
  have hp3 := HP.2.1
  have hpq := HP.2.2.2.1.1
  have hps := HP.2.2.2.2.2
  have hlt : ct 10 0 ≠ 0 := fun e => by have q1 := HL.2.2.1.1; rw [e] at q1; have q2 := hR.1.2; omega
  have hPQ := HP.2.2.2.1
  have HL1 := HL.up0 (j := 7) (v := 0) hR.1.2
  refine AMet.go (L := [some (vR 0), some (vI a), some (vI b)]) mok_X0_kin (Nat.le_of_ble_eq_true rfl) rfl ?_
  refine aw_aload_n dX0_kin_0 rfl ?_
  refine aw_aload_n dX0_kin_1 rfl ?_
  refine c_X0_182 rfl dX0_kin_2 hR.o0 (Nat.le_of_ble_eq_true rfl) (by omega) (C_x_lines hR HY ?_)
  repeat (first | rw [aup_s] | rw [aup_n (by omega)])
  refine aK_i ?_
  refine aw_iload_n dX0_kin_5 rfl ?_
  refine c_X0_287 rfl dX0_kin_6 HL.1 (Nat.le_of_ble_eq_true rfl) (by omega) (C_x_isThere HL (fun xo => ?_) (fun xo => ?_))
  · have xoa := xo
    unfold one at xo
    refine aK_i ?_
    refine aw_ifeq (tgt := 27) dX0_kin_9 (by decide) (fun h => absurd h (by decide)) (fun _ => ?_)
    refine aw_aload_n dX0_kin_12 rfl ?_
    refine c_X0_182 rfl dX0_kin_13 hR.o0 (Nat.le_of_ble_eq_true rfl) (by omega) (C_x_lines hR HY ?_)
    repeat (first | rw [aup_s] | rw [aup_n (by omega)])
    refine aK_i ?_
    refine aw_iload_n dX0_kin_16 rfl ?_
    refine c_X0_287 rfl dX0_kin_17 HL.1 (Nat.le_of_ble_eq_true rfl) (by omega) (C_x_isThere HL (fun xo2 => ?_) (fun xo2 => ?_))
    · have xob := xo2
      unfold one at xo2
      refine aK_i ?_
      refine aw_ifeq (tgt := 27) dX0_kin_20 (by decide) (fun h => absurd h (by decide)) (fun _ => ?_)
      refine aw_iconst dX0_kin_23 (by decide) ?_
      refine aw_goto (tgt := 28) dX0_kin_24 (by decide) ?_
      refine p_X0_73_0 rfl dX0_kin_28 hR.o0 ?_
      refine aw_aload_n dX0_kin_31 rfl ?_
      refine g_X0_73_0 rfl dX0_kin_32 hR.o0 ?_
      repeat (first | rw [aup_s] | rw [aup_n (by omega)])
      refine aw_ifne (tgt := 56) dX0_kin_35 (by decide) (fun h => absurd h (by decide)) (fun _ => ?_)
      refine aw_aload_n dX0_kin_38 rfl ?_
      refine aw_aload_n dX0_kin_39 rfl ?_
      refine c_X0_182 rfl dX0_kin_40 hR.o0 (Nat.le_of_ble_eq_true rfl) (by omega) (C_x_lines hR HY ?_)
      repeat (first | rw [aup_s] | rw [aup_n (by omega)])
      refine aK_i ?_
      refine aw_iload_n dX0_kin_43 rfl ?_
      refine aw_iload_n dX0_kin_44 rfl ?_
      refine c_X0_373 rfl dX0_kin_45 HL.1 (Nat.le_of_ble_eq_true rfl) (by omega) (C_x_kin17 HL1 hPQ xoa xob ?_)
      have hkb := kinX_bd (W := 65536) (s := cm 1) (a := a) (b := b) (by decide)
      refine aK_i ?_
      refine aw_i2l dX0_kin_48 ?_
      refine aw_ldc2 (x := 65536) dX0_kin_49 q1194 (by decide) ?_
      refine c_X0_378 rfl dX0_kin_52 hR.o0 (Nat.le_of_ble_eq_true rfl) (by omega) (C_x_fraction hR (by omega) (by decide) (fun v9 => ?_))
      refine aK_i ?_
      refine aw_pop dX0_kin_55 rfl ?_
      refine aw_aload_n dX0_kin_56 rfl ?_
      refine g_X0_73_0 rfl dX0_kin_57 hR.o0 ?_
      repeat (first | rw [aup_s] | rw [aup_n (by omega)])
      refine aw_ifne (tgt := 67) dX0_kin_60 (by decide) (fun h => absurd h (by decide)) (fun _ => ?_)
      refine aw_iconst dX0_kin_63 (by decide) ?_
      refine aw_goto (tgt := 68) dX0_kin_64 (by decide) ?_
      refine aw_zreturn dX0_kin_68 rfl (Or.inr rfl) ?_
      refine ⟨_, rfl, ?_⟩
      refine AMet.go (L := [some (vR 0), some (vI a), some (vI b)]) mok_X7_kin (Nat.le_of_ble_eq_true rfl) rfl ?_
      refine aw_aload_n dX7_kin_0 rfl ?_
      refine aw_iload_n dX7_kin_1 rfl ?_
      refine c_X7_286 rfl dX7_kin_2 m_ob (Nat.le_of_ble_eq_true rfl) (by omega) (C_m_isOne (by omega) (fun ho => ?_) (fun ho => ?_))
      · first
          | (exfalso; omega)
          | skip
            refine aK_i ?_
            refine aw_ifeq (tgt := 16) dX7_kin_5 (by decide) (fun h => absurd h (by decide)) (fun _ => ?_)
            refine aw_aload_n dX7_kin_8 rfl ?_
            refine aw_iload_n dX7_kin_9 rfl ?_
            refine c_X7_286 rfl dX7_kin_10 m_ob (Nat.le_of_ble_eq_true rfl) (by omega) (C_m_isOne (by omega) (fun ho => ?_) (fun ho => ?_))
            · first
                | (exfalso; omega)
                | skip
                  refine aK_i ?_
                  refine aw_ifne (tgt := 22) dX7_kin_13 (by decide) (fun _ => ?_) (fun h => absurd h (by decide))
                  refine aw_aload_n dX7_kin_22 rfl ?_
                  refine c_X7_351 rfl dX7_kin_23 m_ob (Nat.le_of_ble_eq_true rfl) (by omega) (C_m_laysKin hPQ (fun ck hK n10 => ?_))
                  have f0 : ∀ i, ck 0 i = cm 0 i := fun i => by rw [n10 0 (by decide)]
                  refine aK_v ?_
                  refine aw_aload_n dX7_kin_26 rfl ?_
                  refine gm_50 rfl dX7_kin_27 dX7_kin_28 rfl ?_
                  refine aw_bipush dX7_kin_31 (by decide) ?_
                  refine aw_iload_n dX7_kin_33 rfl ?_
                  refine aw_imulr dX7_kin_34 (by omega) ?_
                  refine aw_iload_n dX7_kin_35 rfl ?_
                  refine aw_iaddr dX7_kin_36 (by omega) ?_
                  refine aw_laload dX7_kin_37 m_a10 (by omega) (by omega) ?_
                  rw [hK a b xoa xob (hPQ.2.2.2.1 a xoa).1.2 (hPQ.2.2.2.1 b xob).1.2, kinX_sc hPQ xoa xob]
                  refine aw_ldc2 (x := 68719476736) dX7_kin_38 q1926 (by decide) ?_
                  refine c_X7_354 rfl dX7_kin_41 m_ob (Nat.le_of_ble_eq_true rfl) (by omega) (C_m_tellsBy (by omega) (by decide) ?_)
                  rw [(gq_sc hkb.1).1, (gq_sc hkb.1).2]
                  refine aK_i ?_
                  refine aw_zreturn dX7_kin_44 rfl (by omega) ?_
                  first
                    | (exfalso; omega)
                    | (refine XR.sameE h ?_ ?_ ?_ ?_ ?_ ?_
                       · first
                           | rfl
                           | omega
                       · repeat (first | exact xs.rf | refine xs.up ?_ (by decide))
                       · repeat (first | exact mss.k10 n10 | exact mss.rf | refine mss.up0 ?_ (by decide))
                       · first
                           | (simp [aup, hv2, hv3, hv4]; done)
                           | (simp [aup, hv2, hv3, hv4]; omega)
                       · simp [aup, hv2, hv3, hv4]
                       · simp [aup, hv2, hv3, hv4])
            · first
                | (exfalso; omega)
                | skip
                  refine aK_i ?_
                  refine aw_ifne (tgt := 22) dX7_kin_13 (by decide) (fun h => absurd h (by decide)) (fun _ => ?_)
                  refine aw_aload_n dX7_kin_16 rfl ?_
                  refine aw_iconst dX7_kin_17 (by decide) ?_
                  refine c_X7_79 rfl dX7_kin_18 m_ob (Nat.le_of_ble_eq_true rfl) (by omega) (C_m_is (fun hz => ?_) (fun hz => ?_))
                  · first
                      | (exfalso; omega)
                      | skip
                        refine aK_i ?_
                        refine aw_zreturn dX7_kin_21 rfl (by omega) ?_
                        first
                          | (exfalso; omega)
                          | (refine XR.sameE h ?_ ?_ ?_ ?_ ?_ ?_
                             · first
                                 | rfl
                                 | omega
                             · repeat (first | exact xs.rf | refine xs.up ?_ (by decide))
                             · repeat (first | exact mss.k10 n10 | exact mss.rf | refine mss.up0 ?_ (by decide))
                             · first
                                 | (simp [aup, hv2, hv3, hv4]; done)
                                 | (simp [aup, hv2, hv3, hv4]; omega)
                             · simp [aup, hv2, hv3, hv4]
                             · simp [aup, hv2, hv3, hv4])
                  · first
                      | (exfalso; omega)
                      | skip
                        refine aK_i ?_
                        refine aw_zreturn dX7_kin_21 rfl (by omega) ?_
                        first
                          | (exfalso; omega)
                          | (refine XR.sameE h ?_ ?_ ?_ ?_ ?_ ?_
                             · first
                                 | rfl
                                 | omega
                             · repeat (first | exact xs.rf | refine xs.up ?_ (by decide))
                             · repeat (first | exact mss.k10 n10 | exact mss.rf | refine mss.up0 ?_ (by decide))
                             · first
                                 | (simp [aup, hv2, hv3, hv4]; done)
                                 | (simp [aup, hv2, hv3, hv4]; omega)
                             · simp [aup, hv2, hv3, hv4]
                             · simp [aup, hv2, hv3, hv4])
      · first
          | (exfalso; omega)
          | skip
            refine aK_i ?_
            refine aw_ifeq (tgt := 16) dX7_kin_5 (by decide) (fun _ => ?_) (fun h => absurd h (by decide))
            refine aw_aload_n dX7_kin_16 rfl ?_
            refine aw_iconst dX7_kin_17 (by decide) ?_
            refine c_X7_79 rfl dX7_kin_18 m_ob (Nat.le_of_ble_eq_true rfl) (by omega) (C_m_is (fun hz => ?_) (fun hz => ?_))
            · first
                | (exfalso; omega)
                | skip
                  refine aK_i ?_
                  refine aw_zreturn dX7_kin_21 rfl (by omega) ?_
                  first
                    | (exfalso; omega)
                    | (refine XR.sameE h ?_ ?_ ?_ ?_ ?_ ?_
                       · first
                           | rfl
                           | omega
                       · repeat (first | exact xs.rf | refine xs.up ?_ (by decide))
                       · repeat (first | exact mss.k10 n10 | exact mss.rf | refine mss.up0 ?_ (by decide))
                       · first
                           | (simp [aup, hv2, hv3, hv4]; done)
                           | (simp [aup, hv2, hv3, hv4]; omega)
                       · simp [aup, hv2, hv3, hv4]
                       · simp [aup, hv2, hv3, hv4])
            · first
                | (exfalso; omega)
                | skip
                  refine aK_i ?_
                  refine aw_zreturn dX7_kin_21 rfl (by omega) ?_
                  first
                    | (exfalso; omega)
                    | (refine XR.sameE h ?_ ?_ ?_ ?_ ?_ ?_
                       · first
                           | rfl
                           | omega
                       · repeat (first | exact xs.rf | refine xs.up ?_ (by decide))
                       · repeat (first | exact mss.k10 n10 | exact mss.rf | refine mss.up0 ?_ (by decide))
                       · first
                           | (simp [aup, hv2, hv3, hv4]; done)
                           | (simp [aup, hv2, hv3, hv4]; omega)
                       · simp [aup, hv2, hv3, hv4]
                       · simp [aup, hv2, hv3, hv4])
    · have xob := xo2
      unfold one at xo2
      refine aK_i ?_
      refine aw_ifeq (tgt := 27) dX0_kin_20 (by decide) (fun _ => ?_) (fun h => absurd h (by decide))
      refine aw_iconst dX0_kin_27 (by decide) ?_
      refine p_X0_73_0 rfl dX0_kin_28 hR.o0 ?_
      refine aw_aload_n dX0_kin_31 rfl ?_
      refine g_X0_73_0 rfl dX0_kin_32 hR.o0 ?_
      repeat (first | rw [aup_s] | rw [aup_n (by omega)])
      refine aw_ifne (tgt := 56) dX0_kin_35 (by decide) (fun _ => ?_) (fun h => absurd h (by decide))
      refine aw_aload_n dX0_kin_56 rfl ?_
      refine g_X0_73_0 rfl dX0_kin_57 hR.o0 ?_
      repeat (first | rw [aup_s] | rw [aup_n (by omega)])
      refine aw_ifne (tgt := 67) dX0_kin_60 (by decide) (fun _ => ?_) (fun h => absurd h (by decide))
      refine aw_iconst dX0_kin_67 (by decide) ?_
      refine aw_zreturn dX0_kin_68 rfl (Or.inl rfl) ?_
      refine ⟨_, rfl, ?_⟩
      refine AMet.go (L := [some (vR 0), some (vI a), some (vI b)]) mok_X7_kin (Nat.le_of_ble_eq_true rfl) rfl ?_
      refine aw_aload_n dX7_kin_0 rfl ?_
      refine aw_iload_n dX7_kin_1 rfl ?_
      refine c_X7_286 rfl dX7_kin_2 m_ob (Nat.le_of_ble_eq_true rfl) (by omega) (C_m_isOne (by omega) (fun ho => ?_) (fun ho => ?_))
      · first
          | (exfalso; omega)
          | skip
            refine aK_i ?_
            refine aw_ifeq (tgt := 16) dX7_kin_5 (by decide) (fun h => absurd h (by decide)) (fun _ => ?_)
            refine aw_aload_n dX7_kin_8 rfl ?_
            refine aw_iload_n dX7_kin_9 rfl ?_
            refine c_X7_286 rfl dX7_kin_10 m_ob (Nat.le_of_ble_eq_true rfl) (by omega) (C_m_isOne (by omega) (fun ho => ?_) (fun ho => ?_))
            · first
                | (exfalso; omega)
                | skip
                  refine aK_i ?_
                  refine aw_ifne (tgt := 22) dX7_kin_13 (by decide) (fun _ => ?_) (fun h => absurd h (by decide))
                  refine aw_aload_n dX7_kin_22 rfl ?_
                  refine c_X7_351 rfl dX7_kin_23 m_ob (Nat.le_of_ble_eq_true rfl) (by omega) (C_m_laysKin hPQ (fun ck hK n10 => ?_))
                  have f0 : ∀ i, ck 0 i = cm 0 i := fun i => by rw [n10 0 (by decide)]
                  refine aK_v ?_
                  refine aw_aload_n dX7_kin_26 rfl ?_
                  refine gm_50 rfl dX7_kin_27 dX7_kin_28 rfl ?_
                  refine aw_bipush dX7_kin_31 (by decide) ?_
                  refine aw_iload_n dX7_kin_33 rfl ?_
                  refine aw_imulr dX7_kin_34 (by omega) ?_
                  refine aw_iload_n dX7_kin_35 rfl ?_
                  refine aw_iaddr dX7_kin_36 (by omega) ?_
                  refine aw_laload dX7_kin_37 m_a10 (by omega) (by omega) ?_
                  rw [hK a b xoa xob (hPQ.2.2.2.1 a xoa).1.2 (hPQ.2.2.2.1 b xob).1.2, kinX_sc hPQ xoa xob]
                  refine aw_ldc2 (x := 68719476736) dX7_kin_38 q1926 (by decide) ?_
                  refine c_X7_354 rfl dX7_kin_41 m_ob (Nat.le_of_ble_eq_true rfl) (by omega) (C_m_tellsBy (by omega) (by decide) ?_)
                  rw [(gq_sc hkb.1).1, (gq_sc hkb.1).2]
                  refine aK_i ?_
                  refine aw_zreturn dX7_kin_44 rfl (by omega) ?_
                  first
                    | (exfalso; omega)
                    | (refine XR.sameE h ?_ ?_ ?_ ?_ ?_ ?_
                       · first
                           | rfl
                           | omega
                       · repeat (first | exact xs.rf | refine xs.up ?_ (by decide))
                       · repeat (first | exact mss.k10 n10 | exact mss.rf | refine mss.up0 ?_ (by decide))
                       · first
                           | (simp [aup, hv2, hv3, hv4]; done)
                           | (simp [aup, hv2, hv3, hv4]; omega)
                       · simp [aup, hv2, hv3, hv4]
                       · simp [aup, hv2, hv3, hv4])
            · first
                | (exfalso; omega)
                | skip
                  refine aK_i ?_
                  refine aw_ifne (tgt := 22) dX7_kin_13 (by decide) (fun h => absurd h (by decide)) (fun _ => ?_)
                  refine aw_aload_n dX7_kin_16 rfl ?_
                  refine aw_iconst dX7_kin_17 (by decide) ?_
                  refine c_X7_79 rfl dX7_kin_18 m_ob (Nat.le_of_ble_eq_true rfl) (by omega) (C_m_is (fun hz => ?_) (fun hz => ?_))
                  · first
                      | (exfalso; omega)
                      | skip
                        refine aK_i ?_
                        refine aw_zreturn dX7_kin_21 rfl (by omega) ?_
                        first
                          | (exfalso; omega)
                          | (refine XR.sameE h ?_ ?_ ?_ ?_ ?_ ?_
                             · first
                                 | rfl
                                 | omega
                             · repeat (first | exact xs.rf | refine xs.up ?_ (by decide))
                             · repeat (first | exact mss.k10 n10 | exact mss.rf | refine mss.up0 ?_ (by decide))
                             · first
                                 | (simp [aup, hv2, hv3, hv4]; done)
                                 | (simp [aup, hv2, hv3, hv4]; omega)
                             · simp [aup, hv2, hv3, hv4]
                             · simp [aup, hv2, hv3, hv4])
                  · first
                      | (exfalso; omega)
                      | skip
                        refine aK_i ?_
                        refine aw_zreturn dX7_kin_21 rfl (by omega) ?_
                        first
                          | (exfalso; omega)
                          | (refine XR.sameE h ?_ ?_ ?_ ?_ ?_ ?_
                             · first
                                 | rfl
                                 | omega
                             · repeat (first | exact xs.rf | refine xs.up ?_ (by decide))
                             · repeat (first | exact mss.k10 n10 | exact mss.rf | refine mss.up0 ?_ (by decide))
                             · first
                                 | (simp [aup, hv2, hv3, hv4]; done)
                                 | (simp [aup, hv2, hv3, hv4]; omega)
                             · simp [aup, hv2, hv3, hv4]
                             · simp [aup, hv2, hv3, hv4])
      · first
          | (exfalso; omega)
          | skip
            refine aK_i ?_
            refine aw_ifeq (tgt := 16) dX7_kin_5 (by decide) (fun _ => ?_) (fun h => absurd h (by decide))
            refine aw_aload_n dX7_kin_16 rfl ?_
            refine aw_iconst dX7_kin_17 (by decide) ?_
            refine c_X7_79 rfl dX7_kin_18 m_ob (Nat.le_of_ble_eq_true rfl) (by omega) (C_m_is (fun hz => ?_) (fun hz => ?_))
            · first
                | (exfalso; omega)
                | skip
                  refine aK_i ?_
                  refine aw_zreturn dX7_kin_21 rfl (by omega) ?_
                  first
                    | (exfalso; omega)
                    | (refine XR.sameE h ?_ ?_ ?_ ?_ ?_ ?_
                       · first
                           | rfl
                           | omega
                       · repeat (first | exact xs.rf | refine xs.up ?_ (by decide))
                       · repeat (first | exact mss.k10 n10 | exact mss.rf | refine mss.up0 ?_ (by decide))
                       · first
                           | (simp [aup, hv2, hv3, hv4]; done)
                           | (simp [aup, hv2, hv3, hv4]; omega)
                       · simp [aup, hv2, hv3, hv4]
                       · simp [aup, hv2, hv3, hv4])
            · first
                | (exfalso; omega)
                | skip
                  refine aK_i ?_
                  refine aw_zreturn dX7_kin_21 rfl (by omega) ?_
                  first
                    | (exfalso; omega)
                    | (refine XR.sameE h ?_ ?_ ?_ ?_ ?_ ?_
                       · first
                           | rfl
                           | omega
                       · repeat (first | exact xs.rf | refine xs.up ?_ (by decide))
                       · repeat (first | exact mss.k10 n10 | exact mss.rf | refine mss.up0 ?_ (by decide))
                       · first
                           | (simp [aup, hv2, hv3, hv4]; done)
                           | (simp [aup, hv2, hv3, hv4]; omega)
                       · simp [aup, hv2, hv3, hv4]
                       · simp [aup, hv2, hv3, hv4])
  · have xoa := xo
    unfold one at xo
    refine aK_i ?_
    refine aw_ifeq (tgt := 27) dX0_kin_9 (by decide) (fun _ => ?_) (fun h => absurd h (by decide))
    refine aw_iconst dX0_kin_27 (by decide) ?_
    refine p_X0_73_0 rfl dX0_kin_28 hR.o0 ?_
    refine aw_aload_n dX0_kin_31 rfl ?_
    refine g_X0_73_0 rfl dX0_kin_32 hR.o0 ?_
    repeat (first | rw [aup_s] | rw [aup_n (by omega)])
    refine aw_ifne (tgt := 56) dX0_kin_35 (by decide) (fun _ => ?_) (fun h => absurd h (by decide))
    refine aw_aload_n dX0_kin_56 rfl ?_
    refine g_X0_73_0 rfl dX0_kin_57 hR.o0 ?_
    repeat (first | rw [aup_s] | rw [aup_n (by omega)])
    refine aw_ifne (tgt := 67) dX0_kin_60 (by decide) (fun _ => ?_) (fun h => absurd h (by decide))
    refine aw_iconst dX0_kin_67 (by decide) ?_
    refine aw_zreturn dX0_kin_68 rfl (Or.inl rfl) ?_
    refine ⟨_, rfl, ?_⟩
    refine AMet.go (L := [some (vR 0), some (vI a), some (vI b)]) mok_X7_kin (Nat.le_of_ble_eq_true rfl) rfl ?_
    refine aw_aload_n dX7_kin_0 rfl ?_
    refine aw_iload_n dX7_kin_1 rfl ?_
    refine c_X7_286 rfl dX7_kin_2 m_ob (Nat.le_of_ble_eq_true rfl) (by omega) (C_m_isOne (by omega) (fun ho => ?_) (fun ho => ?_))
    · first
        | (exfalso; omega)
        | skip
          refine aK_i ?_
          refine aw_ifeq (tgt := 16) dX7_kin_5 (by decide) (fun h => absurd h (by decide)) (fun _ => ?_)
          refine aw_aload_n dX7_kin_8 rfl ?_
          refine aw_iload_n dX7_kin_9 rfl ?_
          refine c_X7_286 rfl dX7_kin_10 m_ob (Nat.le_of_ble_eq_true rfl) (by omega) (C_m_isOne (by omega) (fun ho => ?_) (fun ho => ?_))
          · first
              | (exfalso; omega)
              | skip
                refine aK_i ?_
                refine aw_ifne (tgt := 22) dX7_kin_13 (by decide) (fun _ => ?_) (fun h => absurd h (by decide))
                refine aw_aload_n dX7_kin_22 rfl ?_
                refine c_X7_351 rfl dX7_kin_23 m_ob (Nat.le_of_ble_eq_true rfl) (by omega) (C_m_laysKin hPQ (fun ck hK n10 => ?_))
                have f0 : ∀ i, ck 0 i = cm 0 i := fun i => by rw [n10 0 (by decide)]
                refine aK_v ?_
                refine aw_aload_n dX7_kin_26 rfl ?_
                refine gm_50 rfl dX7_kin_27 dX7_kin_28 rfl ?_
                refine aw_bipush dX7_kin_31 (by decide) ?_
                refine aw_iload_n dX7_kin_33 rfl ?_
                refine aw_imulr dX7_kin_34 (by omega) ?_
                refine aw_iload_n dX7_kin_35 rfl ?_
                refine aw_iaddr dX7_kin_36 (by omega) ?_
                refine aw_laload dX7_kin_37 m_a10 (by omega) (by omega) ?_
                rw [hK a b xoa xob (hPQ.2.2.2.1 a xoa).1.2 (hPQ.2.2.2.1 b xob).1.2, kinX_sc hPQ xoa xob]
                refine aw_ldc2 (x := 68719476736) dX7_kin_38 q1926 (by decide) ?_
                refine c_X7_354 rfl dX7_kin_41 m_ob (Nat.le_of_ble_eq_true rfl) (by omega) (C_m_tellsBy (by omega) (by decide) ?_)
                rw [(gq_sc hkb.1).1, (gq_sc hkb.1).2]
                refine aK_i ?_
                refine aw_zreturn dX7_kin_44 rfl (by omega) ?_
                first
                  | (exfalso; omega)
                  | (refine XR.sameE h ?_ ?_ ?_ ?_ ?_ ?_
                     · first
                         | rfl
                         | omega
                     · repeat (first | exact xs.rf | refine xs.up ?_ (by decide))
                     · repeat (first | exact mss.k10 n10 | exact mss.rf | refine mss.up0 ?_ (by decide))
                     · first
                         | (simp [aup, hv2, hv3, hv4]; done)
                         | (simp [aup, hv2, hv3, hv4]; omega)
                     · simp [aup, hv2, hv3, hv4]
                     · simp [aup, hv2, hv3, hv4])
          · first
              | (exfalso; omega)
              | skip
                refine aK_i ?_
                refine aw_ifne (tgt := 22) dX7_kin_13 (by decide) (fun h => absurd h (by decide)) (fun _ => ?_)
                refine aw_aload_n dX7_kin_16 rfl ?_
                refine aw_iconst dX7_kin_17 (by decide) ?_
                refine c_X7_79 rfl dX7_kin_18 m_ob (Nat.le_of_ble_eq_true rfl) (by omega) (C_m_is (fun hz => ?_) (fun hz => ?_))
                · first
                    | (exfalso; omega)
                    | skip
                      refine aK_i ?_
                      refine aw_zreturn dX7_kin_21 rfl (by omega) ?_
                      first
                        | (exfalso; omega)
                        | (refine XR.sameE h ?_ ?_ ?_ ?_ ?_ ?_
                           · first
                               | rfl
                               | omega
                           · repeat (first | exact xs.rf | refine xs.up ?_ (by decide))
                           · repeat (first | exact mss.k10 n10 | exact mss.rf | refine mss.up0 ?_ (by decide))
                           · first
                               | (simp [aup, hv2, hv3, hv4]; done)
                               | (simp [aup, hv2, hv3, hv4]; omega)
                           · simp [aup, hv2, hv3, hv4]
                           · simp [aup, hv2, hv3, hv4])
                · first
                    | (exfalso; omega)
                    | skip
                      refine aK_i ?_
                      refine aw_zreturn dX7_kin_21 rfl (by omega) ?_
                      first
                        | (exfalso; omega)
                        | (refine XR.sameE h ?_ ?_ ?_ ?_ ?_ ?_
                           · first
                               | rfl
                               | omega
                           · repeat (first | exact xs.rf | refine xs.up ?_ (by decide))
                           · repeat (first | exact mss.k10 n10 | exact mss.rf | refine mss.up0 ?_ (by decide))
                           · first
                               | (simp [aup, hv2, hv3, hv4]; done)
                               | (simp [aup, hv2, hv3, hv4]; omega)
                           · simp [aup, hv2, hv3, hv4]
                           · simp [aup, hv2, hv3, hv4])
    · first
        | (exfalso; omega)
        | skip
          refine aK_i ?_
          refine aw_ifeq (tgt := 16) dX7_kin_5 (by decide) (fun _ => ?_) (fun h => absurd h (by decide))
          refine aw_aload_n dX7_kin_16 rfl ?_
          refine aw_iconst dX7_kin_17 (by decide) ?_
          refine c_X7_79 rfl dX7_kin_18 m_ob (Nat.le_of_ble_eq_true rfl) (by omega) (C_m_is (fun hz => ?_) (fun hz => ?_))
          · first
              | (exfalso; omega)
              | skip
                refine aK_i ?_
                refine aw_zreturn dX7_kin_21 rfl (by omega) ?_
                first
                  | (exfalso; omega)
                  | (refine XR.sameE h ?_ ?_ ?_ ?_ ?_ ?_
                     · first
                         | rfl
                         | omega
                     · repeat (first | exact xs.rf | refine xs.up ?_ (by decide))
                     · repeat (first | exact mss.k10 n10 | exact mss.rf | refine mss.up0 ?_ (by decide))
                     · first
                         | (simp [aup, hv2, hv3, hv4]; done)
                         | (simp [aup, hv2, hv3, hv4]; omega)
                     · simp [aup, hv2, hv3, hv4]
                     · simp [aup, hv2, hv3, hv4])
          · first
              | (exfalso; omega)
              | skip
                refine aK_i ?_
                refine aw_zreturn dX7_kin_21 rfl (by omega) ?_
                first
                  | (exfalso; omega)
                  | (refine XR.sameE h ?_ ?_ ?_ ?_ ?_ ?_
                     · first
                         | rfl
                         | omega
                     · repeat (first | exact xs.rf | refine xs.up ?_ (by decide))
                     · repeat (first | exact mss.k10 n10 | exact mss.rf | refine mss.up0 ?_ (by decide))
                     · first
                         | (simp [aup, hv2, hv3, hv4]; done)
                         | (simp [aup, hv2, hv3, hv4]; omega)
                     · simp [aup, hv2, hv3, hv4]
                     · simp [aup, hv2, hv3, hv4])
theorem OP_inbred {sz : Int} {im : Int → aIm} {ct cm : Int → Int → Int} (h : XR (sz, im, ct) cm) {a : Int} (r0 : -2147483648 ≤ a ∧ a < 2147483648)  : AMet md_X0_inbred 36 0 0 [vR 0, vI a] (sz, im, ct) (XQ md_X7_inbred 4 [vR 0, vI a] cm) := by
  obtain ⟨own, N, hR, HY, HL, HN, HS, HP, HF, HX, hv2, hv3, hv4⟩ := id h
  dsimp only at hR HY HL HS HX hv2 hv3 hv4
  have hp0 := HP.1
  have hp3 := HP.2.1
  have hpq := HP.2.2.2.1.1
  have hps := HP.2.2.2.2.2
  have hlt : ct 10 0 ≠ 0 := fun e => by have q1 := HL.2.2.1.1; rw [e] at q1; have q2 := hR.1.2; omega
  have hPQ := HP.2.2.2.1
  have HL1 := HL.up0 (j := 7) (v := 0) hR.1.2
  refine AMet.go (L := [some (vR 0), some (vI a)]) mok_X0_inbred (Nat.le_of_ble_eq_true rfl) rfl ?_
  refine aw_aload_n dX0_inbred_0 rfl ?_
  refine aw_aload_n dX0_inbred_1 rfl ?_
  refine aw_iload_n dX0_inbred_2 rfl ?_
  refine c_X0_357 rfl dX0_inbred_3 hR.o0 (Nat.le_of_ble_eq_true rfl) (by omega) (C_x_isQueen hR HY HL (fun xq => ?_) (fun xq => ?_))
  · have xoa : one (cm 1) a := Or.inl xq
    have hfb := PQ.f16 hPQ (q := a) xq.1 xq.2
    have hbm := bef_m hPQ xoa
    have hbf := bef_f hPQ xoa
    have hmb : -1 ≤ mot (cm 1) a := by
      rcases hbm with e | ⟨e, -⟩
      · omega
      · have := one_nn e; omega
    have hfb2 : -1 ≤ fat (cm 1) a := by
      rcases hbf with e | ⟨e, -⟩
      · omega
      · have := one_nn e; omega
    refine aK_i ?_
    refine aw_ifne (tgt := 13) dX0_inbred_6 (by decide) (fun _ => ?_) (fun h => absurd h (by decide))
    refine aw_aload_n dX0_inbred_13 rfl ?_
    refine c_X0_182 rfl dX0_inbred_14 hR.o0 (Nat.le_of_ble_eq_true rfl) (by omega) (C_x_lines hR HY ?_)
    repeat (first | rw [aup_s] | rw [aup_n (by omega)])
    refine aK_i ?_
    refine g_X0_295_6 rfl dX0_inbred_17 HL.1 ?_
    skip
    refine aw_iload_n dX0_inbred_20 rfl ?_
    refine aw_iaload dX0_inbred_21 HL.2.1.2.1 (by omega) (by omega) ?_
    rw [HL.motE xoa]
    refine aw_iflt (tgt := 37) dX0_inbred_22 (by decide) (fun h22 => ?_) (fun h22 => ?_)
    · refine aw_bipush dX0_inbred_37 (by decide) ?_
      refine aw_goto (tgt := 43) dX0_inbred_39 (by decide) ?_
      refine p_X0_73_0 rfl dX0_inbred_43 hR.o0 ?_
      refine aw_aload_n dX0_inbred_46 rfl ?_
      refine g_X0_73_0 rfl dX0_inbred_47 hR.o0 ?_
      repeat (first | rw [aup_s] | rw [aup_n (by omega)])
      refine aw_ifne (tgt := 87) dX0_inbred_50 (by decide) (fun _ => ?_) (fun h => absurd h (by decide))
      refine aw_aload_n dX0_inbred_87 rfl ?_
      refine g_X0_73_0 rfl dX0_inbred_88 hR.o0 ?_
      repeat (first | rw [aup_s] | rw [aup_n (by omega)])
      refine aw_ifne (tgt := 98) dX0_inbred_91 (by decide) (fun _ => ?_) (fun h => absurd h (by decide))
      refine aw_iconst dX0_inbred_98 (by decide) ?_
      refine aw_zreturn dX0_inbred_99 rfl (Or.inl rfl) ?_
      refine ⟨_, rfl, ?_⟩
      refine AMet.go (L := [some (vR 0), some (vI a)]) mok_X7_inbred (Nat.le_of_ble_eq_true rfl) rfl ?_
      refine aw_aload_n dX7_inbred_0 rfl ?_
      refine aw_iload_n dX7_inbred_1 rfl ?_
      refine c_X7_277 rfl dX7_inbred_2 m_ob (Nat.le_of_ble_eq_true rfl) (by omega) (C_m_isQueen (fun hh => ?_) (fun hh => ?_))
      · first
          | (exfalso; omega)
          | skip
            refine aK_i ?_
            refine aw_ifne (tgt := 14) dX7_inbred_5 (by decide) (fun _ => ?_) (fun h => absurd h (by decide))
            refine aw_aload_n dX7_inbred_14 rfl ?_
            refine aw_iload_n dX7_inbred_15 rfl ?_
            refine c_X7_289 rfl dX7_inbred_16 m_ob (Nat.le_of_ble_eq_true rfl) (by omega) (C_m_mot (by omega) ?_)
            refine aK_i ?_
            refine aw_iconst dX7_inbred_19 (by decide) ?_
            refine aw_icmpeq (tgt := 32) dX7_inbred_20 (by decide) (fun h20 => ?_) (fun h20 => ?_)
            · first
                | (exfalso; omega)
                | skip
                  refine aw_aload_n dX7_inbred_32 rfl ?_
                  refine aw_bipush dX7_inbred_33 (by decide) ?_
                  refine c_X7_79 rfl dX7_inbred_35 m_ob (Nat.le_of_ble_eq_true rfl) (by omega) (C_m_is (fun hz => ?_) (fun hz => ?_))
                  · first
                      | (exfalso; omega)
                      | skip
                        refine aK_i ?_
                        refine aw_zreturn dX7_inbred_38 rfl (by omega) ?_
                        first
                          | (exfalso; omega)
                          | (refine XR.sameE h ?_ ?_ ?_ ?_ ?_ ?_
                             · first
                                 | rfl
                                 | omega
                             · repeat (first | exact xs.rf | refine xs.up ?_ (by decide))
                             · repeat (first | exact mss.k10 n10 | exact mss.rf | refine mss.up0 ?_ (by decide))
                             · first
                                 | (simp [aup, hv2, hv3, hv4]; done)
                                 | (simp [aup, hv2, hv3, hv4]; omega)
                             · simp [aup, hv2, hv3, hv4]
                             · simp [aup, hv2, hv3, hv4])
                  · first
                      | (exfalso; omega)
                      | skip
                        refine aK_i ?_
                        refine aw_zreturn dX7_inbred_38 rfl (by omega) ?_
                        first
                          | (exfalso; omega)
                          | (refine XR.sameE h ?_ ?_ ?_ ?_ ?_ ?_
                             · first
                                 | rfl
                                 | omega
                             · repeat (first | exact xs.rf | refine xs.up ?_ (by decide))
                             · repeat (first | exact mss.k10 n10 | exact mss.rf | refine mss.up0 ?_ (by decide))
                             · first
                                 | (simp [aup, hv2, hv3, hv4]; done)
                                 | (simp [aup, hv2, hv3, hv4]; omega)
                             · simp [aup, hv2, hv3, hv4]
                             · simp [aup, hv2, hv3, hv4])
            · first
                | (exfalso; omega)
                | skip
                  refine aw_aload_n dX7_inbred_23 rfl ?_
                  refine aw_iload_n dX7_inbred_24 rfl ?_
                  refine c_X7_292 rfl dX7_inbred_25 m_ob (Nat.le_of_ble_eq_true rfl) (by omega) (C_m_fat (by omega) (fun z => by omega) ?_)
                  refine aK_i ?_
                  refine aw_iconst dX7_inbred_28 (by decide) ?_
                  refine aw_icmpne (tgt := 39) dX7_inbred_29 (by decide) (fun h29 => ?_) (fun h29 => ?_)
                  · first
                      | (exfalso; omega)
                      | skip
                        refine aw_aload_n dX7_inbred_39 rfl ?_
                        refine c_X7_351 rfl dX7_inbred_40 m_ob (Nat.le_of_ble_eq_true rfl) (by omega) (C_m_laysKin hPQ (fun ck hK n10 => ?_))
                        have f0 : ∀ i, ck 0 i = cm 0 i := fun i => by rw [n10 0 (by decide)]
                        refine aK_v ?_
                        refine aw_aload_n dX7_inbred_43 rfl ?_
                        refine aw_aload_n dX7_inbred_44 rfl ?_
                        refine aw_aload_n dX7_inbred_45 rfl ?_
                        refine aw_iload_n dX7_inbred_46 rfl ?_
                        refine c_X7_289 rfl dX7_inbred_47 m_ob (Nat.le_of_ble_eq_true rfl) (by omega) (C_m_mot (by omega) ?_)
                        rw [n10 1 (by decide)]
                        refine aK_i ?_
                        refine aw_aload_n dX7_inbred_50 rfl ?_
                        refine aw_iload_n dX7_inbred_51 rfl ?_
                        refine c_X7_292 rfl dX7_inbred_52 m_ob (Nat.le_of_ble_eq_true rfl) (by omega) (C_m_fat (by omega) (fun z => by rw [n10 1 (by decide)]; omega) ?_)
                        rw [n10 1 (by decide)]
                        refine aK_i ?_
                        refine c_X7_343 rfl dX7_inbred_55 m_ob (Nat.le_of_ble_eq_true rfl) (by omega) (C_m_kinX hPQ hK (Or.inr ⟨xom, (hPQ.2.2.2.1 _ xom).1.2⟩) (Or.inr ⟨xof, (hPQ.2.2.2.1 _ xof).1.2⟩) ?_)
                        rw [show kinO (kinX 68719476736 (cm 1)) (mot (cm 1) a) (fat (cm 1) a) = 1048576 * kinX 65536 (cm 1) (mot (cm 1) a) (fat (cm 1) a) by unfold kinO; rw [if_neg (by omega), kinX_sc hPQ xom xof]]
                        refine aK_i ?_
                        refine aw_ldc2 (x := 68719476736) dX7_inbred_58 q1926 (by decide) ?_
                        refine c_X7_354 rfl dX7_inbred_61 m_ob (Nat.le_of_ble_eq_true rfl) (by omega) (C_m_tellsBy (by omega) (by decide) ?_)
                        rw [(gq_sc hkb.1).1, (gq_sc hkb.1).2]
                        refine aK_i ?_
                        refine aw_zreturn dX7_inbred_64 rfl (by omega) ?_
                        first
                          | (exfalso; omega)
                          | (refine XR.sameE h ?_ ?_ ?_ ?_ ?_ ?_
                             · first
                                 | rfl
                                 | omega
                             · repeat (first | exact xs.rf | refine xs.up ?_ (by decide))
                             · repeat (first | exact mss.k10 n10 | exact mss.rf | refine mss.up0 ?_ (by decide))
                             · first
                                 | (simp [aup, hv2, hv3, hv4]; done)
                                 | (simp [aup, hv2, hv3, hv4]; omega)
                             · simp [aup, hv2, hv3, hv4]
                             · simp [aup, hv2, hv3, hv4])
                  · first
                      | (exfalso; omega)
                      | skip
                        refine aw_aload_n dX7_inbred_32 rfl ?_
                        refine aw_bipush dX7_inbred_33 (by decide) ?_
                        refine c_X7_79 rfl dX7_inbred_35 m_ob (Nat.le_of_ble_eq_true rfl) (by omega) (C_m_is (fun hz => ?_) (fun hz => ?_))
                        · first
                            | (exfalso; omega)
                            | skip
                              refine aK_i ?_
                              refine aw_zreturn dX7_inbred_38 rfl (by omega) ?_
                              first
                                | (exfalso; omega)
                                | (refine XR.sameE h ?_ ?_ ?_ ?_ ?_ ?_
                                   · first
                                       | rfl
                                       | omega
                                   · repeat (first | exact xs.rf | refine xs.up ?_ (by decide))
                                   · repeat (first | exact mss.k10 n10 | exact mss.rf | refine mss.up0 ?_ (by decide))
                                   · first
                                       | (simp [aup, hv2, hv3, hv4]; done)
                                       | (simp [aup, hv2, hv3, hv4]; omega)
                                   · simp [aup, hv2, hv3, hv4]
                                   · simp [aup, hv2, hv3, hv4])
                        · first
                            | (exfalso; omega)
                            | skip
                              refine aK_i ?_
                              refine aw_zreturn dX7_inbred_38 rfl (by omega) ?_
                              first
                                | (exfalso; omega)
                                | (refine XR.sameE h ?_ ?_ ?_ ?_ ?_ ?_
                                   · first
                                       | rfl
                                       | omega
                                   · repeat (first | exact xs.rf | refine xs.up ?_ (by decide))
                                   · repeat (first | exact mss.k10 n10 | exact mss.rf | refine mss.up0 ?_ (by decide))
                                   · first
                                       | (simp [aup, hv2, hv3, hv4]; done)
                                       | (simp [aup, hv2, hv3, hv4]; omega)
                                   · simp [aup, hv2, hv3, hv4]
                                   · simp [aup, hv2, hv3, hv4])
      · first
          | (exfalso; omega)
          | skip
            refine aK_i ?_
            refine aw_ifne (tgt := 14) dX7_inbred_5 (by decide) (fun h => absurd h (by decide)) (fun _ => ?_)
            refine aw_aload_n dX7_inbred_8 rfl ?_
            refine aw_iconst dX7_inbred_9 (by decide) ?_
            refine c_X7_79 rfl dX7_inbred_10 m_ob (Nat.le_of_ble_eq_true rfl) (by omega) (C_m_is (fun hz => ?_) (fun hz => ?_))
            · first
                | (exfalso; omega)
                | skip
                  refine aK_i ?_
                  refine aw_zreturn dX7_inbred_13 rfl (by omega) ?_
                  first
                    | (exfalso; omega)
                    | (refine XR.sameE h ?_ ?_ ?_ ?_ ?_ ?_
                       · first
                           | rfl
                           | omega
                       · repeat (first | exact xs.rf | refine xs.up ?_ (by decide))
                       · repeat (first | exact mss.k10 n10 | exact mss.rf | refine mss.up0 ?_ (by decide))
                       · first
                           | (simp [aup, hv2, hv3, hv4]; done)
                           | (simp [aup, hv2, hv3, hv4]; omega)
                       · simp [aup, hv2, hv3, hv4]
                       · simp [aup, hv2, hv3, hv4])
            · first
                | (exfalso; omega)
                | skip
                  refine aK_i ?_
                  refine aw_zreturn dX7_inbred_13 rfl (by omega) ?_
                  first
                    | (exfalso; omega)
                    | (refine XR.sameE h ?_ ?_ ?_ ?_ ?_ ?_
                       · first
                           | rfl
                           | omega
                       · repeat (first | exact xs.rf | refine xs.up ?_ (by decide))
                       · repeat (first | exact mss.k10 n10 | exact mss.rf | refine mss.up0 ?_ (by decide))
                       · first
                           | (simp [aup, hv2, hv3, hv4]; done)
                           | (simp [aup, hv2, hv3, hv4]; omega)
                       · simp [aup, hv2, hv3, hv4]
                       · simp [aup, hv2, hv3, hv4])
    · refine aw_aload_n dX0_inbred_25 rfl ?_
      refine c_X0_182 rfl dX0_inbred_26 hR.o0 (Nat.le_of_ble_eq_true rfl) (by omega) (C_x_lines hR HY ?_)
      repeat (first | rw [aup_s] | rw [aup_n (by omega)])
      refine aK_i ?_
      refine g_X0_298_6 rfl dX0_inbred_29 HL.1 ?_
      skip
      refine aw_iload_n dX0_inbred_32 rfl ?_
      refine aw_iaload dX0_inbred_33 HL.2.1.2.2.1 (by omega) (by omega) ?_
      rw [HL.fatE xoa]
      refine aw_ifge (tgt := 42) dX0_inbred_34 (by decide) (fun h34 => ?_) (fun h34 => ?_)
      · refine aw_iconst dX0_inbred_42 (by decide) ?_
        refine p_X0_73_0 rfl dX0_inbred_43 hR.o0 ?_
        refine aw_aload_n dX0_inbred_46 rfl ?_
        refine g_X0_73_0 rfl dX0_inbred_47 hR.o0 ?_
        repeat (first | rw [aup_s] | rw [aup_n (by omega)])
        refine aw_ifne (tgt := 87) dX0_inbred_50 (by decide) (fun h => absurd h (by decide)) (fun _ => ?_)
        refine aw_aload_n dX0_inbred_53 rfl ?_
        refine aw_aload_n dX0_inbred_54 rfl ?_
        refine c_X0_182 rfl dX0_inbred_55 hR.o0 (Nat.le_of_ble_eq_true rfl) (by omega) (C_x_lines hR HY ?_)
        repeat (first | rw [aup_s] | rw [aup_n (by omega)])
        refine aK_i ?_
        refine aw_aload_n dX0_inbred_58 rfl ?_
        refine c_X0_182 rfl dX0_inbred_59 hR.o0 (Nat.le_of_ble_eq_true rfl) (by omega) (C_x_lines hR HY ?_)
        repeat (first | rw [aup_s] | rw [aup_n (by omega)])
        refine aK_i ?_
        refine g_X0_295_6 rfl dX0_inbred_62 HL.1 ?_
        skip
        refine aw_iload_n dX0_inbred_65 rfl ?_
        refine aw_iaload dX0_inbred_66 HL.2.1.2.1 (by omega) (by omega) ?_
        rw [HL1.motE xoa]
        refine aw_aload_n dX0_inbred_67 rfl ?_
        refine c_X0_182 rfl dX0_inbred_68 hR.o0 (Nat.le_of_ble_eq_true rfl) (by omega) (C_x_lines hR HY ?_)
        repeat (first | rw [aup_s] | rw [aup_n (by omega)])
        refine aK_i ?_
        refine g_X0_298_6 rfl dX0_inbred_71 HL.1 ?_
        skip
        refine aw_iload_n dX0_inbred_74 rfl ?_
        refine aw_iaload dX0_inbred_75 HL.2.1.2.2.1 (by omega) (by omega) ?_
        rw [HL1.fatE xoa]
        have xom : one (cm 1) (mot (cm 1) a) := by rcases hbm with e | ⟨e, -⟩; omega; exact e
        have xof : one (cm 1) (fat (cm 1) a) := by rcases hbf with e | ⟨e, -⟩; omega; exact e
        refine c_X0_373 rfl dX0_inbred_76 HL.1 (Nat.le_of_ble_eq_true rfl) (by omega) (C_x_kin17 HL1 hPQ xom xof ?_)
        have hkb := kinX_bd (W := 65536) (s := cm 1) (a := (mot (cm 1) a)) (b := (fat (cm 1) a)) (by decide)
        refine aK_i ?_
        refine aw_i2l dX0_inbred_79 ?_
        refine aw_ldc2 (x := 65536) dX0_inbred_80 q1194 (by decide) ?_
        refine c_X0_378 rfl dX0_inbred_83 hR.o0 (Nat.le_of_ble_eq_true rfl) (by omega) (C_x_fraction hR (by omega) (by decide) (fun v9 => ?_))
        refine aK_i ?_
        refine aw_pop dX0_inbred_86 rfl ?_
        refine aw_aload_n dX0_inbred_87 rfl ?_
        refine g_X0_73_0 rfl dX0_inbred_88 hR.o0 ?_
        repeat (first | rw [aup_s] | rw [aup_n (by omega)])
        refine aw_ifne (tgt := 98) dX0_inbred_91 (by decide) (fun h => absurd h (by decide)) (fun _ => ?_)
        refine aw_iconst dX0_inbred_94 (by decide) ?_
        refine aw_goto (tgt := 99) dX0_inbred_95 (by decide) ?_
        refine aw_zreturn dX0_inbred_99 rfl (Or.inr rfl) ?_
        refine ⟨_, rfl, ?_⟩
        refine AMet.go (L := [some (vR 0), some (vI a)]) mok_X7_inbred (Nat.le_of_ble_eq_true rfl) rfl ?_
        refine aw_aload_n dX7_inbred_0 rfl ?_
        refine aw_iload_n dX7_inbred_1 rfl ?_
        refine c_X7_277 rfl dX7_inbred_2 m_ob (Nat.le_of_ble_eq_true rfl) (by omega) (C_m_isQueen (fun hh => ?_) (fun hh => ?_))
        · first
            | (exfalso; omega)
            | skip
              refine aK_i ?_
              refine aw_ifne (tgt := 14) dX7_inbred_5 (by decide) (fun _ => ?_) (fun h => absurd h (by decide))
              refine aw_aload_n dX7_inbred_14 rfl ?_
              refine aw_iload_n dX7_inbred_15 rfl ?_
              refine c_X7_289 rfl dX7_inbred_16 m_ob (Nat.le_of_ble_eq_true rfl) (by omega) (C_m_mot (by omega) ?_)
              refine aK_i ?_
              refine aw_iconst dX7_inbred_19 (by decide) ?_
              refine aw_icmpeq (tgt := 32) dX7_inbred_20 (by decide) (fun h20 => ?_) (fun h20 => ?_)
              · first
                  | (exfalso; omega)
                  | skip
                    refine aw_aload_n dX7_inbred_32 rfl ?_
                    refine aw_bipush dX7_inbred_33 (by decide) ?_
                    refine c_X7_79 rfl dX7_inbred_35 m_ob (Nat.le_of_ble_eq_true rfl) (by omega) (C_m_is (fun hz => ?_) (fun hz => ?_))
                    · first
                        | (exfalso; omega)
                        | skip
                          refine aK_i ?_
                          refine aw_zreturn dX7_inbred_38 rfl (by omega) ?_
                          first
                            | (exfalso; omega)
                            | (refine XR.sameE h ?_ ?_ ?_ ?_ ?_ ?_
                               · first
                                   | rfl
                                   | omega
                               · repeat (first | exact xs.rf | refine xs.up ?_ (by decide))
                               · repeat (first | exact mss.k10 n10 | exact mss.rf | refine mss.up0 ?_ (by decide))
                               · first
                                   | (simp [aup, hv2, hv3, hv4]; done)
                                   | (simp [aup, hv2, hv3, hv4]; omega)
                               · simp [aup, hv2, hv3, hv4]
                               · simp [aup, hv2, hv3, hv4])
                    · first
                        | (exfalso; omega)
                        | skip
                          refine aK_i ?_
                          refine aw_zreturn dX7_inbred_38 rfl (by omega) ?_
                          first
                            | (exfalso; omega)
                            | (refine XR.sameE h ?_ ?_ ?_ ?_ ?_ ?_
                               · first
                                   | rfl
                                   | omega
                               · repeat (first | exact xs.rf | refine xs.up ?_ (by decide))
                               · repeat (first | exact mss.k10 n10 | exact mss.rf | refine mss.up0 ?_ (by decide))
                               · first
                                   | (simp [aup, hv2, hv3, hv4]; done)
                                   | (simp [aup, hv2, hv3, hv4]; omega)
                               · simp [aup, hv2, hv3, hv4]
                               · simp [aup, hv2, hv3, hv4])
              · first
                  | (exfalso; omega)
                  | skip
                    refine aw_aload_n dX7_inbred_23 rfl ?_
                    refine aw_iload_n dX7_inbred_24 rfl ?_
                    refine c_X7_292 rfl dX7_inbred_25 m_ob (Nat.le_of_ble_eq_true rfl) (by omega) (C_m_fat (by omega) (fun z => by omega) ?_)
                    refine aK_i ?_
                    refine aw_iconst dX7_inbred_28 (by decide) ?_
                    refine aw_icmpne (tgt := 39) dX7_inbred_29 (by decide) (fun h29 => ?_) (fun h29 => ?_)
                    · first
                        | (exfalso; omega)
                        | skip
                          refine aw_aload_n dX7_inbred_39 rfl ?_
                          refine c_X7_351 rfl dX7_inbred_40 m_ob (Nat.le_of_ble_eq_true rfl) (by omega) (C_m_laysKin hPQ (fun ck hK n10 => ?_))
                          have f0 : ∀ i, ck 0 i = cm 0 i := fun i => by rw [n10 0 (by decide)]
                          refine aK_v ?_
                          refine aw_aload_n dX7_inbred_43 rfl ?_
                          refine aw_aload_n dX7_inbred_44 rfl ?_
                          refine aw_aload_n dX7_inbred_45 rfl ?_
                          refine aw_iload_n dX7_inbred_46 rfl ?_
                          refine c_X7_289 rfl dX7_inbred_47 m_ob (Nat.le_of_ble_eq_true rfl) (by omega) (C_m_mot (by omega) ?_)
                          rw [n10 1 (by decide)]
                          refine aK_i ?_
                          refine aw_aload_n dX7_inbred_50 rfl ?_
                          refine aw_iload_n dX7_inbred_51 rfl ?_
                          refine c_X7_292 rfl dX7_inbred_52 m_ob (Nat.le_of_ble_eq_true rfl) (by omega) (C_m_fat (by omega) (fun z => by rw [n10 1 (by decide)]; omega) ?_)
                          rw [n10 1 (by decide)]
                          refine aK_i ?_
                          refine c_X7_343 rfl dX7_inbred_55 m_ob (Nat.le_of_ble_eq_true rfl) (by omega) (C_m_kinX hPQ hK (Or.inr ⟨xom, (hPQ.2.2.2.1 _ xom).1.2⟩) (Or.inr ⟨xof, (hPQ.2.2.2.1 _ xof).1.2⟩) ?_)
                          rw [show kinO (kinX 68719476736 (cm 1)) (mot (cm 1) a) (fat (cm 1) a) = 1048576 * kinX 65536 (cm 1) (mot (cm 1) a) (fat (cm 1) a) by unfold kinO; rw [if_neg (by omega), kinX_sc hPQ xom xof]]
                          refine aK_i ?_
                          refine aw_ldc2 (x := 68719476736) dX7_inbred_58 q1926 (by decide) ?_
                          refine c_X7_354 rfl dX7_inbred_61 m_ob (Nat.le_of_ble_eq_true rfl) (by omega) (C_m_tellsBy (by omega) (by decide) ?_)
                          rw [(gq_sc hkb.1).1, (gq_sc hkb.1).2]
                          refine aK_i ?_
                          refine aw_zreturn dX7_inbred_64 rfl (by omega) ?_
                          first
                            | (exfalso; omega)
                            | (refine XR.sameE h ?_ ?_ ?_ ?_ ?_ ?_
                               · first
                                   | rfl
                                   | omega
                               · repeat (first | exact xs.rf | refine xs.up ?_ (by decide))
                               · repeat (first | exact mss.k10 n10 | exact mss.rf | refine mss.up0 ?_ (by decide))
                               · first
                                   | (simp [aup, hv2, hv3, hv4]; done)
                                   | (simp [aup, hv2, hv3, hv4]; omega)
                               · simp [aup, hv2, hv3, hv4]
                               · simp [aup, hv2, hv3, hv4])
                    · first
                        | (exfalso; omega)
                        | skip
                          refine aw_aload_n dX7_inbred_32 rfl ?_
                          refine aw_bipush dX7_inbred_33 (by decide) ?_
                          refine c_X7_79 rfl dX7_inbred_35 m_ob (Nat.le_of_ble_eq_true rfl) (by omega) (C_m_is (fun hz => ?_) (fun hz => ?_))
                          · first
                              | (exfalso; omega)
                              | skip
                                refine aK_i ?_
                                refine aw_zreturn dX7_inbred_38 rfl (by omega) ?_
                                first
                                  | (exfalso; omega)
                                  | (refine XR.sameE h ?_ ?_ ?_ ?_ ?_ ?_
                                     · first
                                         | rfl
                                         | omega
                                     · repeat (first | exact xs.rf | refine xs.up ?_ (by decide))
                                     · repeat (first | exact mss.k10 n10 | exact mss.rf | refine mss.up0 ?_ (by decide))
                                     · first
                                         | (simp [aup, hv2, hv3, hv4]; done)
                                         | (simp [aup, hv2, hv3, hv4]; omega)
                                     · simp [aup, hv2, hv3, hv4]
                                     · simp [aup, hv2, hv3, hv4])
                          · first
                              | (exfalso; omega)
                              | skip
                                refine aK_i ?_
                                refine aw_zreturn dX7_inbred_38 rfl (by omega) ?_
                                first
                                  | (exfalso; omega)
                                  | (refine XR.sameE h ?_ ?_ ?_ ?_ ?_ ?_
                                     · first
                                         | rfl
                                         | omega
                                     · repeat (first | exact xs.rf | refine xs.up ?_ (by decide))
                                     · repeat (first | exact mss.k10 n10 | exact mss.rf | refine mss.up0 ?_ (by decide))
                                     · first
                                         | (simp [aup, hv2, hv3, hv4]; done)
                                         | (simp [aup, hv2, hv3, hv4]; omega)
                                     · simp [aup, hv2, hv3, hv4]
                                     · simp [aup, hv2, hv3, hv4])
        · first
            | (exfalso; omega)
            | skip
              refine aK_i ?_
              refine aw_ifne (tgt := 14) dX7_inbred_5 (by decide) (fun h => absurd h (by decide)) (fun _ => ?_)
              refine aw_aload_n dX7_inbred_8 rfl ?_
              refine aw_iconst dX7_inbred_9 (by decide) ?_
              refine c_X7_79 rfl dX7_inbred_10 m_ob (Nat.le_of_ble_eq_true rfl) (by omega) (C_m_is (fun hz => ?_) (fun hz => ?_))
              · first
                  | (exfalso; omega)
                  | skip
                    refine aK_i ?_
                    refine aw_zreturn dX7_inbred_13 rfl (by omega) ?_
                    first
                      | (exfalso; omega)
                      | (refine XR.sameE h ?_ ?_ ?_ ?_ ?_ ?_
                         · first
                             | rfl
                             | omega
                         · repeat (first | exact xs.rf | refine xs.up ?_ (by decide))
                         · repeat (first | exact mss.k10 n10 | exact mss.rf | refine mss.up0 ?_ (by decide))
                         · first
                             | (simp [aup, hv2, hv3, hv4]; done)
                             | (simp [aup, hv2, hv3, hv4]; omega)
                         · simp [aup, hv2, hv3, hv4]
                         · simp [aup, hv2, hv3, hv4])
              · first
                  | (exfalso; omega)
                  | skip
                    refine aK_i ?_
                    refine aw_zreturn dX7_inbred_13 rfl (by omega) ?_
                    first
                      | (exfalso; omega)
                      | (refine XR.sameE h ?_ ?_ ?_ ?_ ?_ ?_
                         · first
                             | rfl
                             | omega
                         · repeat (first | exact xs.rf | refine xs.up ?_ (by decide))
                         · repeat (first | exact mss.k10 n10 | exact mss.rf | refine mss.up0 ?_ (by decide))
                         · first
                             | (simp [aup, hv2, hv3, hv4]; done)
                             | (simp [aup, hv2, hv3, hv4]; omega)
                         · simp [aup, hv2, hv3, hv4]
                         · simp [aup, hv2, hv3, hv4])
      · refine aw_bipush dX0_inbred_37 (by decide) ?_
        refine aw_goto (tgt := 43) dX0_inbred_39 (by decide) ?_
        refine p_X0_73_0 rfl dX0_inbred_43 hR.o0 ?_
        refine aw_aload_n dX0_inbred_46 rfl ?_
        refine g_X0_73_0 rfl dX0_inbred_47 hR.o0 ?_
        repeat (first | rw [aup_s] | rw [aup_n (by omega)])
        refine aw_ifne (tgt := 87) dX0_inbred_50 (by decide) (fun _ => ?_) (fun h => absurd h (by decide))
        refine aw_aload_n dX0_inbred_87 rfl ?_
        refine g_X0_73_0 rfl dX0_inbred_88 hR.o0 ?_
        repeat (first | rw [aup_s] | rw [aup_n (by omega)])
        refine aw_ifne (tgt := 98) dX0_inbred_91 (by decide) (fun _ => ?_) (fun h => absurd h (by decide))
        refine aw_iconst dX0_inbred_98 (by decide) ?_
        refine aw_zreturn dX0_inbred_99 rfl (Or.inl rfl) ?_
        refine ⟨_, rfl, ?_⟩
        refine AMet.go (L := [some (vR 0), some (vI a)]) mok_X7_inbred (Nat.le_of_ble_eq_true rfl) rfl ?_
        refine aw_aload_n dX7_inbred_0 rfl ?_
        refine aw_iload_n dX7_inbred_1 rfl ?_
        refine c_X7_277 rfl dX7_inbred_2 m_ob (Nat.le_of_ble_eq_true rfl) (by omega) (C_m_isQueen (fun hh => ?_) (fun hh => ?_))
        · first
            | (exfalso; omega)
            | skip
              refine aK_i ?_
              refine aw_ifne (tgt := 14) dX7_inbred_5 (by decide) (fun _ => ?_) (fun h => absurd h (by decide))
              refine aw_aload_n dX7_inbred_14 rfl ?_
              refine aw_iload_n dX7_inbred_15 rfl ?_
              refine c_X7_289 rfl dX7_inbred_16 m_ob (Nat.le_of_ble_eq_true rfl) (by omega) (C_m_mot (by omega) ?_)
              refine aK_i ?_
              refine aw_iconst dX7_inbred_19 (by decide) ?_
              refine aw_icmpeq (tgt := 32) dX7_inbred_20 (by decide) (fun h20 => ?_) (fun h20 => ?_)
              · first
                  | (exfalso; omega)
                  | skip
                    refine aw_aload_n dX7_inbred_32 rfl ?_
                    refine aw_bipush dX7_inbred_33 (by decide) ?_
                    refine c_X7_79 rfl dX7_inbred_35 m_ob (Nat.le_of_ble_eq_true rfl) (by omega) (C_m_is (fun hz => ?_) (fun hz => ?_))
                    · first
                        | (exfalso; omega)
                        | skip
                          refine aK_i ?_
                          refine aw_zreturn dX7_inbred_38 rfl (by omega) ?_
                          first
                            | (exfalso; omega)
                            | (refine XR.sameE h ?_ ?_ ?_ ?_ ?_ ?_
                               · first
                                   | rfl
                                   | omega
                               · repeat (first | exact xs.rf | refine xs.up ?_ (by decide))
                               · repeat (first | exact mss.k10 n10 | exact mss.rf | refine mss.up0 ?_ (by decide))
                               · first
                                   | (simp [aup, hv2, hv3, hv4]; done)
                                   | (simp [aup, hv2, hv3, hv4]; omega)
                               · simp [aup, hv2, hv3, hv4]
                               · simp [aup, hv2, hv3, hv4])
                    · first
                        | (exfalso; omega)
                        | skip
                          refine aK_i ?_
                          refine aw_zreturn dX7_inbred_38 rfl (by omega) ?_
                          first
                            | (exfalso; omega)
                            | (refine XR.sameE h ?_ ?_ ?_ ?_ ?_ ?_
                               · first
                                   | rfl
                                   | omega
                               · repeat (first | exact xs.rf | refine xs.up ?_ (by decide))
                               · repeat (first | exact mss.k10 n10 | exact mss.rf | refine mss.up0 ?_ (by decide))
                               · first
                                   | (simp [aup, hv2, hv3, hv4]; done)
                                   | (simp [aup, hv2, hv3, hv4]; omega)
                               · simp [aup, hv2, hv3, hv4]
                               · simp [aup, hv2, hv3, hv4])
              · first
                  | (exfalso; omega)
                  | skip
                    refine aw_aload_n dX7_inbred_23 rfl ?_
                    refine aw_iload_n dX7_inbred_24 rfl ?_
                    refine c_X7_292 rfl dX7_inbred_25 m_ob (Nat.le_of_ble_eq_true rfl) (by omega) (C_m_fat (by omega) (fun z => by omega) ?_)
                    refine aK_i ?_
                    refine aw_iconst dX7_inbred_28 (by decide) ?_
                    refine aw_icmpne (tgt := 39) dX7_inbred_29 (by decide) (fun h29 => ?_) (fun h29 => ?_)
                    · first
                        | (exfalso; omega)
                        | skip
                          refine aw_aload_n dX7_inbred_39 rfl ?_
                          refine c_X7_351 rfl dX7_inbred_40 m_ob (Nat.le_of_ble_eq_true rfl) (by omega) (C_m_laysKin hPQ (fun ck hK n10 => ?_))
                          have f0 : ∀ i, ck 0 i = cm 0 i := fun i => by rw [n10 0 (by decide)]
                          refine aK_v ?_
                          refine aw_aload_n dX7_inbred_43 rfl ?_
                          refine aw_aload_n dX7_inbred_44 rfl ?_
                          refine aw_aload_n dX7_inbred_45 rfl ?_
                          refine aw_iload_n dX7_inbred_46 rfl ?_
                          refine c_X7_289 rfl dX7_inbred_47 m_ob (Nat.le_of_ble_eq_true rfl) (by omega) (C_m_mot (by omega) ?_)
                          rw [n10 1 (by decide)]
                          refine aK_i ?_
                          refine aw_aload_n dX7_inbred_50 rfl ?_
                          refine aw_iload_n dX7_inbred_51 rfl ?_
                          refine c_X7_292 rfl dX7_inbred_52 m_ob (Nat.le_of_ble_eq_true rfl) (by omega) (C_m_fat (by omega) (fun z => by rw [n10 1 (by decide)]; omega) ?_)
                          rw [n10 1 (by decide)]
                          refine aK_i ?_
                          refine c_X7_343 rfl dX7_inbred_55 m_ob (Nat.le_of_ble_eq_true rfl) (by omega) (C_m_kinX hPQ hK (Or.inr ⟨xom, (hPQ.2.2.2.1 _ xom).1.2⟩) (Or.inr ⟨xof, (hPQ.2.2.2.1 _ xof).1.2⟩) ?_)
                          rw [show kinO (kinX 68719476736 (cm 1)) (mot (cm 1) a) (fat (cm 1) a) = 1048576 * kinX 65536 (cm 1) (mot (cm 1) a) (fat (cm 1) a) by unfold kinO; rw [if_neg (by omega), kinX_sc hPQ xom xof]]
                          refine aK_i ?_
                          refine aw_ldc2 (x := 68719476736) dX7_inbred_58 q1926 (by decide) ?_
                          refine c_X7_354 rfl dX7_inbred_61 m_ob (Nat.le_of_ble_eq_true rfl) (by omega) (C_m_tellsBy (by omega) (by decide) ?_)
                          rw [(gq_sc hkb.1).1, (gq_sc hkb.1).2]
                          refine aK_i ?_
                          refine aw_zreturn dX7_inbred_64 rfl (by omega) ?_
                          first
                            | (exfalso; omega)
                            | (refine XR.sameE h ?_ ?_ ?_ ?_ ?_ ?_
                               · first
                                   | rfl
                                   | omega
                               · repeat (first | exact xs.rf | refine xs.up ?_ (by decide))
                               · repeat (first | exact mss.k10 n10 | exact mss.rf | refine mss.up0 ?_ (by decide))
                               · first
                                   | (simp [aup, hv2, hv3, hv4]; done)
                                   | (simp [aup, hv2, hv3, hv4]; omega)
                               · simp [aup, hv2, hv3, hv4]
                               · simp [aup, hv2, hv3, hv4])
                    · first
                        | (exfalso; omega)
                        | skip
                          refine aw_aload_n dX7_inbred_32 rfl ?_
                          refine aw_bipush dX7_inbred_33 (by decide) ?_
                          refine c_X7_79 rfl dX7_inbred_35 m_ob (Nat.le_of_ble_eq_true rfl) (by omega) (C_m_is (fun hz => ?_) (fun hz => ?_))
                          · first
                              | (exfalso; omega)
                              | skip
                                refine aK_i ?_
                                refine aw_zreturn dX7_inbred_38 rfl (by omega) ?_
                                first
                                  | (exfalso; omega)
                                  | (refine XR.sameE h ?_ ?_ ?_ ?_ ?_ ?_
                                     · first
                                         | rfl
                                         | omega
                                     · repeat (first | exact xs.rf | refine xs.up ?_ (by decide))
                                     · repeat (first | exact mss.k10 n10 | exact mss.rf | refine mss.up0 ?_ (by decide))
                                     · first
                                         | (simp [aup, hv2, hv3, hv4]; done)
                                         | (simp [aup, hv2, hv3, hv4]; omega)
                                     · simp [aup, hv2, hv3, hv4]
                                     · simp [aup, hv2, hv3, hv4])
                          · first
                              | (exfalso; omega)
                              | skip
                                refine aK_i ?_
                                refine aw_zreturn dX7_inbred_38 rfl (by omega) ?_
                                first
                                  | (exfalso; omega)
                                  | (refine XR.sameE h ?_ ?_ ?_ ?_ ?_ ?_
                                     · first
                                         | rfl
                                         | omega
                                     · repeat (first | exact xs.rf | refine xs.up ?_ (by decide))
                                     · repeat (first | exact mss.k10 n10 | exact mss.rf | refine mss.up0 ?_ (by decide))
                                     · first
                                         | (simp [aup, hv2, hv3, hv4]; done)
                                         | (simp [aup, hv2, hv3, hv4]; omega)
                                     · simp [aup, hv2, hv3, hv4]
                                     · simp [aup, hv2, hv3, hv4])
        · first
            | (exfalso; omega)
            | skip
              refine aK_i ?_
              refine aw_ifne (tgt := 14) dX7_inbred_5 (by decide) (fun h => absurd h (by decide)) (fun _ => ?_)
              refine aw_aload_n dX7_inbred_8 rfl ?_
              refine aw_iconst dX7_inbred_9 (by decide) ?_
              refine c_X7_79 rfl dX7_inbred_10 m_ob (Nat.le_of_ble_eq_true rfl) (by omega) (C_m_is (fun hz => ?_) (fun hz => ?_))
              · first
                  | (exfalso; omega)
                  | skip
                    refine aK_i ?_
                    refine aw_zreturn dX7_inbred_13 rfl (by omega) ?_
                    first
                      | (exfalso; omega)
                      | (refine XR.sameE h ?_ ?_ ?_ ?_ ?_ ?_
                         · first
                             | rfl
                             | omega
                         · repeat (first | exact xs.rf | refine xs.up ?_ (by decide))
                         · repeat (first | exact mss.k10 n10 | exact mss.rf | refine mss.up0 ?_ (by decide))
                         · first
                             | (simp [aup, hv2, hv3, hv4]; done)
                             | (simp [aup, hv2, hv3, hv4]; omega)
                         · simp [aup, hv2, hv3, hv4]
                         · simp [aup, hv2, hv3, hv4])
              · first
                  | (exfalso; omega)
                  | skip
                    refine aK_i ?_
                    refine aw_zreturn dX7_inbred_13 rfl (by omega) ?_
                    first
                      | (exfalso; omega)
                      | (refine XR.sameE h ?_ ?_ ?_ ?_ ?_ ?_
                         · first
                             | rfl
                             | omega
                         · repeat (first | exact xs.rf | refine xs.up ?_ (by decide))
                         · repeat (first | exact mss.k10 n10 | exact mss.rf | refine mss.up0 ?_ (by decide))
                         · first
                             | (simp [aup, hv2, hv3, hv4]; done)
                             | (simp [aup, hv2, hv3, hv4]; omega)
                         · simp [aup, hv2, hv3, hv4]
                         · simp [aup, hv2, hv3, hv4])
  · refine aK_i ?_
    refine aw_ifne (tgt := 13) dX0_inbred_6 (by decide) (fun h => absurd h (by decide)) (fun _ => ?_)
    refine aw_iconst dX0_inbred_9 (by decide) ?_
    refine aw_goto (tgt := 43) dX0_inbred_10 (by decide) ?_
    refine p_X0_73_0 rfl dX0_inbred_43 hR.o0 ?_
    refine aw_aload_n dX0_inbred_46 rfl ?_
    refine g_X0_73_0 rfl dX0_inbred_47 hR.o0 ?_
    repeat (first | rw [aup_s] | rw [aup_n (by omega)])
    refine aw_ifne (tgt := 87) dX0_inbred_50 (by decide) (fun _ => ?_) (fun h => absurd h (by decide))
    refine aw_aload_n dX0_inbred_87 rfl ?_
    refine g_X0_73_0 rfl dX0_inbred_88 hR.o0 ?_
    repeat (first | rw [aup_s] | rw [aup_n (by omega)])
    refine aw_ifne (tgt := 98) dX0_inbred_91 (by decide) (fun _ => ?_) (fun h => absurd h (by decide))
    refine aw_iconst dX0_inbred_98 (by decide) ?_
    refine aw_zreturn dX0_inbred_99 rfl (Or.inl rfl) ?_
    refine ⟨_, rfl, ?_⟩
    refine AMet.go (L := [some (vR 0), some (vI a)]) mok_X7_inbred (Nat.le_of_ble_eq_true rfl) rfl ?_
    refine aw_aload_n dX7_inbred_0 rfl ?_
    refine aw_iload_n dX7_inbred_1 rfl ?_
    refine c_X7_277 rfl dX7_inbred_2 m_ob (Nat.le_of_ble_eq_true rfl) (by omega) (C_m_isQueen (fun hh => ?_) (fun hh => ?_))
    · first
        | (exfalso; omega)
        | skip
          refine aK_i ?_
          refine aw_ifne (tgt := 14) dX7_inbred_5 (by decide) (fun _ => ?_) (fun h => absurd h (by decide))
          refine aw_aload_n dX7_inbred_14 rfl ?_
          refine aw_iload_n dX7_inbred_15 rfl ?_
          refine c_X7_289 rfl dX7_inbred_16 m_ob (Nat.le_of_ble_eq_true rfl) (by omega) (C_m_mot (by omega) ?_)
          refine aK_i ?_
          refine aw_iconst dX7_inbred_19 (by decide) ?_
          refine aw_icmpeq (tgt := 32) dX7_inbred_20 (by decide) (fun h20 => ?_) (fun h20 => ?_)
          · first
              | (exfalso; omega)
              | skip
                refine aw_aload_n dX7_inbred_32 rfl ?_
                refine aw_bipush dX7_inbred_33 (by decide) ?_
                refine c_X7_79 rfl dX7_inbred_35 m_ob (Nat.le_of_ble_eq_true rfl) (by omega) (C_m_is (fun hz => ?_) (fun hz => ?_))
                · first
                    | (exfalso; omega)
                    | skip
                      refine aK_i ?_
                      refine aw_zreturn dX7_inbred_38 rfl (by omega) ?_
                      first
                        | (exfalso; omega)
                        | (refine XR.sameE h ?_ ?_ ?_ ?_ ?_ ?_
                           · first
                               | rfl
                               | omega
                           · repeat (first | exact xs.rf | refine xs.up ?_ (by decide))
                           · repeat (first | exact mss.k10 n10 | exact mss.rf | refine mss.up0 ?_ (by decide))
                           · first
                               | (simp [aup, hv2, hv3, hv4]; done)
                               | (simp [aup, hv2, hv3, hv4]; omega)
                           · simp [aup, hv2, hv3, hv4]
                           · simp [aup, hv2, hv3, hv4])
                · first
                    | (exfalso; omega)
                    | skip
                      refine aK_i ?_
                      refine aw_zreturn dX7_inbred_38 rfl (by omega) ?_
                      first
                        | (exfalso; omega)
                        | (refine XR.sameE h ?_ ?_ ?_ ?_ ?_ ?_
                           · first
                               | rfl
                               | omega
                           · repeat (first | exact xs.rf | refine xs.up ?_ (by decide))
                           · repeat (first | exact mss.k10 n10 | exact mss.rf | refine mss.up0 ?_ (by decide))
                           · first
                               | (simp [aup, hv2, hv3, hv4]; done)
                               | (simp [aup, hv2, hv3, hv4]; omega)
                           · simp [aup, hv2, hv3, hv4]
                           · simp [aup, hv2, hv3, hv4])
          · first
              | (exfalso; omega)
              | skip
                refine aw_aload_n dX7_inbred_23 rfl ?_
                refine aw_iload_n dX7_inbred_24 rfl ?_
                refine c_X7_292 rfl dX7_inbred_25 m_ob (Nat.le_of_ble_eq_true rfl) (by omega) (C_m_fat (by omega) (fun z => by omega) ?_)
                refine aK_i ?_
                refine aw_iconst dX7_inbred_28 (by decide) ?_
                refine aw_icmpne (tgt := 39) dX7_inbred_29 (by decide) (fun h29 => ?_) (fun h29 => ?_)
                · first
                    | (exfalso; omega)
                    | skip
                      refine aw_aload_n dX7_inbred_39 rfl ?_
                      refine c_X7_351 rfl dX7_inbred_40 m_ob (Nat.le_of_ble_eq_true rfl) (by omega) (C_m_laysKin hPQ (fun ck hK n10 => ?_))
                      have f0 : ∀ i, ck 0 i = cm 0 i := fun i => by rw [n10 0 (by decide)]
                      refine aK_v ?_
                      refine aw_aload_n dX7_inbred_43 rfl ?_
                      refine aw_aload_n dX7_inbred_44 rfl ?_
                      refine aw_aload_n dX7_inbred_45 rfl ?_
                      refine aw_iload_n dX7_inbred_46 rfl ?_
                      refine c_X7_289 rfl dX7_inbred_47 m_ob (Nat.le_of_ble_eq_true rfl) (by omega) (C_m_mot (by omega) ?_)
                      rw [n10 1 (by decide)]
                      refine aK_i ?_
                      refine aw_aload_n dX7_inbred_50 rfl ?_
                      refine aw_iload_n dX7_inbred_51 rfl ?_
                      refine c_X7_292 rfl dX7_inbred_52 m_ob (Nat.le_of_ble_eq_true rfl) (by omega) (C_m_fat (by omega) (fun z => by rw [n10 1 (by decide)]; omega) ?_)
                      rw [n10 1 (by decide)]
                      refine aK_i ?_
                      refine c_X7_343 rfl dX7_inbred_55 m_ob (Nat.le_of_ble_eq_true rfl) (by omega) (C_m_kinX hPQ hK (Or.inr ⟨xom, (hPQ.2.2.2.1 _ xom).1.2⟩) (Or.inr ⟨xof, (hPQ.2.2.2.1 _ xof).1.2⟩) ?_)
                      rw [show kinO (kinX 68719476736 (cm 1)) (mot (cm 1) a) (fat (cm 1) a) = 1048576 * kinX 65536 (cm 1) (mot (cm 1) a) (fat (cm 1) a) by unfold kinO; rw [if_neg (by omega), kinX_sc hPQ xom xof]]
                      refine aK_i ?_
                      refine aw_ldc2 (x := 68719476736) dX7_inbred_58 q1926 (by decide) ?_
                      refine c_X7_354 rfl dX7_inbred_61 m_ob (Nat.le_of_ble_eq_true rfl) (by omega) (C_m_tellsBy (by omega) (by decide) ?_)
                      rw [(gq_sc hkb.1).1, (gq_sc hkb.1).2]
                      refine aK_i ?_
                      refine aw_zreturn dX7_inbred_64 rfl (by omega) ?_
                      first
                        | (exfalso; omega)
                        | (refine XR.sameE h ?_ ?_ ?_ ?_ ?_ ?_
                           · first
                               | rfl
                               | omega
                           · repeat (first | exact xs.rf | refine xs.up ?_ (by decide))
                           · repeat (first | exact mss.k10 n10 | exact mss.rf | refine mss.up0 ?_ (by decide))
                           · first
                               | (simp [aup, hv2, hv3, hv4]; done)
                               | (simp [aup, hv2, hv3, hv4]; omega)
                           · simp [aup, hv2, hv3, hv4]
                           · simp [aup, hv2, hv3, hv4])
                · first
                    | (exfalso; omega)
                    | skip
                      refine aw_aload_n dX7_inbred_32 rfl ?_
                      refine aw_bipush dX7_inbred_33 (by decide) ?_
                      refine c_X7_79 rfl dX7_inbred_35 m_ob (Nat.le_of_ble_eq_true rfl) (by omega) (C_m_is (fun hz => ?_) (fun hz => ?_))
                      · first
                          | (exfalso; omega)
                          | skip
                            refine aK_i ?_
                            refine aw_zreturn dX7_inbred_38 rfl (by omega) ?_
                            first
                              | (exfalso; omega)
                              | (refine XR.sameE h ?_ ?_ ?_ ?_ ?_ ?_
                                 · first
                                     | rfl
                                     | omega
                                 · repeat (first | exact xs.rf | refine xs.up ?_ (by decide))
                                 · repeat (first | exact mss.k10 n10 | exact mss.rf | refine mss.up0 ?_ (by decide))
                                 · first
                                     | (simp [aup, hv2, hv3, hv4]; done)
                                     | (simp [aup, hv2, hv3, hv4]; omega)
                                 · simp [aup, hv2, hv3, hv4]
                                 · simp [aup, hv2, hv3, hv4])
                      · first
                          | (exfalso; omega)
                          | skip
                            refine aK_i ?_
                            refine aw_zreturn dX7_inbred_38 rfl (by omega) ?_
                            first
                              | (exfalso; omega)
                              | (refine XR.sameE h ?_ ?_ ?_ ?_ ?_ ?_
                                 · first
                                     | rfl
                                     | omega
                                 · repeat (first | exact xs.rf | refine xs.up ?_ (by decide))
                                 · repeat (first | exact mss.k10 n10 | exact mss.rf | refine mss.up0 ?_ (by decide))
                                 · first
                                     | (simp [aup, hv2, hv3, hv4]; done)
                                     | (simp [aup, hv2, hv3, hv4]; omega)
                                 · simp [aup, hv2, hv3, hv4]
                                 · simp [aup, hv2, hv3, hv4])
    · first
        | (exfalso; omega)
        | skip
          refine aK_i ?_
          refine aw_ifne (tgt := 14) dX7_inbred_5 (by decide) (fun h => absurd h (by decide)) (fun _ => ?_)
          refine aw_aload_n dX7_inbred_8 rfl ?_
          refine aw_iconst dX7_inbred_9 (by decide) ?_
          refine c_X7_79 rfl dX7_inbred_10 m_ob (Nat.le_of_ble_eq_true rfl) (by omega) (C_m_is (fun hz => ?_) (fun hz => ?_))
          · first
              | (exfalso; omega)
              | skip
                refine aK_i ?_
                refine aw_zreturn dX7_inbred_13 rfl (by omega) ?_
                first
                  | (exfalso; omega)
                  | (refine XR.sameE h ?_ ?_ ?_ ?_ ?_ ?_
                     · first
                         | rfl
                         | omega
                     · repeat (first | exact xs.rf | refine xs.up ?_ (by decide))
                     · repeat (first | exact mss.k10 n10 | exact mss.rf | refine mss.up0 ?_ (by decide))
                     · first
                         | (simp [aup, hv2, hv3, hv4]; done)
                         | (simp [aup, hv2, hv3, hv4]; omega)
                     · simp [aup, hv2, hv3, hv4]
                     · simp [aup, hv2, hv3, hv4])
          · first
              | (exfalso; omega)
              | skip
                refine aK_i ?_
                refine aw_zreturn dX7_inbred_13 rfl (by omega) ?_
                first
                  | (exfalso; omega)
                  | (refine XR.sameE h ?_ ?_ ?_ ?_ ?_ ?_
                     · first
                         | rfl
                         | omega
                     · repeat (first | exact xs.rf | refine xs.up ?_ (by decide))
                     · repeat (first | exact mss.k10 n10 | exact mss.rf | refine mss.up0 ?_ (by decide))
                     · first
                         | (simp [aup, hv2, hv3, hv4]; done)
                         | (simp [aup, hv2, hv3, hv4]; omega)
                     · simp [aup, hv2, hv3, hv4]
                     · simp [aup, hv2, hv3, hv4])
theorem L_x_sui {own : Int → Int} {sz : Int} {im : Int → aIm} {ct ct0 ct2 : Int → Int → Int} {a la dd : Int} {s N : Int → Int} {Q : aPost} {d kc ks : Nat} (hd : 36 ≤ d) (hR : RT own sz im ct0) (HY : YR own 0 sz im ct2 10 s dd N) (hl : ct 10 0 = la) (HL : LR own sz im ct la s N) (hp : PQ s) (ha : one s a) (K : ∀ k : Int, AW (mq Q) md_X0_suitor d kc ks 90 [some (vR 0), some (vI a), some (vI (suiF (kinX 65536 s) a (s 2 - 1).toNat)), some (vI k)] [] (sz, im, ct)) : ∀ (r j : Nat) (k : Int), (j : Int) + r = s 2 - 1 → k = 9 + j → AW (mq Q) md_X0_suitor d kc ks 47 [some (vR 0), some (vI a), some (vI (suiF (kinX 65536 s) a j)), some (vI k)] [] (sz, im, ct) := by
  have q8 := hp.1
  intro r
  induction r with
  | zero =>
    intro j k h1 h2
    have ej : (s 2 - 1).toNat = j := by omega
    rw [ej] at K
    refine aw_iload_n dX0_suitor_47 rfl ?_
    refine aw_bipush dX0_suitor_48 (by decide) ?_
    refine aw_aload_n dX0_suitor_50 rfl ?_
    refine c_X0_182 rfl dX0_suitor_51 hR.o0 (Nat.le_of_ble_eq_true rfl) (by omega) (C_x_lines hR HY ?_)
    rw [hl]
    refine aK_i ?_
    refine g_X0_238_6 rfl dX0_suitor_54 HL.1 ?_
    rw [HL.2.2.2.1.2]
    refine aw_iaddr dX0_suitor_57 (by omega) ?_
    refine aw_icmpge (tgt := 90) dX0_suitor_58 (by decide) (fun h58 => ?_) (fun h58 => ?_)
    · exact K _
    · exfalso; omega
  | succ r ih =>
    intro j k h1 h2
    have hb := suiF_bd (g := kinX 65536 s) (q := a) (k := j)
    have o1 : one s k := Or.inr ⟨by omega, by omega⟩
    have o2 : one s (suiF (kinX 65536 s) a j) := Or.inr ⟨by omega, by omega⟩
    have es : suiF (kinX 65536 s) a (j + 1) = if kinX 65536 s a (9 + j) < kinX 65536 s a (suiF (kinX 65536 s) a j) then 9 + (j : Int) else suiF (kinX 65536 s) a j := rfl
    subst h2
    have ih := ih (j + 1) (9 + j + 1) (by omega) (by omega)
    refine aw_iload_n dX0_suitor_47 rfl ?_
    refine aw_bipush dX0_suitor_48 (by decide) ?_
    refine aw_aload_n dX0_suitor_50 rfl ?_
    refine c_X0_182 rfl dX0_suitor_51 hR.o0 (Nat.le_of_ble_eq_true rfl) (by omega) (C_x_lines hR HY ?_)
    rw [hl]
    refine aK_i ?_
    refine g_X0_238_6 rfl dX0_suitor_54 HL.1 ?_
    rw [HL.2.2.2.1.2]
    refine aw_iaddr dX0_suitor_57 (by omega) ?_
    refine aw_icmpge (tgt := 90) dX0_suitor_58 (by decide) (fun h58 => ?_) (fun h58 => ?_)
    · exfalso; omega
    · refine aw_aload_n dX0_suitor_61 rfl ?_
      refine c_X0_182 rfl dX0_suitor_62 hR.o0 (Nat.le_of_ble_eq_true rfl) (by omega) (C_x_lines hR HY ?_)
      rw [hl]
      refine aK_i ?_
      refine aw_iload_n dX0_suitor_65 rfl ?_
      refine aw_iload_n dX0_suitor_66 rfl ?_
      refine c_X0_373 rfl dX0_suitor_67 HL.1 (Nat.le_of_ble_eq_true rfl) (by omega) (C_x_kin17 HL hp ha o1 ?_)
      refine aK_i ?_
      refine aw_aload_n dX0_suitor_70 rfl ?_
      refine c_X0_182 rfl dX0_suitor_71 hR.o0 (Nat.le_of_ble_eq_true rfl) (by omega) (C_x_lines hR HY ?_)
      rw [hl]
      refine aK_i ?_
      refine aw_iload_n dX0_suitor_74 rfl ?_
      refine aw_iload_n dX0_suitor_75 rfl ?_
      refine c_X0_373 rfl dX0_suitor_76 HL.1 (Nat.le_of_ble_eq_true rfl) (by omega) (C_x_kin17 HL hp ha o2 ?_)
      refine aK_i ?_
      refine aw_icmpge (tgt := 84) dX0_suitor_79 (by decide) (fun h79 => ?_) (fun h79 => ?_)
      · refine aw_iinc3r dX0_suitor_84 (by decide) (by decide) rfl (by omega) ?_
        refine aw_goto (tgt := 47) dX0_suitor_87 (by decide) ?_
        first
          | (rw [es, if_pos (by omega)] at ih; exact ih)
          | (rw [es, if_neg (by omega)] at ih; exact ih)
      · refine aw_iload_n dX0_suitor_82 rfl ?_
        refine aw_istore2 dX0_suitor_83 (by decide) rfl ?_
        refine aw_iinc3r dX0_suitor_84 (by decide) (by decide) rfl (by omega) ?_
        refine aw_goto (tgt := 47) dX0_suitor_87 (by decide) ?_
        first
          | (rw [es, if_pos (by omega)] at ih; exact ih)
          | (rw [es, if_neg (by omega)] at ih; exact ih)
theorem L_m_sui {ct ck : Int → Int → Int} {a : Int} {Q : aPost} {d kc ks : Nat} (hd : 2 ≤ d) (hp : PQ (ct 1)) (hK : KT (ct 1) (ct 1 13) (ck 10)) (e1 : ck 1 = ct 1) (ha : one (ct 1) a) (K : ∀ k : Int, AW (mq Q) md_X7_suitor d kc ks 77 [some (vR 0), some (vI a), some (vI (suiF (kinX 68719476736 (ct 1)) a (ct 1 2 - 1).toNat)), some (vI k)] [] (gM ck)) : ∀ (r j : Nat) (k : Int), (j : Int) + r = ct 1 2 - 1 → k = 9 + j → AW (mq Q) md_X7_suitor d kc ks 40 [some (vR 0), some (vI a), some (vI (suiF (kinX 68719476736 (ct 1)) a j)), some (vI k)] [] (gM ck) := by
  have q8 := hp.1
  intro r
  induction r with
  | zero =>
    intro j k h1 h2
    have ej : (ct 1 2 - 1).toNat = j := by omega
    rw [ej] at K
    refine aw_iload_n dX7_suitor_40 rfl ?_
    refine aw_bipush dX7_suitor_41 (by decide) ?_
    refine gm_7 rfl dX7_suitor_43 dX7_suitor_44 rfl ?_
    refine aw_iconst dX7_suitor_47 (by decide) ?_
    refine aw_iaload dX7_suitor_48 m_a1 (by omega) (by omega) ?_
    rw [e1]
    refine aw_iaddr dX7_suitor_49 (by omega) ?_
    refine aw_icmpge (tgt := 77) dX7_suitor_50 (by decide) (fun h50 => ?_) (fun h50 => ?_)
    · exact K _
    · exfalso; omega
  | succ r ih =>
    intro j k h1 h2
    have hb := suiF_bd (g := kinX 68719476736 (ct 1)) (q := a) (k := j)
    have o1 : one (ct 1) k := Or.inr ⟨by omega, by omega⟩
    have o2 : one (ct 1) (suiF (kinX 68719476736 (ct 1)) a j) := Or.inr ⟨by omega, by omega⟩
    have na := one_nn ha
    have es : suiF (kinX 68719476736 (ct 1)) a (j + 1) = if kinX 68719476736 (ct 1) a (9 + j) < kinX 68719476736 (ct 1) a (suiF (kinX 68719476736 (ct 1)) a j) then 9 + (j : Int) else suiF (kinX 68719476736 (ct 1)) a j := rfl
    subst h2
    have ih := ih (j + 1) (9 + j + 1) (by omega) (by omega)
    refine aw_iload_n dX7_suitor_40 rfl ?_
    refine aw_bipush dX7_suitor_41 (by decide) ?_
    refine gm_7 rfl dX7_suitor_43 dX7_suitor_44 rfl ?_
    refine aw_iconst dX7_suitor_47 (by decide) ?_
    refine aw_iaload dX7_suitor_48 m_a1 (by omega) (by omega) ?_
    rw [e1]
    refine aw_iaddr dX7_suitor_49 (by omega) ?_
    refine aw_icmpge (tgt := 77) dX7_suitor_50 (by decide) (fun h50 => ?_) (fun h50 => ?_)
    · exfalso; omega
    · refine aw_aload_n dX7_suitor_53 rfl ?_
      refine aw_iload_n dX7_suitor_54 rfl ?_
      refine aw_iload_n dX7_suitor_55 rfl ?_
      refine c_X7_343 rfl dX7_suitor_56 m_ob (Nat.le_of_ble_eq_true rfl) (by omega) (C_m_kinX hp hK (Or.inr ⟨ha, (hp.2.2.2.1 _ ha).1.2⟩) (Or.inr ⟨o1, (hp.2.2.2.1 _ o1).1.2⟩) ?_)
      rw [show kinO (kinX 68719476736 (ct 1)) a (9 + (j : Int)) = kinX 68719476736 (ct 1) a (9 + j) from if_neg (by omega)]
      refine aK_i ?_
      refine aw_aload_n dX7_suitor_59 rfl ?_
      refine aw_iload_n dX7_suitor_60 rfl ?_
      refine aw_iload_n dX7_suitor_61 rfl ?_
      refine c_X7_343 rfl dX7_suitor_62 m_ob (Nat.le_of_ble_eq_true rfl) (by omega) (C_m_kinX hp hK (Or.inr ⟨ha, (hp.2.2.2.1 _ ha).1.2⟩) (Or.inr ⟨o2, (hp.2.2.2.1 _ o2).1.2⟩) ?_)
      rw [show kinO (kinX 68719476736 (ct 1)) a (suiF (kinX 68719476736 (ct 1)) a j) = kinX 68719476736 (ct 1) a (suiF (kinX 68719476736 (ct 1)) a j) from if_neg (by omega)]
      refine aK_i ?_
      refine aw_lcmpge (tgt := 71) dX7_suitor_65 dX7_suitor_66 (by decide) (fun h65 => ?_) (fun h65 => ?_)
      · refine aw_iinc3r dX7_suitor_71 (by decide) (by decide) rfl (by omega) ?_
        refine aw_goto (tgt := 40) dX7_suitor_74 (by decide) ?_
        first
          | (rw [es, if_pos (by omega)] at ih; exact ih)
          | (rw [es, if_neg (by omega)] at ih; exact ih)
      · refine aw_iload_n dX7_suitor_69 rfl ?_
        refine aw_istore2 dX7_suitor_70 (by decide) rfl ?_
        refine aw_iinc3r dX7_suitor_71 (by decide) (by decide) rfl (by omega) ?_
        refine aw_goto (tgt := 40) dX7_suitor_74 (by decide) ?_
        first
          | (rw [es, if_pos (by omega)] at ih; exact ih)
          | (rw [es, if_neg (by omega)] at ih; exact ih)
theorem OP_suitor {sz : Int} {im : Int → aIm} {ct cm : Int → Int → Int} (h : XR (sz, im, ct) cm) {a : Int} (r0 : -2147483648 ≤ a ∧ a < 2147483648)  : AMet md_X0_suitor 37 0 0 [vR 0, vI a] (sz, im, ct) (XQ md_X7_suitor 6 [vR 0, vI a] cm) := by
  obtain ⟨own, N, hR, HY, HL, HN, HS, HP, HF, HX, hv2, hv3, hv4⟩ := id h
  dsimp only at hR HY HL HS HX hv2 hv3 hv4
  have hp0 := HP.1
  have hp3 := HP.2.1
  have hpq := HP.2.2.2.1.1
  have hps := HP.2.2.2.2.2
  have hlt : ct 10 0 ≠ 0 := fun e => by have q1 := HL.2.2.1.1; rw [e] at q1; have q2 := hR.1.2; omega
  have hPQ := HP.2.2.2.1
  have HL1 := HL.up0 (j := 7) (v := 0) hR.1.2
  refine AMet.go (L := [some (vR 0), some (vI a), none, none]) mok_X0_suitor (Nat.le_of_ble_eq_true rfl) rfl ?_
  refine aw_aload_n dX0_suitor_0 rfl ?_
  refine aw_aload_n dX0_suitor_1 rfl ?_
  refine aw_iload_n dX0_suitor_2 rfl ?_
  refine c_X0_357 rfl dX0_suitor_3 hR.o0 (Nat.le_of_ble_eq_true rfl) (by omega) (C_x_isQueen hR HY HL (fun xq => ?_) (fun xq => ?_))
  · have xoa : one (cm 1) a := Or.inl xq
    refine aK_i ?_
    refine aw_ifne (tgt := 13) dX0_suitor_6 (by decide) (fun _ => ?_) (fun h => absurd h (by decide))
    refine aw_aload_n dX0_suitor_13 rfl ?_
    refine c_X0_182 rfl dX0_suitor_14 hR.o0 (Nat.le_of_ble_eq_true rfl) (by omega) (C_x_lines hR HY ?_)
    repeat (first | rw [aup_s] | rw [aup_n (by omega)])
    refine aK_i ?_
    refine g_X0_238_6 rfl dX0_suitor_17 HL.1 ?_
    rw [HL.2.2.2.1.2]
    refine aw_ifne (tgt := 28) dX0_suitor_20 (by decide) (fun h20 => ?_) (fun h20 => ?_)
    · refine aw_iconst dX0_suitor_28 (by decide) ?_
      refine p_X0_73_0 rfl dX0_suitor_29 hR.o0 ?_
      refine aw_aload_n dX0_suitor_32 rfl ?_
      refine g_X0_73_0 rfl dX0_suitor_33 hR.o0 ?_
      repeat (first | rw [aup_s] | rw [aup_n (by omega)])
      refine aw_ifle (tgt := 41) dX0_suitor_36 (by decide) (fun _ => ?_) (fun h => absurd h (by decide))
      refine aw_bipush dX0_suitor_41 (by decide) ?_
      refine aw_istore2 dX0_suitor_43 (by decide) rfl ?_
      refine aw_bipush dX0_suitor_44 (by decide) ?_
      refine aw_istore3 dX0_suitor_46 (by decide) rfl ?_
      have sb := suiF_bd (g := kinX 65536 (cm 1)) (q := a) (k := (cm 1 2 - 1).toNat)
      have xob : one (cm 1) (suiF (kinX 65536 (cm 1)) a (cm 1 2 - 1).toNat) := Or.inr ⟨by omega, by omega⟩
      refine L_x_sui (by omega) (hR.up0 (j := 7) (v := 0)) (HY.up0 (j := 7) (v := 0) hR.1.2 (by decide)) (aup_n (by omega)) HL1 hPQ xoa (fun k => ?_) (cm 1 2 - 1).toNat 0 9 (by omega) (by omega)
      refine aw_aload_n dX0_suitor_90 rfl ?_
      refine aw_aload_n dX0_suitor_91 rfl ?_
      refine c_X0_182 rfl dX0_suitor_92 hR.o0 (Nat.le_of_ble_eq_true rfl) (by omega) (C_x_lines hR HY ?_)
      repeat (first | rw [aup_s] | rw [aup_n (by omega)])
      refine aK_i ?_
      refine aw_iload_n dX0_suitor_95 rfl ?_
      refine aw_iload_n dX0_suitor_96 rfl ?_
      refine c_X0_373 rfl dX0_suitor_97 HL.1 (Nat.le_of_ble_eq_true rfl) (by omega) (C_x_kin17 HL1 hPQ xoa xob ?_)
      have hkb := kinX_bd (W := 65536) (s := cm 1) (a := a) (b := (suiF (kinX 65536 (cm 1)) a (cm 1 2 - 1).toNat)) (by decide)
      refine aK_i ?_
      refine aw_i2l dX0_suitor_100 ?_
      refine aw_ldc2 (x := 65536) dX0_suitor_101 q1194 (by decide) ?_
      refine c_X0_378 rfl dX0_suitor_104 hR.o0 (Nat.le_of_ble_eq_true rfl) (by omega) (C_x_fraction hR (by omega) (by decide) (fun v9 => ?_))
      refine aK_i ?_
      refine aw_pop dX0_suitor_107 rfl ?_
      refine aw_iload_n dX0_suitor_108 rfl ?_
      refine aw_ireturn dX0_suitor_109 rfl ?_
      refine ⟨_, rfl, ?_⟩
      refine AMet.go (L := [some (vR 0), some (vI a), none, none]) mok_X7_suitor (Nat.le_of_ble_eq_true rfl) rfl ?_
      refine aw_aload_n dX7_suitor_0 rfl ?_
      refine aw_iload_n dX7_suitor_1 rfl ?_
      refine c_X7_277 rfl dX7_suitor_2 m_ob (Nat.le_of_ble_eq_true rfl) (by omega) (C_m_isQueen (fun hh => ?_) (fun hh => ?_))
      · first
          | (exfalso; omega)
          | skip
            refine aK_i ?_
            refine aw_ifne (tgt := 14) dX7_suitor_5 (by decide) (fun _ => ?_) (fun h => absurd h (by decide))
            refine gm_7 rfl dX7_suitor_14 dX7_suitor_15 rfl ?_
            refine aw_iconst dX7_suitor_18 (by decide) ?_
            refine aw_iaload dX7_suitor_19 m_a1 (by omega) (by omega) ?_
            refine aw_ifne (tgt := 30) dX7_suitor_20 (by decide) (fun h20 => ?_) (fun h20 => ?_)
            · first
                | (exfalso; omega)
                | skip
                  refine aw_aload_n dX7_suitor_30 rfl ?_
                  refine c_X7_351 rfl dX7_suitor_31 m_ob (Nat.le_of_ble_eq_true rfl) (by omega) (C_m_laysKin hPQ (fun ck hK n10 => ?_))
                  have f0 : ∀ i, ck 0 i = cm 0 i := fun i => by rw [n10 0 (by decide)]
                  refine aK_v ?_
                  refine aw_bipush dX7_suitor_34 (by decide) ?_
                  refine aw_istore2 dX7_suitor_36 (by decide) rfl ?_
                  refine aw_bipush dX7_suitor_37 (by decide) ?_
                  refine aw_istore3 dX7_suitor_39 (by decide) rfl ?_
                  have e1 : ck 1 = cm 1 := n10 1 (by decide)
                  refine L_m_sui (by omega) hPQ hK e1 xoa (fun k => ?_) (cm 1 2 - 1).toNat 0 9 (by omega) (by omega)
                  rw [suiF_sc hPQ xoa (by omega)]
                  refine aw_aload_n dX7_suitor_77 rfl ?_
                  refine aw_aload_n dX7_suitor_78 rfl ?_
                  refine aw_iload_n dX7_suitor_79 rfl ?_
                  refine aw_iload_n dX7_suitor_80 rfl ?_
                  refine c_X7_343 rfl dX7_suitor_81 m_ob (Nat.le_of_ble_eq_true rfl) (by omega) (C_m_kinX hPQ hK (Or.inr ⟨xoa, (hPQ.2.2.2.1 _ xoa).1.2⟩) (Or.inr ⟨xob, (hPQ.2.2.2.1 _ xob).1.2⟩) ?_)
                  rw [show kinO (kinX 68719476736 (cm 1)) a (suiF (kinX 65536 (cm 1)) a (cm 1 2 - 1).toNat) = 1048576 * kinX 65536 (cm 1) a (suiF (kinX 65536 (cm 1)) a (cm 1 2 - 1).toNat) by unfold kinO; rw [if_neg (by omega), kinX_sc hPQ xoa xob]]
                  refine aK_i ?_
                  refine aw_ldc2 (x := 68719476736) dX7_suitor_84 q1926 (by decide) ?_
                  refine c_X7_354 rfl dX7_suitor_87 m_ob (Nat.le_of_ble_eq_true rfl) (by omega) (C_m_tellsBy (by omega) (by decide) ?_)
                  rw [(gq_sc hkb.1).1, (gq_sc hkb.1).2]
                  refine aK_i ?_
                  refine aw_ifeq (tgt := 101) dX7_suitor_90 (by decide) (fun h90 => ?_) (fun h90 => ?_)
                  · first
                      | (exfalso; omega)
                      | skip
                        refine aw_iconst dX7_suitor_101 (by decide) ?_
                        refine aw_ireturn dX7_suitor_102 rfl ?_
                        first
                          | (exfalso; omega)
                          | (refine XR.sameE h ?_ ?_ ?_ ?_ ?_ ?_
                             · first
                                 | rfl
                                 | omega
                             · repeat (first | exact xs.rf | refine xs.up ?_ (by decide))
                             · repeat (first | exact mss.k10 n10 | exact mss.rf | refine mss.up0 ?_ (by decide))
                             · first
                                 | (simp [aup, hv2, hv3, hv4]; done)
                                 | (simp [aup, hv2, hv3, hv4]; omega)
                             · simp [aup, hv2, hv3, hv4]
                             · simp [aup, hv2, hv3, hv4])
                  · first
                      | (exfalso; omega)
                      | skip
                        refine aw_aload_n dX7_suitor_93 rfl ?_
                        refine aw_iload_n dX7_suitor_94 rfl ?_
                        refine c_X7_76 rfl dX7_suitor_95 m_ob (Nat.le_of_ble_eq_true rfl) (by omega) (C_m_gives ?_)
                        refine aK_i ?_
                        refine aw_goto (tgt := 102) dX7_suitor_98 (by decide) ?_
                        refine aw_ireturn dX7_suitor_102 rfl ?_
                        first
                          | (exfalso; omega)
                          | (refine XR.sameE h ?_ ?_ ?_ ?_ ?_ ?_
                             · first
                                 | rfl
                                 | omega
                             · repeat (first | exact xs.rf | refine xs.up ?_ (by decide))
                             · repeat (first | exact mss.k10 n10 | exact mss.rf | refine mss.up0 ?_ (by decide))
                             · first
                                 | (simp [aup, hv2, hv3, hv4]; done)
                                 | (simp [aup, hv2, hv3, hv4]; omega)
                             · simp [aup, hv2, hv3, hv4]
                             · simp [aup, hv2, hv3, hv4])
            · first
                | (exfalso; omega)
                | skip
                  refine aw_aload_n dX7_suitor_23 rfl ?_
                  refine aw_bipush dX7_suitor_24 (by decide) ?_
                  refine c_X7_72 rfl dX7_suitor_26 m_ob (Nat.le_of_ble_eq_true rfl) (by omega) (C_m_refuse ?_)
                  refine aK_i ?_
                  refine aw_ireturn dX7_suitor_29 rfl ?_
                  first
                    | (exfalso; omega)
                    | (refine XR.sameE h ?_ ?_ ?_ ?_ ?_ ?_
                       · first
                           | rfl
                           | omega
                       · repeat (first | exact xs.rf | refine xs.up ?_ (by decide))
                       · repeat (first | exact mss.k10 n10 | exact mss.rf | refine mss.up0 ?_ (by decide))
                       · first
                           | (simp [aup, hv2, hv3, hv4]; done)
                           | (simp [aup, hv2, hv3, hv4]; omega)
                       · simp [aup, hv2, hv3, hv4]
                       · simp [aup, hv2, hv3, hv4])
      · first
          | (exfalso; omega)
          | skip
            refine aK_i ?_
            refine aw_ifne (tgt := 14) dX7_suitor_5 (by decide) (fun h => absurd h (by decide)) (fun _ => ?_)
            refine aw_aload_n dX7_suitor_8 rfl ?_
            refine aw_iconst dX7_suitor_9 (by decide) ?_
            refine c_X7_72 rfl dX7_suitor_10 m_ob (Nat.le_of_ble_eq_true rfl) (by omega) (C_m_refuse ?_)
            refine aK_i ?_
            refine aw_ireturn dX7_suitor_13 rfl ?_
            first
              | (exfalso; omega)
              | (refine XR.sameE h ?_ ?_ ?_ ?_ ?_ ?_
                 · first
                     | rfl
                     | omega
                 · repeat (first | exact xs.rf | refine xs.up ?_ (by decide))
                 · repeat (first | exact mss.k10 n10 | exact mss.rf | refine mss.up0 ?_ (by decide))
                 · first
                     | (simp [aup, hv2, hv3, hv4]; done)
                     | (simp [aup, hv2, hv3, hv4]; omega)
                 · simp [aup, hv2, hv3, hv4]
                 · simp [aup, hv2, hv3, hv4])
    · refine aw_bipush dX0_suitor_23 (by decide) ?_
      refine aw_goto (tgt := 29) dX0_suitor_25 (by decide) ?_
      refine p_X0_73_0 rfl dX0_suitor_29 hR.o0 ?_
      refine aw_aload_n dX0_suitor_32 rfl ?_
      refine g_X0_73_0 rfl dX0_suitor_33 hR.o0 ?_
      repeat (first | rw [aup_s] | rw [aup_n (by omega)])
      refine aw_ifle (tgt := 41) dX0_suitor_36 (by decide) (fun h => absurd h (by decide)) (fun _ => ?_)
      refine aw_iconst dX0_suitor_39 (by decide) ?_
      refine aw_ireturn dX0_suitor_40 rfl ?_
      refine ⟨_, rfl, ?_⟩
      refine AMet.go (L := [some (vR 0), some (vI a), none, none]) mok_X7_suitor (Nat.le_of_ble_eq_true rfl) rfl ?_
      refine aw_aload_n dX7_suitor_0 rfl ?_
      refine aw_iload_n dX7_suitor_1 rfl ?_
      refine c_X7_277 rfl dX7_suitor_2 m_ob (Nat.le_of_ble_eq_true rfl) (by omega) (C_m_isQueen (fun hh => ?_) (fun hh => ?_))
      · first
          | (exfalso; omega)
          | skip
            refine aK_i ?_
            refine aw_ifne (tgt := 14) dX7_suitor_5 (by decide) (fun _ => ?_) (fun h => absurd h (by decide))
            refine gm_7 rfl dX7_suitor_14 dX7_suitor_15 rfl ?_
            refine aw_iconst dX7_suitor_18 (by decide) ?_
            refine aw_iaload dX7_suitor_19 m_a1 (by omega) (by omega) ?_
            refine aw_ifne (tgt := 30) dX7_suitor_20 (by decide) (fun h20 => ?_) (fun h20 => ?_)
            · first
                | (exfalso; omega)
                | skip
                  refine aw_aload_n dX7_suitor_30 rfl ?_
                  refine c_X7_351 rfl dX7_suitor_31 m_ob (Nat.le_of_ble_eq_true rfl) (by omega) (C_m_laysKin hPQ (fun ck hK n10 => ?_))
                  have f0 : ∀ i, ck 0 i = cm 0 i := fun i => by rw [n10 0 (by decide)]
                  refine aK_v ?_
                  refine aw_bipush dX7_suitor_34 (by decide) ?_
                  refine aw_istore2 dX7_suitor_36 (by decide) rfl ?_
                  refine aw_bipush dX7_suitor_37 (by decide) ?_
                  refine aw_istore3 dX7_suitor_39 (by decide) rfl ?_
                  have e1 : ck 1 = cm 1 := n10 1 (by decide)
                  refine L_m_sui (by omega) hPQ hK e1 xoa (fun k => ?_) (cm 1 2 - 1).toNat 0 9 (by omega) (by omega)
                  rw [suiF_sc hPQ xoa (by omega)]
                  refine aw_aload_n dX7_suitor_77 rfl ?_
                  refine aw_aload_n dX7_suitor_78 rfl ?_
                  refine aw_iload_n dX7_suitor_79 rfl ?_
                  refine aw_iload_n dX7_suitor_80 rfl ?_
                  refine c_X7_343 rfl dX7_suitor_81 m_ob (Nat.le_of_ble_eq_true rfl) (by omega) (C_m_kinX hPQ hK (Or.inr ⟨xoa, (hPQ.2.2.2.1 _ xoa).1.2⟩) (Or.inr ⟨xob, (hPQ.2.2.2.1 _ xob).1.2⟩) ?_)
                  rw [show kinO (kinX 68719476736 (cm 1)) a (suiF (kinX 65536 (cm 1)) a (cm 1 2 - 1).toNat) = 1048576 * kinX 65536 (cm 1) a (suiF (kinX 65536 (cm 1)) a (cm 1 2 - 1).toNat) by unfold kinO; rw [if_neg (by omega), kinX_sc hPQ xoa xob]]
                  refine aK_i ?_
                  refine aw_ldc2 (x := 68719476736) dX7_suitor_84 q1926 (by decide) ?_
                  refine c_X7_354 rfl dX7_suitor_87 m_ob (Nat.le_of_ble_eq_true rfl) (by omega) (C_m_tellsBy (by omega) (by decide) ?_)
                  rw [(gq_sc hkb.1).1, (gq_sc hkb.1).2]
                  refine aK_i ?_
                  refine aw_ifeq (tgt := 101) dX7_suitor_90 (by decide) (fun h90 => ?_) (fun h90 => ?_)
                  · first
                      | (exfalso; omega)
                      | skip
                        refine aw_iconst dX7_suitor_101 (by decide) ?_
                        refine aw_ireturn dX7_suitor_102 rfl ?_
                        first
                          | (exfalso; omega)
                          | (refine XR.sameE h ?_ ?_ ?_ ?_ ?_ ?_
                             · first
                                 | rfl
                                 | omega
                             · repeat (first | exact xs.rf | refine xs.up ?_ (by decide))
                             · repeat (first | exact mss.k10 n10 | exact mss.rf | refine mss.up0 ?_ (by decide))
                             · first
                                 | (simp [aup, hv2, hv3, hv4]; done)
                                 | (simp [aup, hv2, hv3, hv4]; omega)
                             · simp [aup, hv2, hv3, hv4]
                             · simp [aup, hv2, hv3, hv4])
                  · first
                      | (exfalso; omega)
                      | skip
                        refine aw_aload_n dX7_suitor_93 rfl ?_
                        refine aw_iload_n dX7_suitor_94 rfl ?_
                        refine c_X7_76 rfl dX7_suitor_95 m_ob (Nat.le_of_ble_eq_true rfl) (by omega) (C_m_gives ?_)
                        refine aK_i ?_
                        refine aw_goto (tgt := 102) dX7_suitor_98 (by decide) ?_
                        refine aw_ireturn dX7_suitor_102 rfl ?_
                        first
                          | (exfalso; omega)
                          | (refine XR.sameE h ?_ ?_ ?_ ?_ ?_ ?_
                             · first
                                 | rfl
                                 | omega
                             · repeat (first | exact xs.rf | refine xs.up ?_ (by decide))
                             · repeat (first | exact mss.k10 n10 | exact mss.rf | refine mss.up0 ?_ (by decide))
                             · first
                                 | (simp [aup, hv2, hv3, hv4]; done)
                                 | (simp [aup, hv2, hv3, hv4]; omega)
                             · simp [aup, hv2, hv3, hv4]
                             · simp [aup, hv2, hv3, hv4])
            · first
                | (exfalso; omega)
                | skip
                  refine aw_aload_n dX7_suitor_23 rfl ?_
                  refine aw_bipush dX7_suitor_24 (by decide) ?_
                  refine c_X7_72 rfl dX7_suitor_26 m_ob (Nat.le_of_ble_eq_true rfl) (by omega) (C_m_refuse ?_)
                  refine aK_i ?_
                  refine aw_ireturn dX7_suitor_29 rfl ?_
                  first
                    | (exfalso; omega)
                    | (refine XR.sameE h ?_ ?_ ?_ ?_ ?_ ?_
                       · first
                           | rfl
                           | omega
                       · repeat (first | exact xs.rf | refine xs.up ?_ (by decide))
                       · repeat (first | exact mss.k10 n10 | exact mss.rf | refine mss.up0 ?_ (by decide))
                       · first
                           | (simp [aup, hv2, hv3, hv4]; done)
                           | (simp [aup, hv2, hv3, hv4]; omega)
                       · simp [aup, hv2, hv3, hv4]
                       · simp [aup, hv2, hv3, hv4])
      · first
          | (exfalso; omega)
          | skip
            refine aK_i ?_
            refine aw_ifne (tgt := 14) dX7_suitor_5 (by decide) (fun h => absurd h (by decide)) (fun _ => ?_)
            refine aw_aload_n dX7_suitor_8 rfl ?_
            refine aw_iconst dX7_suitor_9 (by decide) ?_
            refine c_X7_72 rfl dX7_suitor_10 m_ob (Nat.le_of_ble_eq_true rfl) (by omega) (C_m_refuse ?_)
            refine aK_i ?_
            refine aw_ireturn dX7_suitor_13 rfl ?_
            first
              | (exfalso; omega)
              | (refine XR.sameE h ?_ ?_ ?_ ?_ ?_ ?_
                 · first
                     | rfl
                     | omega
                 · repeat (first | exact xs.rf | refine xs.up ?_ (by decide))
                 · repeat (first | exact mss.k10 n10 | exact mss.rf | refine mss.up0 ?_ (by decide))
                 · first
                     | (simp [aup, hv2, hv3, hv4]; done)
                     | (simp [aup, hv2, hv3, hv4]; omega)
                 · simp [aup, hv2, hv3, hv4]
                 · simp [aup, hv2, hv3, hv4])
  · refine aK_i ?_
    refine aw_ifne (tgt := 13) dX0_suitor_6 (by decide) (fun h => absurd h (by decide)) (fun _ => ?_)
    refine aw_iconst dX0_suitor_9 (by decide) ?_
    refine aw_goto (tgt := 29) dX0_suitor_10 (by decide) ?_
    refine p_X0_73_0 rfl dX0_suitor_29 hR.o0 ?_
    refine aw_aload_n dX0_suitor_32 rfl ?_
    refine g_X0_73_0 rfl dX0_suitor_33 hR.o0 ?_
    repeat (first | rw [aup_s] | rw [aup_n (by omega)])
    refine aw_ifle (tgt := 41) dX0_suitor_36 (by decide) (fun h => absurd h (by decide)) (fun _ => ?_)
    refine aw_iconst dX0_suitor_39 (by decide) ?_
    refine aw_ireturn dX0_suitor_40 rfl ?_
    refine ⟨_, rfl, ?_⟩
    refine AMet.go (L := [some (vR 0), some (vI a), none, none]) mok_X7_suitor (Nat.le_of_ble_eq_true rfl) rfl ?_
    refine aw_aload_n dX7_suitor_0 rfl ?_
    refine aw_iload_n dX7_suitor_1 rfl ?_
    refine c_X7_277 rfl dX7_suitor_2 m_ob (Nat.le_of_ble_eq_true rfl) (by omega) (C_m_isQueen (fun hh => ?_) (fun hh => ?_))
    · first
        | (exfalso; omega)
        | skip
          refine aK_i ?_
          refine aw_ifne (tgt := 14) dX7_suitor_5 (by decide) (fun _ => ?_) (fun h => absurd h (by decide))
          refine gm_7 rfl dX7_suitor_14 dX7_suitor_15 rfl ?_
          refine aw_iconst dX7_suitor_18 (by decide) ?_
          refine aw_iaload dX7_suitor_19 m_a1 (by omega) (by omega) ?_
          refine aw_ifne (tgt := 30) dX7_suitor_20 (by decide) (fun h20 => ?_) (fun h20 => ?_)
          · first
              | (exfalso; omega)
              | skip
                refine aw_aload_n dX7_suitor_30 rfl ?_
                refine c_X7_351 rfl dX7_suitor_31 m_ob (Nat.le_of_ble_eq_true rfl) (by omega) (C_m_laysKin hPQ (fun ck hK n10 => ?_))
                have f0 : ∀ i, ck 0 i = cm 0 i := fun i => by rw [n10 0 (by decide)]
                refine aK_v ?_
                refine aw_bipush dX7_suitor_34 (by decide) ?_
                refine aw_istore2 dX7_suitor_36 (by decide) rfl ?_
                refine aw_bipush dX7_suitor_37 (by decide) ?_
                refine aw_istore3 dX7_suitor_39 (by decide) rfl ?_
                have e1 : ck 1 = cm 1 := n10 1 (by decide)
                refine L_m_sui (by omega) hPQ hK e1 xoa (fun k => ?_) (cm 1 2 - 1).toNat 0 9 (by omega) (by omega)
                rw [suiF_sc hPQ xoa (by omega)]
                refine aw_aload_n dX7_suitor_77 rfl ?_
                refine aw_aload_n dX7_suitor_78 rfl ?_
                refine aw_iload_n dX7_suitor_79 rfl ?_
                refine aw_iload_n dX7_suitor_80 rfl ?_
                refine c_X7_343 rfl dX7_suitor_81 m_ob (Nat.le_of_ble_eq_true rfl) (by omega) (C_m_kinX hPQ hK (Or.inr ⟨xoa, (hPQ.2.2.2.1 _ xoa).1.2⟩) (Or.inr ⟨xob, (hPQ.2.2.2.1 _ xob).1.2⟩) ?_)
                rw [show kinO (kinX 68719476736 (cm 1)) a (suiF (kinX 65536 (cm 1)) a (cm 1 2 - 1).toNat) = 1048576 * kinX 65536 (cm 1) a (suiF (kinX 65536 (cm 1)) a (cm 1 2 - 1).toNat) by unfold kinO; rw [if_neg (by omega), kinX_sc hPQ xoa xob]]
                refine aK_i ?_
                refine aw_ldc2 (x := 68719476736) dX7_suitor_84 q1926 (by decide) ?_
                refine c_X7_354 rfl dX7_suitor_87 m_ob (Nat.le_of_ble_eq_true rfl) (by omega) (C_m_tellsBy (by omega) (by decide) ?_)
                rw [(gq_sc hkb.1).1, (gq_sc hkb.1).2]
                refine aK_i ?_
                refine aw_ifeq (tgt := 101) dX7_suitor_90 (by decide) (fun h90 => ?_) (fun h90 => ?_)
                · first
                    | (exfalso; omega)
                    | skip
                      refine aw_iconst dX7_suitor_101 (by decide) ?_
                      refine aw_ireturn dX7_suitor_102 rfl ?_
                      first
                        | (exfalso; omega)
                        | (refine XR.sameE h ?_ ?_ ?_ ?_ ?_ ?_
                           · first
                               | rfl
                               | omega
                           · repeat (first | exact xs.rf | refine xs.up ?_ (by decide))
                           · repeat (first | exact mss.k10 n10 | exact mss.rf | refine mss.up0 ?_ (by decide))
                           · first
                               | (simp [aup, hv2, hv3, hv4]; done)
                               | (simp [aup, hv2, hv3, hv4]; omega)
                           · simp [aup, hv2, hv3, hv4]
                           · simp [aup, hv2, hv3, hv4])
                · first
                    | (exfalso; omega)
                    | skip
                      refine aw_aload_n dX7_suitor_93 rfl ?_
                      refine aw_iload_n dX7_suitor_94 rfl ?_
                      refine c_X7_76 rfl dX7_suitor_95 m_ob (Nat.le_of_ble_eq_true rfl) (by omega) (C_m_gives ?_)
                      refine aK_i ?_
                      refine aw_goto (tgt := 102) dX7_suitor_98 (by decide) ?_
                      refine aw_ireturn dX7_suitor_102 rfl ?_
                      first
                        | (exfalso; omega)
                        | (refine XR.sameE h ?_ ?_ ?_ ?_ ?_ ?_
                           · first
                               | rfl
                               | omega
                           · repeat (first | exact xs.rf | refine xs.up ?_ (by decide))
                           · repeat (first | exact mss.k10 n10 | exact mss.rf | refine mss.up0 ?_ (by decide))
                           · first
                               | (simp [aup, hv2, hv3, hv4]; done)
                               | (simp [aup, hv2, hv3, hv4]; omega)
                           · simp [aup, hv2, hv3, hv4]
                           · simp [aup, hv2, hv3, hv4])
          · first
              | (exfalso; omega)
              | skip
                refine aw_aload_n dX7_suitor_23 rfl ?_
                refine aw_bipush dX7_suitor_24 (by decide) ?_
                refine c_X7_72 rfl dX7_suitor_26 m_ob (Nat.le_of_ble_eq_true rfl) (by omega) (C_m_refuse ?_)
                refine aK_i ?_
                refine aw_ireturn dX7_suitor_29 rfl ?_
                first
                  | (exfalso; omega)
                  | (refine XR.sameE h ?_ ?_ ?_ ?_ ?_ ?_
                     · first
                         | rfl
                         | omega
                     · repeat (first | exact xs.rf | refine xs.up ?_ (by decide))
                     · repeat (first | exact mss.k10 n10 | exact mss.rf | refine mss.up0 ?_ (by decide))
                     · first
                         | (simp [aup, hv2, hv3, hv4]; done)
                         | (simp [aup, hv2, hv3, hv4]; omega)
                     · simp [aup, hv2, hv3, hv4]
                     · simp [aup, hv2, hv3, hv4])
    · first
        | (exfalso; omega)
        | skip
          refine aK_i ?_
          refine aw_ifne (tgt := 14) dX7_suitor_5 (by decide) (fun h => absurd h (by decide)) (fun _ => ?_)
          refine aw_aload_n dX7_suitor_8 rfl ?_
          refine aw_iconst dX7_suitor_9 (by decide) ?_
          refine c_X7_72 rfl dX7_suitor_10 m_ob (Nat.le_of_ble_eq_true rfl) (by omega) (C_m_refuse ?_)
          refine aK_i ?_
          refine aw_ireturn dX7_suitor_13 rfl ?_
          first
            | (exfalso; omega)
            | (refine XR.sameE h ?_ ?_ ?_ ?_ ?_ ?_
               · first
                   | rfl
                   | omega
               · repeat (first | exact xs.rf | refine xs.up ?_ (by decide))
               · repeat (first | exact mss.k10 n10 | exact mss.rf | refine mss.up0 ?_ (by decide))
               · first
                   | (simp [aup, hv2, hv3, hv4]; done)
                   | (simp [aup, hv2, hv3, hv4]; omega)
               · simp [aup, hv2, hv3, hv4]
               · simp [aup, hv2, hv3, hv4])
