set_option maxRecDepth 100000
/-! operations, 30: copyIn, the end -/
theorem OP_copyIn {sz : Int} {im : Int → aIm} {ct cm : Int → Int → Int} (h : XR (sz, im, ct) cm) {a b c : Int} (r0 : -2147483648 ≤ a ∧ a < 2147483648) (r1 : -2147483648 ≤ b ∧ b < 2147483648) (r2 : -2147483648 ≤ c ∧ c < 2147483648)  : AMet md_X0_copyIn 164 96 7104 [vR 0, vI a, vI b, vI c] (sz, im, ct) (XQ md_X7_copyIn 4 [vR 0, vI a, vI b, vI c] cm) := by
  obtain ⟨own, N, hR, HY, HL, HN, HS, HP, HF, HX, hv2, hv3, hv4⟩ := id h
  dsimp only at hR HY HL HS HX hv2 hv3 hv4
  have hp0 := HP.1
  have hp3 := HP.2.1
  have hpq := HP.2.2.2.1.1
  have hps := HP.2.2.2.2.2
  refine AMet.goW (L := [some (vR 0), some (vI a), some (vI b), some (vI c), none, none, none]) mok_X0_copyIn (Nat.le_of_ble_eq_true rfl) rfl ?_
  refine aw_aload_n dX0_copyIn_0 rfl ?_
  refine aw_aload_n dX0_copyIn_1 rfl ?_
  refine aw_iload_n dX0_copyIn_2 rfl ?_
  refine aw_iload_n dX0_copyIn_3 rfl ?_
  refine c_X0_301 rfl dX0_copyIn_4 hR.o0 (Nat.le_of_ble_eq_true rfl) (by omega) (C_x_isFrame hR HY (fun xf => ?_) (fun xf => ?_))
  · refine aK_i ?_
    refine aw_ifeq (tgt := 26) dX0_copyIn_7 (by decide) (fun h => absurd h (by decide)) (fun _ => ?_)
    refine aw_iload_n dX0_copyIn_10 rfl ?_
    refine aw_i2l dX0_copyIn_11 ?_
    refine aw_lconst0 dX0_copyIn_12 ?_
    refine aw_ldc2 (x := 3) dX0_copyIn_13 q1061 (by decide) ?_
    refine c_X0_164 rfl dX0_copyIn_16  (Nat.le_of_ble_eq_true rfl) (by omega) (C_x_isIn (fun hi => ?_) (fun hi => ?_))
    · refine aK_i ?_
      refine aw_ifeq (tgt := 26) dX0_copyIn_19 (by decide) (fun h => absurd h (by decide)) (fun _ => ?_)
      refine aw_iconst dX0_copyIn_22 (by decide) ?_
      refine aw_goto (tgt := 27) dX0_copyIn_23 (by decide) ?_
      refine p_X0_73_0 rfl dX0_copyIn_27 hR.o0 ?_
      refine aw_aload_n dX0_copyIn_30 rfl ?_
      refine g_X0_73_0 rfl dX0_copyIn_31 hR.o0 ?_
      repeat (first | rw [aup_s] | rw [aup_n (by omega)])
      refine aw_ifle (tgt := 39) dX0_copyIn_34 (by decide) (fun _ => ?_) (fun h => absurd h (by decide))
      refine aw_aload_n dX0_copyIn_39 rfl ?_
      refine aw_iload_n dX0_copyIn_40 rfl ?_
      refine c_X0_115 rfl dX0_copyIn_41 hR.o0 (Nat.le_of_ble_eq_true rfl) (by omega) (C_x_on (hR.up0 (j := 7) (v := 0)) (fun t0 t1 => by rw [aup_n (by omega)]; exact (HX.1 a t0 t1).ge) (fun hb => ?_) (fun t0 t1 hb => ?_) (fun t0 t1 hb => ?_))
      · refine aK_x (ax_catch (E := 1) (pre := []) (z := { startPc := 39, endPc := 178, handlerPc := 179, catchType := 41 }) (suf := []) rfl (fun y hy => by cases hy) rfl (by decide) q235 q237 ?_)
        refine aw_astore4 dX0_copyIn_179 (by decide) rfl ?_
        refine aw_aload_n dX0_copyIn_181 rfl ?_
        refine aw_aload dX0_copyIn_182 rfl ?_
        refine c_X0_131 rfl dX0_copyIn_184 hR.o0 (Nat.le_of_ble_eq_true rfl) (by omega) (C_x_none (hR.up0 (j := 7) (v := 0)) ?_)
        refine aK_i ?_
        refine aw_ireturn dX0_copyIn_187 rfl ?_
        refine ⟨_, rfl, ?_⟩
        refine AMet.go (L := [some (vR 0), some (vI a), some (vI b), some (vI c), none, none]) mok_X7_copyIn (Nat.le_of_ble_eq_true rfl) rfl ?_
        refine aw_aload_n dX7_copyIn_0 rfl ?_
        refine aw_iload_n dX7_copyIn_1 rfl ?_
        refine aw_iload_n dX7_copyIn_2 rfl ?_
        refine c_X7_298 rfl dX7_copyIn_3 m_ob (Nat.le_of_ble_eq_true rfl) (by omega) (C_m_isFrame (by omega) (fun hff => ?_) (fun hff => ?_))
        · first
            | (exfalso; omega)
            | skip
              refine aK_i ?_
              refine aw_ifeq (tgt := 16) dX7_copyIn_6 (by decide) (fun h => absurd h (by decide)) (fun _ => ?_)
              refine aw_iload_n dX7_copyIn_9 rfl ?_
              refine c_X7_83 rfl dX7_copyIn_10  (Nat.le_of_ble_eq_true rfl) (by omega) (C_m_isTray (fun htr => ?_) (fun htr => ?_))
              · first
                  | (exfalso; omega)
                  | skip
                    refine aK_i ?_
                    refine aw_ifne (tgt := 22) dX7_copyIn_13 (by decide) (fun _ => ?_) (fun h => absurd h (by decide))
                    refine gm_24 rfl dX7_copyIn_22 dX7_copyIn_23 rfl ?_
                    refine aw_iload_n dX7_copyIn_26 rfl ?_
                    refine aw_iaload dX7_copyIn_27 m_a4 (by omega) (by omega) ?_
                    refine aw_iconst dX7_copyIn_28 (by decide) ?_
                    refine aw_icmpne (tgt := 38) dX7_copyIn_29 (by decide) (fun h29 => ?_) (fun h29 => ?_)
                    · first
                        | (exfalso; omega)
                        | skip
                          refine gm_24 rfl dX7_copyIn_38 dX7_copyIn_39 rfl ?_
                          refine aw_iload_n dX7_copyIn_42 rfl ?_
                          refine aw_iaload dX7_copyIn_43 m_a4 (by omega) (by omega) ?_
                          refine aw_bipush dX7_copyIn_44 (by decide) ?_
                          refine aw_icmpge (tgt := 55) dX7_copyIn_46 (by decide) (fun h46 => ?_) (fun h46 => ?_)
                          · first
                              | (exfalso; omega)
                              | skip
                                refine aw_iconst dX7_copyIn_55 (by decide) ?_
                                refine aw_istore4 dX7_copyIn_56 (by decide) rfl ?_
                                refine L_m_ci1 (w := fun j => cm 5 (60 * a + j)) (by omega) (by omega) (fun _ _ _ => rfl) (fun hok => ?_) (fun hbad k8 => ?_) 16 0 (by decide) (by decide) (fun j j0 j1 => by omega)
                                · first
                                    | exact absurd hok hbad
                                    | (have gb9 := (HP.2.2.1 b xf.1.1 xf.1.2)
                                       have gb8 := gb9.1
                                       refine aw_aload_n dX7_copyIn_99 rfl ?_
                                       refine aw_iload_n dX7_copyIn_100 rfl ?_
                                       refine c_X7_217 rfl dX7_copyIn_101  (Nat.le_of_ble_eq_true rfl) (by omega) (C_m_hiveRow (by omega) ?_)
                                       refine aK_i ?_
                                       refine aw_iconst dX7_copyIn_104 (by decide) ?_
                                       refine c_X7_283 rfl dX7_copyIn_105 m_ob (Nat.le_of_ble_eq_true rfl) (by omega) (C_m_sumOf rfl gb9.1 (by omega) gb9.2.1 ?_)
                                       refine aK_i ?_
                                       refine aw_istore4 dX7_copyIn_108 (by decide) rfl ?_
                                       refine aw_iconst dX7_copyIn_110 (by decide) ?_
                                       refine aw_istore5 dX7_copyIn_111 (by decide) rfl ?_
                                       refine L_m_ci2 (w := fun j => cm 5 (60 * a + j)) (by omega) (by omega) (by omega) (by omega) (fun _ _ _ => rfl) hok (fun cm3 m1 m2 => ?_) 16 0 cm (by decide) (by decide) inS_0.symm (fun _ _ => rfl)
                                       refine aw_aload_n dX7_copyIn_153 rfl ?_
                                       refine aw_iload_n dX7_copyIn_154 rfl ?_
                                       refine c_X7_217 rfl dX7_copyIn_155  (Nat.le_of_ble_eq_true rfl) (by omega) (C_m_hiveRow (by omega) ?_)
                                       refine aK_i ?_
                                       refine aw_iconst dX7_copyIn_158 (by decide) ?_
                                       refine c_X7_283 rfl dX7_copyIn_159 m_ob (Nat.le_of_ble_eq_true rfl) (by omega) (C_m_sumOf rfl (by rw [m1]; exact g2b.1) (by rw [m1, inS_n (by omega)]; omega) (by rw [m1]; exact g2b.2.1) ?_)
                                       rw [m1]
                                       refine aK_i ?_
                                       refine aw_iload dX7_copyIn_162 rfl ?_
                                       refine aw_isubr dX7_copyIn_164 (by omega) ?_
                                       refine aw_istore5 dX7_copyIn_165 (by decide) rfl ?_
                                       refine gm_7 rfl dX7_copyIn_167 dX7_copyIn_168 rfl ?_
                                       refine aw_iconst dX7_copyIn_171 (by decide) ?_
                                       refine aw_dup2 dX7_copyIn_172 rfl rfl ?_
                                       refine aw_iaload dX7_copyIn_173 m_a1 (by omega) (by omega) ?_
                                       refine aw_iload dX7_copyIn_174 rfl ?_
                                       refine aw_iadd dX7_copyIn_176 ?_
                                       refine aw_iastore dX7_copyIn_177 m_a1 (by omega) (by omega) ?_
                                       refine aw_aload_n dX7_copyIn_178 rfl ?_
                                       refine aw_iload dX7_copyIn_179 rfl ?_
                                       refine c_X7_76 rfl dX7_copyIn_181 m_ob (Nat.le_of_ble_eq_true rfl) (by omega) (C_m_gives ?_)
                                       refine aK_i ?_
                                       refine aw_ireturn dX7_copyIn_184 rfl ?_
                                       have e4 : (inS (cm 1) (64 + 198 * b + 6 + 16 * c) (fun j => cm 5 (60 * a + j)) 16) 4 = cm 1 4 := inS_n (by omega)
                                       have c10 := HY.2.1
                                       refine ⟨rfl, _, rfl, XR.yd (upA (inS (cm 1) (64 + 198 * b + 6 + 16 * c) (fun j => cm 5 (60 * a + j)) 16) 4 (w32 (cm 1 4 + (hoK (inS (cm 1) (64 + 198 * b + 6 + 16 * c) (fun j => cm 5 (60 * a + j)) 16) b - hoK (cm 1) b)))) hR HX HL HN HS HP ?_ ?_ (fun i hi => by rw [upA_n (by omega), inS_n (by omega)]) (fun k q0 q1 => by rw [upA_n (by omega), inS_n (by rcases (by omega : k < b ∨ k = b ∨ b < k) with z | z | z <;> omega)]) (PI.inS HP xf.1.1 xf.1.2 xf.2.1 xf.2.2 hok) (HF.eq (by rw [aup_n (by omega), aup_rn (by decide), m2 0 (by decide)]) (by rw [aup_rn (by decide), aup_rn (by decide), m2 9 (by decide)])) (fun x j hx h0 => ?_) ?_ (fun x x0 x1 x9 => by rw [aup_rn x0, aup_rn x1, m2 x x1]) (fun i hi => by rw [aup_n (by omega), aup_rn (by decide), m2 0 (by decide)]) ?_ ?_ ?_⟩
                                       · rw [aup_rn (by decide), aup_r, m1, e4]; rfl
                                       · refine (k1.scal (s' := upA (inS (cm 1) (64 + 198 * b + 6 + 16 * c) (fun j => cm 5 (60 * a + j)) 16) 4 (w32 (cm 1 4 + (hoK (inS (cm 1) (64 + 198 * b + 6 + 16 * c) (fun j => cm 5 (60 * a + j)) 16) b - hoK (cm 1) b)))) (ct' := aup ct1 10 9 (w32 (cm 1 4 + (hoK (inS (cm 1) (64 + 198 * b + 6 + 16 * c) (fun j => cm 5 (60 * a + j)) 16) b - hoK (cm 1) b)))) (fun x j hx => aup_rn_a hx) (fun i hi => upA_n (by omega)) (upA_n (by omega)) ⟨?_, ?_, ?_, ?_, ?_, ?_, ?_, ?_⟩ ⟨?_, fun z => ?_⟩ : _)
                                         · rw [aup_n (by omega), upA_n (by omega)]; exact k1.2.2.2.2.2.1.1
                                         · rw [aup_n (by omega), upA_n (by omega), inS_n (by omega)]; exact k1.2.2.2.2.2.1.2.1
                                         · rw [aup_n (by omega), upA_n (by omega)]; exact k1.2.2.2.2.2.1.2.2.1
                                         · rw [aup_n (by omega), upA_n (by omega)]; exact k1.2.2.2.2.2.1.2.2.2.1
                                         · rw [aup_n (by omega), upA_n (by omega)]; exact k1.2.2.2.2.2.1.2.2.2.2.1
                                         · rw [aup_n (by omega), upA_n (by omega)]; exact k1.2.2.2.2.2.1.2.2.2.2.2.1
                                         · rw [aup_n (by omega), upA_n (by omega)]; exact k1.2.2.2.2.2.1.2.2.2.2.2.2.1
                                         · rw [aup_s, upA_s]
                                         · rw [aup_n (by omega), upA_n (by omega)]; exact k1.2.2.2.2.2.2.1.1
                                         · rw [upA_n (by omega)] at z ⊢
                                           rw [aup_n (by omega)]; exact k1.2.2.2.2.2.2.1.2 z
                                       · rw [aup_rn (fun z => by rw [z] at hx; omega), k2 x j (by omega), aup_n (by omega)]
                                       · rw [aup_n (by omega), k2 10 0 (by omega), aup_n (by omega)]
                                       · rw [aup_n (by omega), k2 0 7 (by rw [hR.1.2]; omega), aup_s, aup_s]
                                       · rw [aup_n (by omega), k2 0 8 (by rw [hR.1.2]; omega), aup_n (by omega), aup_n (by omega), aup_rn (by decide), m2 0 (by decide)]; exact hv3
                                       · rw [aup_n (by omega), k2 0 9 (by rw [hR.1.2]; omega), aup_n (by omega), aup_n (by omega), aup_rn (by decide), m2 0 (by decide)]; exact hv4)
                                · refine aw_aload_n dX7_copyIn_87 rfl ?_
                                  refine aw_iconst dX7_copyIn_88 (by decide) ?_
                                  refine c_X7_72 rfl dX7_copyIn_89 m_ob (Nat.le_of_ble_eq_true rfl) (by omega) (C_m_refuse ?_)
                                  refine aK_i ?_
                                  refine aw_ireturn dX7_copyIn_92 rfl ?_
                                  first
                                    | (exfalso; omega)
                                    | exact absurd hok hbad
                                    | (refine ⟨by first | rfl | (rw [aup_rn (show ct (2 + a) 0 ≠ 0 from fun z => by rw [z] at y4; have := hR.1.2; omega), aup_rn (by decide), y5 b j0 j1]), _, rfl, XR.try hR HY HL HN HS HP HF HX hv3 hv4 (fun x j h8 h0 _ => ?_) (fun x i _ _ _ h0 => ?_) (fun t t0 t1 => TRY.fr (HX.1 t t0 t1) ?_ (fun x j hx => ?_) ?_ ?_ (fun j j0 j1 => ?_)) ?_⟩
                                       · (repeat (first | rw [aup_n h0] | rw [aup_rn h8]))
                                       · rw [aup_n h0]
                                       · (repeat rw [aup_n (by omega)])
                                       · have o8 := hR.2.2.2.2.2.1.2; have o0 := hR.1.2
                                         (repeat rw [aup_rn (fun z => by rw [z] at hx; omega)])
                                       · rw [aup_rn (by decide)]
                                       · rw [aup_rn (by decide)]
                                       · rw [aup_rn (by decide)]
                                       · simp [aup])
                          · first
                              | (exfalso; omega)
                              | skip
                                refine aw_aload_n dX7_copyIn_49 rfl ?_
                                refine aw_iconst dX7_copyIn_50 (by decide) ?_
                                refine c_X7_72 rfl dX7_copyIn_51 m_ob (Nat.le_of_ble_eq_true rfl) (by omega) (C_m_refuse ?_)
                                refine aK_i ?_
                                refine aw_ireturn dX7_copyIn_54 rfl ?_
                                first
                                  | (exfalso; omega)
                                  | exact absurd hok hbad
                                  | (refine ⟨by first | rfl | (rw [aup_rn (show ct (2 + a) 0 ≠ 0 from fun z => by rw [z] at y4; have := hR.1.2; omega), aup_rn (by decide), y5 b j0 j1]), _, rfl, XR.try hR HY HL HN HS HP HF HX hv3 hv4 (fun x j h8 h0 _ => ?_) (fun x i _ _ _ h0 => ?_) (fun t t0 t1 => TRY.fr (HX.1 t t0 t1) ?_ (fun x j hx => ?_) ?_ ?_ (fun j j0 j1 => ?_)) ?_⟩
                                     · (repeat (first | rw [aup_n h0] | rw [aup_rn h8]))
                                     · rw [aup_n h0]
                                     · (repeat rw [aup_n (by omega)])
                                     · have o8 := hR.2.2.2.2.2.1.2; have o0 := hR.1.2
                                       (repeat rw [aup_rn (fun z => by rw [z] at hx; omega)])
                                     · rw [aup_rn (by decide)]
                                     · rw [aup_rn (by decide)]
                                     · rw [aup_rn (by decide)]
                                     · simp [aup])
                    · first
                        | (exfalso; omega)
                        | skip
                          refine aw_aload_n dX7_copyIn_32 rfl ?_
                          refine aw_iconst dX7_copyIn_33 (by decide) ?_
                          refine c_X7_72 rfl dX7_copyIn_34 m_ob (Nat.le_of_ble_eq_true rfl) (by omega) (C_m_refuse ?_)
                          refine aK_i ?_
                          refine aw_ireturn dX7_copyIn_37 rfl ?_
                          first
                            | (exfalso; omega)
                            | exact absurd hok hbad
                            | (refine ⟨by first | rfl | (rw [aup_rn (show ct (2 + a) 0 ≠ 0 from fun z => by rw [z] at y4; have := hR.1.2; omega), aup_rn (by decide), y5 b j0 j1]), _, rfl, XR.try hR HY HL HN HS HP HF HX hv3 hv4 (fun x j h8 h0 _ => ?_) (fun x i _ _ _ h0 => ?_) (fun t t0 t1 => TRY.fr (HX.1 t t0 t1) ?_ (fun x j hx => ?_) ?_ ?_ (fun j j0 j1 => ?_)) ?_⟩
                               · (repeat (first | rw [aup_n h0] | rw [aup_rn h8]))
                               · rw [aup_n h0]
                               · (repeat rw [aup_n (by omega)])
                               · have o8 := hR.2.2.2.2.2.1.2; have o0 := hR.1.2
                                 (repeat rw [aup_rn (fun z => by rw [z] at hx; omega)])
                               · rw [aup_rn (by decide)]
                               · rw [aup_rn (by decide)]
                               · rw [aup_rn (by decide)]
                               · simp [aup])
              · first
                  | (exfalso; omega)
                  | skip
                    refine aK_i ?_
                    refine aw_ifne (tgt := 22) dX7_copyIn_13 (by decide) (fun h => absurd h (by decide)) (fun _ => ?_)
                    refine aw_aload_n dX7_copyIn_16 rfl ?_
                    refine aw_iconst dX7_copyIn_17 (by decide) ?_
                    refine c_X7_72 rfl dX7_copyIn_18 m_ob (Nat.le_of_ble_eq_true rfl) (by omega) (C_m_refuse ?_)
                    refine aK_i ?_
                    refine aw_ireturn dX7_copyIn_21 rfl ?_
                    first
                      | (exfalso; omega)
                      | exact absurd hok hbad
                      | (refine ⟨by first | rfl | (rw [aup_rn (show ct (2 + a) 0 ≠ 0 from fun z => by rw [z] at y4; have := hR.1.2; omega), aup_rn (by decide), y5 b j0 j1]), _, rfl, XR.try hR HY HL HN HS HP HF HX hv3 hv4 (fun x j h8 h0 _ => ?_) (fun x i _ _ _ h0 => ?_) (fun t t0 t1 => TRY.fr (HX.1 t t0 t1) ?_ (fun x j hx => ?_) ?_ ?_ (fun j j0 j1 => ?_)) ?_⟩
                         · (repeat (first | rw [aup_n h0] | rw [aup_rn h8]))
                         · rw [aup_n h0]
                         · (repeat rw [aup_n (by omega)])
                         · have o8 := hR.2.2.2.2.2.1.2; have o0 := hR.1.2
                           (repeat rw [aup_rn (fun z => by rw [z] at hx; omega)])
                         · rw [aup_rn (by decide)]
                         · rw [aup_rn (by decide)]
                         · rw [aup_rn (by decide)]
                         · simp [aup])
        · first
            | (exfalso; omega)
            | skip
              refine aK_i ?_
              refine aw_ifeq (tgt := 16) dX7_copyIn_6 (by decide) (fun _ => ?_) (fun h => absurd h (by decide))
              refine aw_aload_n dX7_copyIn_16 rfl ?_
              refine aw_iconst dX7_copyIn_17 (by decide) ?_
              refine c_X7_72 rfl dX7_copyIn_18 m_ob (Nat.le_of_ble_eq_true rfl) (by omega) (C_m_refuse ?_)
              refine aK_i ?_
              refine aw_ireturn dX7_copyIn_21 rfl ?_
              first
                | (exfalso; omega)
                | exact absurd hok hbad
                | (refine ⟨by first | rfl | (rw [aup_rn (show ct (2 + a) 0 ≠ 0 from fun z => by rw [z] at y4; have := hR.1.2; omega), aup_rn (by decide), y5 b j0 j1]), _, rfl, XR.try hR HY HL HN HS HP HF HX hv3 hv4 (fun x j h8 h0 _ => ?_) (fun x i _ _ _ h0 => ?_) (fun t t0 t1 => TRY.fr (HX.1 t t0 t1) ?_ (fun x j hx => ?_) ?_ ?_ (fun j j0 j1 => ?_)) ?_⟩
                   · (repeat (first | rw [aup_n h0] | rw [aup_rn h8]))
                   · rw [aup_n h0]
                   · (repeat rw [aup_n (by omega)])
                   · have o8 := hR.2.2.2.2.2.1.2; have o0 := hR.1.2
                     (repeat rw [aup_rn (fun z => by rw [z] at hx; omega)])
                   · rw [aup_rn (by decide)]
                   · rw [aup_rn (by decide)]
                   · rw [aup_rn (by decide)]
                   · simp [aup])
      · rw [aup_n (by omega)] at hb
        have hno := (HX.1 a t0 t1).no
        refine aK_x (ax_catch (E := 1) (pre := []) (z := { startPc := 39, endPc := 178, handlerPc := 179, catchType := 41 }) (suf := []) rfl (fun y hy => by cases hy) rfl (by decide) q235 q237 ?_)
        refine aw_astore4 dX0_copyIn_179 (by decide) rfl ?_
        refine aw_aload_n dX0_copyIn_181 rfl ?_
        refine aw_aload dX0_copyIn_182 rfl ?_
        refine c_X0_131 rfl dX0_copyIn_184 hR.o0 (Nat.le_of_ble_eq_true rfl) (by omega) (C_x_none (hR.up0 (j := 7) (v := 0)) ?_)
        refine aK_i ?_
        refine aw_ireturn dX0_copyIn_187 rfl ?_
        refine ⟨_, rfl, ?_⟩
        refine AMet.go (L := [some (vR 0), some (vI a), some (vI b), some (vI c), none, none]) mok_X7_copyIn (Nat.le_of_ble_eq_true rfl) rfl ?_
        refine aw_aload_n dX7_copyIn_0 rfl ?_
        refine aw_iload_n dX7_copyIn_1 rfl ?_
        refine aw_iload_n dX7_copyIn_2 rfl ?_
        refine c_X7_298 rfl dX7_copyIn_3 m_ob (Nat.le_of_ble_eq_true rfl) (by omega) (C_m_isFrame (by omega) (fun hff => ?_) (fun hff => ?_))
        · first
            | (exfalso; omega)
            | skip
              refine aK_i ?_
              refine aw_ifeq (tgt := 16) dX7_copyIn_6 (by decide) (fun h => absurd h (by decide)) (fun _ => ?_)
              refine aw_iload_n dX7_copyIn_9 rfl ?_
              refine c_X7_83 rfl dX7_copyIn_10  (Nat.le_of_ble_eq_true rfl) (by omega) (C_m_isTray (fun htr => ?_) (fun htr => ?_))
              · first
                  | (exfalso; omega)
                  | skip
                    refine aK_i ?_
                    refine aw_ifne (tgt := 22) dX7_copyIn_13 (by decide) (fun _ => ?_) (fun h => absurd h (by decide))
                    refine gm_24 rfl dX7_copyIn_22 dX7_copyIn_23 rfl ?_
                    refine aw_iload_n dX7_copyIn_26 rfl ?_
                    refine aw_iaload dX7_copyIn_27 m_a4 (by omega) (by omega) ?_
                    refine aw_iconst dX7_copyIn_28 (by decide) ?_
                    refine aw_icmpne (tgt := 38) dX7_copyIn_29 (by decide) (fun h29 => ?_) (fun h29 => ?_)
                    · first
                        | (exfalso; omega)
                        | skip
                          refine gm_24 rfl dX7_copyIn_38 dX7_copyIn_39 rfl ?_
                          refine aw_iload_n dX7_copyIn_42 rfl ?_
                          refine aw_iaload dX7_copyIn_43 m_a4 (by omega) (by omega) ?_
                          refine aw_bipush dX7_copyIn_44 (by decide) ?_
                          refine aw_icmpge (tgt := 55) dX7_copyIn_46 (by decide) (fun h46 => ?_) (fun h46 => ?_)
                          · first
                              | (exfalso; omega)
                              | skip
                                refine aw_iconst dX7_copyIn_55 (by decide) ?_
                                refine aw_istore4 dX7_copyIn_56 (by decide) rfl ?_
                                refine L_m_ci1 (w := fun j => cm 5 (60 * a + j)) (by omega) (by omega) (fun _ _ _ => rfl) (fun hok => ?_) (fun hbad k8 => ?_) 16 0 (by decide) (by decide) (fun j j0 j1 => by omega)
                                · first
                                    | exact absurd hok hbad
                                    | (have gb9 := (HP.2.2.1 b xf.1.1 xf.1.2)
                                       have gb8 := gb9.1
                                       refine aw_aload_n dX7_copyIn_99 rfl ?_
                                       refine aw_iload_n dX7_copyIn_100 rfl ?_
                                       refine c_X7_217 rfl dX7_copyIn_101  (Nat.le_of_ble_eq_true rfl) (by omega) (C_m_hiveRow (by omega) ?_)
                                       refine aK_i ?_
                                       refine aw_iconst dX7_copyIn_104 (by decide) ?_
                                       refine c_X7_283 rfl dX7_copyIn_105 m_ob (Nat.le_of_ble_eq_true rfl) (by omega) (C_m_sumOf rfl gb9.1 (by omega) gb9.2.1 ?_)
                                       refine aK_i ?_
                                       refine aw_istore4 dX7_copyIn_108 (by decide) rfl ?_
                                       refine aw_iconst dX7_copyIn_110 (by decide) ?_
                                       refine aw_istore5 dX7_copyIn_111 (by decide) rfl ?_
                                       refine L_m_ci2 (w := fun j => cm 5 (60 * a + j)) (by omega) (by omega) (by omega) (by omega) (fun _ _ _ => rfl) hok (fun cm3 m1 m2 => ?_) 16 0 cm (by decide) (by decide) inS_0.symm (fun _ _ => rfl)
                                       refine aw_aload_n dX7_copyIn_153 rfl ?_
                                       refine aw_iload_n dX7_copyIn_154 rfl ?_
                                       refine c_X7_217 rfl dX7_copyIn_155  (Nat.le_of_ble_eq_true rfl) (by omega) (C_m_hiveRow (by omega) ?_)
                                       refine aK_i ?_
                                       refine aw_iconst dX7_copyIn_158 (by decide) ?_
                                       refine c_X7_283 rfl dX7_copyIn_159 m_ob (Nat.le_of_ble_eq_true rfl) (by omega) (C_m_sumOf rfl (by rw [m1]; exact g2b.1) (by rw [m1, inS_n (by omega)]; omega) (by rw [m1]; exact g2b.2.1) ?_)
                                       rw [m1]
                                       refine aK_i ?_
                                       refine aw_iload dX7_copyIn_162 rfl ?_
                                       refine aw_isubr dX7_copyIn_164 (by omega) ?_
                                       refine aw_istore5 dX7_copyIn_165 (by decide) rfl ?_
                                       refine gm_7 rfl dX7_copyIn_167 dX7_copyIn_168 rfl ?_
                                       refine aw_iconst dX7_copyIn_171 (by decide) ?_
                                       refine aw_dup2 dX7_copyIn_172 rfl rfl ?_
                                       refine aw_iaload dX7_copyIn_173 m_a1 (by omega) (by omega) ?_
                                       refine aw_iload dX7_copyIn_174 rfl ?_
                                       refine aw_iadd dX7_copyIn_176 ?_
                                       refine aw_iastore dX7_copyIn_177 m_a1 (by omega) (by omega) ?_
                                       refine aw_aload_n dX7_copyIn_178 rfl ?_
                                       refine aw_iload dX7_copyIn_179 rfl ?_
                                       refine c_X7_76 rfl dX7_copyIn_181 m_ob (Nat.le_of_ble_eq_true rfl) (by omega) (C_m_gives ?_)
                                       refine aK_i ?_
                                       refine aw_ireturn dX7_copyIn_184 rfl ?_
                                       have e4 : (inS (cm 1) (64 + 198 * b + 6 + 16 * c) (fun j => cm 5 (60 * a + j)) 16) 4 = cm 1 4 := inS_n (by omega)
                                       have c10 := HY.2.1
                                       refine ⟨rfl, _, rfl, XR.yd (upA (inS (cm 1) (64 + 198 * b + 6 + 16 * c) (fun j => cm 5 (60 * a + j)) 16) 4 (w32 (cm 1 4 + (hoK (inS (cm 1) (64 + 198 * b + 6 + 16 * c) (fun j => cm 5 (60 * a + j)) 16) b - hoK (cm 1) b)))) hR HX HL HN HS HP ?_ ?_ (fun i hi => by rw [upA_n (by omega), inS_n (by omega)]) (fun k q0 q1 => by rw [upA_n (by omega), inS_n (by rcases (by omega : k < b ∨ k = b ∨ b < k) with z | z | z <;> omega)]) (PI.inS HP xf.1.1 xf.1.2 xf.2.1 xf.2.2 hok) (HF.eq (by rw [aup_n (by omega), aup_rn (by decide), m2 0 (by decide)]) (by rw [aup_rn (by decide), aup_rn (by decide), m2 9 (by decide)])) (fun x j hx h0 => ?_) ?_ (fun x x0 x1 x9 => by rw [aup_rn x0, aup_rn x1, m2 x x1]) (fun i hi => by rw [aup_n (by omega), aup_rn (by decide), m2 0 (by decide)]) ?_ ?_ ?_⟩
                                       · rw [aup_rn (by decide), aup_r, m1, e4]; rfl
                                       · refine (k1.scal (s' := upA (inS (cm 1) (64 + 198 * b + 6 + 16 * c) (fun j => cm 5 (60 * a + j)) 16) 4 (w32 (cm 1 4 + (hoK (inS (cm 1) (64 + 198 * b + 6 + 16 * c) (fun j => cm 5 (60 * a + j)) 16) b - hoK (cm 1) b)))) (ct' := aup ct1 10 9 (w32 (cm 1 4 + (hoK (inS (cm 1) (64 + 198 * b + 6 + 16 * c) (fun j => cm 5 (60 * a + j)) 16) b - hoK (cm 1) b)))) (fun x j hx => aup_rn_a hx) (fun i hi => upA_n (by omega)) (upA_n (by omega)) ⟨?_, ?_, ?_, ?_, ?_, ?_, ?_, ?_⟩ ⟨?_, fun z => ?_⟩ : _)
                                         · rw [aup_n (by omega), upA_n (by omega)]; exact k1.2.2.2.2.2.1.1
                                         · rw [aup_n (by omega), upA_n (by omega), inS_n (by omega)]; exact k1.2.2.2.2.2.1.2.1
                                         · rw [aup_n (by omega), upA_n (by omega)]; exact k1.2.2.2.2.2.1.2.2.1
                                         · rw [aup_n (by omega), upA_n (by omega)]; exact k1.2.2.2.2.2.1.2.2.2.1
                                         · rw [aup_n (by omega), upA_n (by omega)]; exact k1.2.2.2.2.2.1.2.2.2.2.1
                                         · rw [aup_n (by omega), upA_n (by omega)]; exact k1.2.2.2.2.2.1.2.2.2.2.2.1
                                         · rw [aup_n (by omega), upA_n (by omega)]; exact k1.2.2.2.2.2.1.2.2.2.2.2.2.1
                                         · rw [aup_s, upA_s]
                                         · rw [aup_n (by omega), upA_n (by omega)]; exact k1.2.2.2.2.2.2.1.1
                                         · rw [upA_n (by omega)] at z ⊢
                                           rw [aup_n (by omega)]; exact k1.2.2.2.2.2.2.1.2 z
                                       · rw [aup_rn (fun z => by rw [z] at hx; omega), k2 x j (by omega), aup_n (by omega)]
                                       · rw [aup_n (by omega), k2 10 0 (by omega), aup_n (by omega)]
                                       · rw [aup_n (by omega), k2 0 7 (by rw [hR.1.2]; omega), aup_s, aup_s]
                                       · rw [aup_n (by omega), k2 0 8 (by rw [hR.1.2]; omega), aup_n (by omega), aup_n (by omega), aup_rn (by decide), m2 0 (by decide)]; exact hv3
                                       · rw [aup_n (by omega), k2 0 9 (by rw [hR.1.2]; omega), aup_n (by omega), aup_n (by omega), aup_rn (by decide), m2 0 (by decide)]; exact hv4)
                                · refine aw_aload_n dX7_copyIn_87 rfl ?_
                                  refine aw_iconst dX7_copyIn_88 (by decide) ?_
                                  refine c_X7_72 rfl dX7_copyIn_89 m_ob (Nat.le_of_ble_eq_true rfl) (by omega) (C_m_refuse ?_)
                                  refine aK_i ?_
                                  refine aw_ireturn dX7_copyIn_92 rfl ?_
                                  first
                                    | (exfalso; omega)
                                    | exact absurd hok hbad
                                    | (refine ⟨by first | rfl | (rw [aup_rn (show ct (2 + a) 0 ≠ 0 from fun z => by rw [z] at y4; have := hR.1.2; omega), aup_rn (by decide), y5 b j0 j1]), _, rfl, XR.try hR HY HL HN HS HP HF HX hv3 hv4 (fun x j h8 h0 _ => ?_) (fun x i _ _ _ h0 => ?_) (fun t t0 t1 => TRY.fr (HX.1 t t0 t1) ?_ (fun x j hx => ?_) ?_ ?_ (fun j j0 j1 => ?_)) ?_⟩
                                       · (repeat (first | rw [aup_n h0] | rw [aup_rn h8]))
                                       · rw [aup_n h0]
                                       · (repeat rw [aup_n (by omega)])
                                       · have o8 := hR.2.2.2.2.2.1.2; have o0 := hR.1.2
                                         (repeat rw [aup_rn (fun z => by rw [z] at hx; omega)])
                                       · rw [aup_rn (by decide)]
                                       · rw [aup_rn (by decide)]
                                       · rw [aup_rn (by decide)]
                                       · simp [aup])
                          · first
                              | (exfalso; omega)
                              | skip
                                refine aw_aload_n dX7_copyIn_49 rfl ?_
                                refine aw_iconst dX7_copyIn_50 (by decide) ?_
                                refine c_X7_72 rfl dX7_copyIn_51 m_ob (Nat.le_of_ble_eq_true rfl) (by omega) (C_m_refuse ?_)
                                refine aK_i ?_
                                refine aw_ireturn dX7_copyIn_54 rfl ?_
                                first
                                  | (exfalso; omega)
                                  | exact absurd hok hbad
                                  | (refine ⟨by first | rfl | (rw [aup_rn (show ct (2 + a) 0 ≠ 0 from fun z => by rw [z] at y4; have := hR.1.2; omega), aup_rn (by decide), y5 b j0 j1]), _, rfl, XR.try hR HY HL HN HS HP HF HX hv3 hv4 (fun x j h8 h0 _ => ?_) (fun x i _ _ _ h0 => ?_) (fun t t0 t1 => TRY.fr (HX.1 t t0 t1) ?_ (fun x j hx => ?_) ?_ ?_ (fun j j0 j1 => ?_)) ?_⟩
                                     · (repeat (first | rw [aup_n h0] | rw [aup_rn h8]))
                                     · rw [aup_n h0]
                                     · (repeat rw [aup_n (by omega)])
                                     · have o8 := hR.2.2.2.2.2.1.2; have o0 := hR.1.2
                                       (repeat rw [aup_rn (fun z => by rw [z] at hx; omega)])
                                     · rw [aup_rn (by decide)]
                                     · rw [aup_rn (by decide)]
                                     · rw [aup_rn (by decide)]
                                     · simp [aup])
                    · first
                        | (exfalso; omega)
                        | skip
                          refine aw_aload_n dX7_copyIn_32 rfl ?_
                          refine aw_iconst dX7_copyIn_33 (by decide) ?_
                          refine c_X7_72 rfl dX7_copyIn_34 m_ob (Nat.le_of_ble_eq_true rfl) (by omega) (C_m_refuse ?_)
                          refine aK_i ?_
                          refine aw_ireturn dX7_copyIn_37 rfl ?_
                          first
                            | (exfalso; omega)
                            | exact absurd hok hbad
                            | (refine ⟨by first | rfl | (rw [aup_rn (show ct (2 + a) 0 ≠ 0 from fun z => by rw [z] at y4; have := hR.1.2; omega), aup_rn (by decide), y5 b j0 j1]), _, rfl, XR.try hR HY HL HN HS HP HF HX hv3 hv4 (fun x j h8 h0 _ => ?_) (fun x i _ _ _ h0 => ?_) (fun t t0 t1 => TRY.fr (HX.1 t t0 t1) ?_ (fun x j hx => ?_) ?_ ?_ (fun j j0 j1 => ?_)) ?_⟩
                               · (repeat (first | rw [aup_n h0] | rw [aup_rn h8]))
                               · rw [aup_n h0]
                               · (repeat rw [aup_n (by omega)])
                               · have o8 := hR.2.2.2.2.2.1.2; have o0 := hR.1.2
                                 (repeat rw [aup_rn (fun z => by rw [z] at hx; omega)])
                               · rw [aup_rn (by decide)]
                               · rw [aup_rn (by decide)]
                               · rw [aup_rn (by decide)]
                               · simp [aup])
              · first
                  | (exfalso; omega)
                  | skip
                    refine aK_i ?_
                    refine aw_ifne (tgt := 22) dX7_copyIn_13 (by decide) (fun h => absurd h (by decide)) (fun _ => ?_)
                    refine aw_aload_n dX7_copyIn_16 rfl ?_
                    refine aw_iconst dX7_copyIn_17 (by decide) ?_
                    refine c_X7_72 rfl dX7_copyIn_18 m_ob (Nat.le_of_ble_eq_true rfl) (by omega) (C_m_refuse ?_)
                    refine aK_i ?_
                    refine aw_ireturn dX7_copyIn_21 rfl ?_
                    first
                      | (exfalso; omega)
                      | exact absurd hok hbad
                      | (refine ⟨by first | rfl | (rw [aup_rn (show ct (2 + a) 0 ≠ 0 from fun z => by rw [z] at y4; have := hR.1.2; omega), aup_rn (by decide), y5 b j0 j1]), _, rfl, XR.try hR HY HL HN HS HP HF HX hv3 hv4 (fun x j h8 h0 _ => ?_) (fun x i _ _ _ h0 => ?_) (fun t t0 t1 => TRY.fr (HX.1 t t0 t1) ?_ (fun x j hx => ?_) ?_ ?_ (fun j j0 j1 => ?_)) ?_⟩
                         · (repeat (first | rw [aup_n h0] | rw [aup_rn h8]))
                         · rw [aup_n h0]
                         · (repeat rw [aup_n (by omega)])
                         · have o8 := hR.2.2.2.2.2.1.2; have o0 := hR.1.2
                           (repeat rw [aup_rn (fun z => by rw [z] at hx; omega)])
                         · rw [aup_rn (by decide)]
                         · rw [aup_rn (by decide)]
                         · rw [aup_rn (by decide)]
                         · simp [aup])
        · first
            | (exfalso; omega)
            | skip
              refine aK_i ?_
              refine aw_ifeq (tgt := 16) dX7_copyIn_6 (by decide) (fun _ => ?_) (fun h => absurd h (by decide))
              refine aw_aload_n dX7_copyIn_16 rfl ?_
              refine aw_iconst dX7_copyIn_17 (by decide) ?_
              refine c_X7_72 rfl dX7_copyIn_18 m_ob (Nat.le_of_ble_eq_true rfl) (by omega) (C_m_refuse ?_)
              refine aK_i ?_
              refine aw_ireturn dX7_copyIn_21 rfl ?_
              first
                | (exfalso; omega)
                | exact absurd hok hbad
                | (refine ⟨by first | rfl | (rw [aup_rn (show ct (2 + a) 0 ≠ 0 from fun z => by rw [z] at y4; have := hR.1.2; omega), aup_rn (by decide), y5 b j0 j1]), _, rfl, XR.try hR HY HL HN HS HP HF HX hv3 hv4 (fun x j h8 h0 _ => ?_) (fun x i _ _ _ h0 => ?_) (fun t t0 t1 => TRY.fr (HX.1 t t0 t1) ?_ (fun x j hx => ?_) ?_ ?_ (fun j j0 j1 => ?_)) ?_⟩
                   · (repeat (first | rw [aup_n h0] | rw [aup_rn h8]))
                   · rw [aup_n h0]
                   · (repeat rw [aup_n (by omega)])
                   · have o8 := hR.2.2.2.2.2.1.2; have o0 := hR.1.2
                     (repeat rw [aup_rn (fun z => by rw [z] at hx; omega)])
                   · rw [aup_rn (by decide)]
                   · rw [aup_rn (by decide)]
                   · rw [aup_rn (by decide)]
                   · simp [aup])
      · have hy := (HX.1 a t0 t1).yes (by rw [aup_n (by omega)] at hb; exact hb)
        obtain ⟨y1, y2, y3, y4, y5⟩ := hy
        rw [aup_n (by omega)]
        refine aK_i ?_
        refine aw_astore4 dX0_copyIn_44 (by decide) rfl ?_
        refine aw_aload_n dX0_copyIn_46 rfl ?_
        refine aw_aload dX0_copyIn_47 rfl ?_
        refine c_X0_311 rfl dX0_copyIn_49  (Nat.le_of_ble_eq_true rfl) (by omega) (C_x_sizeOf (t := (cm 3 a).toNat) (by omega) y3 ?_)
        refine aK_i ?_
        refine aw_bipush dX0_copyIn_52 (by decide) ?_
        refine aw_icmplt (tgt := 61) dX0_copyIn_54 (by decide) (fun h54 => ?_) (fun h54 => ?_)
        · refine aw_iconst dX0_copyIn_61 (by decide) ?_
          refine aw_iconst dX0_copyIn_62 (by decide) ?_
          refine c_X0_98 rfl dX0_copyIn_63 hR.o0 (Nat.le_of_ble_eq_true rfl) (by omega) (C_x_want hR (fun hb => ?_) (fun hb => ?_))
          · exact absurd rfl hb
          · refine aK_x (ax_catch (E := 1) (pre := []) (z := { startPc := 39, endPc := 178, handlerPc := 179, catchType := 41 }) (suf := []) rfl (fun y hy => by cases hy) rfl (by decide) q235 q237 ?_)
            refine aw_astore4 dX0_copyIn_179 (by decide) rfl ?_
            refine aw_aload_n dX0_copyIn_181 rfl ?_
            refine aw_aload dX0_copyIn_182 rfl ?_
            refine c_X0_131 rfl dX0_copyIn_184 hR.o0 (Nat.le_of_ble_eq_true rfl) (by omega) (C_x_none (hR.up0 (j := 7) (v := 0)) ?_)
            refine aK_i ?_
            refine aw_ireturn dX0_copyIn_187 rfl ?_
            refine ⟨_, rfl, ?_⟩
            refine AMet.go (L := [some (vR 0), some (vI a), some (vI b), some (vI c), none, none]) mok_X7_copyIn (Nat.le_of_ble_eq_true rfl) rfl ?_
            refine aw_aload_n dX7_copyIn_0 rfl ?_
            refine aw_iload_n dX7_copyIn_1 rfl ?_
            refine aw_iload_n dX7_copyIn_2 rfl ?_
            refine c_X7_298 rfl dX7_copyIn_3 m_ob (Nat.le_of_ble_eq_true rfl) (by omega) (C_m_isFrame (by omega) (fun hff => ?_) (fun hff => ?_))
            · first
                | (exfalso; omega)
                | skip
                  refine aK_i ?_
                  refine aw_ifeq (tgt := 16) dX7_copyIn_6 (by decide) (fun h => absurd h (by decide)) (fun _ => ?_)
                  refine aw_iload_n dX7_copyIn_9 rfl ?_
                  refine c_X7_83 rfl dX7_copyIn_10  (Nat.le_of_ble_eq_true rfl) (by omega) (C_m_isTray (fun htr => ?_) (fun htr => ?_))
                  · first
                      | (exfalso; omega)
                      | skip
                        refine aK_i ?_
                        refine aw_ifne (tgt := 22) dX7_copyIn_13 (by decide) (fun _ => ?_) (fun h => absurd h (by decide))
                        refine gm_24 rfl dX7_copyIn_22 dX7_copyIn_23 rfl ?_
                        refine aw_iload_n dX7_copyIn_26 rfl ?_
                        refine aw_iaload dX7_copyIn_27 m_a4 (by omega) (by omega) ?_
                        refine aw_iconst dX7_copyIn_28 (by decide) ?_
                        refine aw_icmpne (tgt := 38) dX7_copyIn_29 (by decide) (fun h29 => ?_) (fun h29 => ?_)
                        · first
                            | (exfalso; omega)
                            | skip
                              refine gm_24 rfl dX7_copyIn_38 dX7_copyIn_39 rfl ?_
                              refine aw_iload_n dX7_copyIn_42 rfl ?_
                              refine aw_iaload dX7_copyIn_43 m_a4 (by omega) (by omega) ?_
                              refine aw_bipush dX7_copyIn_44 (by decide) ?_
                              refine aw_icmpge (tgt := 55) dX7_copyIn_46 (by decide) (fun h46 => ?_) (fun h46 => ?_)
                              · first
                                  | (exfalso; omega)
                                  | skip
                                    refine aw_iconst dX7_copyIn_55 (by decide) ?_
                                    refine aw_istore4 dX7_copyIn_56 (by decide) rfl ?_
                                    refine L_m_ci1 (w := fun j => cm 5 (60 * a + j)) (by omega) (by omega) (fun _ _ _ => rfl) (fun hok => ?_) (fun hbad k8 => ?_) 16 0 (by decide) (by decide) (fun j j0 j1 => by omega)
                                    · first
                                        | exact absurd hok hbad
                                        | (have gb9 := (HP.2.2.1 b xf.1.1 xf.1.2)
                                           have gb8 := gb9.1
                                           refine aw_aload_n dX7_copyIn_99 rfl ?_
                                           refine aw_iload_n dX7_copyIn_100 rfl ?_
                                           refine c_X7_217 rfl dX7_copyIn_101  (Nat.le_of_ble_eq_true rfl) (by omega) (C_m_hiveRow (by omega) ?_)
                                           refine aK_i ?_
                                           refine aw_iconst dX7_copyIn_104 (by decide) ?_
                                           refine c_X7_283 rfl dX7_copyIn_105 m_ob (Nat.le_of_ble_eq_true rfl) (by omega) (C_m_sumOf rfl gb9.1 (by omega) gb9.2.1 ?_)
                                           refine aK_i ?_
                                           refine aw_istore4 dX7_copyIn_108 (by decide) rfl ?_
                                           refine aw_iconst dX7_copyIn_110 (by decide) ?_
                                           refine aw_istore5 dX7_copyIn_111 (by decide) rfl ?_
                                           refine L_m_ci2 (w := fun j => cm 5 (60 * a + j)) (by omega) (by omega) (by omega) (by omega) (fun _ _ _ => rfl) hok (fun cm3 m1 m2 => ?_) 16 0 cm (by decide) (by decide) inS_0.symm (fun _ _ => rfl)
                                           refine aw_aload_n dX7_copyIn_153 rfl ?_
                                           refine aw_iload_n dX7_copyIn_154 rfl ?_
                                           refine c_X7_217 rfl dX7_copyIn_155  (Nat.le_of_ble_eq_true rfl) (by omega) (C_m_hiveRow (by omega) ?_)
                                           refine aK_i ?_
                                           refine aw_iconst dX7_copyIn_158 (by decide) ?_
                                           refine c_X7_283 rfl dX7_copyIn_159 m_ob (Nat.le_of_ble_eq_true rfl) (by omega) (C_m_sumOf rfl (by rw [m1]; exact g2b.1) (by rw [m1, inS_n (by omega)]; omega) (by rw [m1]; exact g2b.2.1) ?_)
                                           rw [m1]
                                           refine aK_i ?_
                                           refine aw_iload dX7_copyIn_162 rfl ?_
                                           refine aw_isubr dX7_copyIn_164 (by omega) ?_
                                           refine aw_istore5 dX7_copyIn_165 (by decide) rfl ?_
                                           refine gm_7 rfl dX7_copyIn_167 dX7_copyIn_168 rfl ?_
                                           refine aw_iconst dX7_copyIn_171 (by decide) ?_
                                           refine aw_dup2 dX7_copyIn_172 rfl rfl ?_
                                           refine aw_iaload dX7_copyIn_173 m_a1 (by omega) (by omega) ?_
                                           refine aw_iload dX7_copyIn_174 rfl ?_
                                           refine aw_iadd dX7_copyIn_176 ?_
                                           refine aw_iastore dX7_copyIn_177 m_a1 (by omega) (by omega) ?_
                                           refine aw_aload_n dX7_copyIn_178 rfl ?_
                                           refine aw_iload dX7_copyIn_179 rfl ?_
                                           refine c_X7_76 rfl dX7_copyIn_181 m_ob (Nat.le_of_ble_eq_true rfl) (by omega) (C_m_gives ?_)
                                           refine aK_i ?_
                                           refine aw_ireturn dX7_copyIn_184 rfl ?_
                                           have e4 : (inS (cm 1) (64 + 198 * b + 6 + 16 * c) (fun j => cm 5 (60 * a + j)) 16) 4 = cm 1 4 := inS_n (by omega)
                                           have c10 := HY.2.1
                                           refine ⟨rfl, _, rfl, XR.yd (upA (inS (cm 1) (64 + 198 * b + 6 + 16 * c) (fun j => cm 5 (60 * a + j)) 16) 4 (w32 (cm 1 4 + (hoK (inS (cm 1) (64 + 198 * b + 6 + 16 * c) (fun j => cm 5 (60 * a + j)) 16) b - hoK (cm 1) b)))) hR HX HL HN HS HP ?_ ?_ (fun i hi => by rw [upA_n (by omega), inS_n (by omega)]) (fun k q0 q1 => by rw [upA_n (by omega), inS_n (by rcases (by omega : k < b ∨ k = b ∨ b < k) with z | z | z <;> omega)]) (PI.inS HP xf.1.1 xf.1.2 xf.2.1 xf.2.2 hok) (HF.eq (by rw [aup_n (by omega), aup_rn (by decide), m2 0 (by decide)]) (by rw [aup_rn (by decide), aup_rn (by decide), m2 9 (by decide)])) (fun x j hx h0 => ?_) ?_ (fun x x0 x1 x9 => by rw [aup_rn x0, aup_rn x1, m2 x x1]) (fun i hi => by rw [aup_n (by omega), aup_rn (by decide), m2 0 (by decide)]) ?_ ?_ ?_⟩
                                           · rw [aup_rn (by decide), aup_r, m1, e4]; rfl
                                           · refine (k1.scal (s' := upA (inS (cm 1) (64 + 198 * b + 6 + 16 * c) (fun j => cm 5 (60 * a + j)) 16) 4 (w32 (cm 1 4 + (hoK (inS (cm 1) (64 + 198 * b + 6 + 16 * c) (fun j => cm 5 (60 * a + j)) 16) b - hoK (cm 1) b)))) (ct' := aup ct1 10 9 (w32 (cm 1 4 + (hoK (inS (cm 1) (64 + 198 * b + 6 + 16 * c) (fun j => cm 5 (60 * a + j)) 16) b - hoK (cm 1) b)))) (fun x j hx => aup_rn_a hx) (fun i hi => upA_n (by omega)) (upA_n (by omega)) ⟨?_, ?_, ?_, ?_, ?_, ?_, ?_, ?_⟩ ⟨?_, fun z => ?_⟩ : _)
                                             · rw [aup_n (by omega), upA_n (by omega)]; exact k1.2.2.2.2.2.1.1
                                             · rw [aup_n (by omega), upA_n (by omega), inS_n (by omega)]; exact k1.2.2.2.2.2.1.2.1
                                             · rw [aup_n (by omega), upA_n (by omega)]; exact k1.2.2.2.2.2.1.2.2.1
                                             · rw [aup_n (by omega), upA_n (by omega)]; exact k1.2.2.2.2.2.1.2.2.2.1
                                             · rw [aup_n (by omega), upA_n (by omega)]; exact k1.2.2.2.2.2.1.2.2.2.2.1
                                             · rw [aup_n (by omega), upA_n (by omega)]; exact k1.2.2.2.2.2.1.2.2.2.2.2.1
                                             · rw [aup_n (by omega), upA_n (by omega)]; exact k1.2.2.2.2.2.1.2.2.2.2.2.2.1
                                             · rw [aup_s, upA_s]
                                             · rw [aup_n (by omega), upA_n (by omega)]; exact k1.2.2.2.2.2.2.1.1
                                             · rw [upA_n (by omega)] at z ⊢
                                               rw [aup_n (by omega)]; exact k1.2.2.2.2.2.2.1.2 z
                                           · rw [aup_rn (fun z => by rw [z] at hx; omega), k2 x j (by omega), aup_n (by omega)]
                                           · rw [aup_n (by omega), k2 10 0 (by omega), aup_n (by omega)]
                                           · rw [aup_n (by omega), k2 0 7 (by rw [hR.1.2]; omega), aup_s, aup_s]
                                           · rw [aup_n (by omega), k2 0 8 (by rw [hR.1.2]; omega), aup_n (by omega), aup_n (by omega), aup_rn (by decide), m2 0 (by decide)]; exact hv3
                                           · rw [aup_n (by omega), k2 0 9 (by rw [hR.1.2]; omega), aup_n (by omega), aup_n (by omega), aup_rn (by decide), m2 0 (by decide)]; exact hv4)
                                    · refine aw_aload_n dX7_copyIn_87 rfl ?_
                                      refine aw_iconst dX7_copyIn_88 (by decide) ?_
                                      refine c_X7_72 rfl dX7_copyIn_89 m_ob (Nat.le_of_ble_eq_true rfl) (by omega) (C_m_refuse ?_)
                                      refine aK_i ?_
                                      refine aw_ireturn dX7_copyIn_92 rfl ?_
                                      first
                                        | (exfalso; omega)
                                        | exact absurd hok hbad
                                        | (refine ⟨by first | rfl | (rw [aup_rn (show ct (2 + a) 0 ≠ 0 from fun z => by rw [z] at y4; have := hR.1.2; omega), aup_rn (by decide), y5 b j0 j1]), _, rfl, XR.try hR HY HL HN HS HP HF HX hv3 hv4 (fun x j h8 h0 _ => ?_) (fun x i _ _ _ h0 => ?_) (fun t t0 t1 => TRY.fr (HX.1 t t0 t1) ?_ (fun x j hx => ?_) ?_ ?_ (fun j j0 j1 => ?_)) ?_⟩
                                           · (repeat (first | rw [aup_n h0] | rw [aup_rn h8]))
                                           · rw [aup_n h0]
                                           · (repeat rw [aup_n (by omega)])
                                           · have o8 := hR.2.2.2.2.2.1.2; have o0 := hR.1.2
                                             (repeat rw [aup_rn (fun z => by rw [z] at hx; omega)])
                                           · rw [aup_rn (by decide)]
                                           · rw [aup_rn (by decide)]
                                           · rw [aup_rn (by decide)]
                                           · simp [aup])
                              · first
                                  | (exfalso; omega)
                                  | skip
                                    refine aw_aload_n dX7_copyIn_49 rfl ?_
                                    refine aw_iconst dX7_copyIn_50 (by decide) ?_
                                    refine c_X7_72 rfl dX7_copyIn_51 m_ob (Nat.le_of_ble_eq_true rfl) (by omega) (C_m_refuse ?_)
                                    refine aK_i ?_
                                    refine aw_ireturn dX7_copyIn_54 rfl ?_
                                    first
                                      | (exfalso; omega)
                                      | exact absurd hok hbad
                                      | (refine ⟨by first | rfl | (rw [aup_rn (show ct (2 + a) 0 ≠ 0 from fun z => by rw [z] at y4; have := hR.1.2; omega), aup_rn (by decide), y5 b j0 j1]), _, rfl, XR.try hR HY HL HN HS HP HF HX hv3 hv4 (fun x j h8 h0 _ => ?_) (fun x i _ _ _ h0 => ?_) (fun t t0 t1 => TRY.fr (HX.1 t t0 t1) ?_ (fun x j hx => ?_) ?_ ?_ (fun j j0 j1 => ?_)) ?_⟩
                                         · (repeat (first | rw [aup_n h0] | rw [aup_rn h8]))
                                         · rw [aup_n h0]
                                         · (repeat rw [aup_n (by omega)])
                                         · have o8 := hR.2.2.2.2.2.1.2; have o0 := hR.1.2
                                           (repeat rw [aup_rn (fun z => by rw [z] at hx; omega)])
                                         · rw [aup_rn (by decide)]
                                         · rw [aup_rn (by decide)]
                                         · rw [aup_rn (by decide)]
                                         · simp [aup])
                        · first
                            | (exfalso; omega)
                            | skip
                              refine aw_aload_n dX7_copyIn_32 rfl ?_
                              refine aw_iconst dX7_copyIn_33 (by decide) ?_
                              refine c_X7_72 rfl dX7_copyIn_34 m_ob (Nat.le_of_ble_eq_true rfl) (by omega) (C_m_refuse ?_)
                              refine aK_i ?_
                              refine aw_ireturn dX7_copyIn_37 rfl ?_
                              first
                                | (exfalso; omega)
                                | exact absurd hok hbad
                                | (refine ⟨by first | rfl | (rw [aup_rn (show ct (2 + a) 0 ≠ 0 from fun z => by rw [z] at y4; have := hR.1.2; omega), aup_rn (by decide), y5 b j0 j1]), _, rfl, XR.try hR HY HL HN HS HP HF HX hv3 hv4 (fun x j h8 h0 _ => ?_) (fun x i _ _ _ h0 => ?_) (fun t t0 t1 => TRY.fr (HX.1 t t0 t1) ?_ (fun x j hx => ?_) ?_ ?_ (fun j j0 j1 => ?_)) ?_⟩
                                   · (repeat (first | rw [aup_n h0] | rw [aup_rn h8]))
                                   · rw [aup_n h0]
                                   · (repeat rw [aup_n (by omega)])
                                   · have o8 := hR.2.2.2.2.2.1.2; have o0 := hR.1.2
                                     (repeat rw [aup_rn (fun z => by rw [z] at hx; omega)])
                                   · rw [aup_rn (by decide)]
                                   · rw [aup_rn (by decide)]
                                   · rw [aup_rn (by decide)]
                                   · simp [aup])
                  · first
                      | (exfalso; omega)
                      | skip
                        refine aK_i ?_
                        refine aw_ifne (tgt := 22) dX7_copyIn_13 (by decide) (fun h => absurd h (by decide)) (fun _ => ?_)
                        refine aw_aload_n dX7_copyIn_16 rfl ?_
                        refine aw_iconst dX7_copyIn_17 (by decide) ?_
                        refine c_X7_72 rfl dX7_copyIn_18 m_ob (Nat.le_of_ble_eq_true rfl) (by omega) (C_m_refuse ?_)
                        refine aK_i ?_
                        refine aw_ireturn dX7_copyIn_21 rfl ?_
                        first
                          | (exfalso; omega)
                          | exact absurd hok hbad
                          | (refine ⟨by first | rfl | (rw [aup_rn (show ct (2 + a) 0 ≠ 0 from fun z => by rw [z] at y4; have := hR.1.2; omega), aup_rn (by decide), y5 b j0 j1]), _, rfl, XR.try hR HY HL HN HS HP HF HX hv3 hv4 (fun x j h8 h0 _ => ?_) (fun x i _ _ _ h0 => ?_) (fun t t0 t1 => TRY.fr (HX.1 t t0 t1) ?_ (fun x j hx => ?_) ?_ ?_ (fun j j0 j1 => ?_)) ?_⟩
                             · (repeat (first | rw [aup_n h0] | rw [aup_rn h8]))
                             · rw [aup_n h0]
                             · (repeat rw [aup_n (by omega)])
                             · have o8 := hR.2.2.2.2.2.1.2; have o0 := hR.1.2
                               (repeat rw [aup_rn (fun z => by rw [z] at hx; omega)])
                             · rw [aup_rn (by decide)]
                             · rw [aup_rn (by decide)]
                             · rw [aup_rn (by decide)]
                             · simp [aup])
            · first
                | (exfalso; omega)
                | skip
                  refine aK_i ?_
                  refine aw_ifeq (tgt := 16) dX7_copyIn_6 (by decide) (fun _ => ?_) (fun h => absurd h (by decide))
                  refine aw_aload_n dX7_copyIn_16 rfl ?_
                  refine aw_iconst dX7_copyIn_17 (by decide) ?_
                  refine c_X7_72 rfl dX7_copyIn_18 m_ob (Nat.le_of_ble_eq_true rfl) (by omega) (C_m_refuse ?_)
                  refine aK_i ?_
                  refine aw_ireturn dX7_copyIn_21 rfl ?_
                  first
                    | (exfalso; omega)
                    | exact absurd hok hbad
                    | (refine ⟨by first | rfl | (rw [aup_rn (show ct (2 + a) 0 ≠ 0 from fun z => by rw [z] at y4; have := hR.1.2; omega), aup_rn (by decide), y5 b j0 j1]), _, rfl, XR.try hR HY HL HN HS HP HF HX hv3 hv4 (fun x j h8 h0 _ => ?_) (fun x i _ _ _ h0 => ?_) (fun t t0 t1 => TRY.fr (HX.1 t t0 t1) ?_ (fun x j hx => ?_) ?_ ?_ (fun j j0 j1 => ?_)) ?_⟩
                       · (repeat (first | rw [aup_n h0] | rw [aup_rn h8]))
                       · rw [aup_n h0]
                       · (repeat rw [aup_n (by omega)])
                       · have o8 := hR.2.2.2.2.2.1.2; have o0 := hR.1.2
                         (repeat rw [aup_rn (fun z => by rw [z] at hx; omega)])
                       · rw [aup_rn (by decide)]
                       · rw [aup_rn (by decide)]
                       · rw [aup_rn (by decide)]
                       · simp [aup])
        · refine aw_iconst dX0_copyIn_57 (by decide) ?_
          refine aw_goto (tgt := 62) dX0_copyIn_58 (by decide) ?_
          refine aw_iconst dX0_copyIn_62 (by decide) ?_
          refine c_X0_98 rfl dX0_copyIn_63 hR.o0 (Nat.le_of_ble_eq_true rfl) (by omega) (C_x_want hR (fun hb => ?_) (fun hb => ?_))
          · refine aK_v ?_
            refine aw_iconst dX0_copyIn_66 (by decide) ?_
            refine aw_istore5 dX0_copyIn_67 (by decide) rfl ?_
            obtain ⟨r, er⟩ : ∃ z, ct (2 + a) 0 = z := ⟨_, rfl⟩
            rw [er] at y3 y4 y5
            have hne := TRY.rne hR t0 y4
            have hwx : ∀ j, 0 ≤ j → j < 16 → aup ct 0 7 0 r j = (fun j => cm 5 (60 * a + j)) j := fun j j0 j1 => by rw [aup_rn hne.1]; exact y5 j j0 (by omega)
            have HY1 : YR own 0 sz im (aup ct 0 7 0) 10 (cm 1) (cm 1 3) N := HY.up0 (j := 7) (v := 0) hR.1.2 (by decide)
            have Yb := HY1.2.2.2.2.2.2.2 b xf.1.1 xf.1.2
            have gb := HP.2.2.1 b xf.1.1 xf.1.2
            have gb1 := gb.1
            rw [er]
            refine AW.widen (kc' := 3 * 16 + 48) (ks' := 222 * 16 + 3552) (by decide) (by decide) ?_
            refine L_x_ci1 (w := fun j => cm 5 (60 * a + j)) (by omega) (hR.up0 (j := 7) (v := 0)) (by omega) y3 (by omega) (by omega) hwx (fun hok => ?_) (fun hbad k9 => ?_) 16 0 (by decide) (by decide) (fun j j0 j1 => by omega)
            · refine aw_aload_n dX0_copyIn_101 rfl ?_
              refine aw_iload_n dX0_copyIn_102 rfl ?_
              refine c_X0_172 rfl dX0_copyIn_103 hR.o0 (Nat.le_of_ble_eq_true rfl) (by omega) (C_x_xat (hR.up0 (j := 7) (v := 0)) HY1 (by omega) ?_)
              refine aK_i ?_
              refine c_X0_267 rfl dX0_copyIn_106 Yb.1.1 (Nat.le_of_ble_eq_true rfl) (by omega) (C_x_honey Yb.1 Yb.2.1 gb.2.1 ?_)
              refine aK_i ?_
              refine aw_istore5 dX0_copyIn_109 (by decide) rfl ?_
              refine aw_iconst dX0_copyIn_111 (by decide) ?_
              refine aw_istore6 dX0_copyIn_112 (by decide) rfl ?_
              refine AW.widen (kc' := 3 * 16 + 0) (ks' := 222 * 16 + 0) (by decide) (by decide) ?_
              refine L_x_ci2 (s := cm 1) (N := N) (dd := cm 1 3) (w := fun j => cm 5 (60 * a + j)) (by omega) (hR.up0 (j := 7) (v := 0)) (by omega) y3 (by omega) (by omega) hwx hok ⟨t0, t1⟩ y4 HY1 HP xf (fun ct1 k1 k2 => ?_) 16 0 _ (by decide) (by decide) (by rw [inS_0]; exact HY1) (fun _ _ _ => rfl)
              have er1 : RT own sz im ct1 := (hR.up0 (j := 7) (v := 0)).frame fun t _ _ => k2 1 t (by rw [hR.2.2.1.2.1]; omega)
              have hb12 := (HP.2.2.1 b xf.1.1 xf.1.2).1
              have e00 : (inS (cm 1) (64 + 198 * b + 6 + 16 * c) (fun j => cm 5 (60 * a + j)) 16) 0 = cm 1 0 := inS_n (by omega)
              have HP3 : PI (inS (cm 1) (64 + 198 * b + 6 + 16 * c) (fun j => cm 5 (60 * a + j)) 16) := by
                have q := PI.inS (v := cm 1 4) HP xf.1.1 xf.1.2 xf.2.1 xf.2.2 hok
                have e : upA (inS (cm 1) (64 + 198 * b + 6 + 16 * c) (fun j => cm 5 (60 * a + j)) 16) 4 (cm 1 4) = (inS (cm 1) (64 + 198 * b + 6 + 16 * c) (fun j => cm 5 (60 * a + j)) 16) := funext fun i => by
                  by_cases z : i = 4
                  · subst z; rw [upA_s, inS_n (by omega)]
                  · rw [upA_n z]
                rw [e] at q
                exact q
              have Y2 := k1.2.2.2.2.2.2.2 b xf.1.1 (by rw [e00]; exact xf.1.2)
              have g2b := (HP3.2.2.1 b xf.1.1 (by rw [e00]; exact xf.1.2))
              have hh1 := hoK_bd HP xf.1.1 xf.1.2
              have hh2 := hoK_bd HP3 xf.1.1 (by rw [e00]; exact xf.1.2)
              unfold hoK at hh1 hh2
              have hbr : ct1 10 9 = cm 1 4 := k1.2.2.2.2.2.1.2.2.2.2.2.2.2.trans (inS_n (by omega))
              refine aw_aload_n dX0_copyIn_149 rfl ?_
              refine aw_iload_n dX0_copyIn_150 rfl ?_
              refine c_X0_172 rfl dX0_copyIn_151 hR.o0 (Nat.le_of_ble_eq_true rfl) (by omega) (C_x_xat er1 k1 (by omega) ?_)
              refine aK_i ?_
              refine c_X0_267 rfl dX0_copyIn_154 Y2.1.1 (Nat.le_of_ble_eq_true rfl) (by omega) (C_x_honey Y2.1 Y2.2.1 g2b.2.1 ?_)
              refine aK_i ?_
              refine aw_iload dX0_copyIn_157 rfl ?_
              refine aw_isubr dX0_copyIn_159 (by omega) ?_
              refine aw_istore6 dX0_copyIn_160 (by decide) rfl ?_
              refine aw_aload_n dX0_copyIn_162 rfl ?_
              refine c_X0_158 rfl dX0_copyIn_163 hR.o0 (Nat.le_of_ble_eq_true rfl) (by omega) (C_x_yard2 hR ?_)
              refine aK_i ?_
              refine aw_dup dX0_copyIn_166 rfl ?_
              refine g_X0_244_5 rfl dX0_copyIn_167 HY.1 ?_
              rw [hbr]
              refine aw_iload dX0_copyIn_170 rfl ?_
              refine aw_iadd dX0_copyIn_172 ?_
              refine p_X0_244_5 rfl dX0_copyIn_173 HY.1 ?_
              refine aw_iload dX0_copyIn_176 rfl ?_
              refine aw_ireturn dX0_copyIn_178 rfl ?_
              refine ⟨_, rfl, ?_⟩
              refine AMet.go (L := [some (vR 0), some (vI a), some (vI b), some (vI c), none, none]) mok_X7_copyIn (Nat.le_of_ble_eq_true rfl) rfl ?_
              refine aw_aload_n dX7_copyIn_0 rfl ?_
              refine aw_iload_n dX7_copyIn_1 rfl ?_
              refine aw_iload_n dX7_copyIn_2 rfl ?_
              refine c_X7_298 rfl dX7_copyIn_3 m_ob (Nat.le_of_ble_eq_true rfl) (by omega) (C_m_isFrame (by omega) (fun hff => ?_) (fun hff => ?_))
              · first
                  | (exfalso; omega)
                  | skip
                    refine aK_i ?_
                    refine aw_ifeq (tgt := 16) dX7_copyIn_6 (by decide) (fun h => absurd h (by decide)) (fun _ => ?_)
                    refine aw_iload_n dX7_copyIn_9 rfl ?_
                    refine c_X7_83 rfl dX7_copyIn_10  (Nat.le_of_ble_eq_true rfl) (by omega) (C_m_isTray (fun htr => ?_) (fun htr => ?_))
                    · first
                        | (exfalso; omega)
                        | skip
                          refine aK_i ?_
                          refine aw_ifne (tgt := 22) dX7_copyIn_13 (by decide) (fun _ => ?_) (fun h => absurd h (by decide))
                          refine gm_24 rfl dX7_copyIn_22 dX7_copyIn_23 rfl ?_
                          refine aw_iload_n dX7_copyIn_26 rfl ?_
                          refine aw_iaload dX7_copyIn_27 m_a4 (by omega) (by omega) ?_
                          refine aw_iconst dX7_copyIn_28 (by decide) ?_
                          refine aw_icmpne (tgt := 38) dX7_copyIn_29 (by decide) (fun h29 => ?_) (fun h29 => ?_)
                          · first
                              | (exfalso; omega)
                              | skip
                                refine gm_24 rfl dX7_copyIn_38 dX7_copyIn_39 rfl ?_
                                refine aw_iload_n dX7_copyIn_42 rfl ?_
                                refine aw_iaload dX7_copyIn_43 m_a4 (by omega) (by omega) ?_
                                refine aw_bipush dX7_copyIn_44 (by decide) ?_
                                refine aw_icmpge (tgt := 55) dX7_copyIn_46 (by decide) (fun h46 => ?_) (fun h46 => ?_)
                                · first
                                    | (exfalso; omega)
                                    | skip
                                      refine aw_iconst dX7_copyIn_55 (by decide) ?_
                                      refine aw_istore4 dX7_copyIn_56 (by decide) rfl ?_
                                      refine L_m_ci1 (w := fun j => cm 5 (60 * a + j)) (by omega) (by omega) (fun _ _ _ => rfl) (fun hok => ?_) (fun hbad k8 => ?_) 16 0 (by decide) (by decide) (fun j j0 j1 => by omega)
                                      · first
                                          | exact absurd hok hbad
                                          | (have gb9 := (HP.2.2.1 b xf.1.1 xf.1.2)
                                             have gb8 := gb9.1
                                             refine aw_aload_n dX7_copyIn_99 rfl ?_
                                             refine aw_iload_n dX7_copyIn_100 rfl ?_
                                             refine c_X7_217 rfl dX7_copyIn_101  (Nat.le_of_ble_eq_true rfl) (by omega) (C_m_hiveRow (by omega) ?_)
                                             refine aK_i ?_
                                             refine aw_iconst dX7_copyIn_104 (by decide) ?_
                                             refine c_X7_283 rfl dX7_copyIn_105 m_ob (Nat.le_of_ble_eq_true rfl) (by omega) (C_m_sumOf rfl gb9.1 (by omega) gb9.2.1 ?_)
                                             refine aK_i ?_
                                             refine aw_istore4 dX7_copyIn_108 (by decide) rfl ?_
                                             refine aw_iconst dX7_copyIn_110 (by decide) ?_
                                             refine aw_istore5 dX7_copyIn_111 (by decide) rfl ?_
                                             refine L_m_ci2 (w := fun j => cm 5 (60 * a + j)) (by omega) (by omega) (by omega) (by omega) (fun _ _ _ => rfl) hok (fun cm3 m1 m2 => ?_) 16 0 cm (by decide) (by decide) inS_0.symm (fun _ _ => rfl)
                                             refine aw_aload_n dX7_copyIn_153 rfl ?_
                                             refine aw_iload_n dX7_copyIn_154 rfl ?_
                                             refine c_X7_217 rfl dX7_copyIn_155  (Nat.le_of_ble_eq_true rfl) (by omega) (C_m_hiveRow (by omega) ?_)
                                             refine aK_i ?_
                                             refine aw_iconst dX7_copyIn_158 (by decide) ?_
                                             refine c_X7_283 rfl dX7_copyIn_159 m_ob (Nat.le_of_ble_eq_true rfl) (by omega) (C_m_sumOf rfl (by rw [m1]; exact g2b.1) (by rw [m1, inS_n (by omega)]; omega) (by rw [m1]; exact g2b.2.1) ?_)
                                             rw [m1]
                                             refine aK_i ?_
                                             refine aw_iload dX7_copyIn_162 rfl ?_
                                             refine aw_isubr dX7_copyIn_164 (by omega) ?_
                                             refine aw_istore5 dX7_copyIn_165 (by decide) rfl ?_
                                             refine gm_7 rfl dX7_copyIn_167 dX7_copyIn_168 rfl ?_
                                             refine aw_iconst dX7_copyIn_171 (by decide) ?_
                                             refine aw_dup2 dX7_copyIn_172 rfl rfl ?_
                                             refine aw_iaload dX7_copyIn_173 m_a1 (by omega) (by omega) ?_
                                             refine aw_iload dX7_copyIn_174 rfl ?_
                                             refine aw_iadd dX7_copyIn_176 ?_
                                             refine aw_iastore dX7_copyIn_177 m_a1 (by omega) (by omega) ?_
                                             refine aw_aload_n dX7_copyIn_178 rfl ?_
                                             refine aw_iload dX7_copyIn_179 rfl ?_
                                             refine c_X7_76 rfl dX7_copyIn_181 m_ob (Nat.le_of_ble_eq_true rfl) (by omega) (C_m_gives ?_)
                                             refine aK_i ?_
                                             refine aw_ireturn dX7_copyIn_184 rfl ?_
                                             have e4 : (inS (cm 1) (64 + 198 * b + 6 + 16 * c) (fun j => cm 5 (60 * a + j)) 16) 4 = cm 1 4 := inS_n (by omega)
                                             have c10 := HY.2.1
                                             refine ⟨rfl, _, rfl, XR.yd (upA (inS (cm 1) (64 + 198 * b + 6 + 16 * c) (fun j => cm 5 (60 * a + j)) 16) 4 (w32 (cm 1 4 + (hoK (inS (cm 1) (64 + 198 * b + 6 + 16 * c) (fun j => cm 5 (60 * a + j)) 16) b - hoK (cm 1) b)))) hR HX HL HN HS HP ?_ ?_ (fun i hi => by rw [upA_n (by omega), inS_n (by omega)]) (fun k q0 q1 => by rw [upA_n (by omega), inS_n (by rcases (by omega : k < b ∨ k = b ∨ b < k) with z | z | z <;> omega)]) (PI.inS HP xf.1.1 xf.1.2 xf.2.1 xf.2.2 hok) (HF.eq (by rw [aup_n (by omega), aup_rn (by decide), m2 0 (by decide)]) (by rw [aup_rn (by decide), aup_rn (by decide), m2 9 (by decide)])) (fun x j hx h0 => ?_) ?_ (fun x x0 x1 x9 => by rw [aup_rn x0, aup_rn x1, m2 x x1]) (fun i hi => by rw [aup_n (by omega), aup_rn (by decide), m2 0 (by decide)]) ?_ ?_ ?_⟩
                                             · rw [aup_rn (by decide), aup_r, m1, e4]; rfl
                                             · refine (k1.scal (s' := upA (inS (cm 1) (64 + 198 * b + 6 + 16 * c) (fun j => cm 5 (60 * a + j)) 16) 4 (w32 (cm 1 4 + (hoK (inS (cm 1) (64 + 198 * b + 6 + 16 * c) (fun j => cm 5 (60 * a + j)) 16) b - hoK (cm 1) b)))) (ct' := aup ct1 10 9 (w32 (cm 1 4 + (hoK (inS (cm 1) (64 + 198 * b + 6 + 16 * c) (fun j => cm 5 (60 * a + j)) 16) b - hoK (cm 1) b)))) (fun x j hx => aup_rn_a hx) (fun i hi => upA_n (by omega)) (upA_n (by omega)) ⟨?_, ?_, ?_, ?_, ?_, ?_, ?_, ?_⟩ ⟨?_, fun z => ?_⟩ : _)
                                               · rw [aup_n (by omega), upA_n (by omega)]; exact k1.2.2.2.2.2.1.1
                                               · rw [aup_n (by omega), upA_n (by omega), inS_n (by omega)]; exact k1.2.2.2.2.2.1.2.1
                                               · rw [aup_n (by omega), upA_n (by omega)]; exact k1.2.2.2.2.2.1.2.2.1
                                               · rw [aup_n (by omega), upA_n (by omega)]; exact k1.2.2.2.2.2.1.2.2.2.1
                                               · rw [aup_n (by omega), upA_n (by omega)]; exact k1.2.2.2.2.2.1.2.2.2.2.1
                                               · rw [aup_n (by omega), upA_n (by omega)]; exact k1.2.2.2.2.2.1.2.2.2.2.2.1
                                               · rw [aup_n (by omega), upA_n (by omega)]; exact k1.2.2.2.2.2.1.2.2.2.2.2.2.1
                                               · rw [aup_s, upA_s]
                                               · rw [aup_n (by omega), upA_n (by omega)]; exact k1.2.2.2.2.2.2.1.1
                                               · rw [upA_n (by omega)] at z ⊢
                                                 rw [aup_n (by omega)]; exact k1.2.2.2.2.2.2.1.2 z
                                             · rw [aup_rn (fun z => by rw [z] at hx; omega), k2 x j (by omega), aup_n (by omega)]
                                             · rw [aup_n (by omega), k2 10 0 (by omega), aup_n (by omega)]
                                             · rw [aup_n (by omega), k2 0 7 (by rw [hR.1.2]; omega), aup_s, aup_s]
                                             · rw [aup_n (by omega), k2 0 8 (by rw [hR.1.2]; omega), aup_n (by omega), aup_n (by omega), aup_rn (by decide), m2 0 (by decide)]; exact hv3
                                             · rw [aup_n (by omega), k2 0 9 (by rw [hR.1.2]; omega), aup_n (by omega), aup_n (by omega), aup_rn (by decide), m2 0 (by decide)]; exact hv4)
                                      · refine aw_aload_n dX7_copyIn_87 rfl ?_
                                        refine aw_iconst dX7_copyIn_88 (by decide) ?_
                                        refine c_X7_72 rfl dX7_copyIn_89 m_ob (Nat.le_of_ble_eq_true rfl) (by omega) (C_m_refuse ?_)
                                        refine aK_i ?_
                                        refine aw_ireturn dX7_copyIn_92 rfl ?_
                                        first
                                          | (exfalso; omega)
                                          | exact absurd hok hbad
                                          | (refine ⟨by first | rfl | (rw [aup_rn (show ct (2 + a) 0 ≠ 0 from fun z => by rw [z] at y4; have := hR.1.2; omega), aup_rn (by decide), y5 b j0 j1]), _, rfl, XR.try hR HY HL HN HS HP HF HX hv3 hv4 (fun x j h8 h0 _ => ?_) (fun x i _ _ _ h0 => ?_) (fun t t0 t1 => TRY.fr (HX.1 t t0 t1) ?_ (fun x j hx => ?_) ?_ ?_ (fun j j0 j1 => ?_)) ?_⟩
                                             · (repeat (first | rw [aup_n h0] | rw [aup_rn h8]))
                                             · rw [aup_n h0]
                                             · (repeat rw [aup_n (by omega)])
                                             · have o8 := hR.2.2.2.2.2.1.2; have o0 := hR.1.2
                                               (repeat rw [aup_rn (fun z => by rw [z] at hx; omega)])
                                             · rw [aup_rn (by decide)]
                                             · rw [aup_rn (by decide)]
                                             · rw [aup_rn (by decide)]
                                             · simp [aup])
                                · first
                                    | (exfalso; omega)
                                    | skip
                                      refine aw_aload_n dX7_copyIn_49 rfl ?_
                                      refine aw_iconst dX7_copyIn_50 (by decide) ?_
                                      refine c_X7_72 rfl dX7_copyIn_51 m_ob (Nat.le_of_ble_eq_true rfl) (by omega) (C_m_refuse ?_)
                                      refine aK_i ?_
                                      refine aw_ireturn dX7_copyIn_54 rfl ?_
                                      first
                                        | (exfalso; omega)
                                        | exact absurd hok hbad
                                        | (refine ⟨by first | rfl | (rw [aup_rn (show ct (2 + a) 0 ≠ 0 from fun z => by rw [z] at y4; have := hR.1.2; omega), aup_rn (by decide), y5 b j0 j1]), _, rfl, XR.try hR HY HL HN HS HP HF HX hv3 hv4 (fun x j h8 h0 _ => ?_) (fun x i _ _ _ h0 => ?_) (fun t t0 t1 => TRY.fr (HX.1 t t0 t1) ?_ (fun x j hx => ?_) ?_ ?_ (fun j j0 j1 => ?_)) ?_⟩
                                           · (repeat (first | rw [aup_n h0] | rw [aup_rn h8]))
                                           · rw [aup_n h0]
                                           · (repeat rw [aup_n (by omega)])
                                           · have o8 := hR.2.2.2.2.2.1.2; have o0 := hR.1.2
                                             (repeat rw [aup_rn (fun z => by rw [z] at hx; omega)])
                                           · rw [aup_rn (by decide)]
                                           · rw [aup_rn (by decide)]
                                           · rw [aup_rn (by decide)]
                                           · simp [aup])
                          · first
                              | (exfalso; omega)
                              | skip
                                refine aw_aload_n dX7_copyIn_32 rfl ?_
                                refine aw_iconst dX7_copyIn_33 (by decide) ?_
                                refine c_X7_72 rfl dX7_copyIn_34 m_ob (Nat.le_of_ble_eq_true rfl) (by omega) (C_m_refuse ?_)
                                refine aK_i ?_
                                refine aw_ireturn dX7_copyIn_37 rfl ?_
                                first
                                  | (exfalso; omega)
                                  | exact absurd hok hbad
                                  | (refine ⟨by first | rfl | (rw [aup_rn (show ct (2 + a) 0 ≠ 0 from fun z => by rw [z] at y4; have := hR.1.2; omega), aup_rn (by decide), y5 b j0 j1]), _, rfl, XR.try hR HY HL HN HS HP HF HX hv3 hv4 (fun x j h8 h0 _ => ?_) (fun x i _ _ _ h0 => ?_) (fun t t0 t1 => TRY.fr (HX.1 t t0 t1) ?_ (fun x j hx => ?_) ?_ ?_ (fun j j0 j1 => ?_)) ?_⟩
                                     · (repeat (first | rw [aup_n h0] | rw [aup_rn h8]))
                                     · rw [aup_n h0]
                                     · (repeat rw [aup_n (by omega)])
                                     · have o8 := hR.2.2.2.2.2.1.2; have o0 := hR.1.2
                                       (repeat rw [aup_rn (fun z => by rw [z] at hx; omega)])
                                     · rw [aup_rn (by decide)]
                                     · rw [aup_rn (by decide)]
                                     · rw [aup_rn (by decide)]
                                     · simp [aup])
                    · first
                        | (exfalso; omega)
                        | skip
                          refine aK_i ?_
                          refine aw_ifne (tgt := 22) dX7_copyIn_13 (by decide) (fun h => absurd h (by decide)) (fun _ => ?_)
                          refine aw_aload_n dX7_copyIn_16 rfl ?_
                          refine aw_iconst dX7_copyIn_17 (by decide) ?_
                          refine c_X7_72 rfl dX7_copyIn_18 m_ob (Nat.le_of_ble_eq_true rfl) (by omega) (C_m_refuse ?_)
                          refine aK_i ?_
                          refine aw_ireturn dX7_copyIn_21 rfl ?_
                          first
                            | (exfalso; omega)
                            | exact absurd hok hbad
                            | (refine ⟨by first | rfl | (rw [aup_rn (show ct (2 + a) 0 ≠ 0 from fun z => by rw [z] at y4; have := hR.1.2; omega), aup_rn (by decide), y5 b j0 j1]), _, rfl, XR.try hR HY HL HN HS HP HF HX hv3 hv4 (fun x j h8 h0 _ => ?_) (fun x i _ _ _ h0 => ?_) (fun t t0 t1 => TRY.fr (HX.1 t t0 t1) ?_ (fun x j hx => ?_) ?_ ?_ (fun j j0 j1 => ?_)) ?_⟩
                               · (repeat (first | rw [aup_n h0] | rw [aup_rn h8]))
                               · rw [aup_n h0]
                               · (repeat rw [aup_n (by omega)])
                               · have o8 := hR.2.2.2.2.2.1.2; have o0 := hR.1.2
                                 (repeat rw [aup_rn (fun z => by rw [z] at hx; omega)])
                               · rw [aup_rn (by decide)]
                               · rw [aup_rn (by decide)]
                               · rw [aup_rn (by decide)]
                               · simp [aup])
              · first
                  | (exfalso; omega)
                  | skip
                    refine aK_i ?_
                    refine aw_ifeq (tgt := 16) dX7_copyIn_6 (by decide) (fun _ => ?_) (fun h => absurd h (by decide))
                    refine aw_aload_n dX7_copyIn_16 rfl ?_
                    refine aw_iconst dX7_copyIn_17 (by decide) ?_
                    refine c_X7_72 rfl dX7_copyIn_18 m_ob (Nat.le_of_ble_eq_true rfl) (by omega) (C_m_refuse ?_)
                    refine aK_i ?_
                    refine aw_ireturn dX7_copyIn_21 rfl ?_
                    first
                      | (exfalso; omega)
                      | exact absurd hok hbad
                      | (refine ⟨by first | rfl | (rw [aup_rn (show ct (2 + a) 0 ≠ 0 from fun z => by rw [z] at y4; have := hR.1.2; omega), aup_rn (by decide), y5 b j0 j1]), _, rfl, XR.try hR HY HL HN HS HP HF HX hv3 hv4 (fun x j h8 h0 _ => ?_) (fun x i _ _ _ h0 => ?_) (fun t t0 t1 => TRY.fr (HX.1 t t0 t1) ?_ (fun x j hx => ?_) ?_ ?_ (fun j j0 j1 => ?_)) ?_⟩
                         · (repeat (first | rw [aup_n h0] | rw [aup_rn h8]))
                         · rw [aup_n h0]
                         · (repeat rw [aup_n (by omega)])
                         · have o8 := hR.2.2.2.2.2.1.2; have o0 := hR.1.2
                           (repeat rw [aup_rn (fun z => by rw [z] at hx; omega)])
                         · rw [aup_rn (by decide)]
                         · rw [aup_rn (by decide)]
                         · rw [aup_rn (by decide)]
                         · simp [aup])
            · refine aw_astore4 dX0_copyIn_179 (by decide) rfl ?_
              refine aw_aload_n dX0_copyIn_181 rfl ?_
              refine aw_aload dX0_copyIn_182 rfl ?_
              refine c_X0_131 rfl dX0_copyIn_184 hR.o0 (Nat.le_of_ble_eq_true rfl) (by omega) (C_x_none (hR.up0 (j := 7) (v := 0)) ?_)
              refine aK_i ?_
              refine aw_ireturn dX0_copyIn_187 rfl ?_
              refine ⟨_, rfl, ?_⟩
              refine AMet.go (L := [some (vR 0), some (vI a), some (vI b), some (vI c), none, none]) mok_X7_copyIn (Nat.le_of_ble_eq_true rfl) rfl ?_
              refine aw_aload_n dX7_copyIn_0 rfl ?_
              refine aw_iload_n dX7_copyIn_1 rfl ?_
              refine aw_iload_n dX7_copyIn_2 rfl ?_
              refine c_X7_298 rfl dX7_copyIn_3 m_ob (Nat.le_of_ble_eq_true rfl) (by omega) (C_m_isFrame (by omega) (fun hff => ?_) (fun hff => ?_))
              · first
                  | (exfalso; omega)
                  | skip
                    refine aK_i ?_
                    refine aw_ifeq (tgt := 16) dX7_copyIn_6 (by decide) (fun h => absurd h (by decide)) (fun _ => ?_)
                    refine aw_iload_n dX7_copyIn_9 rfl ?_
                    refine c_X7_83 rfl dX7_copyIn_10  (Nat.le_of_ble_eq_true rfl) (by omega) (C_m_isTray (fun htr => ?_) (fun htr => ?_))
                    · first
                        | (exfalso; omega)
                        | skip
                          refine aK_i ?_
                          refine aw_ifne (tgt := 22) dX7_copyIn_13 (by decide) (fun _ => ?_) (fun h => absurd h (by decide))
                          refine gm_24 rfl dX7_copyIn_22 dX7_copyIn_23 rfl ?_
                          refine aw_iload_n dX7_copyIn_26 rfl ?_
                          refine aw_iaload dX7_copyIn_27 m_a4 (by omega) (by omega) ?_
                          refine aw_iconst dX7_copyIn_28 (by decide) ?_
                          refine aw_icmpne (tgt := 38) dX7_copyIn_29 (by decide) (fun h29 => ?_) (fun h29 => ?_)
                          · first
                              | (exfalso; omega)
                              | skip
                                refine gm_24 rfl dX7_copyIn_38 dX7_copyIn_39 rfl ?_
                                refine aw_iload_n dX7_copyIn_42 rfl ?_
                                refine aw_iaload dX7_copyIn_43 m_a4 (by omega) (by omega) ?_
                                refine aw_bipush dX7_copyIn_44 (by decide) ?_
                                refine aw_icmpge (tgt := 55) dX7_copyIn_46 (by decide) (fun h46 => ?_) (fun h46 => ?_)
                                · first
                                    | (exfalso; omega)
                                    | skip
                                      refine aw_iconst dX7_copyIn_55 (by decide) ?_
                                      refine aw_istore4 dX7_copyIn_56 (by decide) rfl ?_
                                      refine L_m_ci1 (w := fun j => cm 5 (60 * a + j)) (by omega) (by omega) (fun _ _ _ => rfl) (fun hok => ?_) (fun hbad k8 => ?_) 16 0 (by decide) (by decide) (fun j j0 j1 => by omega)
                                      · first
                                          | exact absurd hok hbad
                                          | (have gb9 := (HP.2.2.1 b xf.1.1 xf.1.2)
                                             have gb8 := gb9.1
                                             refine aw_aload_n dX7_copyIn_99 rfl ?_
                                             refine aw_iload_n dX7_copyIn_100 rfl ?_
                                             refine c_X7_217 rfl dX7_copyIn_101  (Nat.le_of_ble_eq_true rfl) (by omega) (C_m_hiveRow (by omega) ?_)
                                             refine aK_i ?_
                                             refine aw_iconst dX7_copyIn_104 (by decide) ?_
                                             refine c_X7_283 rfl dX7_copyIn_105 m_ob (Nat.le_of_ble_eq_true rfl) (by omega) (C_m_sumOf rfl gb9.1 (by omega) gb9.2.1 ?_)
                                             refine aK_i ?_
                                             refine aw_istore4 dX7_copyIn_108 (by decide) rfl ?_
                                             refine aw_iconst dX7_copyIn_110 (by decide) ?_
                                             refine aw_istore5 dX7_copyIn_111 (by decide) rfl ?_
                                             refine L_m_ci2 (w := fun j => cm 5 (60 * a + j)) (by omega) (by omega) (by omega) (by omega) (fun _ _ _ => rfl) hok (fun cm3 m1 m2 => ?_) 16 0 cm (by decide) (by decide) inS_0.symm (fun _ _ => rfl)
                                             refine aw_aload_n dX7_copyIn_153 rfl ?_
                                             refine aw_iload_n dX7_copyIn_154 rfl ?_
                                             refine c_X7_217 rfl dX7_copyIn_155  (Nat.le_of_ble_eq_true rfl) (by omega) (C_m_hiveRow (by omega) ?_)
                                             refine aK_i ?_
                                             refine aw_iconst dX7_copyIn_158 (by decide) ?_
                                             refine c_X7_283 rfl dX7_copyIn_159 m_ob (Nat.le_of_ble_eq_true rfl) (by omega) (C_m_sumOf rfl (by rw [m1]; exact g2b.1) (by rw [m1, inS_n (by omega)]; omega) (by rw [m1]; exact g2b.2.1) ?_)
                                             rw [m1]
                                             refine aK_i ?_
                                             refine aw_iload dX7_copyIn_162 rfl ?_
                                             refine aw_isubr dX7_copyIn_164 (by omega) ?_
                                             refine aw_istore5 dX7_copyIn_165 (by decide) rfl ?_
                                             refine gm_7 rfl dX7_copyIn_167 dX7_copyIn_168 rfl ?_
                                             refine aw_iconst dX7_copyIn_171 (by decide) ?_
                                             refine aw_dup2 dX7_copyIn_172 rfl rfl ?_
                                             refine aw_iaload dX7_copyIn_173 m_a1 (by omega) (by omega) ?_
                                             refine aw_iload dX7_copyIn_174 rfl ?_
                                             refine aw_iadd dX7_copyIn_176 ?_
                                             refine aw_iastore dX7_copyIn_177 m_a1 (by omega) (by omega) ?_
                                             refine aw_aload_n dX7_copyIn_178 rfl ?_
                                             refine aw_iload dX7_copyIn_179 rfl ?_
                                             refine c_X7_76 rfl dX7_copyIn_181 m_ob (Nat.le_of_ble_eq_true rfl) (by omega) (C_m_gives ?_)
                                             refine aK_i ?_
                                             refine aw_ireturn dX7_copyIn_184 rfl ?_
                                             have e4 : (inS (cm 1) (64 + 198 * b + 6 + 16 * c) (fun j => cm 5 (60 * a + j)) 16) 4 = cm 1 4 := inS_n (by omega)
                                             have c10 := HY.2.1
                                             refine ⟨rfl, _, rfl, XR.yd (upA (inS (cm 1) (64 + 198 * b + 6 + 16 * c) (fun j => cm 5 (60 * a + j)) 16) 4 (w32 (cm 1 4 + (hoK (inS (cm 1) (64 + 198 * b + 6 + 16 * c) (fun j => cm 5 (60 * a + j)) 16) b - hoK (cm 1) b)))) hR HX HL HN HS HP ?_ ?_ (fun i hi => by rw [upA_n (by omega), inS_n (by omega)]) (fun k q0 q1 => by rw [upA_n (by omega), inS_n (by rcases (by omega : k < b ∨ k = b ∨ b < k) with z | z | z <;> omega)]) (PI.inS HP xf.1.1 xf.1.2 xf.2.1 xf.2.2 hok) (HF.eq (by rw [aup_n (by omega), aup_rn (by decide), m2 0 (by decide)]) (by rw [aup_rn (by decide), aup_rn (by decide), m2 9 (by decide)])) (fun x j hx h0 => ?_) ?_ (fun x x0 x1 x9 => by rw [aup_rn x0, aup_rn x1, m2 x x1]) (fun i hi => by rw [aup_n (by omega), aup_rn (by decide), m2 0 (by decide)]) ?_ ?_ ?_⟩
                                             · rw [aup_rn (by decide), aup_r, m1, e4]; rfl
                                             · refine (k1.scal (s' := upA (inS (cm 1) (64 + 198 * b + 6 + 16 * c) (fun j => cm 5 (60 * a + j)) 16) 4 (w32 (cm 1 4 + (hoK (inS (cm 1) (64 + 198 * b + 6 + 16 * c) (fun j => cm 5 (60 * a + j)) 16) b - hoK (cm 1) b)))) (ct' := aup ct1 10 9 (w32 (cm 1 4 + (hoK (inS (cm 1) (64 + 198 * b + 6 + 16 * c) (fun j => cm 5 (60 * a + j)) 16) b - hoK (cm 1) b)))) (fun x j hx => aup_rn_a hx) (fun i hi => upA_n (by omega)) (upA_n (by omega)) ⟨?_, ?_, ?_, ?_, ?_, ?_, ?_, ?_⟩ ⟨?_, fun z => ?_⟩ : _)
                                               · rw [aup_n (by omega), upA_n (by omega)]; exact k1.2.2.2.2.2.1.1
                                               · rw [aup_n (by omega), upA_n (by omega), inS_n (by omega)]; exact k1.2.2.2.2.2.1.2.1
                                               · rw [aup_n (by omega), upA_n (by omega)]; exact k1.2.2.2.2.2.1.2.2.1
                                               · rw [aup_n (by omega), upA_n (by omega)]; exact k1.2.2.2.2.2.1.2.2.2.1
                                               · rw [aup_n (by omega), upA_n (by omega)]; exact k1.2.2.2.2.2.1.2.2.2.2.1
                                               · rw [aup_n (by omega), upA_n (by omega)]; exact k1.2.2.2.2.2.1.2.2.2.2.2.1
                                               · rw [aup_n (by omega), upA_n (by omega)]; exact k1.2.2.2.2.2.1.2.2.2.2.2.2.1
                                               · rw [aup_s, upA_s]
                                               · rw [aup_n (by omega), upA_n (by omega)]; exact k1.2.2.2.2.2.2.1.1
                                               · rw [upA_n (by omega)] at z ⊢
                                                 rw [aup_n (by omega)]; exact k1.2.2.2.2.2.2.1.2 z
                                             · rw [aup_rn (fun z => by rw [z] at hx; omega), k2 x j (by omega), aup_n (by omega)]
                                             · rw [aup_n (by omega), k2 10 0 (by omega), aup_n (by omega)]
                                             · rw [aup_n (by omega), k2 0 7 (by rw [hR.1.2]; omega), aup_s, aup_s]
                                             · rw [aup_n (by omega), k2 0 8 (by rw [hR.1.2]; omega), aup_n (by omega), aup_n (by omega), aup_rn (by decide), m2 0 (by decide)]; exact hv3
                                             · rw [aup_n (by omega), k2 0 9 (by rw [hR.1.2]; omega), aup_n (by omega), aup_n (by omega), aup_rn (by decide), m2 0 (by decide)]; exact hv4)
                                      · refine aw_aload_n dX7_copyIn_87 rfl ?_
                                        refine aw_iconst dX7_copyIn_88 (by decide) ?_
                                        refine c_X7_72 rfl dX7_copyIn_89 m_ob (Nat.le_of_ble_eq_true rfl) (by omega) (C_m_refuse ?_)
                                        refine aK_i ?_
                                        refine aw_ireturn dX7_copyIn_92 rfl ?_
                                        first
                                          | (exfalso; omega)
                                          | exact absurd hok hbad
                                          | (refine ⟨by first | rfl | (rw [aup_rn (show ct (2 + a) 0 ≠ 0 from fun z => by rw [z] at y4; have := hR.1.2; omega), aup_rn (by decide), y5 b j0 j1]), _, rfl, XR.try hR HY HL HN HS HP HF HX hv3 hv4 (fun x j h8 h0 _ => ?_) (fun x i _ _ _ h0 => ?_) (fun t t0 t1 => TRY.fr (HX.1 t t0 t1) ?_ (fun x j hx => ?_) ?_ ?_ (fun j j0 j1 => ?_)) ?_⟩
                                             · (repeat (first | rw [aup_n h0] | rw [aup_rn h8]))
                                             · rw [aup_n h0]
                                             · (repeat rw [aup_n (by omega)])
                                             · have o8 := hR.2.2.2.2.2.1.2; have o0 := hR.1.2
                                               (repeat rw [aup_rn (fun z => by rw [z] at hx; omega)])
                                             · rw [aup_rn (by decide)]
                                             · rw [aup_rn (by decide)]
                                             · rw [aup_rn (by decide)]
                                             · simp [aup])
                                · first
                                    | (exfalso; omega)
                                    | skip
                                      refine aw_aload_n dX7_copyIn_49 rfl ?_
                                      refine aw_iconst dX7_copyIn_50 (by decide) ?_
                                      refine c_X7_72 rfl dX7_copyIn_51 m_ob (Nat.le_of_ble_eq_true rfl) (by omega) (C_m_refuse ?_)
                                      refine aK_i ?_
                                      refine aw_ireturn dX7_copyIn_54 rfl ?_
                                      first
                                        | (exfalso; omega)
                                        | exact absurd hok hbad
                                        | (refine ⟨by first | rfl | (rw [aup_rn (show ct (2 + a) 0 ≠ 0 from fun z => by rw [z] at y4; have := hR.1.2; omega), aup_rn (by decide), y5 b j0 j1]), _, rfl, XR.try hR HY HL HN HS HP HF HX hv3 hv4 (fun x j h8 h0 _ => ?_) (fun x i _ _ _ h0 => ?_) (fun t t0 t1 => TRY.fr (HX.1 t t0 t1) ?_ (fun x j hx => ?_) ?_ ?_ (fun j j0 j1 => ?_)) ?_⟩
                                           · (repeat (first | rw [aup_n h0] | rw [aup_rn h8]))
                                           · rw [aup_n h0]
                                           · (repeat rw [aup_n (by omega)])
                                           · have o8 := hR.2.2.2.2.2.1.2; have o0 := hR.1.2
                                             (repeat rw [aup_rn (fun z => by rw [z] at hx; omega)])
                                           · rw [aup_rn (by decide)]
                                           · rw [aup_rn (by decide)]
                                           · rw [aup_rn (by decide)]
                                           · simp [aup])
                          · first
                              | (exfalso; omega)
                              | skip
                                refine aw_aload_n dX7_copyIn_32 rfl ?_
                                refine aw_iconst dX7_copyIn_33 (by decide) ?_
                                refine c_X7_72 rfl dX7_copyIn_34 m_ob (Nat.le_of_ble_eq_true rfl) (by omega) (C_m_refuse ?_)
                                refine aK_i ?_
                                refine aw_ireturn dX7_copyIn_37 rfl ?_
                                first
                                  | (exfalso; omega)
                                  | exact absurd hok hbad
                                  | (refine ⟨by first | rfl | (rw [aup_rn (show ct (2 + a) 0 ≠ 0 from fun z => by rw [z] at y4; have := hR.1.2; omega), aup_rn (by decide), y5 b j0 j1]), _, rfl, XR.try hR HY HL HN HS HP HF HX hv3 hv4 (fun x j h8 h0 _ => ?_) (fun x i _ _ _ h0 => ?_) (fun t t0 t1 => TRY.fr (HX.1 t t0 t1) ?_ (fun x j hx => ?_) ?_ ?_ (fun j j0 j1 => ?_)) ?_⟩
                                     · (repeat (first | rw [aup_n h0] | rw [aup_rn h8]))
                                     · rw [aup_n h0]
                                     · (repeat rw [aup_n (by omega)])
                                     · have o8 := hR.2.2.2.2.2.1.2; have o0 := hR.1.2
                                       (repeat rw [aup_rn (fun z => by rw [z] at hx; omega)])
                                     · rw [aup_rn (by decide)]
                                     · rw [aup_rn (by decide)]
                                     · rw [aup_rn (by decide)]
                                     · simp [aup])
                    · first
                        | (exfalso; omega)
                        | skip
                          refine aK_i ?_
                          refine aw_ifne (tgt := 22) dX7_copyIn_13 (by decide) (fun h => absurd h (by decide)) (fun _ => ?_)
                          refine aw_aload_n dX7_copyIn_16 rfl ?_
                          refine aw_iconst dX7_copyIn_17 (by decide) ?_
                          refine c_X7_72 rfl dX7_copyIn_18 m_ob (Nat.le_of_ble_eq_true rfl) (by omega) (C_m_refuse ?_)
                          refine aK_i ?_
                          refine aw_ireturn dX7_copyIn_21 rfl ?_
                          first
                            | (exfalso; omega)
                            | exact absurd hok hbad
                            | (refine ⟨by first | rfl | (rw [aup_rn (show ct (2 + a) 0 ≠ 0 from fun z => by rw [z] at y4; have := hR.1.2; omega), aup_rn (by decide), y5 b j0 j1]), _, rfl, XR.try hR HY HL HN HS HP HF HX hv3 hv4 (fun x j h8 h0 _ => ?_) (fun x i _ _ _ h0 => ?_) (fun t t0 t1 => TRY.fr (HX.1 t t0 t1) ?_ (fun x j hx => ?_) ?_ ?_ (fun j j0 j1 => ?_)) ?_⟩
                               · (repeat (first | rw [aup_n h0] | rw [aup_rn h8]))
                               · rw [aup_n h0]
                               · (repeat rw [aup_n (by omega)])
                               · have o8 := hR.2.2.2.2.2.1.2; have o0 := hR.1.2
                                 (repeat rw [aup_rn (fun z => by rw [z] at hx; omega)])
                               · rw [aup_rn (by decide)]
                               · rw [aup_rn (by decide)]
                               · rw [aup_rn (by decide)]
                               · simp [aup])
              · first
                  | (exfalso; omega)
                  | skip
                    refine aK_i ?_
                    refine aw_ifeq (tgt := 16) dX7_copyIn_6 (by decide) (fun _ => ?_) (fun h => absurd h (by decide))
                    refine aw_aload_n dX7_copyIn_16 rfl ?_
                    refine aw_iconst dX7_copyIn_17 (by decide) ?_
                    refine c_X7_72 rfl dX7_copyIn_18 m_ob (Nat.le_of_ble_eq_true rfl) (by omega) (C_m_refuse ?_)
                    refine aK_i ?_
                    refine aw_ireturn dX7_copyIn_21 rfl ?_
                    first
                      | (exfalso; omega)
                      | exact absurd hok hbad
                      | (refine ⟨by first | rfl | (rw [aup_rn (show ct (2 + a) 0 ≠ 0 from fun z => by rw [z] at y4; have := hR.1.2; omega), aup_rn (by decide), y5 b j0 j1]), _, rfl, XR.try hR HY HL HN HS HP HF HX hv3 hv4 (fun x j h8 h0 _ => ?_) (fun x i _ _ _ h0 => ?_) (fun t t0 t1 => TRY.fr (HX.1 t t0 t1) ?_ (fun x j hx => ?_) ?_ ?_ (fun j j0 j1 => ?_)) ?_⟩
                         · (repeat (first | rw [aup_n h0] | rw [aup_rn h8]))
                         · rw [aup_n h0]
                         · (repeat rw [aup_n (by omega)])
                         · have o8 := hR.2.2.2.2.2.1.2; have o0 := hR.1.2
                           (repeat rw [aup_rn (fun z => by rw [z] at hx; omega)])
                         · rw [aup_rn (by decide)]
                         · rw [aup_rn (by decide)]
                         · rw [aup_rn (by decide)]
                         · simp [aup])
          · exact absurd hb (by decide)
    · refine aK_i ?_
      refine aw_ifeq (tgt := 26) dX0_copyIn_19 (by decide) (fun _ => ?_) (fun h => absurd h (by decide))
      refine aw_iconst dX0_copyIn_26 (by decide) ?_
      refine p_X0_73_0 rfl dX0_copyIn_27 hR.o0 ?_
      refine aw_aload_n dX0_copyIn_30 rfl ?_
      refine g_X0_73_0 rfl dX0_copyIn_31 hR.o0 ?_
      repeat (first | rw [aup_s] | rw [aup_n (by omega)])
      refine aw_ifle (tgt := 39) dX0_copyIn_34 (by decide) (fun h => absurd h (by decide)) (fun _ => ?_)
      refine aw_iconst dX0_copyIn_37 (by decide) ?_
      refine aw_ireturn dX0_copyIn_38 rfl ?_
      refine ⟨_, rfl, ?_⟩
      refine AMet.go (L := [some (vR 0), some (vI a), some (vI b), some (vI c), none, none]) mok_X7_copyIn (Nat.le_of_ble_eq_true rfl) rfl ?_
      refine aw_aload_n dX7_copyIn_0 rfl ?_
      refine aw_iload_n dX7_copyIn_1 rfl ?_
      refine aw_iload_n dX7_copyIn_2 rfl ?_
      refine c_X7_298 rfl dX7_copyIn_3 m_ob (Nat.le_of_ble_eq_true rfl) (by omega) (C_m_isFrame (by omega) (fun hff => ?_) (fun hff => ?_))
      · first
          | (exfalso; omega)
          | skip
            refine aK_i ?_
            refine aw_ifeq (tgt := 16) dX7_copyIn_6 (by decide) (fun h => absurd h (by decide)) (fun _ => ?_)
            refine aw_iload_n dX7_copyIn_9 rfl ?_
            refine c_X7_83 rfl dX7_copyIn_10  (Nat.le_of_ble_eq_true rfl) (by omega) (C_m_isTray (fun htr => ?_) (fun htr => ?_))
            · first
                | (exfalso; omega)
                | skip
                  refine aK_i ?_
                  refine aw_ifne (tgt := 22) dX7_copyIn_13 (by decide) (fun _ => ?_) (fun h => absurd h (by decide))
                  refine gm_24 rfl dX7_copyIn_22 dX7_copyIn_23 rfl ?_
                  refine aw_iload_n dX7_copyIn_26 rfl ?_
                  refine aw_iaload dX7_copyIn_27 m_a4 (by omega) (by omega) ?_
                  refine aw_iconst dX7_copyIn_28 (by decide) ?_
                  refine aw_icmpne (tgt := 38) dX7_copyIn_29 (by decide) (fun h29 => ?_) (fun h29 => ?_)
                  · first
                      | (exfalso; omega)
                      | skip
                        refine gm_24 rfl dX7_copyIn_38 dX7_copyIn_39 rfl ?_
                        refine aw_iload_n dX7_copyIn_42 rfl ?_
                        refine aw_iaload dX7_copyIn_43 m_a4 (by omega) (by omega) ?_
                        refine aw_bipush dX7_copyIn_44 (by decide) ?_
                        refine aw_icmpge (tgt := 55) dX7_copyIn_46 (by decide) (fun h46 => ?_) (fun h46 => ?_)
                        · first
                            | (exfalso; omega)
                            | skip
                              refine aw_iconst dX7_copyIn_55 (by decide) ?_
                              refine aw_istore4 dX7_copyIn_56 (by decide) rfl ?_
                              refine L_m_ci1 (w := fun j => cm 5 (60 * a + j)) (by omega) (by omega) (fun _ _ _ => rfl) (fun hok => ?_) (fun hbad k8 => ?_) 16 0 (by decide) (by decide) (fun j j0 j1 => by omega)
                              · first
                                  | exact absurd hok hbad
                                  | (have gb9 := (HP.2.2.1 b xf.1.1 xf.1.2)
                                     have gb8 := gb9.1
                                     refine aw_aload_n dX7_copyIn_99 rfl ?_
                                     refine aw_iload_n dX7_copyIn_100 rfl ?_
                                     refine c_X7_217 rfl dX7_copyIn_101  (Nat.le_of_ble_eq_true rfl) (by omega) (C_m_hiveRow (by omega) ?_)
                                     refine aK_i ?_
                                     refine aw_iconst dX7_copyIn_104 (by decide) ?_
                                     refine c_X7_283 rfl dX7_copyIn_105 m_ob (Nat.le_of_ble_eq_true rfl) (by omega) (C_m_sumOf rfl gb9.1 (by omega) gb9.2.1 ?_)
                                     refine aK_i ?_
                                     refine aw_istore4 dX7_copyIn_108 (by decide) rfl ?_
                                     refine aw_iconst dX7_copyIn_110 (by decide) ?_
                                     refine aw_istore5 dX7_copyIn_111 (by decide) rfl ?_
                                     refine L_m_ci2 (w := fun j => cm 5 (60 * a + j)) (by omega) (by omega) (by omega) (by omega) (fun _ _ _ => rfl) hok (fun cm3 m1 m2 => ?_) 16 0 cm (by decide) (by decide) inS_0.symm (fun _ _ => rfl)
                                     refine aw_aload_n dX7_copyIn_153 rfl ?_
                                     refine aw_iload_n dX7_copyIn_154 rfl ?_
                                     refine c_X7_217 rfl dX7_copyIn_155  (Nat.le_of_ble_eq_true rfl) (by omega) (C_m_hiveRow (by omega) ?_)
                                     refine aK_i ?_
                                     refine aw_iconst dX7_copyIn_158 (by decide) ?_
                                     refine c_X7_283 rfl dX7_copyIn_159 m_ob (Nat.le_of_ble_eq_true rfl) (by omega) (C_m_sumOf rfl (by rw [m1]; exact g2b.1) (by rw [m1, inS_n (by omega)]; omega) (by rw [m1]; exact g2b.2.1) ?_)
                                     rw [m1]
                                     refine aK_i ?_
                                     refine aw_iload dX7_copyIn_162 rfl ?_
                                     refine aw_isubr dX7_copyIn_164 (by omega) ?_
                                     refine aw_istore5 dX7_copyIn_165 (by decide) rfl ?_
                                     refine gm_7 rfl dX7_copyIn_167 dX7_copyIn_168 rfl ?_
                                     refine aw_iconst dX7_copyIn_171 (by decide) ?_
                                     refine aw_dup2 dX7_copyIn_172 rfl rfl ?_
                                     refine aw_iaload dX7_copyIn_173 m_a1 (by omega) (by omega) ?_
                                     refine aw_iload dX7_copyIn_174 rfl ?_
                                     refine aw_iadd dX7_copyIn_176 ?_
                                     refine aw_iastore dX7_copyIn_177 m_a1 (by omega) (by omega) ?_
                                     refine aw_aload_n dX7_copyIn_178 rfl ?_
                                     refine aw_iload dX7_copyIn_179 rfl ?_
                                     refine c_X7_76 rfl dX7_copyIn_181 m_ob (Nat.le_of_ble_eq_true rfl) (by omega) (C_m_gives ?_)
                                     refine aK_i ?_
                                     refine aw_ireturn dX7_copyIn_184 rfl ?_
                                     have e4 : (inS (cm 1) (64 + 198 * b + 6 + 16 * c) (fun j => cm 5 (60 * a + j)) 16) 4 = cm 1 4 := inS_n (by omega)
                                     have c10 := HY.2.1
                                     refine ⟨rfl, _, rfl, XR.yd (upA (inS (cm 1) (64 + 198 * b + 6 + 16 * c) (fun j => cm 5 (60 * a + j)) 16) 4 (w32 (cm 1 4 + (hoK (inS (cm 1) (64 + 198 * b + 6 + 16 * c) (fun j => cm 5 (60 * a + j)) 16) b - hoK (cm 1) b)))) hR HX HL HN HS HP ?_ ?_ (fun i hi => by rw [upA_n (by omega), inS_n (by omega)]) (fun k q0 q1 => by rw [upA_n (by omega), inS_n (by rcases (by omega : k < b ∨ k = b ∨ b < k) with z | z | z <;> omega)]) (PI.inS HP xf.1.1 xf.1.2 xf.2.1 xf.2.2 hok) (HF.eq (by rw [aup_n (by omega), aup_rn (by decide), m2 0 (by decide)]) (by rw [aup_rn (by decide), aup_rn (by decide), m2 9 (by decide)])) (fun x j hx h0 => ?_) ?_ (fun x x0 x1 x9 => by rw [aup_rn x0, aup_rn x1, m2 x x1]) (fun i hi => by rw [aup_n (by omega), aup_rn (by decide), m2 0 (by decide)]) ?_ ?_ ?_⟩
                                     · rw [aup_rn (by decide), aup_r, m1, e4]; rfl
                                     · refine (k1.scal (s' := upA (inS (cm 1) (64 + 198 * b + 6 + 16 * c) (fun j => cm 5 (60 * a + j)) 16) 4 (w32 (cm 1 4 + (hoK (inS (cm 1) (64 + 198 * b + 6 + 16 * c) (fun j => cm 5 (60 * a + j)) 16) b - hoK (cm 1) b)))) (ct' := aup ct1 10 9 (w32 (cm 1 4 + (hoK (inS (cm 1) (64 + 198 * b + 6 + 16 * c) (fun j => cm 5 (60 * a + j)) 16) b - hoK (cm 1) b)))) (fun x j hx => aup_rn_a hx) (fun i hi => upA_n (by omega)) (upA_n (by omega)) ⟨?_, ?_, ?_, ?_, ?_, ?_, ?_, ?_⟩ ⟨?_, fun z => ?_⟩ : _)
                                       · rw [aup_n (by omega), upA_n (by omega)]; exact k1.2.2.2.2.2.1.1
                                       · rw [aup_n (by omega), upA_n (by omega), inS_n (by omega)]; exact k1.2.2.2.2.2.1.2.1
                                       · rw [aup_n (by omega), upA_n (by omega)]; exact k1.2.2.2.2.2.1.2.2.1
                                       · rw [aup_n (by omega), upA_n (by omega)]; exact k1.2.2.2.2.2.1.2.2.2.1
                                       · rw [aup_n (by omega), upA_n (by omega)]; exact k1.2.2.2.2.2.1.2.2.2.2.1
                                       · rw [aup_n (by omega), upA_n (by omega)]; exact k1.2.2.2.2.2.1.2.2.2.2.2.1
                                       · rw [aup_n (by omega), upA_n (by omega)]; exact k1.2.2.2.2.2.1.2.2.2.2.2.2.1
                                       · rw [aup_s, upA_s]
                                       · rw [aup_n (by omega), upA_n (by omega)]; exact k1.2.2.2.2.2.2.1.1
                                       · rw [upA_n (by omega)] at z ⊢
                                         rw [aup_n (by omega)]; exact k1.2.2.2.2.2.2.1.2 z
                                     · rw [aup_rn (fun z => by rw [z] at hx; omega), k2 x j (by omega), aup_n (by omega)]
                                     · rw [aup_n (by omega), k2 10 0 (by omega), aup_n (by omega)]
                                     · rw [aup_n (by omega), k2 0 7 (by rw [hR.1.2]; omega), aup_s, aup_s]
                                     · rw [aup_n (by omega), k2 0 8 (by rw [hR.1.2]; omega), aup_n (by omega), aup_n (by omega), aup_rn (by decide), m2 0 (by decide)]; exact hv3
                                     · rw [aup_n (by omega), k2 0 9 (by rw [hR.1.2]; omega), aup_n (by omega), aup_n (by omega), aup_rn (by decide), m2 0 (by decide)]; exact hv4)
                              · refine aw_aload_n dX7_copyIn_87 rfl ?_
                                refine aw_iconst dX7_copyIn_88 (by decide) ?_
                                refine c_X7_72 rfl dX7_copyIn_89 m_ob (Nat.le_of_ble_eq_true rfl) (by omega) (C_m_refuse ?_)
                                refine aK_i ?_
                                refine aw_ireturn dX7_copyIn_92 rfl ?_
                                first
                                  | (exfalso; omega)
                                  | exact absurd hok hbad
                                  | (refine ⟨by first | rfl | (rw [aup_rn (show ct (2 + a) 0 ≠ 0 from fun z => by rw [z] at y4; have := hR.1.2; omega), aup_rn (by decide), y5 b j0 j1]), _, rfl, XR.try hR HY HL HN HS HP HF HX hv3 hv4 (fun x j h8 h0 _ => ?_) (fun x i _ _ _ h0 => ?_) (fun t t0 t1 => TRY.fr (HX.1 t t0 t1) ?_ (fun x j hx => ?_) ?_ ?_ (fun j j0 j1 => ?_)) ?_⟩
                                     · (repeat (first | rw [aup_n h0] | rw [aup_rn h8]))
                                     · rw [aup_n h0]
                                     · (repeat rw [aup_n (by omega)])
                                     · have o8 := hR.2.2.2.2.2.1.2; have o0 := hR.1.2
                                       (repeat rw [aup_rn (fun z => by rw [z] at hx; omega)])
                                     · rw [aup_rn (by decide)]
                                     · rw [aup_rn (by decide)]
                                     · rw [aup_rn (by decide)]
                                     · simp [aup])
                        · first
                            | (exfalso; omega)
                            | skip
                              refine aw_aload_n dX7_copyIn_49 rfl ?_
                              refine aw_iconst dX7_copyIn_50 (by decide) ?_
                              refine c_X7_72 rfl dX7_copyIn_51 m_ob (Nat.le_of_ble_eq_true rfl) (by omega) (C_m_refuse ?_)
                              refine aK_i ?_
                              refine aw_ireturn dX7_copyIn_54 rfl ?_
                              first
                                | (exfalso; omega)
                                | exact absurd hok hbad
                                | (refine ⟨by first | rfl | (rw [aup_rn (show ct (2 + a) 0 ≠ 0 from fun z => by rw [z] at y4; have := hR.1.2; omega), aup_rn (by decide), y5 b j0 j1]), _, rfl, XR.try hR HY HL HN HS HP HF HX hv3 hv4 (fun x j h8 h0 _ => ?_) (fun x i _ _ _ h0 => ?_) (fun t t0 t1 => TRY.fr (HX.1 t t0 t1) ?_ (fun x j hx => ?_) ?_ ?_ (fun j j0 j1 => ?_)) ?_⟩
                                   · (repeat (first | rw [aup_n h0] | rw [aup_rn h8]))
                                   · rw [aup_n h0]
                                   · (repeat rw [aup_n (by omega)])
                                   · have o8 := hR.2.2.2.2.2.1.2; have o0 := hR.1.2
                                     (repeat rw [aup_rn (fun z => by rw [z] at hx; omega)])
                                   · rw [aup_rn (by decide)]
                                   · rw [aup_rn (by decide)]
                                   · rw [aup_rn (by decide)]
                                   · simp [aup])
                  · first
                      | (exfalso; omega)
                      | skip
                        refine aw_aload_n dX7_copyIn_32 rfl ?_
                        refine aw_iconst dX7_copyIn_33 (by decide) ?_
                        refine c_X7_72 rfl dX7_copyIn_34 m_ob (Nat.le_of_ble_eq_true rfl) (by omega) (C_m_refuse ?_)
                        refine aK_i ?_
                        refine aw_ireturn dX7_copyIn_37 rfl ?_
                        first
                          | (exfalso; omega)
                          | exact absurd hok hbad
                          | (refine ⟨by first | rfl | (rw [aup_rn (show ct (2 + a) 0 ≠ 0 from fun z => by rw [z] at y4; have := hR.1.2; omega), aup_rn (by decide), y5 b j0 j1]), _, rfl, XR.try hR HY HL HN HS HP HF HX hv3 hv4 (fun x j h8 h0 _ => ?_) (fun x i _ _ _ h0 => ?_) (fun t t0 t1 => TRY.fr (HX.1 t t0 t1) ?_ (fun x j hx => ?_) ?_ ?_ (fun j j0 j1 => ?_)) ?_⟩
                             · (repeat (first | rw [aup_n h0] | rw [aup_rn h8]))
                             · rw [aup_n h0]
                             · (repeat rw [aup_n (by omega)])
                             · have o8 := hR.2.2.2.2.2.1.2; have o0 := hR.1.2
                               (repeat rw [aup_rn (fun z => by rw [z] at hx; omega)])
                             · rw [aup_rn (by decide)]
                             · rw [aup_rn (by decide)]
                             · rw [aup_rn (by decide)]
                             · simp [aup])
            · first
                | (exfalso; omega)
                | skip
                  refine aK_i ?_
                  refine aw_ifne (tgt := 22) dX7_copyIn_13 (by decide) (fun h => absurd h (by decide)) (fun _ => ?_)
                  refine aw_aload_n dX7_copyIn_16 rfl ?_
                  refine aw_iconst dX7_copyIn_17 (by decide) ?_
                  refine c_X7_72 rfl dX7_copyIn_18 m_ob (Nat.le_of_ble_eq_true rfl) (by omega) (C_m_refuse ?_)
                  refine aK_i ?_
                  refine aw_ireturn dX7_copyIn_21 rfl ?_
                  first
                    | (exfalso; omega)
                    | exact absurd hok hbad
                    | (refine ⟨by first | rfl | (rw [aup_rn (show ct (2 + a) 0 ≠ 0 from fun z => by rw [z] at y4; have := hR.1.2; omega), aup_rn (by decide), y5 b j0 j1]), _, rfl, XR.try hR HY HL HN HS HP HF HX hv3 hv4 (fun x j h8 h0 _ => ?_) (fun x i _ _ _ h0 => ?_) (fun t t0 t1 => TRY.fr (HX.1 t t0 t1) ?_ (fun x j hx => ?_) ?_ ?_ (fun j j0 j1 => ?_)) ?_⟩
                       · (repeat (first | rw [aup_n h0] | rw [aup_rn h8]))
                       · rw [aup_n h0]
                       · (repeat rw [aup_n (by omega)])
                       · have o8 := hR.2.2.2.2.2.1.2; have o0 := hR.1.2
                         (repeat rw [aup_rn (fun z => by rw [z] at hx; omega)])
                       · rw [aup_rn (by decide)]
                       · rw [aup_rn (by decide)]
                       · rw [aup_rn (by decide)]
                       · simp [aup])
      · first
          | (exfalso; omega)
          | skip
            refine aK_i ?_
            refine aw_ifeq (tgt := 16) dX7_copyIn_6 (by decide) (fun _ => ?_) (fun h => absurd h (by decide))
            refine aw_aload_n dX7_copyIn_16 rfl ?_
            refine aw_iconst dX7_copyIn_17 (by decide) ?_
            refine c_X7_72 rfl dX7_copyIn_18 m_ob (Nat.le_of_ble_eq_true rfl) (by omega) (C_m_refuse ?_)
            refine aK_i ?_
            refine aw_ireturn dX7_copyIn_21 rfl ?_
            first
              | (exfalso; omega)
              | exact absurd hok hbad
              | (refine ⟨by first | rfl | (rw [aup_rn (show ct (2 + a) 0 ≠ 0 from fun z => by rw [z] at y4; have := hR.1.2; omega), aup_rn (by decide), y5 b j0 j1]), _, rfl, XR.try hR HY HL HN HS HP HF HX hv3 hv4 (fun x j h8 h0 _ => ?_) (fun x i _ _ _ h0 => ?_) (fun t t0 t1 => TRY.fr (HX.1 t t0 t1) ?_ (fun x j hx => ?_) ?_ ?_ (fun j j0 j1 => ?_)) ?_⟩
                 · (repeat (first | rw [aup_n h0] | rw [aup_rn h8]))
                 · rw [aup_n h0]
                 · (repeat rw [aup_n (by omega)])
                 · have o8 := hR.2.2.2.2.2.1.2; have o0 := hR.1.2
                   (repeat rw [aup_rn (fun z => by rw [z] at hx; omega)])
                 · rw [aup_rn (by decide)]
                 · rw [aup_rn (by decide)]
                 · rw [aup_rn (by decide)]
                 · simp [aup])
  · refine aK_i ?_
    refine aw_ifeq (tgt := 26) dX0_copyIn_7 (by decide) (fun _ => ?_) (fun h => absurd h (by decide))
    refine aw_iconst dX0_copyIn_26 (by decide) ?_
    refine p_X0_73_0 rfl dX0_copyIn_27 hR.o0 ?_
    refine aw_aload_n dX0_copyIn_30 rfl ?_
    refine g_X0_73_0 rfl dX0_copyIn_31 hR.o0 ?_
    repeat (first | rw [aup_s] | rw [aup_n (by omega)])
    refine aw_ifle (tgt := 39) dX0_copyIn_34 (by decide) (fun h => absurd h (by decide)) (fun _ => ?_)
    refine aw_iconst dX0_copyIn_37 (by decide) ?_
    refine aw_ireturn dX0_copyIn_38 rfl ?_
    refine ⟨_, rfl, ?_⟩
    refine AMet.go (L := [some (vR 0), some (vI a), some (vI b), some (vI c), none, none]) mok_X7_copyIn (Nat.le_of_ble_eq_true rfl) rfl ?_
    refine aw_aload_n dX7_copyIn_0 rfl ?_
    refine aw_iload_n dX7_copyIn_1 rfl ?_
    refine aw_iload_n dX7_copyIn_2 rfl ?_
    refine c_X7_298 rfl dX7_copyIn_3 m_ob (Nat.le_of_ble_eq_true rfl) (by omega) (C_m_isFrame (by omega) (fun hff => ?_) (fun hff => ?_))
    · first
        | (exfalso; omega)
        | skip
          refine aK_i ?_
          refine aw_ifeq (tgt := 16) dX7_copyIn_6 (by decide) (fun h => absurd h (by decide)) (fun _ => ?_)
          refine aw_iload_n dX7_copyIn_9 rfl ?_
          refine c_X7_83 rfl dX7_copyIn_10  (Nat.le_of_ble_eq_true rfl) (by omega) (C_m_isTray (fun htr => ?_) (fun htr => ?_))
          · first
              | (exfalso; omega)
              | skip
                refine aK_i ?_
                refine aw_ifne (tgt := 22) dX7_copyIn_13 (by decide) (fun _ => ?_) (fun h => absurd h (by decide))
                refine gm_24 rfl dX7_copyIn_22 dX7_copyIn_23 rfl ?_
                refine aw_iload_n dX7_copyIn_26 rfl ?_
                refine aw_iaload dX7_copyIn_27 m_a4 (by omega) (by omega) ?_
                refine aw_iconst dX7_copyIn_28 (by decide) ?_
                refine aw_icmpne (tgt := 38) dX7_copyIn_29 (by decide) (fun h29 => ?_) (fun h29 => ?_)
                · first
                    | (exfalso; omega)
                    | skip
                      refine gm_24 rfl dX7_copyIn_38 dX7_copyIn_39 rfl ?_
                      refine aw_iload_n dX7_copyIn_42 rfl ?_
                      refine aw_iaload dX7_copyIn_43 m_a4 (by omega) (by omega) ?_
                      refine aw_bipush dX7_copyIn_44 (by decide) ?_
                      refine aw_icmpge (tgt := 55) dX7_copyIn_46 (by decide) (fun h46 => ?_) (fun h46 => ?_)
                      · first
                          | (exfalso; omega)
                          | skip
                            refine aw_iconst dX7_copyIn_55 (by decide) ?_
                            refine aw_istore4 dX7_copyIn_56 (by decide) rfl ?_
                            refine L_m_ci1 (w := fun j => cm 5 (60 * a + j)) (by omega) (by omega) (fun _ _ _ => rfl) (fun hok => ?_) (fun hbad k8 => ?_) 16 0 (by decide) (by decide) (fun j j0 j1 => by omega)
                            · first
                                | exact absurd hok hbad
                                | (have gb9 := (HP.2.2.1 b xf.1.1 xf.1.2)
                                   have gb8 := gb9.1
                                   refine aw_aload_n dX7_copyIn_99 rfl ?_
                                   refine aw_iload_n dX7_copyIn_100 rfl ?_
                                   refine c_X7_217 rfl dX7_copyIn_101  (Nat.le_of_ble_eq_true rfl) (by omega) (C_m_hiveRow (by omega) ?_)
                                   refine aK_i ?_
                                   refine aw_iconst dX7_copyIn_104 (by decide) ?_
                                   refine c_X7_283 rfl dX7_copyIn_105 m_ob (Nat.le_of_ble_eq_true rfl) (by omega) (C_m_sumOf rfl gb9.1 (by omega) gb9.2.1 ?_)
                                   refine aK_i ?_
                                   refine aw_istore4 dX7_copyIn_108 (by decide) rfl ?_
                                   refine aw_iconst dX7_copyIn_110 (by decide) ?_
                                   refine aw_istore5 dX7_copyIn_111 (by decide) rfl ?_
                                   refine L_m_ci2 (w := fun j => cm 5 (60 * a + j)) (by omega) (by omega) (by omega) (by omega) (fun _ _ _ => rfl) hok (fun cm3 m1 m2 => ?_) 16 0 cm (by decide) (by decide) inS_0.symm (fun _ _ => rfl)
                                   refine aw_aload_n dX7_copyIn_153 rfl ?_
                                   refine aw_iload_n dX7_copyIn_154 rfl ?_
                                   refine c_X7_217 rfl dX7_copyIn_155  (Nat.le_of_ble_eq_true rfl) (by omega) (C_m_hiveRow (by omega) ?_)
                                   refine aK_i ?_
                                   refine aw_iconst dX7_copyIn_158 (by decide) ?_
                                   refine c_X7_283 rfl dX7_copyIn_159 m_ob (Nat.le_of_ble_eq_true rfl) (by omega) (C_m_sumOf rfl (by rw [m1]; exact g2b.1) (by rw [m1, inS_n (by omega)]; omega) (by rw [m1]; exact g2b.2.1) ?_)
                                   rw [m1]
                                   refine aK_i ?_
                                   refine aw_iload dX7_copyIn_162 rfl ?_
                                   refine aw_isubr dX7_copyIn_164 (by omega) ?_
                                   refine aw_istore5 dX7_copyIn_165 (by decide) rfl ?_
                                   refine gm_7 rfl dX7_copyIn_167 dX7_copyIn_168 rfl ?_
                                   refine aw_iconst dX7_copyIn_171 (by decide) ?_
                                   refine aw_dup2 dX7_copyIn_172 rfl rfl ?_
                                   refine aw_iaload dX7_copyIn_173 m_a1 (by omega) (by omega) ?_
                                   refine aw_iload dX7_copyIn_174 rfl ?_
                                   refine aw_iadd dX7_copyIn_176 ?_
                                   refine aw_iastore dX7_copyIn_177 m_a1 (by omega) (by omega) ?_
                                   refine aw_aload_n dX7_copyIn_178 rfl ?_
                                   refine aw_iload dX7_copyIn_179 rfl ?_
                                   refine c_X7_76 rfl dX7_copyIn_181 m_ob (Nat.le_of_ble_eq_true rfl) (by omega) (C_m_gives ?_)
                                   refine aK_i ?_
                                   refine aw_ireturn dX7_copyIn_184 rfl ?_
                                   have e4 : (inS (cm 1) (64 + 198 * b + 6 + 16 * c) (fun j => cm 5 (60 * a + j)) 16) 4 = cm 1 4 := inS_n (by omega)
                                   have c10 := HY.2.1
                                   refine ⟨rfl, _, rfl, XR.yd (upA (inS (cm 1) (64 + 198 * b + 6 + 16 * c) (fun j => cm 5 (60 * a + j)) 16) 4 (w32 (cm 1 4 + (hoK (inS (cm 1) (64 + 198 * b + 6 + 16 * c) (fun j => cm 5 (60 * a + j)) 16) b - hoK (cm 1) b)))) hR HX HL HN HS HP ?_ ?_ (fun i hi => by rw [upA_n (by omega), inS_n (by omega)]) (fun k q0 q1 => by rw [upA_n (by omega), inS_n (by rcases (by omega : k < b ∨ k = b ∨ b < k) with z | z | z <;> omega)]) (PI.inS HP xf.1.1 xf.1.2 xf.2.1 xf.2.2 hok) (HF.eq (by rw [aup_n (by omega), aup_rn (by decide), m2 0 (by decide)]) (by rw [aup_rn (by decide), aup_rn (by decide), m2 9 (by decide)])) (fun x j hx h0 => ?_) ?_ (fun x x0 x1 x9 => by rw [aup_rn x0, aup_rn x1, m2 x x1]) (fun i hi => by rw [aup_n (by omega), aup_rn (by decide), m2 0 (by decide)]) ?_ ?_ ?_⟩
                                   · rw [aup_rn (by decide), aup_r, m1, e4]; rfl
                                   · refine (k1.scal (s' := upA (inS (cm 1) (64 + 198 * b + 6 + 16 * c) (fun j => cm 5 (60 * a + j)) 16) 4 (w32 (cm 1 4 + (hoK (inS (cm 1) (64 + 198 * b + 6 + 16 * c) (fun j => cm 5 (60 * a + j)) 16) b - hoK (cm 1) b)))) (ct' := aup ct1 10 9 (w32 (cm 1 4 + (hoK (inS (cm 1) (64 + 198 * b + 6 + 16 * c) (fun j => cm 5 (60 * a + j)) 16) b - hoK (cm 1) b)))) (fun x j hx => aup_rn_a hx) (fun i hi => upA_n (by omega)) (upA_n (by omega)) ⟨?_, ?_, ?_, ?_, ?_, ?_, ?_, ?_⟩ ⟨?_, fun z => ?_⟩ : _)
                                     · rw [aup_n (by omega), upA_n (by omega)]; exact k1.2.2.2.2.2.1.1
                                     · rw [aup_n (by omega), upA_n (by omega), inS_n (by omega)]; exact k1.2.2.2.2.2.1.2.1
                                     · rw [aup_n (by omega), upA_n (by omega)]; exact k1.2.2.2.2.2.1.2.2.1
                                     · rw [aup_n (by omega), upA_n (by omega)]; exact k1.2.2.2.2.2.1.2.2.2.1
                                     · rw [aup_n (by omega), upA_n (by omega)]; exact k1.2.2.2.2.2.1.2.2.2.2.1
                                     · rw [aup_n (by omega), upA_n (by omega)]; exact k1.2.2.2.2.2.1.2.2.2.2.2.1
                                     · rw [aup_n (by omega), upA_n (by omega)]; exact k1.2.2.2.2.2.1.2.2.2.2.2.2.1
                                     · rw [aup_s, upA_s]
                                     · rw [aup_n (by omega), upA_n (by omega)]; exact k1.2.2.2.2.2.2.1.1
                                     · rw [upA_n (by omega)] at z ⊢
                                       rw [aup_n (by omega)]; exact k1.2.2.2.2.2.2.1.2 z
                                   · rw [aup_rn (fun z => by rw [z] at hx; omega), k2 x j (by omega), aup_n (by omega)]
                                   · rw [aup_n (by omega), k2 10 0 (by omega), aup_n (by omega)]
                                   · rw [aup_n (by omega), k2 0 7 (by rw [hR.1.2]; omega), aup_s, aup_s]
                                   · rw [aup_n (by omega), k2 0 8 (by rw [hR.1.2]; omega), aup_n (by omega), aup_n (by omega), aup_rn (by decide), m2 0 (by decide)]; exact hv3
                                   · rw [aup_n (by omega), k2 0 9 (by rw [hR.1.2]; omega), aup_n (by omega), aup_n (by omega), aup_rn (by decide), m2 0 (by decide)]; exact hv4)
                            · refine aw_aload_n dX7_copyIn_87 rfl ?_
                              refine aw_iconst dX7_copyIn_88 (by decide) ?_
                              refine c_X7_72 rfl dX7_copyIn_89 m_ob (Nat.le_of_ble_eq_true rfl) (by omega) (C_m_refuse ?_)
                              refine aK_i ?_
                              refine aw_ireturn dX7_copyIn_92 rfl ?_
                              first
                                | (exfalso; omega)
                                | exact absurd hok hbad
                                | (refine ⟨by first | rfl | (rw [aup_rn (show ct (2 + a) 0 ≠ 0 from fun z => by rw [z] at y4; have := hR.1.2; omega), aup_rn (by decide), y5 b j0 j1]), _, rfl, XR.try hR HY HL HN HS HP HF HX hv3 hv4 (fun x j h8 h0 _ => ?_) (fun x i _ _ _ h0 => ?_) (fun t t0 t1 => TRY.fr (HX.1 t t0 t1) ?_ (fun x j hx => ?_) ?_ ?_ (fun j j0 j1 => ?_)) ?_⟩
                                   · (repeat (first | rw [aup_n h0] | rw [aup_rn h8]))
                                   · rw [aup_n h0]
                                   · (repeat rw [aup_n (by omega)])
                                   · have o8 := hR.2.2.2.2.2.1.2; have o0 := hR.1.2
                                     (repeat rw [aup_rn (fun z => by rw [z] at hx; omega)])
                                   · rw [aup_rn (by decide)]
                                   · rw [aup_rn (by decide)]
                                   · rw [aup_rn (by decide)]
                                   · simp [aup])
                      · first
                          | (exfalso; omega)
                          | skip
                            refine aw_aload_n dX7_copyIn_49 rfl ?_
                            refine aw_iconst dX7_copyIn_50 (by decide) ?_
                            refine c_X7_72 rfl dX7_copyIn_51 m_ob (Nat.le_of_ble_eq_true rfl) (by omega) (C_m_refuse ?_)
                            refine aK_i ?_
                            refine aw_ireturn dX7_copyIn_54 rfl ?_
                            first
                              | (exfalso; omega)
                              | exact absurd hok hbad
                              | (refine ⟨by first | rfl | (rw [aup_rn (show ct (2 + a) 0 ≠ 0 from fun z => by rw [z] at y4; have := hR.1.2; omega), aup_rn (by decide), y5 b j0 j1]), _, rfl, XR.try hR HY HL HN HS HP HF HX hv3 hv4 (fun x j h8 h0 _ => ?_) (fun x i _ _ _ h0 => ?_) (fun t t0 t1 => TRY.fr (HX.1 t t0 t1) ?_ (fun x j hx => ?_) ?_ ?_ (fun j j0 j1 => ?_)) ?_⟩
                                 · (repeat (first | rw [aup_n h0] | rw [aup_rn h8]))
                                 · rw [aup_n h0]
                                 · (repeat rw [aup_n (by omega)])
                                 · have o8 := hR.2.2.2.2.2.1.2; have o0 := hR.1.2
                                   (repeat rw [aup_rn (fun z => by rw [z] at hx; omega)])
                                 · rw [aup_rn (by decide)]
                                 · rw [aup_rn (by decide)]
                                 · rw [aup_rn (by decide)]
                                 · simp [aup])
                · first
                    | (exfalso; omega)
                    | skip
                      refine aw_aload_n dX7_copyIn_32 rfl ?_
                      refine aw_iconst dX7_copyIn_33 (by decide) ?_
                      refine c_X7_72 rfl dX7_copyIn_34 m_ob (Nat.le_of_ble_eq_true rfl) (by omega) (C_m_refuse ?_)
                      refine aK_i ?_
                      refine aw_ireturn dX7_copyIn_37 rfl ?_
                      first
                        | (exfalso; omega)
                        | exact absurd hok hbad
                        | (refine ⟨by first | rfl | (rw [aup_rn (show ct (2 + a) 0 ≠ 0 from fun z => by rw [z] at y4; have := hR.1.2; omega), aup_rn (by decide), y5 b j0 j1]), _, rfl, XR.try hR HY HL HN HS HP HF HX hv3 hv4 (fun x j h8 h0 _ => ?_) (fun x i _ _ _ h0 => ?_) (fun t t0 t1 => TRY.fr (HX.1 t t0 t1) ?_ (fun x j hx => ?_) ?_ ?_ (fun j j0 j1 => ?_)) ?_⟩
                           · (repeat (first | rw [aup_n h0] | rw [aup_rn h8]))
                           · rw [aup_n h0]
                           · (repeat rw [aup_n (by omega)])
                           · have o8 := hR.2.2.2.2.2.1.2; have o0 := hR.1.2
                             (repeat rw [aup_rn (fun z => by rw [z] at hx; omega)])
                           · rw [aup_rn (by decide)]
                           · rw [aup_rn (by decide)]
                           · rw [aup_rn (by decide)]
                           · simp [aup])
          · first
              | (exfalso; omega)
              | skip
                refine aK_i ?_
                refine aw_ifne (tgt := 22) dX7_copyIn_13 (by decide) (fun h => absurd h (by decide)) (fun _ => ?_)
                refine aw_aload_n dX7_copyIn_16 rfl ?_
                refine aw_iconst dX7_copyIn_17 (by decide) ?_
                refine c_X7_72 rfl dX7_copyIn_18 m_ob (Nat.le_of_ble_eq_true rfl) (by omega) (C_m_refuse ?_)
                refine aK_i ?_
                refine aw_ireturn dX7_copyIn_21 rfl ?_
                first
                  | (exfalso; omega)
                  | exact absurd hok hbad
                  | (refine ⟨by first | rfl | (rw [aup_rn (show ct (2 + a) 0 ≠ 0 from fun z => by rw [z] at y4; have := hR.1.2; omega), aup_rn (by decide), y5 b j0 j1]), _, rfl, XR.try hR HY HL HN HS HP HF HX hv3 hv4 (fun x j h8 h0 _ => ?_) (fun x i _ _ _ h0 => ?_) (fun t t0 t1 => TRY.fr (HX.1 t t0 t1) ?_ (fun x j hx => ?_) ?_ ?_ (fun j j0 j1 => ?_)) ?_⟩
                     · (repeat (first | rw [aup_n h0] | rw [aup_rn h8]))
                     · rw [aup_n h0]
                     · (repeat rw [aup_n (by omega)])
                     · have o8 := hR.2.2.2.2.2.1.2; have o0 := hR.1.2
                       (repeat rw [aup_rn (fun z => by rw [z] at hx; omega)])
                     · rw [aup_rn (by decide)]
                     · rw [aup_rn (by decide)]
                     · rw [aup_rn (by decide)]
                     · simp [aup])
    · first
        | (exfalso; omega)
        | skip
          refine aK_i ?_
          refine aw_ifeq (tgt := 16) dX7_copyIn_6 (by decide) (fun _ => ?_) (fun h => absurd h (by decide))
          refine aw_aload_n dX7_copyIn_16 rfl ?_
          refine aw_iconst dX7_copyIn_17 (by decide) ?_
          refine c_X7_72 rfl dX7_copyIn_18 m_ob (Nat.le_of_ble_eq_true rfl) (by omega) (C_m_refuse ?_)
          refine aK_i ?_
          refine aw_ireturn dX7_copyIn_21 rfl ?_
          first
            | (exfalso; omega)
            | exact absurd hok hbad
            | (refine ⟨by first | rfl | (rw [aup_rn (show ct (2 + a) 0 ≠ 0 from fun z => by rw [z] at y4; have := hR.1.2; omega), aup_rn (by decide), y5 b j0 j1]), _, rfl, XR.try hR HY HL HN HS HP HF HX hv3 hv4 (fun x j h8 h0 _ => ?_) (fun x i _ _ _ h0 => ?_) (fun t t0 t1 => TRY.fr (HX.1 t t0 t1) ?_ (fun x j hx => ?_) ?_ ?_ (fun j j0 j1 => ?_)) ?_⟩
               · (repeat (first | rw [aup_n h0] | rw [aup_rn h8]))
               · rw [aup_n h0]
               · (repeat rw [aup_n (by omega)])
               · have o8 := hR.2.2.2.2.2.1.2; have o0 := hR.1.2
                 (repeat rw [aup_rn (fun z => by rw [z] at hx; omega)])
               · rw [aup_rn (by decide)]
               · rw [aup_rn (by decide)]
               · rw [aup_rn (by decide)]
               · simp [aup])
