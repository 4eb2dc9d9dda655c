set_option maxRecDepth 100000
/-! operations, 29: copyOut, the end -/
theorem OP_copyOut {sz : Int} {im : Int → aIm} {ct cm : Int → Int → Int} (h : XR (sz, im, ct) cm) {a b c : Int} (r0 : -2147483648 ≤ a ∧ a < 2147483648) (r1 : -2147483648 ≤ b ∧ b < 2147483648) (r2 : -2147483648 ≤ c ∧ c < 2147483648)  : AMet md_X0_copyOut 165 48 3552 [vR 0, vI a, vI b, vI c] (sz, im, ct) (XQ md_X7_copyOut 4 [vR 0, vI a, vI b, vI c] cm) := by
  obtain ⟨own, N, hR, HY, HL, HN, HS, HP, HF, HX, hv2, hv3, hv4⟩ := id h
  dsimp only at hR HY HL HS HX hv2 hv3 hv4
  have hp0 := HP.1
  have hp3 := HP.2.1
  have hpq := HP.2.2.2.1.1
  have hps := HP.2.2.2.2.2
  refine AMet.goW (L := [some (vR 0), some (vI a), some (vI b), some (vI c), none]) mok_X0_copyOut (Nat.le_of_ble_eq_true rfl) rfl ?_
  refine aw_aload_n dX0_copyOut_0 rfl ?_
  refine aw_aload_n dX0_copyOut_1 rfl ?_
  refine aw_iload_n dX0_copyOut_2 rfl ?_
  refine aw_iload_n dX0_copyOut_3 rfl ?_
  refine c_X0_301 rfl dX0_copyOut_4 hR.o0 (Nat.le_of_ble_eq_true rfl) (by omega) (C_x_isFrame hR HY (fun xf => ?_) (fun xf => ?_))
  · refine aK_i ?_
    refine aw_ifeq (tgt := 26) dX0_copyOut_7 (by decide) (fun h => absurd h (by decide)) (fun _ => ?_)
    refine aw_iload_n dX0_copyOut_10 rfl ?_
    refine aw_i2l dX0_copyOut_11 ?_
    refine aw_lconst0 dX0_copyOut_12 ?_
    refine aw_ldc2 (x := 3) dX0_copyOut_13 q1061 (by decide) ?_
    refine c_X0_164 rfl dX0_copyOut_16  (Nat.le_of_ble_eq_true rfl) (by omega) (C_x_isIn (fun hi => ?_) (fun hi => ?_))
    · refine aK_i ?_
      refine aw_ifeq (tgt := 26) dX0_copyOut_19 (by decide) (fun h => absurd h (by decide)) (fun _ => ?_)
      refine aw_iconst dX0_copyOut_22 (by decide) ?_
      refine aw_goto (tgt := 27) dX0_copyOut_23 (by decide) ?_
      refine p_X0_73_0 rfl dX0_copyOut_27 hR.o0 ?_
      refine aw_aload_n dX0_copyOut_30 rfl ?_
      refine g_X0_73_0 rfl dX0_copyOut_31 hR.o0 ?_
      repeat (first | rw [aup_s] | rw [aup_n (by omega)])
      refine aw_ifle (tgt := 39) dX0_copyOut_34 (by decide) (fun _ => ?_) (fun h => absurd h (by decide))
      refine aw_aload_n dX0_copyOut_39 rfl ?_
      refine aw_aload_n dX0_copyOut_40 rfl ?_
      refine aw_iload_n dX0_copyOut_41 rfl ?_
      refine c_X0_115 rfl dX0_copyOut_42 hR.o0 (Nat.le_of_ble_eq_true rfl) (by omega) (C_x_on (hR.up0 (j := 7) (v := 0)) (fun t0 t1 => by rw [aup_n (by omega)]; exact (HX.1 c t0 t1).ge) (fun hb => ?_) (fun t0 t1 hb => ?_) (fun t0 t1 hb => ?_))
      · refine aK_x (ax_catch (E := 1) (pre := []) (z := { startPc := 39, endPc := 102, handlerPc := 103, catchType := 41 }) (suf := []) rfl (fun y hy => by cases hy) rfl (by decide) q235 q237 ?_)
        refine aw_astore4 dX0_copyOut_103 (by decide) rfl ?_
        refine aw_aload_n dX0_copyOut_105 rfl ?_
        refine aw_aload dX0_copyOut_106 rfl ?_
        refine c_X0_131 rfl dX0_copyOut_108 hR.o0 (Nat.le_of_ble_eq_true rfl) (by omega) (C_x_none (hR.up0 (j := 7) (v := 0)) ?_)
        refine aK_i ?_
        refine aw_ireturn dX0_copyOut_111 rfl ?_
        refine ⟨_, rfl, ?_⟩
        refine AMet.go (L := [some (vR 0), some (vI a), some (vI b), some (vI c), none]) mok_X7_copyOut (Nat.le_of_ble_eq_true rfl) rfl ?_
        refine aw_aload_n dX7_copyOut_0 rfl ?_
        refine aw_iload_n dX7_copyOut_1 rfl ?_
        refine aw_iload_n dX7_copyOut_2 rfl ?_
        refine c_X7_298 rfl dX7_copyOut_3 m_ob (Nat.le_of_ble_eq_true rfl) (by omega) (C_m_isFrame (by omega) (fun hff => ?_) (fun hff => ?_))
        · first
            | (exfalso; omega)
            | skip
              refine aK_i ?_
              refine aw_ifeq (tgt := 16) dX7_copyOut_6 (by decide) (fun h => absurd h (by decide)) (fun _ => ?_)
              refine aw_iload_n dX7_copyOut_9 rfl ?_
              refine c_X7_83 rfl dX7_copyOut_10  (Nat.le_of_ble_eq_true rfl) (by omega) (C_m_isTray (fun htr => ?_) (fun htr => ?_))
              · first
                  | (exfalso; omega)
                  | skip
                    refine aK_i ?_
                    refine aw_ifne (tgt := 22) dX7_copyOut_13 (by decide) (fun _ => ?_) (fun h => absurd h (by decide))
                    refine gm_24 rfl dX7_copyOut_22 dX7_copyOut_23 rfl ?_
                    refine aw_iload_n dX7_copyOut_26 rfl ?_
                    refine aw_iaload dX7_copyOut_27 m_a4 (by omega) (by omega) ?_
                    refine aw_iconst dX7_copyOut_28 (by decide) ?_
                    refine aw_icmpne (tgt := 38) dX7_copyOut_29 (by decide) (fun h29 => ?_) (fun h29 => ?_)
                    · first
                        | (exfalso; omega)
                        | skip
                          refine gm_24 rfl dX7_copyOut_38 dX7_copyOut_39 rfl ?_
                          refine aw_iload_n dX7_copyOut_42 rfl ?_
                          refine aw_iaload dX7_copyOut_43 m_a4 (by omega) (by omega) ?_
                          refine aw_bipush dX7_copyOut_44 (by decide) ?_
                          refine aw_icmpge (tgt := 55) dX7_copyOut_46 (by decide) (fun h46 => ?_) (fun h46 => ?_)
                          · first
                              | (exfalso; omega)
                              | skip
                                refine aw_iconst dX7_copyOut_55 (by decide) ?_
                                refine aw_istore4 dX7_copyOut_56 (by decide) rfl ?_
                                refine L_m_co (by omega) (by omega) (by omega) (by omega) (fun cm3 g1 g2 => ?_) 16 0 _ (by decide) (by decide) (fun _ _ => rfl) (fun i => by rw [if_neg (by omega)])
                                refine aw_aload_n dX7_copyOut_98 rfl ?_
                                refine aw_bipush dX7_copyOut_99 (by decide) ?_
                                refine c_X7_76 rfl dX7_copyOut_101 m_ob (Nat.le_of_ble_eq_true rfl) (by omega) (C_m_gives ?_)
                                refine aK_i ?_
                                refine aw_ireturn dX7_copyOut_104 rfl ?_
                                first
                                  | (exfalso; omega)
                                  | (refine ⟨by first | rfl | (rw [aup_rn (show ct (2 + a) 0 ≠ 0 from fun z => by rw [z] at y4; have := hR.1.2; omega), aup_rn (by decide), y5 b j0 j1]), _, rfl, XR.try hR HY HL HN HS HP HF HX hv3 hv4 (fun x j h8 h0 _ => ?_) (fun x i _ _ _ h0 => ?_) (fun t t0 t1 => TRY.fr (HX.1 t t0 t1) ?_ (fun x j hx => ?_) ?_ ?_ (fun j j0 j1 => ?_)) ?_⟩
                                     · (repeat (first | rw [aup_n h0] | rw [aup_rn h8]))
                                     · rw [aup_n h0]
                                     · (repeat rw [aup_n (by omega)])
                                     · have o8 := hR.2.2.2.2.2.1.2; have o0 := hR.1.2
                                       (repeat rw [aup_rn (fun z => by rw [z] at hx; omega)])
                                     · rw [aup_rn (by decide)]
                                     · rw [aup_rn (by decide)]
                                     · rw [aup_rn (by decide)]
                                     · simp [aup])
                                  | (refine ⟨rfl, _, rfl, XR.put (a := c) hR HY HL HN HS HP HF HX hv3 hv4 t0 t1 y1 y2 (by rw [er]; exact y3) (by rw [er]; exact y4) (fun x j h8 h0 => ?_) (fun x i h5 h0 => ?_) (fun i hi => ?_) (fun j u0 u1 => ?_) ?_⟩
                                     · rw [k1 x j (by rw [← er]; exact h8) h0, aup_n h0]
                                     · rw [aup_n h0, g1 x h5]
                                     · rw [aup_rn (by decide), g2, if_neg (by omega)]
                                     · rw [er, k3, aup_rn hne.1, aup_rn (show (5 : Int) ≠ 0 by decide), g2]
                                       by_cases z : j < 16
                                       · rw [if_pos ⟨u0, z⟩, if_pos (by omega)]; congr 1; omega
                                       · rw [if_neg (by omega), if_neg (by omega)]; exact y5 j u0 u1
                                     · rw [k2, aup_s])
                          · first
                              | (exfalso; omega)
                              | skip
                                refine aw_aload_n dX7_copyOut_49 rfl ?_
                                refine aw_iconst dX7_copyOut_50 (by decide) ?_
                                refine c_X7_72 rfl dX7_copyOut_51 m_ob (Nat.le_of_ble_eq_true rfl) (by omega) (C_m_refuse ?_)
                                refine aK_i ?_
                                refine aw_ireturn dX7_copyOut_54 rfl ?_
                                first
                                  | (exfalso; omega)
                                  | (refine ⟨by first | rfl | (rw [aup_rn (show ct (2 + a) 0 ≠ 0 from fun z => by rw [z] at y4; have := hR.1.2; omega), aup_rn (by decide), y5 b j0 j1]), _, rfl, XR.try hR HY HL HN HS HP HF HX hv3 hv4 (fun x j h8 h0 _ => ?_) (fun x i _ _ _ h0 => ?_) (fun t t0 t1 => TRY.fr (HX.1 t t0 t1) ?_ (fun x j hx => ?_) ?_ ?_ (fun j j0 j1 => ?_)) ?_⟩
                                     · (repeat (first | rw [aup_n h0] | rw [aup_rn h8]))
                                     · rw [aup_n h0]
                                     · (repeat rw [aup_n (by omega)])
                                     · have o8 := hR.2.2.2.2.2.1.2; have o0 := hR.1.2
                                       (repeat rw [aup_rn (fun z => by rw [z] at hx; omega)])
                                     · rw [aup_rn (by decide)]
                                     · rw [aup_rn (by decide)]
                                     · rw [aup_rn (by decide)]
                                     · simp [aup])
                                  | (refine ⟨rfl, _, rfl, XR.put (a := c) hR HY HL HN HS HP HF HX hv3 hv4 t0 t1 y1 y2 (by rw [er]; exact y3) (by rw [er]; exact y4) (fun x j h8 h0 => ?_) (fun x i h5 h0 => ?_) (fun i hi => ?_) (fun j u0 u1 => ?_) ?_⟩
                                     · rw [k1 x j (by rw [← er]; exact h8) h0, aup_n h0]
                                     · rw [aup_n h0, g1 x h5]
                                     · rw [aup_rn (by decide), g2, if_neg (by omega)]
                                     · rw [er, k3, aup_rn hne.1, aup_rn (show (5 : Int) ≠ 0 by decide), g2]
                                       by_cases z : j < 16
                                       · rw [if_pos ⟨u0, z⟩, if_pos (by omega)]; congr 1; omega
                                       · rw [if_neg (by omega), if_neg (by omega)]; exact y5 j u0 u1
                                     · rw [k2, aup_s])
                    · first
                        | (exfalso; omega)
                        | skip
                          refine aw_aload_n dX7_copyOut_32 rfl ?_
                          refine aw_iconst dX7_copyOut_33 (by decide) ?_
                          refine c_X7_72 rfl dX7_copyOut_34 m_ob (Nat.le_of_ble_eq_true rfl) (by omega) (C_m_refuse ?_)
                          refine aK_i ?_
                          refine aw_ireturn dX7_copyOut_37 rfl ?_
                          first
                            | (exfalso; omega)
                            | (refine ⟨by first | rfl | (rw [aup_rn (show ct (2 + a) 0 ≠ 0 from fun z => by rw [z] at y4; have := hR.1.2; omega), aup_rn (by decide), y5 b j0 j1]), _, rfl, XR.try hR HY HL HN HS HP HF HX hv3 hv4 (fun x j h8 h0 _ => ?_) (fun x i _ _ _ h0 => ?_) (fun t t0 t1 => TRY.fr (HX.1 t t0 t1) ?_ (fun x j hx => ?_) ?_ ?_ (fun j j0 j1 => ?_)) ?_⟩
                               · (repeat (first | rw [aup_n h0] | rw [aup_rn h8]))
                               · rw [aup_n h0]
                               · (repeat rw [aup_n (by omega)])
                               · have o8 := hR.2.2.2.2.2.1.2; have o0 := hR.1.2
                                 (repeat rw [aup_rn (fun z => by rw [z] at hx; omega)])
                               · rw [aup_rn (by decide)]
                               · rw [aup_rn (by decide)]
                               · rw [aup_rn (by decide)]
                               · simp [aup])
                            | (refine ⟨rfl, _, rfl, XR.put (a := c) hR HY HL HN HS HP HF HX hv3 hv4 t0 t1 y1 y2 (by rw [er]; exact y3) (by rw [er]; exact y4) (fun x j h8 h0 => ?_) (fun x i h5 h0 => ?_) (fun i hi => ?_) (fun j u0 u1 => ?_) ?_⟩
                               · rw [k1 x j (by rw [← er]; exact h8) h0, aup_n h0]
                               · rw [aup_n h0, g1 x h5]
                               · rw [aup_rn (by decide), g2, if_neg (by omega)]
                               · rw [er, k3, aup_rn hne.1, aup_rn (show (5 : Int) ≠ 0 by decide), g2]
                                 by_cases z : j < 16
                                 · rw [if_pos ⟨u0, z⟩, if_pos (by omega)]; congr 1; omega
                                 · rw [if_neg (by omega), if_neg (by omega)]; exact y5 j u0 u1
                               · rw [k2, aup_s])
              · first
                  | (exfalso; omega)
                  | skip
                    refine aK_i ?_
                    refine aw_ifne (tgt := 22) dX7_copyOut_13 (by decide) (fun h => absurd h (by decide)) (fun _ => ?_)
                    refine aw_aload_n dX7_copyOut_16 rfl ?_
                    refine aw_iconst dX7_copyOut_17 (by decide) ?_
                    refine c_X7_72 rfl dX7_copyOut_18 m_ob (Nat.le_of_ble_eq_true rfl) (by omega) (C_m_refuse ?_)
                    refine aK_i ?_
                    refine aw_ireturn dX7_copyOut_21 rfl ?_
                    first
                      | (exfalso; omega)
                      | (refine ⟨by first | rfl | (rw [aup_rn (show ct (2 + a) 0 ≠ 0 from fun z => by rw [z] at y4; have := hR.1.2; omega), aup_rn (by decide), y5 b j0 j1]), _, rfl, XR.try hR HY HL HN HS HP HF HX hv3 hv4 (fun x j h8 h0 _ => ?_) (fun x i _ _ _ h0 => ?_) (fun t t0 t1 => TRY.fr (HX.1 t t0 t1) ?_ (fun x j hx => ?_) ?_ ?_ (fun j j0 j1 => ?_)) ?_⟩
                         · (repeat (first | rw [aup_n h0] | rw [aup_rn h8]))
                         · rw [aup_n h0]
                         · (repeat rw [aup_n (by omega)])
                         · have o8 := hR.2.2.2.2.2.1.2; have o0 := hR.1.2
                           (repeat rw [aup_rn (fun z => by rw [z] at hx; omega)])
                         · rw [aup_rn (by decide)]
                         · rw [aup_rn (by decide)]
                         · rw [aup_rn (by decide)]
                         · simp [aup])
                      | (refine ⟨rfl, _, rfl, XR.put (a := c) hR HY HL HN HS HP HF HX hv3 hv4 t0 t1 y1 y2 (by rw [er]; exact y3) (by rw [er]; exact y4) (fun x j h8 h0 => ?_) (fun x i h5 h0 => ?_) (fun i hi => ?_) (fun j u0 u1 => ?_) ?_⟩
                         · rw [k1 x j (by rw [← er]; exact h8) h0, aup_n h0]
                         · rw [aup_n h0, g1 x h5]
                         · rw [aup_rn (by decide), g2, if_neg (by omega)]
                         · rw [er, k3, aup_rn hne.1, aup_rn (show (5 : Int) ≠ 0 by decide), g2]
                           by_cases z : j < 16
                           · rw [if_pos ⟨u0, z⟩, if_pos (by omega)]; congr 1; omega
                           · rw [if_neg (by omega), if_neg (by omega)]; exact y5 j u0 u1
                         · rw [k2, aup_s])
        · first
            | (exfalso; omega)
            | skip
              refine aK_i ?_
              refine aw_ifeq (tgt := 16) dX7_copyOut_6 (by decide) (fun _ => ?_) (fun h => absurd h (by decide))
              refine aw_aload_n dX7_copyOut_16 rfl ?_
              refine aw_iconst dX7_copyOut_17 (by decide) ?_
              refine c_X7_72 rfl dX7_copyOut_18 m_ob (Nat.le_of_ble_eq_true rfl) (by omega) (C_m_refuse ?_)
              refine aK_i ?_
              refine aw_ireturn dX7_copyOut_21 rfl ?_
              first
                | (exfalso; omega)
                | (refine ⟨by first | rfl | (rw [aup_rn (show ct (2 + a) 0 ≠ 0 from fun z => by rw [z] at y4; have := hR.1.2; omega), aup_rn (by decide), y5 b j0 j1]), _, rfl, XR.try hR HY HL HN HS HP HF HX hv3 hv4 (fun x j h8 h0 _ => ?_) (fun x i _ _ _ h0 => ?_) (fun t t0 t1 => TRY.fr (HX.1 t t0 t1) ?_ (fun x j hx => ?_) ?_ ?_ (fun j j0 j1 => ?_)) ?_⟩
                   · (repeat (first | rw [aup_n h0] | rw [aup_rn h8]))
                   · rw [aup_n h0]
                   · (repeat rw [aup_n (by omega)])
                   · have o8 := hR.2.2.2.2.2.1.2; have o0 := hR.1.2
                     (repeat rw [aup_rn (fun z => by rw [z] at hx; omega)])
                   · rw [aup_rn (by decide)]
                   · rw [aup_rn (by decide)]
                   · rw [aup_rn (by decide)]
                   · simp [aup])
                | (refine ⟨rfl, _, rfl, XR.put (a := c) hR HY HL HN HS HP HF HX hv3 hv4 t0 t1 y1 y2 (by rw [er]; exact y3) (by rw [er]; exact y4) (fun x j h8 h0 => ?_) (fun x i h5 h0 => ?_) (fun i hi => ?_) (fun j u0 u1 => ?_) ?_⟩
                   · rw [k1 x j (by rw [← er]; exact h8) h0, aup_n h0]
                   · rw [aup_n h0, g1 x h5]
                   · rw [aup_rn (by decide), g2, if_neg (by omega)]
                   · rw [er, k3, aup_rn hne.1, aup_rn (show (5 : Int) ≠ 0 by decide), g2]
                     by_cases z : j < 16
                     · rw [if_pos ⟨u0, z⟩, if_pos (by omega)]; congr 1; omega
                     · rw [if_neg (by omega), if_neg (by omega)]; exact y5 j u0 u1
                   · rw [k2, aup_s])
      · rw [aup_n (by omega)] at hb
        have hno := (HX.1 c t0 t1).no
        refine aK_x (ax_catch (E := 1) (pre := []) (z := { startPc := 39, endPc := 102, handlerPc := 103, catchType := 41 }) (suf := []) rfl (fun y hy => by cases hy) rfl (by decide) q235 q237 ?_)
        refine aw_astore4 dX0_copyOut_103 (by decide) rfl ?_
        refine aw_aload_n dX0_copyOut_105 rfl ?_
        refine aw_aload dX0_copyOut_106 rfl ?_
        refine c_X0_131 rfl dX0_copyOut_108 hR.o0 (Nat.le_of_ble_eq_true rfl) (by omega) (C_x_none (hR.up0 (j := 7) (v := 0)) ?_)
        refine aK_i ?_
        refine aw_ireturn dX0_copyOut_111 rfl ?_
        refine ⟨_, rfl, ?_⟩
        refine AMet.go (L := [some (vR 0), some (vI a), some (vI b), some (vI c), none]) mok_X7_copyOut (Nat.le_of_ble_eq_true rfl) rfl ?_
        refine aw_aload_n dX7_copyOut_0 rfl ?_
        refine aw_iload_n dX7_copyOut_1 rfl ?_
        refine aw_iload_n dX7_copyOut_2 rfl ?_
        refine c_X7_298 rfl dX7_copyOut_3 m_ob (Nat.le_of_ble_eq_true rfl) (by omega) (C_m_isFrame (by omega) (fun hff => ?_) (fun hff => ?_))
        · first
            | (exfalso; omega)
            | skip
              refine aK_i ?_
              refine aw_ifeq (tgt := 16) dX7_copyOut_6 (by decide) (fun h => absurd h (by decide)) (fun _ => ?_)
              refine aw_iload_n dX7_copyOut_9 rfl ?_
              refine c_X7_83 rfl dX7_copyOut_10  (Nat.le_of_ble_eq_true rfl) (by omega) (C_m_isTray (fun htr => ?_) (fun htr => ?_))
              · first
                  | (exfalso; omega)
                  | skip
                    refine aK_i ?_
                    refine aw_ifne (tgt := 22) dX7_copyOut_13 (by decide) (fun _ => ?_) (fun h => absurd h (by decide))
                    refine gm_24 rfl dX7_copyOut_22 dX7_copyOut_23 rfl ?_
                    refine aw_iload_n dX7_copyOut_26 rfl ?_
                    refine aw_iaload dX7_copyOut_27 m_a4 (by omega) (by omega) ?_
                    refine aw_iconst dX7_copyOut_28 (by decide) ?_
                    refine aw_icmpne (tgt := 38) dX7_copyOut_29 (by decide) (fun h29 => ?_) (fun h29 => ?_)
                    · first
                        | (exfalso; omega)
                        | skip
                          refine gm_24 rfl dX7_copyOut_38 dX7_copyOut_39 rfl ?_
                          refine aw_iload_n dX7_copyOut_42 rfl ?_
                          refine aw_iaload dX7_copyOut_43 m_a4 (by omega) (by omega) ?_
                          refine aw_bipush dX7_copyOut_44 (by decide) ?_
                          refine aw_icmpge (tgt := 55) dX7_copyOut_46 (by decide) (fun h46 => ?_) (fun h46 => ?_)
                          · first
                              | (exfalso; omega)
                              | skip
                                refine aw_iconst dX7_copyOut_55 (by decide) ?_
                                refine aw_istore4 dX7_copyOut_56 (by decide) rfl ?_
                                refine L_m_co (by omega) (by omega) (by omega) (by omega) (fun cm3 g1 g2 => ?_) 16 0 _ (by decide) (by decide) (fun _ _ => rfl) (fun i => by rw [if_neg (by omega)])
                                refine aw_aload_n dX7_copyOut_98 rfl ?_
                                refine aw_bipush dX7_copyOut_99 (by decide) ?_
                                refine c_X7_76 rfl dX7_copyOut_101 m_ob (Nat.le_of_ble_eq_true rfl) (by omega) (C_m_gives ?_)
                                refine aK_i ?_
                                refine aw_ireturn dX7_copyOut_104 rfl ?_
                                first
                                  | (exfalso; omega)
                                  | (refine ⟨by first | rfl | (rw [aup_rn (show ct (2 + a) 0 ≠ 0 from fun z => by rw [z] at y4; have := hR.1.2; omega), aup_rn (by decide), y5 b j0 j1]), _, rfl, XR.try hR HY HL HN HS HP HF HX hv3 hv4 (fun x j h8 h0 _ => ?_) (fun x i _ _ _ h0 => ?_) (fun t t0 t1 => TRY.fr (HX.1 t t0 t1) ?_ (fun x j hx => ?_) ?_ ?_ (fun j j0 j1 => ?_)) ?_⟩
                                     · (repeat (first | rw [aup_n h0] | rw [aup_rn h8]))
                                     · rw [aup_n h0]
                                     · (repeat rw [aup_n (by omega)])
                                     · have o8 := hR.2.2.2.2.2.1.2; have o0 := hR.1.2
                                       (repeat rw [aup_rn (fun z => by rw [z] at hx; omega)])
                                     · rw [aup_rn (by decide)]
                                     · rw [aup_rn (by decide)]
                                     · rw [aup_rn (by decide)]
                                     · simp [aup])
                                  | (refine ⟨rfl, _, rfl, XR.put (a := c) hR HY HL HN HS HP HF HX hv3 hv4 t0 t1 y1 y2 (by rw [er]; exact y3) (by rw [er]; exact y4) (fun x j h8 h0 => ?_) (fun x i h5 h0 => ?_) (fun i hi => ?_) (fun j u0 u1 => ?_) ?_⟩
                                     · rw [k1 x j (by rw [← er]; exact h8) h0, aup_n h0]
                                     · rw [aup_n h0, g1 x h5]
                                     · rw [aup_rn (by decide), g2, if_neg (by omega)]
                                     · rw [er, k3, aup_rn hne.1, aup_rn (show (5 : Int) ≠ 0 by decide), g2]
                                       by_cases z : j < 16
                                       · rw [if_pos ⟨u0, z⟩, if_pos (by omega)]; congr 1; omega
                                       · rw [if_neg (by omega), if_neg (by omega)]; exact y5 j u0 u1
                                     · rw [k2, aup_s])
                          · first
                              | (exfalso; omega)
                              | skip
                                refine aw_aload_n dX7_copyOut_49 rfl ?_
                                refine aw_iconst dX7_copyOut_50 (by decide) ?_
                                refine c_X7_72 rfl dX7_copyOut_51 m_ob (Nat.le_of_ble_eq_true rfl) (by omega) (C_m_refuse ?_)
                                refine aK_i ?_
                                refine aw_ireturn dX7_copyOut_54 rfl ?_
                                first
                                  | (exfalso; omega)
                                  | (refine ⟨by first | rfl | (rw [aup_rn (show ct (2 + a) 0 ≠ 0 from fun z => by rw [z] at y4; have := hR.1.2; omega), aup_rn (by decide), y5 b j0 j1]), _, rfl, XR.try hR HY HL HN HS HP HF HX hv3 hv4 (fun x j h8 h0 _ => ?_) (fun x i _ _ _ h0 => ?_) (fun t t0 t1 => TRY.fr (HX.1 t t0 t1) ?_ (fun x j hx => ?_) ?_ ?_ (fun j j0 j1 => ?_)) ?_⟩
                                     · (repeat (first | rw [aup_n h0] | rw [aup_rn h8]))
                                     · rw [aup_n h0]
                                     · (repeat rw [aup_n (by omega)])
                                     · have o8 := hR.2.2.2.2.2.1.2; have o0 := hR.1.2
                                       (repeat rw [aup_rn (fun z => by rw [z] at hx; omega)])
                                     · rw [aup_rn (by decide)]
                                     · rw [aup_rn (by decide)]
                                     · rw [aup_rn (by decide)]
                                     · simp [aup])
                                  | (refine ⟨rfl, _, rfl, XR.put (a := c) hR HY HL HN HS HP HF HX hv3 hv4 t0 t1 y1 y2 (by rw [er]; exact y3) (by rw [er]; exact y4) (fun x j h8 h0 => ?_) (fun x i h5 h0 => ?_) (fun i hi => ?_) (fun j u0 u1 => ?_) ?_⟩
                                     · rw [k1 x j (by rw [← er]; exact h8) h0, aup_n h0]
                                     · rw [aup_n h0, g1 x h5]
                                     · rw [aup_rn (by decide), g2, if_neg (by omega)]
                                     · rw [er, k3, aup_rn hne.1, aup_rn (show (5 : Int) ≠ 0 by decide), g2]
                                       by_cases z : j < 16
                                       · rw [if_pos ⟨u0, z⟩, if_pos (by omega)]; congr 1; omega
                                       · rw [if_neg (by omega), if_neg (by omega)]; exact y5 j u0 u1
                                     · rw [k2, aup_s])
                    · first
                        | (exfalso; omega)
                        | skip
                          refine aw_aload_n dX7_copyOut_32 rfl ?_
                          refine aw_iconst dX7_copyOut_33 (by decide) ?_
                          refine c_X7_72 rfl dX7_copyOut_34 m_ob (Nat.le_of_ble_eq_true rfl) (by omega) (C_m_refuse ?_)
                          refine aK_i ?_
                          refine aw_ireturn dX7_copyOut_37 rfl ?_
                          first
                            | (exfalso; omega)
                            | (refine ⟨by first | rfl | (rw [aup_rn (show ct (2 + a) 0 ≠ 0 from fun z => by rw [z] at y4; have := hR.1.2; omega), aup_rn (by decide), y5 b j0 j1]), _, rfl, XR.try hR HY HL HN HS HP HF HX hv3 hv4 (fun x j h8 h0 _ => ?_) (fun x i _ _ _ h0 => ?_) (fun t t0 t1 => TRY.fr (HX.1 t t0 t1) ?_ (fun x j hx => ?_) ?_ ?_ (fun j j0 j1 => ?_)) ?_⟩
                               · (repeat (first | rw [aup_n h0] | rw [aup_rn h8]))
                               · rw [aup_n h0]
                               · (repeat rw [aup_n (by omega)])
                               · have o8 := hR.2.2.2.2.2.1.2; have o0 := hR.1.2
                                 (repeat rw [aup_rn (fun z => by rw [z] at hx; omega)])
                               · rw [aup_rn (by decide)]
                               · rw [aup_rn (by decide)]
                               · rw [aup_rn (by decide)]
                               · simp [aup])
                            | (refine ⟨rfl, _, rfl, XR.put (a := c) hR HY HL HN HS HP HF HX hv3 hv4 t0 t1 y1 y2 (by rw [er]; exact y3) (by rw [er]; exact y4) (fun x j h8 h0 => ?_) (fun x i h5 h0 => ?_) (fun i hi => ?_) (fun j u0 u1 => ?_) ?_⟩
                               · rw [k1 x j (by rw [← er]; exact h8) h0, aup_n h0]
                               · rw [aup_n h0, g1 x h5]
                               · rw [aup_rn (by decide), g2, if_neg (by omega)]
                               · rw [er, k3, aup_rn hne.1, aup_rn (show (5 : Int) ≠ 0 by decide), g2]
                                 by_cases z : j < 16
                                 · rw [if_pos ⟨u0, z⟩, if_pos (by omega)]; congr 1; omega
                                 · rw [if_neg (by omega), if_neg (by omega)]; exact y5 j u0 u1
                               · rw [k2, aup_s])
              · first
                  | (exfalso; omega)
                  | skip
                    refine aK_i ?_
                    refine aw_ifne (tgt := 22) dX7_copyOut_13 (by decide) (fun h => absurd h (by decide)) (fun _ => ?_)
                    refine aw_aload_n dX7_copyOut_16 rfl ?_
                    refine aw_iconst dX7_copyOut_17 (by decide) ?_
                    refine c_X7_72 rfl dX7_copyOut_18 m_ob (Nat.le_of_ble_eq_true rfl) (by omega) (C_m_refuse ?_)
                    refine aK_i ?_
                    refine aw_ireturn dX7_copyOut_21 rfl ?_
                    first
                      | (exfalso; omega)
                      | (refine ⟨by first | rfl | (rw [aup_rn (show ct (2 + a) 0 ≠ 0 from fun z => by rw [z] at y4; have := hR.1.2; omega), aup_rn (by decide), y5 b j0 j1]), _, rfl, XR.try hR HY HL HN HS HP HF HX hv3 hv4 (fun x j h8 h0 _ => ?_) (fun x i _ _ _ h0 => ?_) (fun t t0 t1 => TRY.fr (HX.1 t t0 t1) ?_ (fun x j hx => ?_) ?_ ?_ (fun j j0 j1 => ?_)) ?_⟩
                         · (repeat (first | rw [aup_n h0] | rw [aup_rn h8]))
                         · rw [aup_n h0]
                         · (repeat rw [aup_n (by omega)])
                         · have o8 := hR.2.2.2.2.2.1.2; have o0 := hR.1.2
                           (repeat rw [aup_rn (fun z => by rw [z] at hx; omega)])
                         · rw [aup_rn (by decide)]
                         · rw [aup_rn (by decide)]
                         · rw [aup_rn (by decide)]
                         · simp [aup])
                      | (refine ⟨rfl, _, rfl, XR.put (a := c) hR HY HL HN HS HP HF HX hv3 hv4 t0 t1 y1 y2 (by rw [er]; exact y3) (by rw [er]; exact y4) (fun x j h8 h0 => ?_) (fun x i h5 h0 => ?_) (fun i hi => ?_) (fun j u0 u1 => ?_) ?_⟩
                         · rw [k1 x j (by rw [← er]; exact h8) h0, aup_n h0]
                         · rw [aup_n h0, g1 x h5]
                         · rw [aup_rn (by decide), g2, if_neg (by omega)]
                         · rw [er, k3, aup_rn hne.1, aup_rn (show (5 : Int) ≠ 0 by decide), g2]
                           by_cases z : j < 16
                           · rw [if_pos ⟨u0, z⟩, if_pos (by omega)]; congr 1; omega
                           · rw [if_neg (by omega), if_neg (by omega)]; exact y5 j u0 u1
                         · rw [k2, aup_s])
        · first
            | (exfalso; omega)
            | skip
              refine aK_i ?_
              refine aw_ifeq (tgt := 16) dX7_copyOut_6 (by decide) (fun _ => ?_) (fun h => absurd h (by decide))
              refine aw_aload_n dX7_copyOut_16 rfl ?_
              refine aw_iconst dX7_copyOut_17 (by decide) ?_
              refine c_X7_72 rfl dX7_copyOut_18 m_ob (Nat.le_of_ble_eq_true rfl) (by omega) (C_m_refuse ?_)
              refine aK_i ?_
              refine aw_ireturn dX7_copyOut_21 rfl ?_
              first
                | (exfalso; omega)
                | (refine ⟨by first | rfl | (rw [aup_rn (show ct (2 + a) 0 ≠ 0 from fun z => by rw [z] at y4; have := hR.1.2; omega), aup_rn (by decide), y5 b j0 j1]), _, rfl, XR.try hR HY HL HN HS HP HF HX hv3 hv4 (fun x j h8 h0 _ => ?_) (fun x i _ _ _ h0 => ?_) (fun t t0 t1 => TRY.fr (HX.1 t t0 t1) ?_ (fun x j hx => ?_) ?_ ?_ (fun j j0 j1 => ?_)) ?_⟩
                   · (repeat (first | rw [aup_n h0] | rw [aup_rn h8]))
                   · rw [aup_n h0]
                   · (repeat rw [aup_n (by omega)])
                   · have o8 := hR.2.2.2.2.2.1.2; have o0 := hR.1.2
                     (repeat rw [aup_rn (fun z => by rw [z] at hx; omega)])
                   · rw [aup_rn (by decide)]
                   · rw [aup_rn (by decide)]
                   · rw [aup_rn (by decide)]
                   · simp [aup])
                | (refine ⟨rfl, _, rfl, XR.put (a := c) hR HY HL HN HS HP HF HX hv3 hv4 t0 t1 y1 y2 (by rw [er]; exact y3) (by rw [er]; exact y4) (fun x j h8 h0 => ?_) (fun x i h5 h0 => ?_) (fun i hi => ?_) (fun j u0 u1 => ?_) ?_⟩
                   · rw [k1 x j (by rw [← er]; exact h8) h0, aup_n h0]
                   · rw [aup_n h0, g1 x h5]
                   · rw [aup_rn (by decide), g2, if_neg (by omega)]
                   · rw [er, k3, aup_rn hne.1, aup_rn (show (5 : Int) ≠ 0 by decide), g2]
                     by_cases z : j < 16
                     · rw [if_pos ⟨u0, z⟩, if_pos (by omega)]; congr 1; omega
                     · rw [if_neg (by omega), if_neg (by omega)]; exact y5 j u0 u1
                   · rw [k2, aup_s])
      · have hy := (HX.1 c t0 t1).yes (by rw [aup_n (by omega)] at hb; exact hb)
        obtain ⟨y1, y2, y3, y4, y5⟩ := hy
        rw [aup_n (by omega)]
        refine aK_i ?_
        refine c_X0_311 rfl dX0_copyOut_45  (Nat.le_of_ble_eq_true rfl) (by omega) (C_x_sizeOf (t := (cm 3 c).toNat) (by omega) y3 ?_)
        refine aK_i ?_
        refine aw_bipush dX0_copyOut_48 (by decide) ?_
        refine aw_icmplt (tgt := 57) dX0_copyOut_50 (by decide) (fun h50 => ?_) (fun h50 => ?_)
        · refine aw_iconst dX0_copyOut_57 (by decide) ?_
          refine aw_iconst dX0_copyOut_58 (by decide) ?_
          refine c_X0_98 rfl dX0_copyOut_59 hR.o0 (Nat.le_of_ble_eq_true rfl) (by omega) (C_x_want hR (fun hb => ?_) (fun hb => ?_))
          · exact absurd rfl hb
          · refine aK_x (ax_catch (E := 1) (pre := []) (z := { startPc := 39, endPc := 102, handlerPc := 103, catchType := 41 }) (suf := []) rfl (fun y hy => by cases hy) rfl (by decide) q235 q237 ?_)
            refine aw_astore4 dX0_copyOut_103 (by decide) rfl ?_
            refine aw_aload_n dX0_copyOut_105 rfl ?_
            refine aw_aload dX0_copyOut_106 rfl ?_
            refine c_X0_131 rfl dX0_copyOut_108 hR.o0 (Nat.le_of_ble_eq_true rfl) (by omega) (C_x_none (hR.up0 (j := 7) (v := 0)) ?_)
            refine aK_i ?_
            refine aw_ireturn dX0_copyOut_111 rfl ?_
            refine ⟨_, rfl, ?_⟩
            refine AMet.go (L := [some (vR 0), some (vI a), some (vI b), some (vI c), none]) mok_X7_copyOut (Nat.le_of_ble_eq_true rfl) rfl ?_
            refine aw_aload_n dX7_copyOut_0 rfl ?_
            refine aw_iload_n dX7_copyOut_1 rfl ?_
            refine aw_iload_n dX7_copyOut_2 rfl ?_
            refine c_X7_298 rfl dX7_copyOut_3 m_ob (Nat.le_of_ble_eq_true rfl) (by omega) (C_m_isFrame (by omega) (fun hff => ?_) (fun hff => ?_))
            · first
                | (exfalso; omega)
                | skip
                  refine aK_i ?_
                  refine aw_ifeq (tgt := 16) dX7_copyOut_6 (by decide) (fun h => absurd h (by decide)) (fun _ => ?_)
                  refine aw_iload_n dX7_copyOut_9 rfl ?_
                  refine c_X7_83 rfl dX7_copyOut_10  (Nat.le_of_ble_eq_true rfl) (by omega) (C_m_isTray (fun htr => ?_) (fun htr => ?_))
                  · first
                      | (exfalso; omega)
                      | skip
                        refine aK_i ?_
                        refine aw_ifne (tgt := 22) dX7_copyOut_13 (by decide) (fun _ => ?_) (fun h => absurd h (by decide))
                        refine gm_24 rfl dX7_copyOut_22 dX7_copyOut_23 rfl ?_
                        refine aw_iload_n dX7_copyOut_26 rfl ?_
                        refine aw_iaload dX7_copyOut_27 m_a4 (by omega) (by omega) ?_
                        refine aw_iconst dX7_copyOut_28 (by decide) ?_
                        refine aw_icmpne (tgt := 38) dX7_copyOut_29 (by decide) (fun h29 => ?_) (fun h29 => ?_)
                        · first
                            | (exfalso; omega)
                            | skip
                              refine gm_24 rfl dX7_copyOut_38 dX7_copyOut_39 rfl ?_
                              refine aw_iload_n dX7_copyOut_42 rfl ?_
                              refine aw_iaload dX7_copyOut_43 m_a4 (by omega) (by omega) ?_
                              refine aw_bipush dX7_copyOut_44 (by decide) ?_
                              refine aw_icmpge (tgt := 55) dX7_copyOut_46 (by decide) (fun h46 => ?_) (fun h46 => ?_)
                              · first
                                  | (exfalso; omega)
                                  | skip
                                    refine aw_iconst dX7_copyOut_55 (by decide) ?_
                                    refine aw_istore4 dX7_copyOut_56 (by decide) rfl ?_
                                    refine L_m_co (by omega) (by omega) (by omega) (by omega) (fun cm3 g1 g2 => ?_) 16 0 _ (by decide) (by decide) (fun _ _ => rfl) (fun i => by rw [if_neg (by omega)])
                                    refine aw_aload_n dX7_copyOut_98 rfl ?_
                                    refine aw_bipush dX7_copyOut_99 (by decide) ?_
                                    refine c_X7_76 rfl dX7_copyOut_101 m_ob (Nat.le_of_ble_eq_true rfl) (by omega) (C_m_gives ?_)
                                    refine aK_i ?_
                                    refine aw_ireturn dX7_copyOut_104 rfl ?_
                                    first
                                      | (exfalso; omega)
                                      | (refine ⟨by first | rfl | (rw [aup_rn (show ct (2 + a) 0 ≠ 0 from fun z => by rw [z] at y4; have := hR.1.2; omega), aup_rn (by decide), y5 b j0 j1]), _, rfl, XR.try hR HY HL HN HS HP HF HX hv3 hv4 (fun x j h8 h0 _ => ?_) (fun x i _ _ _ h0 => ?_) (fun t t0 t1 => TRY.fr (HX.1 t t0 t1) ?_ (fun x j hx => ?_) ?_ ?_ (fun j j0 j1 => ?_)) ?_⟩
                                         · (repeat (first | rw [aup_n h0] | rw [aup_rn h8]))
                                         · rw [aup_n h0]
                                         · (repeat rw [aup_n (by omega)])
                                         · have o8 := hR.2.2.2.2.2.1.2; have o0 := hR.1.2
                                           (repeat rw [aup_rn (fun z => by rw [z] at hx; omega)])
                                         · rw [aup_rn (by decide)]
                                         · rw [aup_rn (by decide)]
                                         · rw [aup_rn (by decide)]
                                         · simp [aup])
                                      | (refine ⟨rfl, _, rfl, XR.put (a := c) hR HY HL HN HS HP HF HX hv3 hv4 t0 t1 y1 y2 (by rw [er]; exact y3) (by rw [er]; exact y4) (fun x j h8 h0 => ?_) (fun x i h5 h0 => ?_) (fun i hi => ?_) (fun j u0 u1 => ?_) ?_⟩
                                         · rw [k1 x j (by rw [← er]; exact h8) h0, aup_n h0]
                                         · rw [aup_n h0, g1 x h5]
                                         · rw [aup_rn (by decide), g2, if_neg (by omega)]
                                         · rw [er, k3, aup_rn hne.1, aup_rn (show (5 : Int) ≠ 0 by decide), g2]
                                           by_cases z : j < 16
                                           · rw [if_pos ⟨u0, z⟩, if_pos (by omega)]; congr 1; omega
                                           · rw [if_neg (by omega), if_neg (by omega)]; exact y5 j u0 u1
                                         · rw [k2, aup_s])
                              · first
                                  | (exfalso; omega)
                                  | skip
                                    refine aw_aload_n dX7_copyOut_49 rfl ?_
                                    refine aw_iconst dX7_copyOut_50 (by decide) ?_
                                    refine c_X7_72 rfl dX7_copyOut_51 m_ob (Nat.le_of_ble_eq_true rfl) (by omega) (C_m_refuse ?_)
                                    refine aK_i ?_
                                    refine aw_ireturn dX7_copyOut_54 rfl ?_
                                    first
                                      | (exfalso; omega)
                                      | (refine ⟨by first | rfl | (rw [aup_rn (show ct (2 + a) 0 ≠ 0 from fun z => by rw [z] at y4; have := hR.1.2; omega), aup_rn (by decide), y5 b j0 j1]), _, rfl, XR.try hR HY HL HN HS HP HF HX hv3 hv4 (fun x j h8 h0 _ => ?_) (fun x i _ _ _ h0 => ?_) (fun t t0 t1 => TRY.fr (HX.1 t t0 t1) ?_ (fun x j hx => ?_) ?_ ?_ (fun j j0 j1 => ?_)) ?_⟩
                                         · (repeat (first | rw [aup_n h0] | rw [aup_rn h8]))
                                         · rw [aup_n h0]
                                         · (repeat rw [aup_n (by omega)])
                                         · have o8 := hR.2.2.2.2.2.1.2; have o0 := hR.1.2
                                           (repeat rw [aup_rn (fun z => by rw [z] at hx; omega)])
                                         · rw [aup_rn (by decide)]
                                         · rw [aup_rn (by decide)]
                                         · rw [aup_rn (by decide)]
                                         · simp [aup])
                                      | (refine ⟨rfl, _, rfl, XR.put (a := c) hR HY HL HN HS HP HF HX hv3 hv4 t0 t1 y1 y2 (by rw [er]; exact y3) (by rw [er]; exact y4) (fun x j h8 h0 => ?_) (fun x i h5 h0 => ?_) (fun i hi => ?_) (fun j u0 u1 => ?_) ?_⟩
                                         · rw [k1 x j (by rw [← er]; exact h8) h0, aup_n h0]
                                         · rw [aup_n h0, g1 x h5]
                                         · rw [aup_rn (by decide), g2, if_neg (by omega)]
                                         · rw [er, k3, aup_rn hne.1, aup_rn (show (5 : Int) ≠ 0 by decide), g2]
                                           by_cases z : j < 16
                                           · rw [if_pos ⟨u0, z⟩, if_pos (by omega)]; congr 1; omega
                                           · rw [if_neg (by omega), if_neg (by omega)]; exact y5 j u0 u1
                                         · rw [k2, aup_s])
                        · first
                            | (exfalso; omega)
                            | skip
                              refine aw_aload_n dX7_copyOut_32 rfl ?_
                              refine aw_iconst dX7_copyOut_33 (by decide) ?_
                              refine c_X7_72 rfl dX7_copyOut_34 m_ob (Nat.le_of_ble_eq_true rfl) (by omega) (C_m_refuse ?_)
                              refine aK_i ?_
                              refine aw_ireturn dX7_copyOut_37 rfl ?_
                              first
                                | (exfalso; omega)
                                | (refine ⟨by first | rfl | (rw [aup_rn (show ct (2 + a) 0 ≠ 0 from fun z => by rw [z] at y4; have := hR.1.2; omega), aup_rn (by decide), y5 b j0 j1]), _, rfl, XR.try hR HY HL HN HS HP HF HX hv3 hv4 (fun x j h8 h0 _ => ?_) (fun x i _ _ _ h0 => ?_) (fun t t0 t1 => TRY.fr (HX.1 t t0 t1) ?_ (fun x j hx => ?_) ?_ ?_ (fun j j0 j1 => ?_)) ?_⟩
                                   · (repeat (first | rw [aup_n h0] | rw [aup_rn h8]))
                                   · rw [aup_n h0]
                                   · (repeat rw [aup_n (by omega)])
                                   · have o8 := hR.2.2.2.2.2.1.2; have o0 := hR.1.2
                                     (repeat rw [aup_rn (fun z => by rw [z] at hx; omega)])
                                   · rw [aup_rn (by decide)]
                                   · rw [aup_rn (by decide)]
                                   · rw [aup_rn (by decide)]
                                   · simp [aup])
                                | (refine ⟨rfl, _, rfl, XR.put (a := c) hR HY HL HN HS HP HF HX hv3 hv4 t0 t1 y1 y2 (by rw [er]; exact y3) (by rw [er]; exact y4) (fun x j h8 h0 => ?_) (fun x i h5 h0 => ?_) (fun i hi => ?_) (fun j u0 u1 => ?_) ?_⟩
                                   · rw [k1 x j (by rw [← er]; exact h8) h0, aup_n h0]
                                   · rw [aup_n h0, g1 x h5]
                                   · rw [aup_rn (by decide), g2, if_neg (by omega)]
                                   · rw [er, k3, aup_rn hne.1, aup_rn (show (5 : Int) ≠ 0 by decide), g2]
                                     by_cases z : j < 16
                                     · rw [if_pos ⟨u0, z⟩, if_pos (by omega)]; congr 1; omega
                                     · rw [if_neg (by omega), if_neg (by omega)]; exact y5 j u0 u1
                                   · rw [k2, aup_s])
                  · first
                      | (exfalso; omega)
                      | skip
                        refine aK_i ?_
                        refine aw_ifne (tgt := 22) dX7_copyOut_13 (by decide) (fun h => absurd h (by decide)) (fun _ => ?_)
                        refine aw_aload_n dX7_copyOut_16 rfl ?_
                        refine aw_iconst dX7_copyOut_17 (by decide) ?_
                        refine c_X7_72 rfl dX7_copyOut_18 m_ob (Nat.le_of_ble_eq_true rfl) (by omega) (C_m_refuse ?_)
                        refine aK_i ?_
                        refine aw_ireturn dX7_copyOut_21 rfl ?_
                        first
                          | (exfalso; omega)
                          | (refine ⟨by first | rfl | (rw [aup_rn (show ct (2 + a) 0 ≠ 0 from fun z => by rw [z] at y4; have := hR.1.2; omega), aup_rn (by decide), y5 b j0 j1]), _, rfl, XR.try hR HY HL HN HS HP HF HX hv3 hv4 (fun x j h8 h0 _ => ?_) (fun x i _ _ _ h0 => ?_) (fun t t0 t1 => TRY.fr (HX.1 t t0 t1) ?_ (fun x j hx => ?_) ?_ ?_ (fun j j0 j1 => ?_)) ?_⟩
                             · (repeat (first | rw [aup_n h0] | rw [aup_rn h8]))
                             · rw [aup_n h0]
                             · (repeat rw [aup_n (by omega)])
                             · have o8 := hR.2.2.2.2.2.1.2; have o0 := hR.1.2
                               (repeat rw [aup_rn (fun z => by rw [z] at hx; omega)])
                             · rw [aup_rn (by decide)]
                             · rw [aup_rn (by decide)]
                             · rw [aup_rn (by decide)]
                             · simp [aup])
                          | (refine ⟨rfl, _, rfl, XR.put (a := c) hR HY HL HN HS HP HF HX hv3 hv4 t0 t1 y1 y2 (by rw [er]; exact y3) (by rw [er]; exact y4) (fun x j h8 h0 => ?_) (fun x i h5 h0 => ?_) (fun i hi => ?_) (fun j u0 u1 => ?_) ?_⟩
                             · rw [k1 x j (by rw [← er]; exact h8) h0, aup_n h0]
                             · rw [aup_n h0, g1 x h5]
                             · rw [aup_rn (by decide), g2, if_neg (by omega)]
                             · rw [er, k3, aup_rn hne.1, aup_rn (show (5 : Int) ≠ 0 by decide), g2]
                               by_cases z : j < 16
                               · rw [if_pos ⟨u0, z⟩, if_pos (by omega)]; congr 1; omega
                               · rw [if_neg (by omega), if_neg (by omega)]; exact y5 j u0 u1
                             · rw [k2, aup_s])
            · first
                | (exfalso; omega)
                | skip
                  refine aK_i ?_
                  refine aw_ifeq (tgt := 16) dX7_copyOut_6 (by decide) (fun _ => ?_) (fun h => absurd h (by decide))
                  refine aw_aload_n dX7_copyOut_16 rfl ?_
                  refine aw_iconst dX7_copyOut_17 (by decide) ?_
                  refine c_X7_72 rfl dX7_copyOut_18 m_ob (Nat.le_of_ble_eq_true rfl) (by omega) (C_m_refuse ?_)
                  refine aK_i ?_
                  refine aw_ireturn dX7_copyOut_21 rfl ?_
                  first
                    | (exfalso; omega)
                    | (refine ⟨by first | rfl | (rw [aup_rn (show ct (2 + a) 0 ≠ 0 from fun z => by rw [z] at y4; have := hR.1.2; omega), aup_rn (by decide), y5 b j0 j1]), _, rfl, XR.try hR HY HL HN HS HP HF HX hv3 hv4 (fun x j h8 h0 _ => ?_) (fun x i _ _ _ h0 => ?_) (fun t t0 t1 => TRY.fr (HX.1 t t0 t1) ?_ (fun x j hx => ?_) ?_ ?_ (fun j j0 j1 => ?_)) ?_⟩
                       · (repeat (first | rw [aup_n h0] | rw [aup_rn h8]))
                       · rw [aup_n h0]
                       · (repeat rw [aup_n (by omega)])
                       · have o8 := hR.2.2.2.2.2.1.2; have o0 := hR.1.2
                         (repeat rw [aup_rn (fun z => by rw [z] at hx; omega)])
                       · rw [aup_rn (by decide)]
                       · rw [aup_rn (by decide)]
                       · rw [aup_rn (by decide)]
                       · simp [aup])
                    | (refine ⟨rfl, _, rfl, XR.put (a := c) hR HY HL HN HS HP HF HX hv3 hv4 t0 t1 y1 y2 (by rw [er]; exact y3) (by rw [er]; exact y4) (fun x j h8 h0 => ?_) (fun x i h5 h0 => ?_) (fun i hi => ?_) (fun j u0 u1 => ?_) ?_⟩
                       · rw [k1 x j (by rw [← er]; exact h8) h0, aup_n h0]
                       · rw [aup_n h0, g1 x h5]
                       · rw [aup_rn (by decide), g2, if_neg (by omega)]
                       · rw [er, k3, aup_rn hne.1, aup_rn (show (5 : Int) ≠ 0 by decide), g2]
                         by_cases z : j < 16
                         · rw [if_pos ⟨u0, z⟩, if_pos (by omega)]; congr 1; omega
                         · rw [if_neg (by omega), if_neg (by omega)]; exact y5 j u0 u1
                       · rw [k2, aup_s])
        · refine aw_iconst dX0_copyOut_53 (by decide) ?_
          refine aw_goto (tgt := 58) dX0_copyOut_54 (by decide) ?_
          refine aw_iconst dX0_copyOut_58 (by decide) ?_
          refine c_X0_98 rfl dX0_copyOut_59 hR.o0 (Nat.le_of_ble_eq_true rfl) (by omega) (C_x_want hR (fun hb => ?_) (fun hb => ?_))
          · refine aK_v ?_
            refine aw_iconst dX0_copyOut_62 (by decide) ?_
            refine aw_istore4 dX0_copyOut_63 (by decide) rfl ?_
            obtain ⟨r, er⟩ : ∃ z, ct (2 + c) 0 = z := ⟨_, rfl⟩
            rw [er] at y3 y4 y5
            have hp9 := (HP.2.2.1 a xf.1.1 xf.1.2)
            have hp8 := hp9.1
            have hne := TRY.rne hR t0 y4
            refine AW.widen (kc' := 3 * 16 + 0) (ks' := 222 * 16 + 0) (by decide) (by decide) ?_
            refine L_x_co (r := r) (by omega) (hR.up0 (j := 7) (v := 0)) (HY.up0 (j := 7) (v := 0) hR.1.2 (by decide)) xf (by omega) hp9 ⟨t0, t1⟩ (by rw [aup_n (by omega)]; exact er) (by omega) y3 (by omega) (by omega) y4 (fun ct1 k1 k2 k3 => ?_) 16 0 _ (by decide) (by decide) (fun _ _ _ _ => rfl) (aup_s) (fun j => by rw [if_neg (by omega)])
            refine aw_bipush dX0_copyOut_100 (by decide) ?_
            refine aw_ireturn dX0_copyOut_102 rfl ?_
            refine ⟨_, rfl, ?_⟩
            refine AMet.go (L := [some (vR 0), some (vI a), some (vI b), some (vI c), none]) mok_X7_copyOut (Nat.le_of_ble_eq_true rfl) rfl ?_
            refine aw_aload_n dX7_copyOut_0 rfl ?_
            refine aw_iload_n dX7_copyOut_1 rfl ?_
            refine aw_iload_n dX7_copyOut_2 rfl ?_
            refine c_X7_298 rfl dX7_copyOut_3 m_ob (Nat.le_of_ble_eq_true rfl) (by omega) (C_m_isFrame (by omega) (fun hff => ?_) (fun hff => ?_))
            · first
                | (exfalso; omega)
                | skip
                  refine aK_i ?_
                  refine aw_ifeq (tgt := 16) dX7_copyOut_6 (by decide) (fun h => absurd h (by decide)) (fun _ => ?_)
                  refine aw_iload_n dX7_copyOut_9 rfl ?_
                  refine c_X7_83 rfl dX7_copyOut_10  (Nat.le_of_ble_eq_true rfl) (by omega) (C_m_isTray (fun htr => ?_) (fun htr => ?_))
                  · first
                      | (exfalso; omega)
                      | skip
                        refine aK_i ?_
                        refine aw_ifne (tgt := 22) dX7_copyOut_13 (by decide) (fun _ => ?_) (fun h => absurd h (by decide))
                        refine gm_24 rfl dX7_copyOut_22 dX7_copyOut_23 rfl ?_
                        refine aw_iload_n dX7_copyOut_26 rfl ?_
                        refine aw_iaload dX7_copyOut_27 m_a4 (by omega) (by omega) ?_
                        refine aw_iconst dX7_copyOut_28 (by decide) ?_
                        refine aw_icmpne (tgt := 38) dX7_copyOut_29 (by decide) (fun h29 => ?_) (fun h29 => ?_)
                        · first
                            | (exfalso; omega)
                            | skip
                              refine gm_24 rfl dX7_copyOut_38 dX7_copyOut_39 rfl ?_
                              refine aw_iload_n dX7_copyOut_42 rfl ?_
                              refine aw_iaload dX7_copyOut_43 m_a4 (by omega) (by omega) ?_
                              refine aw_bipush dX7_copyOut_44 (by decide) ?_
                              refine aw_icmpge (tgt := 55) dX7_copyOut_46 (by decide) (fun h46 => ?_) (fun h46 => ?_)
                              · first
                                  | (exfalso; omega)
                                  | skip
                                    refine aw_iconst dX7_copyOut_55 (by decide) ?_
                                    refine aw_istore4 dX7_copyOut_56 (by decide) rfl ?_
                                    refine L_m_co (by omega) (by omega) (by omega) (by omega) (fun cm3 g1 g2 => ?_) 16 0 _ (by decide) (by decide) (fun _ _ => rfl) (fun i => by rw [if_neg (by omega)])
                                    refine aw_aload_n dX7_copyOut_98 rfl ?_
                                    refine aw_bipush dX7_copyOut_99 (by decide) ?_
                                    refine c_X7_76 rfl dX7_copyOut_101 m_ob (Nat.le_of_ble_eq_true rfl) (by omega) (C_m_gives ?_)
                                    refine aK_i ?_
                                    refine aw_ireturn dX7_copyOut_104 rfl ?_
                                    first
                                      | (exfalso; omega)
                                      | (refine ⟨by first | rfl | (rw [aup_rn (show ct (2 + a) 0 ≠ 0 from fun z => by rw [z] at y4; have := hR.1.2; omega), aup_rn (by decide), y5 b j0 j1]), _, rfl, XR.try hR HY HL HN HS HP HF HX hv3 hv4 (fun x j h8 h0 _ => ?_) (fun x i _ _ _ h0 => ?_) (fun t t0 t1 => TRY.fr (HX.1 t t0 t1) ?_ (fun x j hx => ?_) ?_ ?_ (fun j j0 j1 => ?_)) ?_⟩
                                         · (repeat (first | rw [aup_n h0] | rw [aup_rn h8]))
                                         · rw [aup_n h0]
                                         · (repeat rw [aup_n (by omega)])
                                         · have o8 := hR.2.2.2.2.2.1.2; have o0 := hR.1.2
                                           (repeat rw [aup_rn (fun z => by rw [z] at hx; omega)])
                                         · rw [aup_rn (by decide)]
                                         · rw [aup_rn (by decide)]
                                         · rw [aup_rn (by decide)]
                                         · simp [aup])
                                      | (refine ⟨rfl, _, rfl, XR.put (a := c) hR HY HL HN HS HP HF HX hv3 hv4 t0 t1 y1 y2 (by rw [er]; exact y3) (by rw [er]; exact y4) (fun x j h8 h0 => ?_) (fun x i h5 h0 => ?_) (fun i hi => ?_) (fun j u0 u1 => ?_) ?_⟩
                                         · rw [k1 x j (by rw [← er]; exact h8) h0, aup_n h0]
                                         · rw [aup_n h0, g1 x h5]
                                         · rw [aup_rn (by decide), g2, if_neg (by omega)]
                                         · rw [er, k3, aup_rn hne.1, aup_rn (show (5 : Int) ≠ 0 by decide), g2]
                                           by_cases z : j < 16
                                           · rw [if_pos ⟨u0, z⟩, if_pos (by omega)]; congr 1; omega
                                           · rw [if_neg (by omega), if_neg (by omega)]; exact y5 j u0 u1
                                         · rw [k2, aup_s])
                              · first
                                  | (exfalso; omega)
                                  | skip
                                    refine aw_aload_n dX7_copyOut_49 rfl ?_
                                    refine aw_iconst dX7_copyOut_50 (by decide) ?_
                                    refine c_X7_72 rfl dX7_copyOut_51 m_ob (Nat.le_of_ble_eq_true rfl) (by omega) (C_m_refuse ?_)
                                    refine aK_i ?_
                                    refine aw_ireturn dX7_copyOut_54 rfl ?_
                                    first
                                      | (exfalso; omega)
                                      | (refine ⟨by first | rfl | (rw [aup_rn (show ct (2 + a) 0 ≠ 0 from fun z => by rw [z] at y4; have := hR.1.2; omega), aup_rn (by decide), y5 b j0 j1]), _, rfl, XR.try hR HY HL HN HS HP HF HX hv3 hv4 (fun x j h8 h0 _ => ?_) (fun x i _ _ _ h0 => ?_) (fun t t0 t1 => TRY.fr (HX.1 t t0 t1) ?_ (fun x j hx => ?_) ?_ ?_ (fun j j0 j1 => ?_)) ?_⟩
                                         · (repeat (first | rw [aup_n h0] | rw [aup_rn h8]))
                                         · rw [aup_n h0]
                                         · (repeat rw [aup_n (by omega)])
                                         · have o8 := hR.2.2.2.2.2.1.2; have o0 := hR.1.2
                                           (repeat rw [aup_rn (fun z => by rw [z] at hx; omega)])
                                         · rw [aup_rn (by decide)]
                                         · rw [aup_rn (by decide)]
                                         · rw [aup_rn (by decide)]
                                         · simp [aup])
                                      | (refine ⟨rfl, _, rfl, XR.put (a := c) hR HY HL HN HS HP HF HX hv3 hv4 t0 t1 y1 y2 (by rw [er]; exact y3) (by rw [er]; exact y4) (fun x j h8 h0 => ?_) (fun x i h5 h0 => ?_) (fun i hi => ?_) (fun j u0 u1 => ?_) ?_⟩
                                         · rw [k1 x j (by rw [← er]; exact h8) h0, aup_n h0]
                                         · rw [aup_n h0, g1 x h5]
                                         · rw [aup_rn (by decide), g2, if_neg (by omega)]
                                         · rw [er, k3, aup_rn hne.1, aup_rn (show (5 : Int) ≠ 0 by decide), g2]
                                           by_cases z : j < 16
                                           · rw [if_pos ⟨u0, z⟩, if_pos (by omega)]; congr 1; omega
                                           · rw [if_neg (by omega), if_neg (by omega)]; exact y5 j u0 u1
                                         · rw [k2, aup_s])
                        · first
                            | (exfalso; omega)
                            | skip
                              refine aw_aload_n dX7_copyOut_32 rfl ?_
                              refine aw_iconst dX7_copyOut_33 (by decide) ?_
                              refine c_X7_72 rfl dX7_copyOut_34 m_ob (Nat.le_of_ble_eq_true rfl) (by omega) (C_m_refuse ?_)
                              refine aK_i ?_
                              refine aw_ireturn dX7_copyOut_37 rfl ?_
                              first
                                | (exfalso; omega)
                                | (refine ⟨by first | rfl | (rw [aup_rn (show ct (2 + a) 0 ≠ 0 from fun z => by rw [z] at y4; have := hR.1.2; omega), aup_rn (by decide), y5 b j0 j1]), _, rfl, XR.try hR HY HL HN HS HP HF HX hv3 hv4 (fun x j h8 h0 _ => ?_) (fun x i _ _ _ h0 => ?_) (fun t t0 t1 => TRY.fr (HX.1 t t0 t1) ?_ (fun x j hx => ?_) ?_ ?_ (fun j j0 j1 => ?_)) ?_⟩
                                   · (repeat (first | rw [aup_n h0] | rw [aup_rn h8]))
                                   · rw [aup_n h0]
                                   · (repeat rw [aup_n (by omega)])
                                   · have o8 := hR.2.2.2.2.2.1.2; have o0 := hR.1.2
                                     (repeat rw [aup_rn (fun z => by rw [z] at hx; omega)])
                                   · rw [aup_rn (by decide)]
                                   · rw [aup_rn (by decide)]
                                   · rw [aup_rn (by decide)]
                                   · simp [aup])
                                | (refine ⟨rfl, _, rfl, XR.put (a := c) hR HY HL HN HS HP HF HX hv3 hv4 t0 t1 y1 y2 (by rw [er]; exact y3) (by rw [er]; exact y4) (fun x j h8 h0 => ?_) (fun x i h5 h0 => ?_) (fun i hi => ?_) (fun j u0 u1 => ?_) ?_⟩
                                   · rw [k1 x j (by rw [← er]; exact h8) h0, aup_n h0]
                                   · rw [aup_n h0, g1 x h5]
                                   · rw [aup_rn (by decide), g2, if_neg (by omega)]
                                   · rw [er, k3, aup_rn hne.1, aup_rn (show (5 : Int) ≠ 0 by decide), g2]
                                     by_cases z : j < 16
                                     · rw [if_pos ⟨u0, z⟩, if_pos (by omega)]; congr 1; omega
                                     · rw [if_neg (by omega), if_neg (by omega)]; exact y5 j u0 u1
                                   · rw [k2, aup_s])
                  · first
                      | (exfalso; omega)
                      | skip
                        refine aK_i ?_
                        refine aw_ifne (tgt := 22) dX7_copyOut_13 (by decide) (fun h => absurd h (by decide)) (fun _ => ?_)
                        refine aw_aload_n dX7_copyOut_16 rfl ?_
                        refine aw_iconst dX7_copyOut_17 (by decide) ?_
                        refine c_X7_72 rfl dX7_copyOut_18 m_ob (Nat.le_of_ble_eq_true rfl) (by omega) (C_m_refuse ?_)
                        refine aK_i ?_
                        refine aw_ireturn dX7_copyOut_21 rfl ?_
                        first
                          | (exfalso; omega)
                          | (refine ⟨by first | rfl | (rw [aup_rn (show ct (2 + a) 0 ≠ 0 from fun z => by rw [z] at y4; have := hR.1.2; omega), aup_rn (by decide), y5 b j0 j1]), _, rfl, XR.try hR HY HL HN HS HP HF HX hv3 hv4 (fun x j h8 h0 _ => ?_) (fun x i _ _ _ h0 => ?_) (fun t t0 t1 => TRY.fr (HX.1 t t0 t1) ?_ (fun x j hx => ?_) ?_ ?_ (fun j j0 j1 => ?_)) ?_⟩
                             · (repeat (first | rw [aup_n h0] | rw [aup_rn h8]))
                             · rw [aup_n h0]
                             · (repeat rw [aup_n (by omega)])
                             · have o8 := hR.2.2.2.2.2.1.2; have o0 := hR.1.2
                               (repeat rw [aup_rn (fun z => by rw [z] at hx; omega)])
                             · rw [aup_rn (by decide)]
                             · rw [aup_rn (by decide)]
                             · rw [aup_rn (by decide)]
                             · simp [aup])
                          | (refine ⟨rfl, _, rfl, XR.put (a := c) hR HY HL HN HS HP HF HX hv3 hv4 t0 t1 y1 y2 (by rw [er]; exact y3) (by rw [er]; exact y4) (fun x j h8 h0 => ?_) (fun x i h5 h0 => ?_) (fun i hi => ?_) (fun j u0 u1 => ?_) ?_⟩
                             · rw [k1 x j (by rw [← er]; exact h8) h0, aup_n h0]
                             · rw [aup_n h0, g1 x h5]
                             · rw [aup_rn (by decide), g2, if_neg (by omega)]
                             · rw [er, k3, aup_rn hne.1, aup_rn (show (5 : Int) ≠ 0 by decide), g2]
                               by_cases z : j < 16
                               · rw [if_pos ⟨u0, z⟩, if_pos (by omega)]; congr 1; omega
                               · rw [if_neg (by omega), if_neg (by omega)]; exact y5 j u0 u1
                             · rw [k2, aup_s])
            · first
                | (exfalso; omega)
                | skip
                  refine aK_i ?_
                  refine aw_ifeq (tgt := 16) dX7_copyOut_6 (by decide) (fun _ => ?_) (fun h => absurd h (by decide))
                  refine aw_aload_n dX7_copyOut_16 rfl ?_
                  refine aw_iconst dX7_copyOut_17 (by decide) ?_
                  refine c_X7_72 rfl dX7_copyOut_18 m_ob (Nat.le_of_ble_eq_true rfl) (by omega) (C_m_refuse ?_)
                  refine aK_i ?_
                  refine aw_ireturn dX7_copyOut_21 rfl ?_
                  first
                    | (exfalso; omega)
                    | (refine ⟨by first | rfl | (rw [aup_rn (show ct (2 + a) 0 ≠ 0 from fun z => by rw [z] at y4; have := hR.1.2; omega), aup_rn (by decide), y5 b j0 j1]), _, rfl, XR.try hR HY HL HN HS HP HF HX hv3 hv4 (fun x j h8 h0 _ => ?_) (fun x i _ _ _ h0 => ?_) (fun t t0 t1 => TRY.fr (HX.1 t t0 t1) ?_ (fun x j hx => ?_) ?_ ?_ (fun j j0 j1 => ?_)) ?_⟩
                       · (repeat (first | rw [aup_n h0] | rw [aup_rn h8]))
                       · rw [aup_n h0]
                       · (repeat rw [aup_n (by omega)])
                       · have o8 := hR.2.2.2.2.2.1.2; have o0 := hR.1.2
                         (repeat rw [aup_rn (fun z => by rw [z] at hx; omega)])
                       · rw [aup_rn (by decide)]
                       · rw [aup_rn (by decide)]
                       · rw [aup_rn (by decide)]
                       · simp [aup])
                    | (refine ⟨rfl, _, rfl, XR.put (a := c) hR HY HL HN HS HP HF HX hv3 hv4 t0 t1 y1 y2 (by rw [er]; exact y3) (by rw [er]; exact y4) (fun x j h8 h0 => ?_) (fun x i h5 h0 => ?_) (fun i hi => ?_) (fun j u0 u1 => ?_) ?_⟩
                       · rw [k1 x j (by rw [← er]; exact h8) h0, aup_n h0]
                       · rw [aup_n h0, g1 x h5]
                       · rw [aup_rn (by decide), g2, if_neg (by omega)]
                       · rw [er, k3, aup_rn hne.1, aup_rn (show (5 : Int) ≠ 0 by decide), g2]
                         by_cases z : j < 16
                         · rw [if_pos ⟨u0, z⟩, if_pos (by omega)]; congr 1; omega
                         · rw [if_neg (by omega), if_neg (by omega)]; exact y5 j u0 u1
                       · rw [k2, aup_s])
          · exact absurd hb (by decide)
    · refine aK_i ?_
      refine aw_ifeq (tgt := 26) dX0_copyOut_19 (by decide) (fun _ => ?_) (fun h => absurd h (by decide))
      refine aw_iconst dX0_copyOut_26 (by decide) ?_
      refine p_X0_73_0 rfl dX0_copyOut_27 hR.o0 ?_
      refine aw_aload_n dX0_copyOut_30 rfl ?_
      refine g_X0_73_0 rfl dX0_copyOut_31 hR.o0 ?_
      repeat (first | rw [aup_s] | rw [aup_n (by omega)])
      refine aw_ifle (tgt := 39) dX0_copyOut_34 (by decide) (fun h => absurd h (by decide)) (fun _ => ?_)
      refine aw_iconst dX0_copyOut_37 (by decide) ?_
      refine aw_ireturn dX0_copyOut_38 rfl ?_
      refine ⟨_, rfl, ?_⟩
      refine AMet.go (L := [some (vR 0), some (vI a), some (vI b), some (vI c), none]) mok_X7_copyOut (Nat.le_of_ble_eq_true rfl) rfl ?_
      refine aw_aload_n dX7_copyOut_0 rfl ?_
      refine aw_iload_n dX7_copyOut_1 rfl ?_
      refine aw_iload_n dX7_copyOut_2 rfl ?_
      refine c_X7_298 rfl dX7_copyOut_3 m_ob (Nat.le_of_ble_eq_true rfl) (by omega) (C_m_isFrame (by omega) (fun hff => ?_) (fun hff => ?_))
      · first
          | (exfalso; omega)
          | skip
            refine aK_i ?_
            refine aw_ifeq (tgt := 16) dX7_copyOut_6 (by decide) (fun h => absurd h (by decide)) (fun _ => ?_)
            refine aw_iload_n dX7_copyOut_9 rfl ?_
            refine c_X7_83 rfl dX7_copyOut_10  (Nat.le_of_ble_eq_true rfl) (by omega) (C_m_isTray (fun htr => ?_) (fun htr => ?_))
            · first
                | (exfalso; omega)
                | skip
                  refine aK_i ?_
                  refine aw_ifne (tgt := 22) dX7_copyOut_13 (by decide) (fun _ => ?_) (fun h => absurd h (by decide))
                  refine gm_24 rfl dX7_copyOut_22 dX7_copyOut_23 rfl ?_
                  refine aw_iload_n dX7_copyOut_26 rfl ?_
                  refine aw_iaload dX7_copyOut_27 m_a4 (by omega) (by omega) ?_
                  refine aw_iconst dX7_copyOut_28 (by decide) ?_
                  refine aw_icmpne (tgt := 38) dX7_copyOut_29 (by decide) (fun h29 => ?_) (fun h29 => ?_)
                  · first
                      | (exfalso; omega)
                      | skip
                        refine gm_24 rfl dX7_copyOut_38 dX7_copyOut_39 rfl ?_
                        refine aw_iload_n dX7_copyOut_42 rfl ?_
                        refine aw_iaload dX7_copyOut_43 m_a4 (by omega) (by omega) ?_
                        refine aw_bipush dX7_copyOut_44 (by decide) ?_
                        refine aw_icmpge (tgt := 55) dX7_copyOut_46 (by decide) (fun h46 => ?_) (fun h46 => ?_)
                        · first
                            | (exfalso; omega)
                            | skip
                              refine aw_iconst dX7_copyOut_55 (by decide) ?_
                              refine aw_istore4 dX7_copyOut_56 (by decide) rfl ?_
                              refine L_m_co (by omega) (by omega) (by omega) (by omega) (fun cm3 g1 g2 => ?_) 16 0 _ (by decide) (by decide) (fun _ _ => rfl) (fun i => by rw [if_neg (by omega)])
                              refine aw_aload_n dX7_copyOut_98 rfl ?_
                              refine aw_bipush dX7_copyOut_99 (by decide) ?_
                              refine c_X7_76 rfl dX7_copyOut_101 m_ob (Nat.le_of_ble_eq_true rfl) (by omega) (C_m_gives ?_)
                              refine aK_i ?_
                              refine aw_ireturn dX7_copyOut_104 rfl ?_
                              first
                                | (exfalso; omega)
                                | (refine ⟨by first | rfl | (rw [aup_rn (show ct (2 + a) 0 ≠ 0 from fun z => by rw [z] at y4; have := hR.1.2; omega), aup_rn (by decide), y5 b j0 j1]), _, rfl, XR.try hR HY HL HN HS HP HF HX hv3 hv4 (fun x j h8 h0 _ => ?_) (fun x i _ _ _ h0 => ?_) (fun t t0 t1 => TRY.fr (HX.1 t t0 t1) ?_ (fun x j hx => ?_) ?_ ?_ (fun j j0 j1 => ?_)) ?_⟩
                                   · (repeat (first | rw [aup_n h0] | rw [aup_rn h8]))
                                   · rw [aup_n h0]
                                   · (repeat rw [aup_n (by omega)])
                                   · have o8 := hR.2.2.2.2.2.1.2; have o0 := hR.1.2
                                     (repeat rw [aup_rn (fun z => by rw [z] at hx; omega)])
                                   · rw [aup_rn (by decide)]
                                   · rw [aup_rn (by decide)]
                                   · rw [aup_rn (by decide)]
                                   · simp [aup])
                                | (refine ⟨rfl, _, rfl, XR.put (a := c) hR HY HL HN HS HP HF HX hv3 hv4 t0 t1 y1 y2 (by rw [er]; exact y3) (by rw [er]; exact y4) (fun x j h8 h0 => ?_) (fun x i h5 h0 => ?_) (fun i hi => ?_) (fun j u0 u1 => ?_) ?_⟩
                                   · rw [k1 x j (by rw [← er]; exact h8) h0, aup_n h0]
                                   · rw [aup_n h0, g1 x h5]
                                   · rw [aup_rn (by decide), g2, if_neg (by omega)]
                                   · rw [er, k3, aup_rn hne.1, aup_rn (show (5 : Int) ≠ 0 by decide), g2]
                                     by_cases z : j < 16
                                     · rw [if_pos ⟨u0, z⟩, if_pos (by omega)]; congr 1; omega
                                     · rw [if_neg (by omega), if_neg (by omega)]; exact y5 j u0 u1
                                   · rw [k2, aup_s])
                        · first
                            | (exfalso; omega)
                            | skip
                              refine aw_aload_n dX7_copyOut_49 rfl ?_
                              refine aw_iconst dX7_copyOut_50 (by decide) ?_
                              refine c_X7_72 rfl dX7_copyOut_51 m_ob (Nat.le_of_ble_eq_true rfl) (by omega) (C_m_refuse ?_)
                              refine aK_i ?_
                              refine aw_ireturn dX7_copyOut_54 rfl ?_
                              first
                                | (exfalso; omega)
                                | (refine ⟨by first | rfl | (rw [aup_rn (show ct (2 + a) 0 ≠ 0 from fun z => by rw [z] at y4; have := hR.1.2; omega), aup_rn (by decide), y5 b j0 j1]), _, rfl, XR.try hR HY HL HN HS HP HF HX hv3 hv4 (fun x j h8 h0 _ => ?_) (fun x i _ _ _ h0 => ?_) (fun t t0 t1 => TRY.fr (HX.1 t t0 t1) ?_ (fun x j hx => ?_) ?_ ?_ (fun j j0 j1 => ?_)) ?_⟩
                                   · (repeat (first | rw [aup_n h0] | rw [aup_rn h8]))
                                   · rw [aup_n h0]
                                   · (repeat rw [aup_n (by omega)])
                                   · have o8 := hR.2.2.2.2.2.1.2; have o0 := hR.1.2
                                     (repeat rw [aup_rn (fun z => by rw [z] at hx; omega)])
                                   · rw [aup_rn (by decide)]
                                   · rw [aup_rn (by decide)]
                                   · rw [aup_rn (by decide)]
                                   · simp [aup])
                                | (refine ⟨rfl, _, rfl, XR.put (a := c) hR HY HL HN HS HP HF HX hv3 hv4 t0 t1 y1 y2 (by rw [er]; exact y3) (by rw [er]; exact y4) (fun x j h8 h0 => ?_) (fun x i h5 h0 => ?_) (fun i hi => ?_) (fun j u0 u1 => ?_) ?_⟩
                                   · rw [k1 x j (by rw [← er]; exact h8) h0, aup_n h0]
                                   · rw [aup_n h0, g1 x h5]
                                   · rw [aup_rn (by decide), g2, if_neg (by omega)]
                                   · rw [er, k3, aup_rn hne.1, aup_rn (show (5 : Int) ≠ 0 by decide), g2]
                                     by_cases z : j < 16
                                     · rw [if_pos ⟨u0, z⟩, if_pos (by omega)]; congr 1; omega
                                     · rw [if_neg (by omega), if_neg (by omega)]; exact y5 j u0 u1
                                   · rw [k2, aup_s])
                  · first
                      | (exfalso; omega)
                      | skip
                        refine aw_aload_n dX7_copyOut_32 rfl ?_
                        refine aw_iconst dX7_copyOut_33 (by decide) ?_
                        refine c_X7_72 rfl dX7_copyOut_34 m_ob (Nat.le_of_ble_eq_true rfl) (by omega) (C_m_refuse ?_)
                        refine aK_i ?_
                        refine aw_ireturn dX7_copyOut_37 rfl ?_
                        first
                          | (exfalso; omega)
                          | (refine ⟨by first | rfl | (rw [aup_rn (show ct (2 + a) 0 ≠ 0 from fun z => by rw [z] at y4; have := hR.1.2; omega), aup_rn (by decide), y5 b j0 j1]), _, rfl, XR.try hR HY HL HN HS HP HF HX hv3 hv4 (fun x j h8 h0 _ => ?_) (fun x i _ _ _ h0 => ?_) (fun t t0 t1 => TRY.fr (HX.1 t t0 t1) ?_ (fun x j hx => ?_) ?_ ?_ (fun j j0 j1 => ?_)) ?_⟩
                             · (repeat (first | rw [aup_n h0] | rw [aup_rn h8]))
                             · rw [aup_n h0]
                             · (repeat rw [aup_n (by omega)])
                             · have o8 := hR.2.2.2.2.2.1.2; have o0 := hR.1.2
                               (repeat rw [aup_rn (fun z => by rw [z] at hx; omega)])
                             · rw [aup_rn (by decide)]
                             · rw [aup_rn (by decide)]
                             · rw [aup_rn (by decide)]
                             · simp [aup])
                          | (refine ⟨rfl, _, rfl, XR.put (a := c) hR HY HL HN HS HP HF HX hv3 hv4 t0 t1 y1 y2 (by rw [er]; exact y3) (by rw [er]; exact y4) (fun x j h8 h0 => ?_) (fun x i h5 h0 => ?_) (fun i hi => ?_) (fun j u0 u1 => ?_) ?_⟩
                             · rw [k1 x j (by rw [← er]; exact h8) h0, aup_n h0]
                             · rw [aup_n h0, g1 x h5]
                             · rw [aup_rn (by decide), g2, if_neg (by omega)]
                             · rw [er, k3, aup_rn hne.1, aup_rn (show (5 : Int) ≠ 0 by decide), g2]
                               by_cases z : j < 16
                               · rw [if_pos ⟨u0, z⟩, if_pos (by omega)]; congr 1; omega
                               · rw [if_neg (by omega), if_neg (by omega)]; exact y5 j u0 u1
                             · rw [k2, aup_s])
            · first
                | (exfalso; omega)
                | skip
                  refine aK_i ?_
                  refine aw_ifne (tgt := 22) dX7_copyOut_13 (by decide) (fun h => absurd h (by decide)) (fun _ => ?_)
                  refine aw_aload_n dX7_copyOut_16 rfl ?_
                  refine aw_iconst dX7_copyOut_17 (by decide) ?_
                  refine c_X7_72 rfl dX7_copyOut_18 m_ob (Nat.le_of_ble_eq_true rfl) (by omega) (C_m_refuse ?_)
                  refine aK_i ?_
                  refine aw_ireturn dX7_copyOut_21 rfl ?_
                  first
                    | (exfalso; omega)
                    | (refine ⟨by first | rfl | (rw [aup_rn (show ct (2 + a) 0 ≠ 0 from fun z => by rw [z] at y4; have := hR.1.2; omega), aup_rn (by decide), y5 b j0 j1]), _, rfl, XR.try hR HY HL HN HS HP HF HX hv3 hv4 (fun x j h8 h0 _ => ?_) (fun x i _ _ _ h0 => ?_) (fun t t0 t1 => TRY.fr (HX.1 t t0 t1) ?_ (fun x j hx => ?_) ?_ ?_ (fun j j0 j1 => ?_)) ?_⟩
                       · (repeat (first | rw [aup_n h0] | rw [aup_rn h8]))
                       · rw [aup_n h0]
                       · (repeat rw [aup_n (by omega)])
                       · have o8 := hR.2.2.2.2.2.1.2; have o0 := hR.1.2
                         (repeat rw [aup_rn (fun z => by rw [z] at hx; omega)])
                       · rw [aup_rn (by decide)]
                       · rw [aup_rn (by decide)]
                       · rw [aup_rn (by decide)]
                       · simp [aup])
                    | (refine ⟨rfl, _, rfl, XR.put (a := c) hR HY HL HN HS HP HF HX hv3 hv4 t0 t1 y1 y2 (by rw [er]; exact y3) (by rw [er]; exact y4) (fun x j h8 h0 => ?_) (fun x i h5 h0 => ?_) (fun i hi => ?_) (fun j u0 u1 => ?_) ?_⟩
                       · rw [k1 x j (by rw [← er]; exact h8) h0, aup_n h0]
                       · rw [aup_n h0, g1 x h5]
                       · rw [aup_rn (by decide), g2, if_neg (by omega)]
                       · rw [er, k3, aup_rn hne.1, aup_rn (show (5 : Int) ≠ 0 by decide), g2]
                         by_cases z : j < 16
                         · rw [if_pos ⟨u0, z⟩, if_pos (by omega)]; congr 1; omega
                         · rw [if_neg (by omega), if_neg (by omega)]; exact y5 j u0 u1
                       · rw [k2, aup_s])
      · first
          | (exfalso; omega)
          | skip
            refine aK_i ?_
            refine aw_ifeq (tgt := 16) dX7_copyOut_6 (by decide) (fun _ => ?_) (fun h => absurd h (by decide))
            refine aw_aload_n dX7_copyOut_16 rfl ?_
            refine aw_iconst dX7_copyOut_17 (by decide) ?_
            refine c_X7_72 rfl dX7_copyOut_18 m_ob (Nat.le_of_ble_eq_true rfl) (by omega) (C_m_refuse ?_)
            refine aK_i ?_
            refine aw_ireturn dX7_copyOut_21 rfl ?_
            first
              | (exfalso; omega)
              | (refine ⟨by first | rfl | (rw [aup_rn (show ct (2 + a) 0 ≠ 0 from fun z => by rw [z] at y4; have := hR.1.2; omega), aup_rn (by decide), y5 b j0 j1]), _, rfl, XR.try hR HY HL HN HS HP HF HX hv3 hv4 (fun x j h8 h0 _ => ?_) (fun x i _ _ _ h0 => ?_) (fun t t0 t1 => TRY.fr (HX.1 t t0 t1) ?_ (fun x j hx => ?_) ?_ ?_ (fun j j0 j1 => ?_)) ?_⟩
                 · (repeat (first | rw [aup_n h0] | rw [aup_rn h8]))
                 · rw [aup_n h0]
                 · (repeat rw [aup_n (by omega)])
                 · have o8 := hR.2.2.2.2.2.1.2; have o0 := hR.1.2
                   (repeat rw [aup_rn (fun z => by rw [z] at hx; omega)])
                 · rw [aup_rn (by decide)]
                 · rw [aup_rn (by decide)]
                 · rw [aup_rn (by decide)]
                 · simp [aup])
              | (refine ⟨rfl, _, rfl, XR.put (a := c) hR HY HL HN HS HP HF HX hv3 hv4 t0 t1 y1 y2 (by rw [er]; exact y3) (by rw [er]; exact y4) (fun x j h8 h0 => ?_) (fun x i h5 h0 => ?_) (fun i hi => ?_) (fun j u0 u1 => ?_) ?_⟩
                 · rw [k1 x j (by rw [← er]; exact h8) h0, aup_n h0]
                 · rw [aup_n h0, g1 x h5]
                 · rw [aup_rn (by decide), g2, if_neg (by omega)]
                 · rw [er, k3, aup_rn hne.1, aup_rn (show (5 : Int) ≠ 0 by decide), g2]
                   by_cases z : j < 16
                   · rw [if_pos ⟨u0, z⟩, if_pos (by omega)]; congr 1; omega
                   · rw [if_neg (by omega), if_neg (by omega)]; exact y5 j u0 u1
                 · rw [k2, aup_s])
  · refine aK_i ?_
    refine aw_ifeq (tgt := 26) dX0_copyOut_7 (by decide) (fun _ => ?_) (fun h => absurd h (by decide))
    refine aw_iconst dX0_copyOut_26 (by decide) ?_
    refine p_X0_73_0 rfl dX0_copyOut_27 hR.o0 ?_
    refine aw_aload_n dX0_copyOut_30 rfl ?_
    refine g_X0_73_0 rfl dX0_copyOut_31 hR.o0 ?_
    repeat (first | rw [aup_s] | rw [aup_n (by omega)])
    refine aw_ifle (tgt := 39) dX0_copyOut_34 (by decide) (fun h => absurd h (by decide)) (fun _ => ?_)
    refine aw_iconst dX0_copyOut_37 (by decide) ?_
    refine aw_ireturn dX0_copyOut_38 rfl ?_
    refine ⟨_, rfl, ?_⟩
    refine AMet.go (L := [some (vR 0), some (vI a), some (vI b), some (vI c), none]) mok_X7_copyOut (Nat.le_of_ble_eq_true rfl) rfl ?_
    refine aw_aload_n dX7_copyOut_0 rfl ?_
    refine aw_iload_n dX7_copyOut_1 rfl ?_
    refine aw_iload_n dX7_copyOut_2 rfl ?_
    refine c_X7_298 rfl dX7_copyOut_3 m_ob (Nat.le_of_ble_eq_true rfl) (by omega) (C_m_isFrame (by omega) (fun hff => ?_) (fun hff => ?_))
    · first
        | (exfalso; omega)
        | skip
          refine aK_i ?_
          refine aw_ifeq (tgt := 16) dX7_copyOut_6 (by decide) (fun h => absurd h (by decide)) (fun _ => ?_)
          refine aw_iload_n dX7_copyOut_9 rfl ?_
          refine c_X7_83 rfl dX7_copyOut_10  (Nat.le_of_ble_eq_true rfl) (by omega) (C_m_isTray (fun htr => ?_) (fun htr => ?_))
          · first
              | (exfalso; omega)
              | skip
                refine aK_i ?_
                refine aw_ifne (tgt := 22) dX7_copyOut_13 (by decide) (fun _ => ?_) (fun h => absurd h (by decide))
                refine gm_24 rfl dX7_copyOut_22 dX7_copyOut_23 rfl ?_
                refine aw_iload_n dX7_copyOut_26 rfl ?_
                refine aw_iaload dX7_copyOut_27 m_a4 (by omega) (by omega) ?_
                refine aw_iconst dX7_copyOut_28 (by decide) ?_
                refine aw_icmpne (tgt := 38) dX7_copyOut_29 (by decide) (fun h29 => ?_) (fun h29 => ?_)
                · first
                    | (exfalso; omega)
                    | skip
                      refine gm_24 rfl dX7_copyOut_38 dX7_copyOut_39 rfl ?_
                      refine aw_iload_n dX7_copyOut_42 rfl ?_
                      refine aw_iaload dX7_copyOut_43 m_a4 (by omega) (by omega) ?_
                      refine aw_bipush dX7_copyOut_44 (by decide) ?_
                      refine aw_icmpge (tgt := 55) dX7_copyOut_46 (by decide) (fun h46 => ?_) (fun h46 => ?_)
                      · first
                          | (exfalso; omega)
                          | skip
                            refine aw_iconst dX7_copyOut_55 (by decide) ?_
                            refine aw_istore4 dX7_copyOut_56 (by decide) rfl ?_
                            refine L_m_co (by omega) (by omega) (by omega) (by omega) (fun cm3 g1 g2 => ?_) 16 0 _ (by decide) (by decide) (fun _ _ => rfl) (fun i => by rw [if_neg (by omega)])
                            refine aw_aload_n dX7_copyOut_98 rfl ?_
                            refine aw_bipush dX7_copyOut_99 (by decide) ?_
                            refine c_X7_76 rfl dX7_copyOut_101 m_ob (Nat.le_of_ble_eq_true rfl) (by omega) (C_m_gives ?_)
                            refine aK_i ?_
                            refine aw_ireturn dX7_copyOut_104 rfl ?_
                            first
                              | (exfalso; omega)
                              | (refine ⟨by first | rfl | (rw [aup_rn (show ct (2 + a) 0 ≠ 0 from fun z => by rw [z] at y4; have := hR.1.2; omega), aup_rn (by decide), y5 b j0 j1]), _, rfl, XR.try hR HY HL HN HS HP HF HX hv3 hv4 (fun x j h8 h0 _ => ?_) (fun x i _ _ _ h0 => ?_) (fun t t0 t1 => TRY.fr (HX.1 t t0 t1) ?_ (fun x j hx => ?_) ?_ ?_ (fun j j0 j1 => ?_)) ?_⟩
                                 · (repeat (first | rw [aup_n h0] | rw [aup_rn h8]))
                                 · rw [aup_n h0]
                                 · (repeat rw [aup_n (by omega)])
                                 · have o8 := hR.2.2.2.2.2.1.2; have o0 := hR.1.2
                                   (repeat rw [aup_rn (fun z => by rw [z] at hx; omega)])
                                 · rw [aup_rn (by decide)]
                                 · rw [aup_rn (by decide)]
                                 · rw [aup_rn (by decide)]
                                 · simp [aup])
                              | (refine ⟨rfl, _, rfl, XR.put (a := c) hR HY HL HN HS HP HF HX hv3 hv4 t0 t1 y1 y2 (by rw [er]; exact y3) (by rw [er]; exact y4) (fun x j h8 h0 => ?_) (fun x i h5 h0 => ?_) (fun i hi => ?_) (fun j u0 u1 => ?_) ?_⟩
                                 · rw [k1 x j (by rw [← er]; exact h8) h0, aup_n h0]
                                 · rw [aup_n h0, g1 x h5]
                                 · rw [aup_rn (by decide), g2, if_neg (by omega)]
                                 · rw [er, k3, aup_rn hne.1, aup_rn (show (5 : Int) ≠ 0 by decide), g2]
                                   by_cases z : j < 16
                                   · rw [if_pos ⟨u0, z⟩, if_pos (by omega)]; congr 1; omega
                                   · rw [if_neg (by omega), if_neg (by omega)]; exact y5 j u0 u1
                                 · rw [k2, aup_s])
                      · first
                          | (exfalso; omega)
                          | skip
                            refine aw_aload_n dX7_copyOut_49 rfl ?_
                            refine aw_iconst dX7_copyOut_50 (by decide) ?_
                            refine c_X7_72 rfl dX7_copyOut_51 m_ob (Nat.le_of_ble_eq_true rfl) (by omega) (C_m_refuse ?_)
                            refine aK_i ?_
                            refine aw_ireturn dX7_copyOut_54 rfl ?_
                            first
                              | (exfalso; omega)
                              | (refine ⟨by first | rfl | (rw [aup_rn (show ct (2 + a) 0 ≠ 0 from fun z => by rw [z] at y4; have := hR.1.2; omega), aup_rn (by decide), y5 b j0 j1]), _, rfl, XR.try hR HY HL HN HS HP HF HX hv3 hv4 (fun x j h8 h0 _ => ?_) (fun x i _ _ _ h0 => ?_) (fun t t0 t1 => TRY.fr (HX.1 t t0 t1) ?_ (fun x j hx => ?_) ?_ ?_ (fun j j0 j1 => ?_)) ?_⟩
                                 · (repeat (first | rw [aup_n h0] | rw [aup_rn h8]))
                                 · rw [aup_n h0]
                                 · (repeat rw [aup_n (by omega)])
                                 · have o8 := hR.2.2.2.2.2.1.2; have o0 := hR.1.2
                                   (repeat rw [aup_rn (fun z => by rw [z] at hx; omega)])
                                 · rw [aup_rn (by decide)]
                                 · rw [aup_rn (by decide)]
                                 · rw [aup_rn (by decide)]
                                 · simp [aup])
                              | (refine ⟨rfl, _, rfl, XR.put (a := c) hR HY HL HN HS HP HF HX hv3 hv4 t0 t1 y1 y2 (by rw [er]; exact y3) (by rw [er]; exact y4) (fun x j h8 h0 => ?_) (fun x i h5 h0 => ?_) (fun i hi => ?_) (fun j u0 u1 => ?_) ?_⟩
                                 · rw [k1 x j (by rw [← er]; exact h8) h0, aup_n h0]
                                 · rw [aup_n h0, g1 x h5]
                                 · rw [aup_rn (by decide), g2, if_neg (by omega)]
                                 · rw [er, k3, aup_rn hne.1, aup_rn (show (5 : Int) ≠ 0 by decide), g2]
                                   by_cases z : j < 16
                                   · rw [if_pos ⟨u0, z⟩, if_pos (by omega)]; congr 1; omega
                                   · rw [if_neg (by omega), if_neg (by omega)]; exact y5 j u0 u1
                                 · rw [k2, aup_s])
                · first
                    | (exfalso; omega)
                    | skip
                      refine aw_aload_n dX7_copyOut_32 rfl ?_
                      refine aw_iconst dX7_copyOut_33 (by decide) ?_
                      refine c_X7_72 rfl dX7_copyOut_34 m_ob (Nat.le_of_ble_eq_true rfl) (by omega) (C_m_refuse ?_)
                      refine aK_i ?_
                      refine aw_ireturn dX7_copyOut_37 rfl ?_
                      first
                        | (exfalso; omega)
                        | (refine ⟨by first | rfl | (rw [aup_rn (show ct (2 + a) 0 ≠ 0 from fun z => by rw [z] at y4; have := hR.1.2; omega), aup_rn (by decide), y5 b j0 j1]), _, rfl, XR.try hR HY HL HN HS HP HF HX hv3 hv4 (fun x j h8 h0 _ => ?_) (fun x i _ _ _ h0 => ?_) (fun t t0 t1 => TRY.fr (HX.1 t t0 t1) ?_ (fun x j hx => ?_) ?_ ?_ (fun j j0 j1 => ?_)) ?_⟩
                           · (repeat (first | rw [aup_n h0] | rw [aup_rn h8]))
                           · rw [aup_n h0]
                           · (repeat rw [aup_n (by omega)])
                           · have o8 := hR.2.2.2.2.2.1.2; have o0 := hR.1.2
                             (repeat rw [aup_rn (fun z => by rw [z] at hx; omega)])
                           · rw [aup_rn (by decide)]
                           · rw [aup_rn (by decide)]
                           · rw [aup_rn (by decide)]
                           · simp [aup])
                        | (refine ⟨rfl, _, rfl, XR.put (a := c) hR HY HL HN HS HP HF HX hv3 hv4 t0 t1 y1 y2 (by rw [er]; exact y3) (by rw [er]; exact y4) (fun x j h8 h0 => ?_) (fun x i h5 h0 => ?_) (fun i hi => ?_) (fun j u0 u1 => ?_) ?_⟩
                           · rw [k1 x j (by rw [← er]; exact h8) h0, aup_n h0]
                           · rw [aup_n h0, g1 x h5]
                           · rw [aup_rn (by decide), g2, if_neg (by omega)]
                           · rw [er, k3, aup_rn hne.1, aup_rn (show (5 : Int) ≠ 0 by decide), g2]
                             by_cases z : j < 16
                             · rw [if_pos ⟨u0, z⟩, if_pos (by omega)]; congr 1; omega
                             · rw [if_neg (by omega), if_neg (by omega)]; exact y5 j u0 u1
                           · rw [k2, aup_s])
          · first
              | (exfalso; omega)
              | skip
                refine aK_i ?_
                refine aw_ifne (tgt := 22) dX7_copyOut_13 (by decide) (fun h => absurd h (by decide)) (fun _ => ?_)
                refine aw_aload_n dX7_copyOut_16 rfl ?_
                refine aw_iconst dX7_copyOut_17 (by decide) ?_
                refine c_X7_72 rfl dX7_copyOut_18 m_ob (Nat.le_of_ble_eq_true rfl) (by omega) (C_m_refuse ?_)
                refine aK_i ?_
                refine aw_ireturn dX7_copyOut_21 rfl ?_
                first
                  | (exfalso; omega)
                  | (refine ⟨by first | rfl | (rw [aup_rn (show ct (2 + a) 0 ≠ 0 from fun z => by rw [z] at y4; have := hR.1.2; omega), aup_rn (by decide), y5 b j0 j1]), _, rfl, XR.try hR HY HL HN HS HP HF HX hv3 hv4 (fun x j h8 h0 _ => ?_) (fun x i _ _ _ h0 => ?_) (fun t t0 t1 => TRY.fr (HX.1 t t0 t1) ?_ (fun x j hx => ?_) ?_ ?_ (fun j j0 j1 => ?_)) ?_⟩
                     · (repeat (first | rw [aup_n h0] | rw [aup_rn h8]))
                     · rw [aup_n h0]
                     · (repeat rw [aup_n (by omega)])
                     · have o8 := hR.2.2.2.2.2.1.2; have o0 := hR.1.2
                       (repeat rw [aup_rn (fun z => by rw [z] at hx; omega)])
                     · rw [aup_rn (by decide)]
                     · rw [aup_rn (by decide)]
                     · rw [aup_rn (by decide)]
                     · simp [aup])
                  | (refine ⟨rfl, _, rfl, XR.put (a := c) hR HY HL HN HS HP HF HX hv3 hv4 t0 t1 y1 y2 (by rw [er]; exact y3) (by rw [er]; exact y4) (fun x j h8 h0 => ?_) (fun x i h5 h0 => ?_) (fun i hi => ?_) (fun j u0 u1 => ?_) ?_⟩
                     · rw [k1 x j (by rw [← er]; exact h8) h0, aup_n h0]
                     · rw [aup_n h0, g1 x h5]
                     · rw [aup_rn (by decide), g2, if_neg (by omega)]
                     · rw [er, k3, aup_rn hne.1, aup_rn (show (5 : Int) ≠ 0 by decide), g2]
                       by_cases z : j < 16
                       · rw [if_pos ⟨u0, z⟩, if_pos (by omega)]; congr 1; omega
                       · rw [if_neg (by omega), if_neg (by omega)]; exact y5 j u0 u1
                     · rw [k2, aup_s])
    · first
        | (exfalso; omega)
        | skip
          refine aK_i ?_
          refine aw_ifeq (tgt := 16) dX7_copyOut_6 (by decide) (fun _ => ?_) (fun h => absurd h (by decide))
          refine aw_aload_n dX7_copyOut_16 rfl ?_
          refine aw_iconst dX7_copyOut_17 (by decide) ?_
          refine c_X7_72 rfl dX7_copyOut_18 m_ob (Nat.le_of_ble_eq_true rfl) (by omega) (C_m_refuse ?_)
          refine aK_i ?_
          refine aw_ireturn dX7_copyOut_21 rfl ?_
          first
            | (exfalso; omega)
            | (refine ⟨by first | rfl | (rw [aup_rn (show ct (2 + a) 0 ≠ 0 from fun z => by rw [z] at y4; have := hR.1.2; omega), aup_rn (by decide), y5 b j0 j1]), _, rfl, XR.try hR HY HL HN HS HP HF HX hv3 hv4 (fun x j h8 h0 _ => ?_) (fun x i _ _ _ h0 => ?_) (fun t t0 t1 => TRY.fr (HX.1 t t0 t1) ?_ (fun x j hx => ?_) ?_ ?_ (fun j j0 j1 => ?_)) ?_⟩
               · (repeat (first | rw [aup_n h0] | rw [aup_rn h8]))
               · rw [aup_n h0]
               · (repeat rw [aup_n (by omega)])
               · have o8 := hR.2.2.2.2.2.1.2; have o0 := hR.1.2
                 (repeat rw [aup_rn (fun z => by rw [z] at hx; omega)])
               · rw [aup_rn (by decide)]
               · rw [aup_rn (by decide)]
               · rw [aup_rn (by decide)]
               · simp [aup])
            | (refine ⟨rfl, _, rfl, XR.put (a := c) hR HY HL HN HS HP HF HX hv3 hv4 t0 t1 y1 y2 (by rw [er]; exact y3) (by rw [er]; exact y4) (fun x j h8 h0 => ?_) (fun x i h5 h0 => ?_) (fun i hi => ?_) (fun j u0 u1 => ?_) ?_⟩
               · rw [k1 x j (by rw [← er]; exact h8) h0, aup_n h0]
               · rw [aup_n h0, g1 x h5]
               · rw [aup_rn (by decide), g2, if_neg (by omega)]
               · rw [er, k3, aup_rn hne.1, aup_rn (show (5 : Int) ≠ 0 by decide), g2]
                 by_cases z : j < 16
                 · rw [if_pos ⟨u0, z⟩, if_pos (by omega)]; congr 1; omega
                 · rw [if_neg (by omega), if_neg (by omega)]; exact y5 j u0 u1
               · rw [k2, aup_s])
