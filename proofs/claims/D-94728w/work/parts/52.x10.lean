set_option maxRecDepth 100000
/-! operations, 3: what changes the yard -/
theorem OP_bring {sz : Int} {im : Int → aIm} {ct cm : Int → Int → Int} (h : XR (sz, im, ct) cm) {a b : Int} (r0 : -2147483648 ≤ a ∧ a < 2147483648) (r1 : -2147483648 ≤ b ∧ b < 2147483648)  : AMet md_X0_bring 7 0 0 [vR 0, vI a, vI b] (sz, im, ct) (XQ md_X7_bring 7 [vR 0, vI a, vI b] cm) := by
  obtain ⟨own, N, hR, HY, HL, HN, HS, HP, HF, HX, hv2, hv3, hv4⟩ := id h
  dsimp only at hR HY HL HS HX hv2 hv3 hv4
  have hp0 := HP.1
  have hp3 := HP.2.1
  have hpq := HP.2.2.2.1.1
  have hps := HP.2.2.2.2.2
  refine AMet.go (L := [some (vR 0), some (vI a), some (vI b)]) mok_X0_bring (Nat.le_of_ble_eq_true rfl) rfl ?_
  refine aw_aload_n dX0_bring_0 rfl ?_
  refine aw_aload_n dX0_bring_1 rfl ?_
  refine aw_iload_n dX0_bring_2 rfl ?_
  refine c_X0_168 rfl dX0_bring_3 hR.o0 (Nat.le_of_ble_eq_true rfl) (by omega) (C_x_isHive hR HY (fun xh => ?_) (fun xh => ?_))
  · refine aK_i ?_
    refine aw_ifeq (tgt := 25) dX0_bring_6 (by decide) (fun h => absurd h (by decide)) (fun _ => ?_)
    refine aw_iload_n dX0_bring_9 rfl ?_
    refine aw_i2l dX0_bring_10 ?_
    refine aw_lconst0 dX0_bring_11 ?_
    refine aw_ldc2 (x := 9999) dX0_bring_12 q1100 (by decide) ?_
    refine c_X0_164 rfl dX0_bring_15  (Nat.le_of_ble_eq_true rfl) (by omega) (C_x_isIn (fun hi => ?_) (fun hi => ?_))
    · refine aK_i ?_
      refine aw_ifeq (tgt := 25) dX0_bring_18 (by decide) (fun h => absurd h (by decide)) (fun _ => ?_)
      refine aw_iconst dX0_bring_21 (by decide) ?_
      refine aw_goto (tgt := 26) dX0_bring_22 (by decide) ?_
      refine p_X0_73_0 rfl dX0_bring_26 hR.o0 ?_
      refine aw_aload_n dX0_bring_29 rfl ?_
      refine g_X0_73_0 rfl dX0_bring_30 hR.o0 ?_
      repeat (first | rw [aup_s] | rw [aup_n (by omega)])
      refine aw_ifle (tgt := 40) dX0_bring_33 (by decide) (fun _ => ?_) (fun h => absurd h (by decide))
      refine aw_aload_n dX0_bring_40 rfl ?_
      refine c_X0_158 rfl dX0_bring_41 hR.o0 (Nat.le_of_ble_eq_true rfl) (by omega) (C_x_yard2 hR ?_)
      refine aK_i ?_
      have o0 := hR.1.2
      have hk := HP.2.2.1 a (by omega) (by omega)
      refine aw_iload_n dX0_bring_44 rfl ?_
      refine aw_iload_n dX0_bring_45 rfl ?_
      refine c_X0_330 rfl dX0_bring_46 HY.1 (Nat.le_of_ble_eq_true rfl) (by omega) (C_x_brings (HY.up0 (j := 7) (v := 0) hR.1.2 (by decide)) (by omega) (by omega) hk.1 hk.2.1 (by omega) (fun ct2 HY2 hl2 hf2 => ?_))
      refine aK_i ?_
      refine aw_ireturn dX0_bring_49 rfl ?_
      refine ⟨_, rfl, ?_⟩
      refine AMet.go (L := [some (vR 0), some (vI a), some (vI b)]) mok_X7_bring (Nat.le_of_ble_eq_true rfl) rfl ?_
      refine aw_aload_n dX7_bring_0 rfl ?_
      refine aw_iload_n dX7_bring_1 rfl ?_
      refine c_X7_274 rfl dX7_bring_2 m_ob (Nat.le_of_ble_eq_true rfl) (by omega) (C_m_isHive (fun hh => ?_) (fun hh => ?_))
      · first
          | (exfalso; omega)
          | skip
            refine aK_i ?_
            refine aw_ifeq (tgt := 33) dX7_bring_5 (by decide) (fun h => absurd h (by decide)) (fun _ => ?_)
            refine aw_iload_n dX7_bring_8 rfl ?_
            refine aw_i2l dX7_bring_9 ?_
            refine aw_lconst0 dX7_bring_10 ?_
            refine aw_ldc2 (x := 9999) dX7_bring_11 q1843 (by decide) ?_
            refine c_X7_306 rfl dX7_bring_14  (Nat.le_of_ble_eq_true rfl) (by omega) (C_m_isFrom (fun hfr => ?_) (fun hfr => ?_))
            · first
                | (exfalso; omega)
                | skip
                  refine aK_i ?_
                  refine aw_ifeq (tgt := 33) dX7_bring_17 (by decide) (fun h => absurd h (by decide)) (fun _ => ?_)
                  refine aw_aload_n dX7_bring_20 rfl ?_
                  refine aw_aload_n dX7_bring_21 rfl ?_
                  refine aw_iload_n dX7_bring_22 rfl ?_
                  refine aw_iload_n dX7_bring_23 rfl ?_
                  refine c_X7_317 rfl dX7_bring_24 m_ob (Nat.le_of_ble_eq_true rfl) (by omega) (C_m_brings HF (by omega) hk.1 hk.2.1 (by omega) (fun cm2 hF2 e2 f2 => ?_))
                  refine aK_i ?_
                  refine c_X7_76 rfl dX7_bring_27 m_ob (Nat.le_of_ble_eq_true rfl) (by omega) (C_m_gives ?_)
                  refine aK_i ?_
                  refine aw_goto (tgt := 38) dX7_bring_30 (by decide) ?_
                  refine aw_ireturn dX7_bring_38 rfl ?_
                  first
                    | (exfalso; omega)
                    | (refine XR.sameE h ?_ ?_ ?_ ?_ ?_ ?_
                       · first
                           | rfl
                           | omega
                       · repeat (first | exact xs.rf | refine xs.up ?_ (by decide))
                       · repeat (first | exact mss.rf | refine mss.up0 ?_ (by decide))
                       · first
                           | (simp [aup, hv2, hv3, hv4]; done)
                           | (simp [aup, hv2, hv3, hv4]; omega)
                       · simp [aup, hv2, hv3, hv4]
                       · simp [aup, hv2, hv3, hv4])
                    | (refine ⟨vI_eq (by first | rfl | omega), _, rfl, XR.yd (brK (cm 1) a b) hR HX HL HN HS HP ?_ ?_ ?_ ?_ ?_ ?_ ?_ ?_ ?_ ?_ ?_ ?_ ?_⟩
                       · rw [aup_rn (by decide)]; exact e2
                       · rw [brK_o (by omega) hk.1 (by omega)]; exact HY2
                       · intro i hi
                         exact brK_o (by omega) hk.1 (by omega)
                       · intro k k0 k1
                         by_cases e : k = a
                         · subst e; exact brK_o k0 hk.1 (by omega)
                         · exact brK_o (by omega) hk.1 (by omega)
                       · exact HP.brK (by omega) (by omega) (by omega)
                       · exact hF2.up0 (by decide) |>.ok
                       · intro x j hx hz
                         rw [hf2 x j (by omega), aup_n (fun z => hz ⟨z.1, Or.inl z.2⟩)]
                       · rw [hl2, aup_n (by omega)]
                       · intro b b0 b1 b9
                         rw [aup_rn b0]; exact f2.1 b b0 b1 b9
                       · intro i hi
                         rw [aup_n (by omega)]; exact f2.2 i (by omega)
                       · rw [hf2 0 7 (by omega), aup_s, aup_s]
                       · rw [hf2 0 8 (by omega), aup_n (by omega), aup_n (by omega), f2.2 3 (by decide)]; exact hv3
                       · rw [hf2 0 9 (by omega), aup_n (by omega), aup_n (by omega), f2.2 4 (by decide)]; exact hv4)
            · first
                | (exfalso; omega)
                | skip
                  refine aK_i ?_
                  refine aw_ifeq (tgt := 33) dX7_bring_17 (by decide) (fun _ => ?_) (fun h => absurd h (by decide))
                  refine aw_aload_n dX7_bring_33 rfl ?_
                  refine aw_iconst dX7_bring_34 (by decide) ?_
                  refine c_X7_72 rfl dX7_bring_35 m_ob (Nat.le_of_ble_eq_true rfl) (by omega) (C_m_refuse ?_)
                  refine aK_i ?_
                  refine aw_ireturn dX7_bring_38 rfl ?_
                  first
                    | (exfalso; omega)
                    | (refine XR.sameE h ?_ ?_ ?_ ?_ ?_ ?_
                       · first
                           | rfl
                           | omega
                       · repeat (first | exact xs.rf | refine xs.up ?_ (by decide))
                       · repeat (first | exact mss.rf | refine mss.up0 ?_ (by decide))
                       · first
                           | (simp [aup, hv2, hv3, hv4]; done)
                           | (simp [aup, hv2, hv3, hv4]; omega)
                       · simp [aup, hv2, hv3, hv4]
                       · simp [aup, hv2, hv3, hv4])
                    | (refine ⟨vI_eq (by first | rfl | omega), _, rfl, XR.yd (brK (cm 1) a b) hR HX HL HN HS HP ?_ ?_ ?_ ?_ ?_ ?_ ?_ ?_ ?_ ?_ ?_ ?_ ?_⟩
                       · rw [aup_rn (by decide)]; exact e2
                       · rw [brK_o (by omega) hk.1 (by omega)]; exact HY2
                       · intro i hi
                         exact brK_o (by omega) hk.1 (by omega)
                       · intro k k0 k1
                         by_cases e : k = a
                         · subst e; exact brK_o k0 hk.1 (by omega)
                         · exact brK_o (by omega) hk.1 (by omega)
                       · exact HP.brK (by omega) (by omega) (by omega)
                       · exact hF2.up0 (by decide) |>.ok
                       · intro x j hx hz
                         rw [hf2 x j (by omega), aup_n (fun z => hz ⟨z.1, Or.inl z.2⟩)]
                       · rw [hl2, aup_n (by omega)]
                       · intro b b0 b1 b9
                         rw [aup_rn b0]; exact f2.1 b b0 b1 b9
                       · intro i hi
                         rw [aup_n (by omega)]; exact f2.2 i (by omega)
                       · rw [hf2 0 7 (by omega), aup_s, aup_s]
                       · rw [hf2 0 8 (by omega), aup_n (by omega), aup_n (by omega), f2.2 3 (by decide)]; exact hv3
                       · rw [hf2 0 9 (by omega), aup_n (by omega), aup_n (by omega), f2.2 4 (by decide)]; exact hv4)
      · first
          | (exfalso; omega)
          | skip
            refine aK_i ?_
            refine aw_ifeq (tgt := 33) dX7_bring_5 (by decide) (fun _ => ?_) (fun h => absurd h (by decide))
            refine aw_aload_n dX7_bring_33 rfl ?_
            refine aw_iconst dX7_bring_34 (by decide) ?_
            refine c_X7_72 rfl dX7_bring_35 m_ob (Nat.le_of_ble_eq_true rfl) (by omega) (C_m_refuse ?_)
            refine aK_i ?_
            refine aw_ireturn dX7_bring_38 rfl ?_
            first
              | (exfalso; omega)
              | (refine XR.sameE h ?_ ?_ ?_ ?_ ?_ ?_
                 · first
                     | rfl
                     | omega
                 · repeat (first | exact xs.rf | refine xs.up ?_ (by decide))
                 · repeat (first | exact mss.rf | refine mss.up0 ?_ (by decide))
                 · first
                     | (simp [aup, hv2, hv3, hv4]; done)
                     | (simp [aup, hv2, hv3, hv4]; omega)
                 · simp [aup, hv2, hv3, hv4]
                 · simp [aup, hv2, hv3, hv4])
              | (refine ⟨vI_eq (by first | rfl | omega), _, rfl, XR.yd (brK (cm 1) a b) hR HX HL HN HS HP ?_ ?_ ?_ ?_ ?_ ?_ ?_ ?_ ?_ ?_ ?_ ?_ ?_⟩
                 · rw [aup_rn (by decide)]; exact e2
                 · rw [brK_o (by omega) hk.1 (by omega)]; exact HY2
                 · intro i hi
                   exact brK_o (by omega) hk.1 (by omega)
                 · intro k k0 k1
                   by_cases e : k = a
                   · subst e; exact brK_o k0 hk.1 (by omega)
                   · exact brK_o (by omega) hk.1 (by omega)
                 · exact HP.brK (by omega) (by omega) (by omega)
                 · exact hF2.up0 (by decide) |>.ok
                 · intro x j hx hz
                   rw [hf2 x j (by omega), aup_n (fun z => hz ⟨z.1, Or.inl z.2⟩)]
                 · rw [hl2, aup_n (by omega)]
                 · intro b b0 b1 b9
                   rw [aup_rn b0]; exact f2.1 b b0 b1 b9
                 · intro i hi
                   rw [aup_n (by omega)]; exact f2.2 i (by omega)
                 · rw [hf2 0 7 (by omega), aup_s, aup_s]
                 · rw [hf2 0 8 (by omega), aup_n (by omega), aup_n (by omega), f2.2 3 (by decide)]; exact hv3
                 · rw [hf2 0 9 (by omega), aup_n (by omega), aup_n (by omega), f2.2 4 (by decide)]; exact hv4)
    · refine aK_i ?_
      refine aw_ifeq (tgt := 25) dX0_bring_18 (by decide) (fun _ => ?_) (fun h => absurd h (by decide))
      refine aw_iconst dX0_bring_25 (by decide) ?_
      refine p_X0_73_0 rfl dX0_bring_26 hR.o0 ?_
      refine aw_aload_n dX0_bring_29 rfl ?_
      refine g_X0_73_0 rfl dX0_bring_30 hR.o0 ?_
      repeat (first | rw [aup_s] | rw [aup_n (by omega)])
      refine aw_ifle (tgt := 40) dX0_bring_33 (by decide) (fun h => absurd h (by decide)) (fun _ => ?_)
      refine aw_iconst dX0_bring_36 (by decide) ?_
      refine aw_goto (tgt := 49) dX0_bring_37 (by decide) ?_
      refine aw_ireturn dX0_bring_49 rfl ?_
      refine ⟨_, rfl, ?_⟩
      refine AMet.go (L := [some (vR 0), some (vI a), some (vI b)]) mok_X7_bring (Nat.le_of_ble_eq_true rfl) rfl ?_
      refine aw_aload_n dX7_bring_0 rfl ?_
      refine aw_iload_n dX7_bring_1 rfl ?_
      refine c_X7_274 rfl dX7_bring_2 m_ob (Nat.le_of_ble_eq_true rfl) (by omega) (C_m_isHive (fun hh => ?_) (fun hh => ?_))
      · first
          | (exfalso; omega)
          | skip
            refine aK_i ?_
            refine aw_ifeq (tgt := 33) dX7_bring_5 (by decide) (fun h => absurd h (by decide)) (fun _ => ?_)
            refine aw_iload_n dX7_bring_8 rfl ?_
            refine aw_i2l dX7_bring_9 ?_
            refine aw_lconst0 dX7_bring_10 ?_
            refine aw_ldc2 (x := 9999) dX7_bring_11 q1843 (by decide) ?_
            refine c_X7_306 rfl dX7_bring_14  (Nat.le_of_ble_eq_true rfl) (by omega) (C_m_isFrom (fun hfr => ?_) (fun hfr => ?_))
            · first
                | (exfalso; omega)
                | skip
                  refine aK_i ?_
                  refine aw_ifeq (tgt := 33) dX7_bring_17 (by decide) (fun h => absurd h (by decide)) (fun _ => ?_)
                  refine aw_aload_n dX7_bring_20 rfl ?_
                  refine aw_aload_n dX7_bring_21 rfl ?_
                  refine aw_iload_n dX7_bring_22 rfl ?_
                  refine aw_iload_n dX7_bring_23 rfl ?_
                  refine c_X7_317 rfl dX7_bring_24 m_ob (Nat.le_of_ble_eq_true rfl) (by omega) (C_m_brings HF (by omega) hk.1 hk.2.1 (by omega) (fun cm2 hF2 e2 f2 => ?_))
                  refine aK_i ?_
                  refine c_X7_76 rfl dX7_bring_27 m_ob (Nat.le_of_ble_eq_true rfl) (by omega) (C_m_gives ?_)
                  refine aK_i ?_
                  refine aw_goto (tgt := 38) dX7_bring_30 (by decide) ?_
                  refine aw_ireturn dX7_bring_38 rfl ?_
                  first
                    | (exfalso; omega)
                    | (refine XR.sameE h ?_ ?_ ?_ ?_ ?_ ?_
                       · first
                           | rfl
                           | omega
                       · repeat (first | exact xs.rf | refine xs.up ?_ (by decide))
                       · repeat (first | exact mss.rf | refine mss.up0 ?_ (by decide))
                       · first
                           | (simp [aup, hv2, hv3, hv4]; done)
                           | (simp [aup, hv2, hv3, hv4]; omega)
                       · simp [aup, hv2, hv3, hv4]
                       · simp [aup, hv2, hv3, hv4])
                    | (refine ⟨vI_eq (by first | rfl | omega), _, rfl, XR.yd (brK (cm 1) a b) hR HX HL HN HS HP ?_ ?_ ?_ ?_ ?_ ?_ ?_ ?_ ?_ ?_ ?_ ?_ ?_⟩
                       · rw [aup_rn (by decide)]; exact e2
                       · rw [brK_o (by omega) hk.1 (by omega)]; exact HY2
                       · intro i hi
                         exact brK_o (by omega) hk.1 (by omega)
                       · intro k k0 k1
                         by_cases e : k = a
                         · subst e; exact brK_o k0 hk.1 (by omega)
                         · exact brK_o (by omega) hk.1 (by omega)
                       · exact HP.brK (by omega) (by omega) (by omega)
                       · exact hF2.up0 (by decide) |>.ok
                       · intro x j hx hz
                         rw [hf2 x j (by omega), aup_n (fun z => hz ⟨z.1, Or.inl z.2⟩)]
                       · rw [hl2, aup_n (by omega)]
                       · intro b b0 b1 b9
                         rw [aup_rn b0]; exact f2.1 b b0 b1 b9
                       · intro i hi
                         rw [aup_n (by omega)]; exact f2.2 i (by omega)
                       · rw [hf2 0 7 (by omega), aup_s, aup_s]
                       · rw [hf2 0 8 (by omega), aup_n (by omega), aup_n (by omega), f2.2 3 (by decide)]; exact hv3
                       · rw [hf2 0 9 (by omega), aup_n (by omega), aup_n (by omega), f2.2 4 (by decide)]; exact hv4)
            · first
                | (exfalso; omega)
                | skip
                  refine aK_i ?_
                  refine aw_ifeq (tgt := 33) dX7_bring_17 (by decide) (fun _ => ?_) (fun h => absurd h (by decide))
                  refine aw_aload_n dX7_bring_33 rfl ?_
                  refine aw_iconst dX7_bring_34 (by decide) ?_
                  refine c_X7_72 rfl dX7_bring_35 m_ob (Nat.le_of_ble_eq_true rfl) (by omega) (C_m_refuse ?_)
                  refine aK_i ?_
                  refine aw_ireturn dX7_bring_38 rfl ?_
                  first
                    | (exfalso; omega)
                    | (refine XR.sameE h ?_ ?_ ?_ ?_ ?_ ?_
                       · first
                           | rfl
                           | omega
                       · repeat (first | exact xs.rf | refine xs.up ?_ (by decide))
                       · repeat (first | exact mss.rf | refine mss.up0 ?_ (by decide))
                       · first
                           | (simp [aup, hv2, hv3, hv4]; done)
                           | (simp [aup, hv2, hv3, hv4]; omega)
                       · simp [aup, hv2, hv3, hv4]
                       · simp [aup, hv2, hv3, hv4])
                    | (refine ⟨vI_eq (by first | rfl | omega), _, rfl, XR.yd (brK (cm 1) a b) hR HX HL HN HS HP ?_ ?_ ?_ ?_ ?_ ?_ ?_ ?_ ?_ ?_ ?_ ?_ ?_⟩
                       · rw [aup_rn (by decide)]; exact e2
                       · rw [brK_o (by omega) hk.1 (by omega)]; exact HY2
                       · intro i hi
                         exact brK_o (by omega) hk.1 (by omega)
                       · intro k k0 k1
                         by_cases e : k = a
                         · subst e; exact brK_o k0 hk.1 (by omega)
                         · exact brK_o (by omega) hk.1 (by omega)
                       · exact HP.brK (by omega) (by omega) (by omega)
                       · exact hF2.up0 (by decide) |>.ok
                       · intro x j hx hz
                         rw [hf2 x j (by omega), aup_n (fun z => hz ⟨z.1, Or.inl z.2⟩)]
                       · rw [hl2, aup_n (by omega)]
                       · intro b b0 b1 b9
                         rw [aup_rn b0]; exact f2.1 b b0 b1 b9
                       · intro i hi
                         rw [aup_n (by omega)]; exact f2.2 i (by omega)
                       · rw [hf2 0 7 (by omega), aup_s, aup_s]
                       · rw [hf2 0 8 (by omega), aup_n (by omega), aup_n (by omega), f2.2 3 (by decide)]; exact hv3
                       · rw [hf2 0 9 (by omega), aup_n (by omega), aup_n (by omega), f2.2 4 (by decide)]; exact hv4)
      · first
          | (exfalso; omega)
          | skip
            refine aK_i ?_
            refine aw_ifeq (tgt := 33) dX7_bring_5 (by decide) (fun _ => ?_) (fun h => absurd h (by decide))
            refine aw_aload_n dX7_bring_33 rfl ?_
            refine aw_iconst dX7_bring_34 (by decide) ?_
            refine c_X7_72 rfl dX7_bring_35 m_ob (Nat.le_of_ble_eq_true rfl) (by omega) (C_m_refuse ?_)
            refine aK_i ?_
            refine aw_ireturn dX7_bring_38 rfl ?_
            first
              | (exfalso; omega)
              | (refine XR.sameE h ?_ ?_ ?_ ?_ ?_ ?_
                 · first
                     | rfl
                     | omega
                 · repeat (first | exact xs.rf | refine xs.up ?_ (by decide))
                 · repeat (first | exact mss.rf | refine mss.up0 ?_ (by decide))
                 · first
                     | (simp [aup, hv2, hv3, hv4]; done)
                     | (simp [aup, hv2, hv3, hv4]; omega)
                 · simp [aup, hv2, hv3, hv4]
                 · simp [aup, hv2, hv3, hv4])
              | (refine ⟨vI_eq (by first | rfl | omega), _, rfl, XR.yd (brK (cm 1) a b) hR HX HL HN HS HP ?_ ?_ ?_ ?_ ?_ ?_ ?_ ?_ ?_ ?_ ?_ ?_ ?_⟩
                 · rw [aup_rn (by decide)]; exact e2
                 · rw [brK_o (by omega) hk.1 (by omega)]; exact HY2
                 · intro i hi
                   exact brK_o (by omega) hk.1 (by omega)
                 · intro k k0 k1
                   by_cases e : k = a
                   · subst e; exact brK_o k0 hk.1 (by omega)
                   · exact brK_o (by omega) hk.1 (by omega)
                 · exact HP.brK (by omega) (by omega) (by omega)
                 · exact hF2.up0 (by decide) |>.ok
                 · intro x j hx hz
                   rw [hf2 x j (by omega), aup_n (fun z => hz ⟨z.1, Or.inl z.2⟩)]
                 · rw [hl2, aup_n (by omega)]
                 · intro b b0 b1 b9
                   rw [aup_rn b0]; exact f2.1 b b0 b1 b9
                 · intro i hi
                   rw [aup_n (by omega)]; exact f2.2 i (by omega)
                 · rw [hf2 0 7 (by omega), aup_s, aup_s]
                 · rw [hf2 0 8 (by omega), aup_n (by omega), aup_n (by omega), f2.2 3 (by decide)]; exact hv3
                 · rw [hf2 0 9 (by omega), aup_n (by omega), aup_n (by omega), f2.2 4 (by decide)]; exact hv4)
  · refine aK_i ?_
    refine aw_ifeq (tgt := 25) dX0_bring_6 (by decide) (fun _ => ?_) (fun h => absurd h (by decide))
    refine aw_iconst dX0_bring_25 (by decide) ?_
    refine p_X0_73_0 rfl dX0_bring_26 hR.o0 ?_
    refine aw_aload_n dX0_bring_29 rfl ?_
    refine g_X0_73_0 rfl dX0_bring_30 hR.o0 ?_
    repeat (first | rw [aup_s] | rw [aup_n (by omega)])
    refine aw_ifle (tgt := 40) dX0_bring_33 (by decide) (fun h => absurd h (by decide)) (fun _ => ?_)
    refine aw_iconst dX0_bring_36 (by decide) ?_
    refine aw_goto (tgt := 49) dX0_bring_37 (by decide) ?_
    refine aw_ireturn dX0_bring_49 rfl ?_
    refine ⟨_, rfl, ?_⟩
    refine AMet.go (L := [some (vR 0), some (vI a), some (vI b)]) mok_X7_bring (Nat.le_of_ble_eq_true rfl) rfl ?_
    refine aw_aload_n dX7_bring_0 rfl ?_
    refine aw_iload_n dX7_bring_1 rfl ?_
    refine c_X7_274 rfl dX7_bring_2 m_ob (Nat.le_of_ble_eq_true rfl) (by omega) (C_m_isHive (fun hh => ?_) (fun hh => ?_))
    · first
        | (exfalso; omega)
        | skip
          refine aK_i ?_
          refine aw_ifeq (tgt := 33) dX7_bring_5 (by decide) (fun h => absurd h (by decide)) (fun _ => ?_)
          refine aw_iload_n dX7_bring_8 rfl ?_
          refine aw_i2l dX7_bring_9 ?_
          refine aw_lconst0 dX7_bring_10 ?_
          refine aw_ldc2 (x := 9999) dX7_bring_11 q1843 (by decide) ?_
          refine c_X7_306 rfl dX7_bring_14  (Nat.le_of_ble_eq_true rfl) (by omega) (C_m_isFrom (fun hfr => ?_) (fun hfr => ?_))
          · first
              | (exfalso; omega)
              | skip
                refine aK_i ?_
                refine aw_ifeq (tgt := 33) dX7_bring_17 (by decide) (fun h => absurd h (by decide)) (fun _ => ?_)
                refine aw_aload_n dX7_bring_20 rfl ?_
                refine aw_aload_n dX7_bring_21 rfl ?_
                refine aw_iload_n dX7_bring_22 rfl ?_
                refine aw_iload_n dX7_bring_23 rfl ?_
                refine c_X7_317 rfl dX7_bring_24 m_ob (Nat.le_of_ble_eq_true rfl) (by omega) (C_m_brings HF (by omega) hk.1 hk.2.1 (by omega) (fun cm2 hF2 e2 f2 => ?_))
                refine aK_i ?_
                refine c_X7_76 rfl dX7_bring_27 m_ob (Nat.le_of_ble_eq_true rfl) (by omega) (C_m_gives ?_)
                refine aK_i ?_
                refine aw_goto (tgt := 38) dX7_bring_30 (by decide) ?_
                refine aw_ireturn dX7_bring_38 rfl ?_
                first
                  | (exfalso; omega)
                  | (refine XR.sameE h ?_ ?_ ?_ ?_ ?_ ?_
                     · first
                         | rfl
                         | omega
                     · repeat (first | exact xs.rf | refine xs.up ?_ (by decide))
                     · repeat (first | exact mss.rf | refine mss.up0 ?_ (by decide))
                     · first
                         | (simp [aup, hv2, hv3, hv4]; done)
                         | (simp [aup, hv2, hv3, hv4]; omega)
                     · simp [aup, hv2, hv3, hv4]
                     · simp [aup, hv2, hv3, hv4])
                  | (refine ⟨vI_eq (by first | rfl | omega), _, rfl, XR.yd (brK (cm 1) a b) hR HX HL HN HS HP ?_ ?_ ?_ ?_ ?_ ?_ ?_ ?_ ?_ ?_ ?_ ?_ ?_⟩
                     · rw [aup_rn (by decide)]; exact e2
                     · rw [brK_o (by omega) hk.1 (by omega)]; exact HY2
                     · intro i hi
                       exact brK_o (by omega) hk.1 (by omega)
                     · intro k k0 k1
                       by_cases e : k = a
                       · subst e; exact brK_o k0 hk.1 (by omega)
                       · exact brK_o (by omega) hk.1 (by omega)
                     · exact HP.brK (by omega) (by omega) (by omega)
                     · exact hF2.up0 (by decide) |>.ok
                     · intro x j hx hz
                       rw [hf2 x j (by omega), aup_n (fun z => hz ⟨z.1, Or.inl z.2⟩)]
                     · rw [hl2, aup_n (by omega)]
                     · intro b b0 b1 b9
                       rw [aup_rn b0]; exact f2.1 b b0 b1 b9
                     · intro i hi
                       rw [aup_n (by omega)]; exact f2.2 i (by omega)
                     · rw [hf2 0 7 (by omega), aup_s, aup_s]
                     · rw [hf2 0 8 (by omega), aup_n (by omega), aup_n (by omega), f2.2 3 (by decide)]; exact hv3
                     · rw [hf2 0 9 (by omega), aup_n (by omega), aup_n (by omega), f2.2 4 (by decide)]; exact hv4)
          · first
              | (exfalso; omega)
              | skip
                refine aK_i ?_
                refine aw_ifeq (tgt := 33) dX7_bring_17 (by decide) (fun _ => ?_) (fun h => absurd h (by decide))
                refine aw_aload_n dX7_bring_33 rfl ?_
                refine aw_iconst dX7_bring_34 (by decide) ?_
                refine c_X7_72 rfl dX7_bring_35 m_ob (Nat.le_of_ble_eq_true rfl) (by omega) (C_m_refuse ?_)
                refine aK_i ?_
                refine aw_ireturn dX7_bring_38 rfl ?_
                first
                  | (exfalso; omega)
                  | (refine XR.sameE h ?_ ?_ ?_ ?_ ?_ ?_
                     · first
                         | rfl
                         | omega
                     · repeat (first | exact xs.rf | refine xs.up ?_ (by decide))
                     · repeat (first | exact mss.rf | refine mss.up0 ?_ (by decide))
                     · first
                         | (simp [aup, hv2, hv3, hv4]; done)
                         | (simp [aup, hv2, hv3, hv4]; omega)
                     · simp [aup, hv2, hv3, hv4]
                     · simp [aup, hv2, hv3, hv4])
                  | (refine ⟨vI_eq (by first | rfl | omega), _, rfl, XR.yd (brK (cm 1) a b) hR HX HL HN HS HP ?_ ?_ ?_ ?_ ?_ ?_ ?_ ?_ ?_ ?_ ?_ ?_ ?_⟩
                     · rw [aup_rn (by decide)]; exact e2
                     · rw [brK_o (by omega) hk.1 (by omega)]; exact HY2
                     · intro i hi
                       exact brK_o (by omega) hk.1 (by omega)
                     · intro k k0 k1
                       by_cases e : k = a
                       · subst e; exact brK_o k0 hk.1 (by omega)
                       · exact brK_o (by omega) hk.1 (by omega)
                     · exact HP.brK (by omega) (by omega) (by omega)
                     · exact hF2.up0 (by decide) |>.ok
                     · intro x j hx hz
                       rw [hf2 x j (by omega), aup_n (fun z => hz ⟨z.1, Or.inl z.2⟩)]
                     · rw [hl2, aup_n (by omega)]
                     · intro b b0 b1 b9
                       rw [aup_rn b0]; exact f2.1 b b0 b1 b9
                     · intro i hi
                       rw [aup_n (by omega)]; exact f2.2 i (by omega)
                     · rw [hf2 0 7 (by omega), aup_s, aup_s]
                     · rw [hf2 0 8 (by omega), aup_n (by omega), aup_n (by omega), f2.2 3 (by decide)]; exact hv3
                     · rw [hf2 0 9 (by omega), aup_n (by omega), aup_n (by omega), f2.2 4 (by decide)]; exact hv4)
    · first
        | (exfalso; omega)
        | skip
          refine aK_i ?_
          refine aw_ifeq (tgt := 33) dX7_bring_5 (by decide) (fun _ => ?_) (fun h => absurd h (by decide))
          refine aw_aload_n dX7_bring_33 rfl ?_
          refine aw_iconst dX7_bring_34 (by decide) ?_
          refine c_X7_72 rfl dX7_bring_35 m_ob (Nat.le_of_ble_eq_true rfl) (by omega) (C_m_refuse ?_)
          refine aK_i ?_
          refine aw_ireturn dX7_bring_38 rfl ?_
          first
            | (exfalso; omega)
            | (refine XR.sameE h ?_ ?_ ?_ ?_ ?_ ?_
               · first
                   | rfl
                   | omega
               · repeat (first | exact xs.rf | refine xs.up ?_ (by decide))
               · repeat (first | exact mss.rf | refine mss.up0 ?_ (by decide))
               · first
                   | (simp [aup, hv2, hv3, hv4]; done)
                   | (simp [aup, hv2, hv3, hv4]; omega)
               · simp [aup, hv2, hv3, hv4]
               · simp [aup, hv2, hv3, hv4])
            | (refine ⟨vI_eq (by first | rfl | omega), _, rfl, XR.yd (brK (cm 1) a b) hR HX HL HN HS HP ?_ ?_ ?_ ?_ ?_ ?_ ?_ ?_ ?_ ?_ ?_ ?_ ?_⟩
               · rw [aup_rn (by decide)]; exact e2
               · rw [brK_o (by omega) hk.1 (by omega)]; exact HY2
               · intro i hi
                 exact brK_o (by omega) hk.1 (by omega)
               · intro k k0 k1
                 by_cases e : k = a
                 · subst e; exact brK_o k0 hk.1 (by omega)
                 · exact brK_o (by omega) hk.1 (by omega)
               · exact HP.brK (by omega) (by omega) (by omega)
               · exact hF2.up0 (by decide) |>.ok
               · intro x j hx hz
                 rw [hf2 x j (by omega), aup_n (fun z => hz ⟨z.1, Or.inl z.2⟩)]
               · rw [hl2, aup_n (by omega)]
               · intro b b0 b1 b9
                 rw [aup_rn b0]; exact f2.1 b b0 b1 b9
               · intro i hi
                 rw [aup_n (by omega)]; exact f2.2 i (by omega)
               · rw [hf2 0 7 (by omega), aup_s, aup_s]
               · rw [hf2 0 8 (by omega), aup_n (by omega), aup_n (by omega), f2.2 3 (by decide)]; exact hv3
               · rw [hf2 0 9 (by omega), aup_n (by omega), aup_n (by omega), f2.2 4 (by decide)]; exact hv4)
theorem OP_harvest {sz : Int} {im : Int → aIm} {ct cm : Int → Int → Int} (h : XR (sz, im, ct) cm) {a b : Int} (r0 : -2147483648 ≤ a ∧ a < 2147483648) (r1 : -2147483648 ≤ b ∧ b < 2147483648)  : AMet md_X0_harvest 5 0 0 [vR 0, vI a, vI b] (sz, im, ct) (XQ md_X7_harvest 4 [vR 0, vI a, vI b] cm) := by
  obtain ⟨own, N, hR, HY, HL, HN, HS, HP, HF, HX, hv2, hv3, hv4⟩ := id h
  dsimp only at hR HY HL HS HX hv2 hv3 hv4
  have hp0 := HP.1
  have hp3 := HP.2.1
  have hpq := HP.2.2.2.1.1
  have hps := HP.2.2.2.2.2
  refine AMet.go (L := [some (vR 0), some (vI a), some (vI b)]) mok_X0_harvest (Nat.le_of_ble_eq_true rfl) rfl ?_
  refine aw_aload_n dX0_harvest_0 rfl ?_
  refine aw_aload_n dX0_harvest_1 rfl ?_
  refine aw_iload_n dX0_harvest_2 rfl ?_
  refine aw_iload_n dX0_harvest_3 rfl ?_
  refine c_X0_301 rfl dX0_harvest_4 hR.o0 (Nat.le_of_ble_eq_true rfl) (by omega) (C_x_isFrame hR HY (fun xf => ?_) (fun xf => ?_))
  · refine aK_i ?_
    refine aw_ifeq (tgt := 14) dX0_harvest_7 (by decide) (fun h => absurd h (by decide)) (fun _ => ?_)
    refine aw_iconst dX0_harvest_10 (by decide) ?_
    refine aw_goto (tgt := 15) dX0_harvest_11 (by decide) ?_
    refine p_X0_73_0 rfl dX0_harvest_15 hR.o0 ?_
    refine aw_aload_n dX0_harvest_18 rfl ?_
    refine g_X0_73_0 rfl dX0_harvest_19 hR.o0 ?_
    repeat (first | rw [aup_s] | rw [aup_n (by omega)])
    refine aw_ifle (tgt := 29) dX0_harvest_22 (by decide) (fun _ => ?_) (fun h => absurd h (by decide))
    refine aw_aload_n dX0_harvest_29 rfl ?_
    refine c_X0_158 rfl dX0_harvest_30 hR.o0 (Nat.le_of_ble_eq_true rfl) (by omega) (C_x_yard2 hR ?_)
    refine aK_i ?_
    have o0 := hR.1.2
    have hk := HP.2.2.1 a (by omega) (by omega)
    refine aw_iload_n dX0_harvest_33 rfl ?_
    refine aw_iload_n dX0_harvest_34 rfl ?_
    refine c_X0_334 rfl dX0_harvest_35 HY.1 (Nat.le_of_ble_eq_true rfl) (by omega) (C_x_yharvests (HY.up0 (j := 7) (v := 0) hR.1.2 (by decide)) (by omega) (by omega) hk.1 hk.2.1 (by omega) (by omega) (fun ct2 HY2 hl2 hf2 => ?_))
    refine aK_i ?_
    refine aw_ireturn dX0_harvest_38 rfl ?_
    refine ⟨_, rfl, ?_⟩
    refine AMet.go (L := [some (vR 0), some (vI a), some (vI b)]) mok_X7_harvest (Nat.le_of_ble_eq_true rfl) rfl ?_
    refine aw_aload_n dX7_harvest_0 rfl ?_
    refine aw_iload_n dX7_harvest_1 rfl ?_
    refine aw_iload_n dX7_harvest_2 rfl ?_
    refine c_X7_298 rfl dX7_harvest_3 m_ob (Nat.le_of_ble_eq_true rfl) (by omega) (C_m_isFrame (by omega) (fun hff => ?_) (fun hff => ?_))
    · first
        | (exfalso; omega)
        | skip
          refine aK_i ?_
          refine aw_ifeq (tgt := 22) dX7_harvest_6 (by decide) (fun h => absurd h (by decide)) (fun _ => ?_)
          refine aw_aload_n dX7_harvest_9 rfl ?_
          refine aw_aload_n dX7_harvest_10 rfl ?_
          refine aw_iload_n dX7_harvest_11 rfl ?_
          refine aw_iload_n dX7_harvest_12 rfl ?_
          refine c_X7_320 rfl dX7_harvest_13 m_ob (Nat.le_of_ble_eq_true rfl) (by omega) (C_m_harvests HF (by omega) hk.1 hk.2.1 (by omega) (by omega) (fun cm2 hF2 e2 f2 => ?_))
          refine aK_i ?_
          refine c_X7_76 rfl dX7_harvest_16 m_ob (Nat.le_of_ble_eq_true rfl) (by omega) (C_m_gives ?_)
          refine aK_i ?_
          refine aw_goto (tgt := 27) dX7_harvest_19 (by decide) ?_
          refine aw_ireturn dX7_harvest_27 rfl ?_
          first
            | (exfalso; omega)
            | (refine XR.sameE h ?_ ?_ ?_ ?_ ?_ ?_
               · first
                   | rfl
                   | omega
               · repeat (first | exact xs.rf | refine xs.up ?_ (by decide))
               · repeat (first | exact mss.rf | refine mss.up0 ?_ (by decide))
               · first
                   | (simp [aup, hv2, hv3, hv4]; done)
                   | (simp [aup, hv2, hv3, hv4]; omega)
               · simp [aup, hv2, hv3, hv4]
               · simp [aup, hv2, hv3, hv4])
            | (refine ⟨vI_eq (by first | rfl | omega), _, rfl, XR.yd (haK (cm 1) a b) hR HX HL HN HS HP ?_ ?_ ?_ ?_ ?_ ?_ ?_ ?_ ?_ ?_ ?_ ?_ ?_⟩
               · rw [aup_rn (by decide)]; exact e2
               · rw [haK_o (by omega) (by omega) (by omega) hk.1.2 (by omega)]; exact HY2
               · intro i hi
                 exact haK_o (by omega) (by omega) (by omega) hk.1.2 (by omega)
               · intro k k0 k1
                 by_cases e : k = a
                 · subst e; exact haK_o k0 (by omega) (by omega) hk.1.2 (by omega)
                 · exact haK_o (by omega) (by omega) (by omega) hk.1.2 (by omega)
               · exact HP.haK (by omega) (by omega) (by omega) (by omega)
               · exact hF2.up0 (by decide) |>.ok
               · intro x j hx hz
                 rw [hf2 x j (by omega), aup_n (fun z => hz ⟨z.1, Or.inl z.2⟩)]
               · rw [hl2, aup_n (by omega)]
               · intro b b0 b1 b9
                 rw [aup_rn b0]; exact f2.1 b b0 b1 b9
               · intro i hi
                 rw [aup_n (by omega)]; exact f2.2 i (by omega)
               · rw [hf2 0 7 (by omega), aup_s, aup_s]
               · rw [hf2 0 8 (by omega), aup_n (by omega), aup_n (by omega), f2.2 3 (by decide)]; exact hv3
               · rw [hf2 0 9 (by omega), aup_n (by omega), aup_n (by omega), f2.2 4 (by decide)]; exact hv4)
    · first
        | (exfalso; omega)
        | skip
          refine aK_i ?_
          refine aw_ifeq (tgt := 22) dX7_harvest_6 (by decide) (fun _ => ?_) (fun h => absurd h (by decide))
          refine aw_aload_n dX7_harvest_22 rfl ?_
          refine aw_iconst dX7_harvest_23 (by decide) ?_
          refine c_X7_72 rfl dX7_harvest_24 m_ob (Nat.le_of_ble_eq_true rfl) (by omega) (C_m_refuse ?_)
          refine aK_i ?_
          refine aw_ireturn dX7_harvest_27 rfl ?_
          first
            | (exfalso; omega)
            | (refine XR.sameE h ?_ ?_ ?_ ?_ ?_ ?_
               · first
                   | rfl
                   | omega
               · repeat (first | exact xs.rf | refine xs.up ?_ (by decide))
               · repeat (first | exact mss.rf | refine mss.up0 ?_ (by decide))
               · first
                   | (simp [aup, hv2, hv3, hv4]; done)
                   | (simp [aup, hv2, hv3, hv4]; omega)
               · simp [aup, hv2, hv3, hv4]
               · simp [aup, hv2, hv3, hv4])
            | (refine ⟨vI_eq (by first | rfl | omega), _, rfl, XR.yd (haK (cm 1) a b) hR HX HL HN HS HP ?_ ?_ ?_ ?_ ?_ ?_ ?_ ?_ ?_ ?_ ?_ ?_ ?_⟩
               · rw [aup_rn (by decide)]; exact e2
               · rw [haK_o (by omega) (by omega) (by omega) hk.1.2 (by omega)]; exact HY2
               · intro i hi
                 exact haK_o (by omega) (by omega) (by omega) hk.1.2 (by omega)
               · intro k k0 k1
                 by_cases e : k = a
                 · subst e; exact haK_o k0 (by omega) (by omega) hk.1.2 (by omega)
                 · exact haK_o (by omega) (by omega) (by omega) hk.1.2 (by omega)
               · exact HP.haK (by omega) (by omega) (by omega) (by omega)
               · exact hF2.up0 (by decide) |>.ok
               · intro x j hx hz
                 rw [hf2 x j (by omega), aup_n (fun z => hz ⟨z.1, Or.inl z.2⟩)]
               · rw [hl2, aup_n (by omega)]
               · intro b b0 b1 b9
                 rw [aup_rn b0]; exact f2.1 b b0 b1 b9
               · intro i hi
                 rw [aup_n (by omega)]; exact f2.2 i (by omega)
               · rw [hf2 0 7 (by omega), aup_s, aup_s]
               · rw [hf2 0 8 (by omega), aup_n (by omega), aup_n (by omega), f2.2 3 (by decide)]; exact hv3
               · rw [hf2 0 9 (by omega), aup_n (by omega), aup_n (by omega), f2.2 4 (by decide)]; exact hv4)
  · refine aK_i ?_
    refine aw_ifeq (tgt := 14) dX0_harvest_7 (by decide) (fun _ => ?_) (fun h => absurd h (by decide))
    refine aw_iconst dX0_harvest_14 (by decide) ?_
    refine p_X0_73_0 rfl dX0_harvest_15 hR.o0 ?_
    refine aw_aload_n dX0_harvest_18 rfl ?_
    refine g_X0_73_0 rfl dX0_harvest_19 hR.o0 ?_
    repeat (first | rw [aup_s] | rw [aup_n (by omega)])
    refine aw_ifle (tgt := 29) dX0_harvest_22 (by decide) (fun h => absurd h (by decide)) (fun _ => ?_)
    refine aw_iconst dX0_harvest_25 (by decide) ?_
    refine aw_goto (tgt := 38) dX0_harvest_26 (by decide) ?_
    refine aw_ireturn dX0_harvest_38 rfl ?_
    refine ⟨_, rfl, ?_⟩
    refine AMet.go (L := [some (vR 0), some (vI a), some (vI b)]) mok_X7_harvest (Nat.le_of_ble_eq_true rfl) rfl ?_
    refine aw_aload_n dX7_harvest_0 rfl ?_
    refine aw_iload_n dX7_harvest_1 rfl ?_
    refine aw_iload_n dX7_harvest_2 rfl ?_
    refine c_X7_298 rfl dX7_harvest_3 m_ob (Nat.le_of_ble_eq_true rfl) (by omega) (C_m_isFrame (by omega) (fun hff => ?_) (fun hff => ?_))
    · first
        | (exfalso; omega)
        | skip
          refine aK_i ?_
          refine aw_ifeq (tgt := 22) dX7_harvest_6 (by decide) (fun h => absurd h (by decide)) (fun _ => ?_)
          refine aw_aload_n dX7_harvest_9 rfl ?_
          refine aw_aload_n dX7_harvest_10 rfl ?_
          refine aw_iload_n dX7_harvest_11 rfl ?_
          refine aw_iload_n dX7_harvest_12 rfl ?_
          refine c_X7_320 rfl dX7_harvest_13 m_ob (Nat.le_of_ble_eq_true rfl) (by omega) (C_m_harvests HF (by omega) hk.1 hk.2.1 (by omega) (by omega) (fun cm2 hF2 e2 f2 => ?_))
          refine aK_i ?_
          refine c_X7_76 rfl dX7_harvest_16 m_ob (Nat.le_of_ble_eq_true rfl) (by omega) (C_m_gives ?_)
          refine aK_i ?_
          refine aw_goto (tgt := 27) dX7_harvest_19 (by decide) ?_
          refine aw_ireturn dX7_harvest_27 rfl ?_
          first
            | (exfalso; omega)
            | (refine XR.sameE h ?_ ?_ ?_ ?_ ?_ ?_
               · first
                   | rfl
                   | omega
               · repeat (first | exact xs.rf | refine xs.up ?_ (by decide))
               · repeat (first | exact mss.rf | refine mss.up0 ?_ (by decide))
               · first
                   | (simp [aup, hv2, hv3, hv4]; done)
                   | (simp [aup, hv2, hv3, hv4]; omega)
               · simp [aup, hv2, hv3, hv4]
               · simp [aup, hv2, hv3, hv4])
            | (refine ⟨vI_eq (by first | rfl | omega), _, rfl, XR.yd (haK (cm 1) a b) hR HX HL HN HS HP ?_ ?_ ?_ ?_ ?_ ?_ ?_ ?_ ?_ ?_ ?_ ?_ ?_⟩
               · rw [aup_rn (by decide)]; exact e2
               · rw [haK_o (by omega) (by omega) (by omega) hk.1.2 (by omega)]; exact HY2
               · intro i hi
                 exact haK_o (by omega) (by omega) (by omega) hk.1.2 (by omega)
               · intro k k0 k1
                 by_cases e : k = a
                 · subst e; exact haK_o k0 (by omega) (by omega) hk.1.2 (by omega)
                 · exact haK_o (by omega) (by omega) (by omega) hk.1.2 (by omega)
               · exact HP.haK (by omega) (by omega) (by omega) (by omega)
               · exact hF2.up0 (by decide) |>.ok
               · intro x j hx hz
                 rw [hf2 x j (by omega), aup_n (fun z => hz ⟨z.1, Or.inl z.2⟩)]
               · rw [hl2, aup_n (by omega)]
               · intro b b0 b1 b9
                 rw [aup_rn b0]; exact f2.1 b b0 b1 b9
               · intro i hi
                 rw [aup_n (by omega)]; exact f2.2 i (by omega)
               · rw [hf2 0 7 (by omega), aup_s, aup_s]
               · rw [hf2 0 8 (by omega), aup_n (by omega), aup_n (by omega), f2.2 3 (by decide)]; exact hv3
               · rw [hf2 0 9 (by omega), aup_n (by omega), aup_n (by omega), f2.2 4 (by decide)]; exact hv4)
    · first
        | (exfalso; omega)
        | skip
          refine aK_i ?_
          refine aw_ifeq (tgt := 22) dX7_harvest_6 (by decide) (fun _ => ?_) (fun h => absurd h (by decide))
          refine aw_aload_n dX7_harvest_22 rfl ?_
          refine aw_iconst dX7_harvest_23 (by decide) ?_
          refine c_X7_72 rfl dX7_harvest_24 m_ob (Nat.le_of_ble_eq_true rfl) (by omega) (C_m_refuse ?_)
          refine aK_i ?_
          refine aw_ireturn dX7_harvest_27 rfl ?_
          first
            | (exfalso; omega)
            | (refine XR.sameE h ?_ ?_ ?_ ?_ ?_ ?_
               · first
                   | rfl
                   | omega
               · repeat (first | exact xs.rf | refine xs.up ?_ (by decide))
               · repeat (first | exact mss.rf | refine mss.up0 ?_ (by decide))
               · first
                   | (simp [aup, hv2, hv3, hv4]; done)
                   | (simp [aup, hv2, hv3, hv4]; omega)
               · simp [aup, hv2, hv3, hv4]
               · simp [aup, hv2, hv3, hv4])
            | (refine ⟨vI_eq (by first | rfl | omega), _, rfl, XR.yd (haK (cm 1) a b) hR HX HL HN HS HP ?_ ?_ ?_ ?_ ?_ ?_ ?_ ?_ ?_ ?_ ?_ ?_ ?_⟩
               · rw [aup_rn (by decide)]; exact e2
               · rw [haK_o (by omega) (by omega) (by omega) hk.1.2 (by omega)]; exact HY2
               · intro i hi
                 exact haK_o (by omega) (by omega) (by omega) hk.1.2 (by omega)
               · intro k k0 k1
                 by_cases e : k = a
                 · subst e; exact haK_o k0 (by omega) (by omega) hk.1.2 (by omega)
                 · exact haK_o (by omega) (by omega) (by omega) hk.1.2 (by omega)
               · exact HP.haK (by omega) (by omega) (by omega) (by omega)
               · exact hF2.up0 (by decide) |>.ok
               · intro x j hx hz
                 rw [hf2 x j (by omega), aup_n (fun z => hz ⟨z.1, Or.inl z.2⟩)]
               · rw [hl2, aup_n (by omega)]
               · intro b b0 b1 b9
                 rw [aup_rn b0]; exact f2.1 b b0 b1 b9
               · intro i hi
                 rw [aup_n (by omega)]; exact f2.2 i (by omega)
               · rw [hf2 0 7 (by omega), aup_s, aup_s]
               · rw [hf2 0 8 (by omega), aup_n (by omega), aup_n (by omega), f2.2 3 (by decide)]; exact hv3
               · rw [hf2 0 9 (by omega), aup_n (by omega), aup_n (by omega), f2.2 4 (by decide)]; exact hv4)
theorem L_m_days {ct : Int → Int → Int} {w : Int} {Q : aPost} {d kc ks : Nat} (hd : 5 ≤ d) (hP : PI (ct 1)) (hw : 0 ≤ w ∧ ct 1 3 + w ≤ 9999)
    (K : ∀ (ct' : Int → Int → Int), ct' 1 = paD w.toNat (ct 1) → Fok ct' → dfr ct ct' → AW (mq Q) md_X7_days d kc ks 55 [some (vR 0), some (vI w), some (vI w)] [] (gM ct')) : ∀ (r i : Nat) (ct1 : Int → Int → Int), (i : Int) + r = w → ct1 1 = paD i (ct 1) → Fok ct1 → dfr ct ct1 →
    AW (mq Q) md_X7_days d kc ks 40 [some (vR 0), some (vI w), some (vI i)] [] (gM ct1) := by
  have h3 := hP.2.1
  intro r
  induction r with
  | zero =>
    intro i ct1 g1 g2 hF hs
    have ei : (i : Int) = w := by omega
    refine aw_iload_n dX7_days_40 rfl ?_
    refine aw_iload_n dX7_days_41 rfl ?_
    refine aw_icmpge (tgt := 55) dX7_days_42 (by decide) (fun h42 => ?_) (fun h42 => ?_)
    · rw [ei]
      exact K ct1 (by rw [g2, show w.toNat = i by omega]) hF hs
    · exfalso; omega
  | succ r ih =>
    intro i ct1 g1 g2 hF hs
    have hp := (hP.paD (d := i) (by omega)).pd
    have e3 : ct1 1 3 = ct 1 3 + i := by rw [g2, paD_3]
    refine aw_iload_n dX7_days_40 rfl ?_
    refine aw_iload_n dX7_days_41 rfl ?_
    refine aw_icmpge (tgt := 55) dX7_days_42 (by decide) (fun h42 => ?_) (fun h42 => ?_)
    · exfalso; omega
    · refine aw_aload_n dX7_days_45 rfl ?_
      refine c_X7_312 rfl dX7_days_46 m_ob (Nat.le_of_ble_eq_true rfl) (by omega) (C_m_passes hF (by rw [g2]; exact hp) (by omega) (fun ct2 hF2 e2 f2 => ?_))
      refine aK_v ?_
      refine aw_iinc2r dX7_days_49 (by decide) (by decide) rfl (by omega) ?_
      refine aw_goto (tgt := 40) dX7_days_52 (by decide) ?_
      refine ih (i + 1) ct2 (by omega) ?_ hF2 ⟨fun b b0 b1 b9 => by rw [f2.1 b b0 b1 b9]; exact hs.1 b b0 b1 b9, fun j j1 j2 j3 j4 => by rw [f2.2 j j1 j2 j3 j4]; exact hs.2 j j1 j2 j3 j4⟩
      rw [e2, g2]
      rfl
theorem OP_days {sz : Int} {im : Int → aIm} {ct cm : Int → Int → Int} (h : XR (sz, im, ct) cm) {a : Int} (r0 : -2147483648 ≤ a ∧ a < 2147483648)  : AMet md_X0_days 7 0 0 [vR 0, vI a] (sz, im, ct) (XQ md_X7_days 6 [vR 0, vI a] cm) := by
  obtain ⟨own, N, hR, HY, HL, HN, HS, HP, HF, HX, hv2, hv3, hv4⟩ := id h
  dsimp only at hR HY HL HS HX hv2 hv3 hv4
  have hp0 := HP.1
  have hp3 := HP.2.1
  have hpq := HP.2.2.2.1.1
  have hps := HP.2.2.2.2.2
  refine AMet.go (L := [some (vR 0), some (vI a)]) mok_X0_days (Nat.le_of_ble_eq_true rfl) rfl ?_
  refine aw_aload_n dX0_days_0 rfl ?_
  refine aw_iload_n dX0_days_1 rfl ?_
  refine aw_i2l dX0_days_2 ?_
  refine aw_lconst1 dX0_days_3 ?_
  refine aw_ldc2 (x := 60) dX0_days_4 q1075 (by decide) ?_
  refine c_X0_164 rfl dX0_days_7  (Nat.le_of_ble_eq_true rfl) (by omega) (C_x_isIn (fun hi => ?_) (fun hi => ?_))
  · refine aK_i ?_
    refine aw_ifne (tgt := 17) dX0_days_10 (by decide) (fun _ => ?_) (fun h => absurd h (by decide))
    refine aw_aload_n dX0_days_17 rfl ?_
    refine c_X0_158 rfl dX0_days_18 hR.o0 (Nat.le_of_ble_eq_true rfl) (by omega) (C_x_yard2 hR ?_)
    refine aK_i ?_
    refine aw_iload_n dX0_days_21 rfl ?_
    refine c_X0_322 rfl dX0_days_22 HY.1 (Nat.le_of_ble_eq_true rfl) (by omega) (C_x_canPass HY (by omega) (by omega) (fun hcp => ?_) (fun hcp => ?_))
    · refine aK_i ?_
      refine aw_ifeq (tgt := 32) dX0_days_25 (by decide) (fun h => absurd h (by decide)) (fun _ => ?_)
      refine aw_iconst dX0_days_28 (by decide) ?_
      refine aw_goto (tgt := 33) dX0_days_29 (by decide) ?_
      refine p_X0_73_0 rfl dX0_days_33 hR.o0 ?_
      refine aw_aload_n dX0_days_36 rfl ?_
      refine g_X0_73_0 rfl dX0_days_37 hR.o0 ?_
      repeat (first | rw [aup_s] | rw [aup_n (by omega)])
      refine aw_ifle (tgt := 45) dX0_days_40 (by decide) (fun _ => ?_) (fun h => absurd h (by decide))
      refine aw_aload_n dX0_days_45 rfl ?_
      refine c_X0_158 rfl dX0_days_46 hR.o0 (Nat.le_of_ble_eq_true rfl) (by omega) (C_x_yard2 hR ?_)
      refine aK_i ?_
      refine aw_iload_n dX0_days_49 rfl ?_
      refine c_X0_325 rfl dX0_days_50 HY.1 (Nat.le_of_ble_eq_true rfl) (by omega) (C_x_passes (HY.up0 (j := 7) (v := 0) hR.1.2 (by decide)) (HL.up0 (j := 7) (v := 0) hR.1.2) (aup_n (by omega)) (by decide) (by omega) (by omega) (fun j hj => (HP.paD (d := j) (by omega)).pd) (fun ct2 HY2 HL2 hl2 hf2 => ?_))
      have o0 := hR.1.2
      refine aK_v ?_
      refine aw_aload_n dX0_days_53 rfl ?_
      refine c_X0_158 rfl dX0_days_54 hR.o0 (Nat.le_of_ble_eq_true rfl) (by omega) (C_x_yard2 hR ?_)
      refine aK_i ?_
      refine g_X0_241_5 rfl dX0_days_57 HY.1 ?_
      rw [HY2.2.2.2.2.2.1.2.1]
      refine aw_ireturn dX0_days_60 rfl ?_
      refine ⟨_, rfl, ?_⟩
      refine AMet.go (L := [some (vR 0), some (vI a), none]) mok_X7_days (Nat.le_of_ble_eq_true rfl) rfl ?_
      refine aw_iload_n dX7_days_0 rfl ?_
      refine aw_i2l dX7_days_1 ?_
      refine aw_lconst1 dX7_days_2 ?_
      refine aw_ldc2 (x := 60) dX7_days_3 q1822 (by decide) ?_
      refine c_X7_306 rfl dX7_days_6  (Nat.le_of_ble_eq_true rfl) (by omega) (C_m_isFrom (fun hfr => ?_) (fun hfr => ?_))
      · first
          | (exfalso; omega)
          | skip
            refine aK_i ?_
            refine aw_ifne (tgt := 18) dX7_days_9 (by decide) (fun _ => ?_) (fun h => absurd h (by decide))
            refine gm_7 rfl dX7_days_18 dX7_days_19 rfl ?_
            refine aw_iconst dX7_days_22 (by decide) ?_
            refine aw_iaload dX7_days_23 m_a1 (by omega) (by omega) ?_
            refine aw_iload_n dX7_days_24 rfl ?_
            refine aw_iaddr dX7_days_25 (by omega) ?_
            refine aw_sipush dX7_days_26 (by decide) ?_
            refine aw_icmple (tgt := 38) dX7_days_29 (by decide) (fun h29 => ?_) (fun h29 => ?_)
            · first
                | (exfalso; omega)
                | skip
                  refine aw_iconst dX7_days_38 (by decide) ?_
                  refine aw_istore2 dX7_days_39 (by decide) rfl ?_
                  refine L_m_days (ct := cm) (by omega) HP (by omega) (fun cm2 e2 hF2 f2 => ?_) a.toNat 0 cm (by omega) rfl HF dfr.rf
                  have e3 : cm2 1 3 = cm 1 3 + a := by rw [e2, paD_3]; omega
                  refine aw_aload_n dX7_days_55 rfl ?_
                  refine gm_7 rfl dX7_days_56 dX7_days_57 rfl ?_
                  refine aw_iconst dX7_days_60 (by decide) ?_
                  refine aw_iaload dX7_days_61 m_a1 (by omega) (by omega) ?_
                  rw [e3]
                  refine c_X7_76 rfl dX7_days_62 m_ob (Nat.le_of_ble_eq_true rfl) (by omega) (C_m_gives ?_)
                  refine aK_i ?_
                  refine aw_ireturn dX7_days_65 rfl ?_
                  refine ⟨vI_eq (by first | rfl | omega), _, rfl, XR.yd (paD a.toNat (cm 1)) hR HX HL HN HS HP ?_ ?_ ?_ ?_ ?_ ?_ ?_ ?_ ?_ ?_ ?_ ?_ ?_⟩
                  · rw [aup_rn (by decide)]; exact e2
                  · rw [paD_3, show cm 1 3 + (a.toNat : Int) = cm 1 3 + a by omega]; exact HY2
                  · intro i hi
                    rcases (by omega : i < 64 ∨ 860 ≤ i) with q | q
                    · exact paD_0 HP (by omega) i q (by omega) (by omega) (by omega) (by omega)
                    · exact (paD_hi HP (by omega)).1 i q
                  · intro k k0 k1
                    exact (paD_hi HP (by omega)).2 k k0 k1
                  · exact HP.paD (by omega)
                  · exact FC.up0 hF2 (by decide) |>.ok
                  · intro x j hx hz
                    rw [hf2 x j (by omega), aup_n (fun z => hz ⟨z.1, Or.inl z.2⟩)]
                  · rw [hl2]
                  · intro b b0 b1 b9
                    rw [aup_rn b0]; exact f2.1 b b0 b1 b9
                  · intro i hi
                    rw [aup_n (by omega)]; exact f2.2 i (by omega) (by omega) (by omega) (by omega)
                  · rw [hf2 0 7 (by omega), aup_s, aup_s]
                  · rw [hf2 0 8 (by omega), aup_n (by omega), aup_n (by omega), f2.2 3 (by decide) (by decide) (by decide) (by decide)]; exact hv3
                  · rw [hf2 0 9 (by omega), aup_n (by omega), aup_n (by omega), f2.2 4 (by decide) (by decide) (by decide) (by decide)]; exact hv4
            · first
                | (exfalso; omega)
                | skip
                  refine aw_aload_n dX7_days_32 rfl ?_
                  refine aw_iconst dX7_days_33 (by decide) ?_
                  refine c_X7_72 rfl dX7_days_34 m_ob (Nat.le_of_ble_eq_true rfl) (by omega) (C_m_refuse ?_)
                  refine aK_i ?_
                  refine aw_ireturn dX7_days_37 rfl ?_
                  first
                    | (exfalso; omega)
                    | (refine XR.sameE h ?_ ?_ ?_ ?_ ?_ ?_
                       · first
                           | rfl
                           | omega
                       · repeat (first | exact xs.rf | refine xs.up ?_ (by decide))
                       · repeat (first | exact mss.rf | refine mss.up0 ?_ (by decide))
                       · first
                           | (simp [aup, hv2, hv3, hv4]; done)
                           | (simp [aup, hv2, hv3, hv4]; omega)
                       · simp [aup, hv2, hv3, hv4]
                       · simp [aup, hv2, hv3, hv4])
      · first
          | (exfalso; omega)
          | skip
            refine aK_i ?_
            refine aw_ifne (tgt := 18) dX7_days_9 (by decide) (fun h => absurd h (by decide)) (fun _ => ?_)
            refine aw_aload_n dX7_days_12 rfl ?_
            refine aw_iconst dX7_days_13 (by decide) ?_
            refine c_X7_72 rfl dX7_days_14 m_ob (Nat.le_of_ble_eq_true rfl) (by omega) (C_m_refuse ?_)
            refine aK_i ?_
            refine aw_ireturn dX7_days_17 rfl ?_
            first
              | (exfalso; omega)
              | (refine XR.sameE h ?_ ?_ ?_ ?_ ?_ ?_
                 · first
                     | rfl
                     | omega
                 · repeat (first | exact xs.rf | refine xs.up ?_ (by decide))
                 · repeat (first | exact mss.rf | refine mss.up0 ?_ (by decide))
                 · first
                     | (simp [aup, hv2, hv3, hv4]; done)
                     | (simp [aup, hv2, hv3, hv4]; omega)
                 · simp [aup, hv2, hv3, hv4]
                 · simp [aup, hv2, hv3, hv4])
    · refine aK_i ?_
      refine aw_ifeq (tgt := 32) dX0_days_25 (by decide) (fun _ => ?_) (fun h => absurd h (by decide))
      refine aw_iconst dX0_days_32 (by decide) ?_
      refine p_X0_73_0 rfl dX0_days_33 hR.o0 ?_
      refine aw_aload_n dX0_days_36 rfl ?_
      refine g_X0_73_0 rfl dX0_days_37 hR.o0 ?_
      repeat (first | rw [aup_s] | rw [aup_n (by omega)])
      refine aw_ifle (tgt := 45) dX0_days_40 (by decide) (fun h => absurd h (by decide)) (fun _ => ?_)
      refine aw_iconst dX0_days_43 (by decide) ?_
      refine aw_ireturn dX0_days_44 rfl ?_
      refine ⟨_, rfl, ?_⟩
      refine AMet.go (L := [some (vR 0), some (vI a), none]) mok_X7_days (Nat.le_of_ble_eq_true rfl) rfl ?_
      refine aw_iload_n dX7_days_0 rfl ?_
      refine aw_i2l dX7_days_1 ?_
      refine aw_lconst1 dX7_days_2 ?_
      refine aw_ldc2 (x := 60) dX7_days_3 q1822 (by decide) ?_
      refine c_X7_306 rfl dX7_days_6  (Nat.le_of_ble_eq_true rfl) (by omega) (C_m_isFrom (fun hfr => ?_) (fun hfr => ?_))
      · first
          | (exfalso; omega)
          | skip
            refine aK_i ?_
            refine aw_ifne (tgt := 18) dX7_days_9 (by decide) (fun _ => ?_) (fun h => absurd h (by decide))
            refine gm_7 rfl dX7_days_18 dX7_days_19 rfl ?_
            refine aw_iconst dX7_days_22 (by decide) ?_
            refine aw_iaload dX7_days_23 m_a1 (by omega) (by omega) ?_
            refine aw_iload_n dX7_days_24 rfl ?_
            refine aw_iaddr dX7_days_25 (by omega) ?_
            refine aw_sipush dX7_days_26 (by decide) ?_
            refine aw_icmple (tgt := 38) dX7_days_29 (by decide) (fun h29 => ?_) (fun h29 => ?_)
            · first
                | (exfalso; omega)
                | skip
                  refine aw_iconst dX7_days_38 (by decide) ?_
                  refine aw_istore2 dX7_days_39 (by decide) rfl ?_
                  refine L_m_days (ct := cm) (by omega) HP (by omega) (fun cm2 e2 hF2 f2 => ?_) a.toNat 0 cm (by omega) rfl HF dfr.rf
                  have e3 : cm2 1 3 = cm 1 3 + a := by rw [e2, paD_3]; omega
                  refine aw_aload_n dX7_days_55 rfl ?_
                  refine gm_7 rfl dX7_days_56 dX7_days_57 rfl ?_
                  refine aw_iconst dX7_days_60 (by decide) ?_
                  refine aw_iaload dX7_days_61 m_a1 (by omega) (by omega) ?_
                  rw [e3]
                  refine c_X7_76 rfl dX7_days_62 m_ob (Nat.le_of_ble_eq_true rfl) (by omega) (C_m_gives ?_)
                  refine aK_i ?_
                  refine aw_ireturn dX7_days_65 rfl ?_
                  refine ⟨vI_eq (by first | rfl | omega), _, rfl, XR.yd (paD a.toNat (cm 1)) hR HX HL HN HS HP ?_ ?_ ?_ ?_ ?_ ?_ ?_ ?_ ?_ ?_ ?_ ?_ ?_⟩
                  · rw [aup_rn (by decide)]; exact e2
                  · rw [paD_3, show cm 1 3 + (a.toNat : Int) = cm 1 3 + a by omega]; exact HY2
                  · intro i hi
                    rcases (by omega : i < 64 ∨ 860 ≤ i) with q | q
                    · exact paD_0 HP (by omega) i q (by omega) (by omega) (by omega) (by omega)
                    · exact (paD_hi HP (by omega)).1 i q
                  · intro k k0 k1
                    exact (paD_hi HP (by omega)).2 k k0 k1
                  · exact HP.paD (by omega)
                  · exact FC.up0 hF2 (by decide) |>.ok
                  · intro x j hx hz
                    rw [hf2 x j (by omega), aup_n (fun z => hz ⟨z.1, Or.inl z.2⟩)]
                  · rw [hl2]
                  · intro b b0 b1 b9
                    rw [aup_rn b0]; exact f2.1 b b0 b1 b9
                  · intro i hi
                    rw [aup_n (by omega)]; exact f2.2 i (by omega) (by omega) (by omega) (by omega)
                  · rw [hf2 0 7 (by omega), aup_s, aup_s]
                  · rw [hf2 0 8 (by omega), aup_n (by omega), aup_n (by omega), f2.2 3 (by decide) (by decide) (by decide) (by decide)]; exact hv3
                  · rw [hf2 0 9 (by omega), aup_n (by omega), aup_n (by omega), f2.2 4 (by decide) (by decide) (by decide) (by decide)]; exact hv4
            · first
                | (exfalso; omega)
                | skip
                  refine aw_aload_n dX7_days_32 rfl ?_
                  refine aw_iconst dX7_days_33 (by decide) ?_
                  refine c_X7_72 rfl dX7_days_34 m_ob (Nat.le_of_ble_eq_true rfl) (by omega) (C_m_refuse ?_)
                  refine aK_i ?_
                  refine aw_ireturn dX7_days_37 rfl ?_
                  first
                    | (exfalso; omega)
                    | (refine XR.sameE h ?_ ?_ ?_ ?_ ?_ ?_
                       · first
                           | rfl
                           | omega
                       · repeat (first | exact xs.rf | refine xs.up ?_ (by decide))
                       · repeat (first | exact mss.rf | refine mss.up0 ?_ (by decide))
                       · first
                           | (simp [aup, hv2, hv3, hv4]; done)
                           | (simp [aup, hv2, hv3, hv4]; omega)
                       · simp [aup, hv2, hv3, hv4]
                       · simp [aup, hv2, hv3, hv4])
      · first
          | (exfalso; omega)
          | skip
            refine aK_i ?_
            refine aw_ifne (tgt := 18) dX7_days_9 (by decide) (fun h => absurd h (by decide)) (fun _ => ?_)
            refine aw_aload_n dX7_days_12 rfl ?_
            refine aw_iconst dX7_days_13 (by decide) ?_
            refine c_X7_72 rfl dX7_days_14 m_ob (Nat.le_of_ble_eq_true rfl) (by omega) (C_m_refuse ?_)
            refine aK_i ?_
            refine aw_ireturn dX7_days_17 rfl ?_
            first
              | (exfalso; omega)
              | (refine XR.sameE h ?_ ?_ ?_ ?_ ?_ ?_
                 · first
                     | rfl
                     | omega
                 · repeat (first | exact xs.rf | refine xs.up ?_ (by decide))
                 · repeat (first | exact mss.rf | refine mss.up0 ?_ (by decide))
                 · first
                     | (simp [aup, hv2, hv3, hv4]; done)
                     | (simp [aup, hv2, hv3, hv4]; omega)
                 · simp [aup, hv2, hv3, hv4]
                 · simp [aup, hv2, hv3, hv4])
  · refine aK_i ?_
    refine aw_ifne (tgt := 17) dX0_days_10 (by decide) (fun h => absurd h (by decide)) (fun _ => ?_)
    refine aw_iconst dX0_days_13 (by decide) ?_
    refine aw_goto (tgt := 33) dX0_days_14 (by decide) ?_
    refine p_X0_73_0 rfl dX0_days_33 hR.o0 ?_
    refine aw_aload_n dX0_days_36 rfl ?_
    refine g_X0_73_0 rfl dX0_days_37 hR.o0 ?_
    repeat (first | rw [aup_s] | rw [aup_n (by omega)])
    refine aw_ifle (tgt := 45) dX0_days_40 (by decide) (fun h => absurd h (by decide)) (fun _ => ?_)
    refine aw_iconst dX0_days_43 (by decide) ?_
    refine aw_ireturn dX0_days_44 rfl ?_
    refine ⟨_, rfl, ?_⟩
    refine AMet.go (L := [some (vR 0), some (vI a), none]) mok_X7_days (Nat.le_of_ble_eq_true rfl) rfl ?_
    refine aw_iload_n dX7_days_0 rfl ?_
    refine aw_i2l dX7_days_1 ?_
    refine aw_lconst1 dX7_days_2 ?_
    refine aw_ldc2 (x := 60) dX7_days_3 q1822 (by decide) ?_
    refine c_X7_306 rfl dX7_days_6  (Nat.le_of_ble_eq_true rfl) (by omega) (C_m_isFrom (fun hfr => ?_) (fun hfr => ?_))
    · first
        | (exfalso; omega)
        | skip
          refine aK_i ?_
          refine aw_ifne (tgt := 18) dX7_days_9 (by decide) (fun _ => ?_) (fun h => absurd h (by decide))
          refine gm_7 rfl dX7_days_18 dX7_days_19 rfl ?_
          refine aw_iconst dX7_days_22 (by decide) ?_
          refine aw_iaload dX7_days_23 m_a1 (by omega) (by omega) ?_
          refine aw_iload_n dX7_days_24 rfl ?_
          refine aw_iaddr dX7_days_25 (by omega) ?_
          refine aw_sipush dX7_days_26 (by decide) ?_
          refine aw_icmple (tgt := 38) dX7_days_29 (by decide) (fun h29 => ?_) (fun h29 => ?_)
          · first
              | (exfalso; omega)
              | skip
                refine aw_iconst dX7_days_38 (by decide) ?_
                refine aw_istore2 dX7_days_39 (by decide) rfl ?_
                refine L_m_days (ct := cm) (by omega) HP (by omega) (fun cm2 e2 hF2 f2 => ?_) a.toNat 0 cm (by omega) rfl HF dfr.rf
                have e3 : cm2 1 3 = cm 1 3 + a := by rw [e2, paD_3]; omega
                refine aw_aload_n dX7_days_55 rfl ?_
                refine gm_7 rfl dX7_days_56 dX7_days_57 rfl ?_
                refine aw_iconst dX7_days_60 (by decide) ?_
                refine aw_iaload dX7_days_61 m_a1 (by omega) (by omega) ?_
                rw [e3]
                refine c_X7_76 rfl dX7_days_62 m_ob (Nat.le_of_ble_eq_true rfl) (by omega) (C_m_gives ?_)
                refine aK_i ?_
                refine aw_ireturn dX7_days_65 rfl ?_
                refine ⟨vI_eq (by first | rfl | omega), _, rfl, XR.yd (paD a.toNat (cm 1)) hR HX HL HN HS HP ?_ ?_ ?_ ?_ ?_ ?_ ?_ ?_ ?_ ?_ ?_ ?_ ?_⟩
                · rw [aup_rn (by decide)]; exact e2
                · rw [paD_3, show cm 1 3 + (a.toNat : Int) = cm 1 3 + a by omega]; exact HY2
                · intro i hi
                  rcases (by omega : i < 64 ∨ 860 ≤ i) with q | q
                  · exact paD_0 HP (by omega) i q (by omega) (by omega) (by omega) (by omega)
                  · exact (paD_hi HP (by omega)).1 i q
                · intro k k0 k1
                  exact (paD_hi HP (by omega)).2 k k0 k1
                · exact HP.paD (by omega)
                · exact FC.up0 hF2 (by decide) |>.ok
                · intro x j hx hz
                  rw [hf2 x j (by omega), aup_n (fun z => hz ⟨z.1, Or.inl z.2⟩)]
                · rw [hl2]
                · intro b b0 b1 b9
                  rw [aup_rn b0]; exact f2.1 b b0 b1 b9
                · intro i hi
                  rw [aup_n (by omega)]; exact f2.2 i (by omega) (by omega) (by omega) (by omega)
                · rw [hf2 0 7 (by omega), aup_s, aup_s]
                · rw [hf2 0 8 (by omega), aup_n (by omega), aup_n (by omega), f2.2 3 (by decide) (by decide) (by decide) (by decide)]; exact hv3
                · rw [hf2 0 9 (by omega), aup_n (by omega), aup_n (by omega), f2.2 4 (by decide) (by decide) (by decide) (by decide)]; exact hv4
          · first
              | (exfalso; omega)
              | skip
                refine aw_aload_n dX7_days_32 rfl ?_
                refine aw_iconst dX7_days_33 (by decide) ?_
                refine c_X7_72 rfl dX7_days_34 m_ob (Nat.le_of_ble_eq_true rfl) (by omega) (C_m_refuse ?_)
                refine aK_i ?_
                refine aw_ireturn dX7_days_37 rfl ?_
                first
                  | (exfalso; omega)
                  | (refine XR.sameE h ?_ ?_ ?_ ?_ ?_ ?_
                     · first
                         | rfl
                         | omega
                     · repeat (first | exact xs.rf | refine xs.up ?_ (by decide))
                     · repeat (first | exact mss.rf | refine mss.up0 ?_ (by decide))
                     · first
                         | (simp [aup, hv2, hv3, hv4]; done)
                         | (simp [aup, hv2, hv3, hv4]; omega)
                     · simp [aup, hv2, hv3, hv4]
                     · simp [aup, hv2, hv3, hv4])
    · first
        | (exfalso; omega)
        | skip
          refine aK_i ?_
          refine aw_ifne (tgt := 18) dX7_days_9 (by decide) (fun h => absurd h (by decide)) (fun _ => ?_)
          refine aw_aload_n dX7_days_12 rfl ?_
          refine aw_iconst dX7_days_13 (by decide) ?_
          refine c_X7_72 rfl dX7_days_14 m_ob (Nat.le_of_ble_eq_true rfl) (by omega) (C_m_refuse ?_)
          refine aK_i ?_
          refine aw_ireturn dX7_days_17 rfl ?_
          first
            | (exfalso; omega)
            | (refine XR.sameE h ?_ ?_ ?_ ?_ ?_ ?_
               · first
                   | rfl
                   | omega
               · repeat (first | exact xs.rf | refine xs.up ?_ (by decide))
               · repeat (first | exact mss.rf | refine mss.up0 ?_ (by decide))
               · first
                   | (simp [aup, hv2, hv3, hv4]; done)
                   | (simp [aup, hv2, hv3, hv4]; omega)
               · simp [aup, hv2, hv3, hv4]
               · simp [aup, hv2, hv3, hv4])
