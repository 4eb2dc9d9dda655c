set_option maxRecDepth 100000
/-! operations, 5: a hive's numbers -/
theorem OP_treat {sz : Int} {im : Int → aIm} {ct cm : Int → Int → Int} (h : XR (sz, im, ct) cm) {a : Int} (r0 : -2147483648 ≤ a ∧ a < 2147483648)  : AMet md_X0_treat 3 0 0 [vR 0, vI a] (sz, im, ct) (XQ md_X7_treat 2 [vR 0, vI a] cm) := by
  obtain ⟨own, N, hR, HY, HL, HN, HS, HP, HF, HX, hv2, hv3, hv4⟩ := id h
  dsimp only at hR HY HL HS HX hv2 hv3 hv4
  have hp0 := HP.1
  have hp3 := HP.2.1
  have hpq := HP.2.2.2.1.1
  have hps := HP.2.2.2.2.2
  refine AMet.go (L := [some (vR 0), some (vI a)]) mok_X0_treat (Nat.le_of_ble_eq_true rfl) rfl ?_
  refine aw_aload_n dX0_treat_0 rfl ?_
  refine aw_aload_n dX0_treat_1 rfl ?_
  refine aw_iload_n dX0_treat_2 rfl ?_
  refine c_X0_168 rfl dX0_treat_3 hR.o0 (Nat.le_of_ble_eq_true rfl) (by omega) (C_x_isHive hR HY (fun xh => ?_) (fun xh => ?_))
  · refine aK_i ?_
    refine aw_ifeq (tgt := 13) dX0_treat_6 (by decide) (fun h => absurd h (by decide)) (fun _ => ?_)
    refine aw_iconst dX0_treat_9 (by decide) ?_
    refine aw_goto (tgt := 14) dX0_treat_10 (by decide) ?_
    refine p_X0_73_0 rfl dX0_treat_14 hR.o0 ?_
    refine aw_aload_n dX0_treat_17 rfl ?_
    refine g_X0_73_0 rfl dX0_treat_18 hR.o0 ?_
    repeat (first | rw [aup_s] | rw [aup_n (by omega)])
    refine aw_ifne (tgt := 42) dX0_treat_21 (by decide) (fun h => absurd h (by decide)) (fun _ => ?_)
    obtain ⟨hv, ehv, ⟨g1, g2, ⟨g3, g4, g5, g6, g7⟩, g8, g9, -⟩, nhv0, nhv10, nhv9, nv0, nvhv, nv10, ohv⟩ := (HY.up0 (j := 7) (v := 0) hR.1.2 (by decide)).hv (hR.up0 (j := 7) (v := 0)) (k := a) (by omega) (by omega)
    have gn := g1.2.2.2
    have gh := HP.2.2.1 a (by omega) (by omega)
    have gq := gh.2.2.2.2.1
    have gp := HP.pd.2.1 a (by omega) (by omega)
    refine aw_aload_n dX0_treat_24 rfl ?_
    refine aw_iload_n dX0_treat_25 rfl ?_
    refine c_X0_172 rfl dX0_treat_26 hR.o0 (Nat.le_of_ble_eq_true rfl) (by omega) (C_x_xat2 (a := hv) hR HY (by omega) (by repeat (first | exact ehv | rw [aup_rn nvhv] | rw [aup_rn nv10] | rw [aup_rn nv0])) ?_)
    refine aK_i ?_
    refine aw_iconst dX0_treat_29 (by decide) ?_
    refine p_X0_408_9 rfl dX0_treat_30 g1.1 ?_
    refine aw_aload_n dX0_treat_33 rfl ?_
    refine aw_iload_n dX0_treat_34 rfl ?_
    refine c_X0_172 rfl dX0_treat_35 hR.o0 (Nat.le_of_ble_eq_true rfl) (by omega) (C_x_xat2 (a := hv) hR HY (by omega) (by repeat (first | exact ehv | rw [aup_rn nvhv] | rw [aup_rn nv10] | rw [aup_rn nv0])) ?_)
    refine aK_i ?_
    refine aw_iconst dX0_treat_38 (by decide) ?_
    refine p_X0_411_9 rfl dX0_treat_39 g1.1 ?_
    refine aw_aload_n dX0_treat_42 rfl ?_
    refine g_X0_73_0 rfl dX0_treat_43 hR.o0 ?_
    repeat (first | rw [aup_s] | rw [aup_n (by omega)])
    refine aw_ifne (tgt := 53) dX0_treat_46 (by decide) (fun h => absurd h (by decide)) (fun _ => ?_)
    refine aw_iconst dX0_treat_49 (by decide) ?_
    refine aw_goto (tgt := 54) dX0_treat_50 (by decide) ?_
    refine aw_zreturn dX0_treat_54 rfl (Or.inr rfl) ?_
    refine ⟨_, rfl, ?_⟩
    refine AMet.go (L := [some (vR 0), some (vI a)]) mok_X7_treat (Nat.le_of_ble_eq_true rfl) rfl ?_
    refine aw_aload_n dX7_treat_0 rfl ?_
    refine aw_iload_n dX7_treat_1 rfl ?_
    refine c_X7_274 rfl dX7_treat_2 m_ob (Nat.le_of_ble_eq_true rfl) (by omega) (C_m_isHive (fun hh => ?_) (fun hh => ?_))
    · first
        | (exfalso; omega)
        | skip
          refine aK_i ?_
          refine aw_ifne (tgt := 14) dX7_treat_5 (by decide) (fun _ => ?_) (fun h => absurd h (by decide))
          refine gm_7 rfl dX7_treat_14 dX7_treat_15 rfl ?_
          refine aw_iload_n dX7_treat_18 rfl ?_
          refine c_X7_217 rfl dX7_treat_19  (Nat.le_of_ble_eq_true rfl) (by omega) (C_m_hiveRow (by omega) ?_)
          refine aK_i ?_
          refine aw_iconst dX7_treat_22 (by decide) ?_
          refine aw_iaddr dX7_treat_23 (by omega) ?_
          refine aw_iconst dX7_treat_24 (by decide) ?_
          refine aw_iastore dX7_treat_25 m_a1 (by omega) (by omega) ?_
          refine gm_7 rfl dX7_treat_26 dX7_treat_27 rfl ?_
          refine aw_iload_n dX7_treat_30 rfl ?_
          refine c_X7_217 rfl dX7_treat_31  (Nat.le_of_ble_eq_true rfl) (by omega) (C_m_hiveRow (by omega) ?_)
          refine aK_i ?_
          refine aw_iconst dX7_treat_34 (by decide) ?_
          refine aw_iaddr dX7_treat_35 (by omega) ?_
          refine aw_iconst dX7_treat_36 (by decide) ?_
          refine aw_iastore dX7_treat_37 m_a1 (by omega) (by omega) ?_
          refine aw_aload_n dX7_treat_38 rfl ?_
          refine aw_iconst dX7_treat_39 (by decide) ?_
          refine c_X7_79 rfl dX7_treat_40 m_ob (Nat.le_of_ble_eq_true rfl) (by omega) (C_m_is (fun hz => ?_) (fun hz => ?_))
          · first
              | (exfalso; omega)
              | skip
                refine aK_i ?_
                refine aw_zreturn dX7_treat_43 rfl (by omega) ?_
                first
                  | (exfalso; omega)
                  | (refine XR.sameE h ?_ ?_ ?_ ?_ ?_ ?_
                     · first
                         | rfl
                         | omega
                     · repeat (first | exact xs.rf | refine xs.up ?_ (by decide))
                     · repeat (first | exact mss.rf | refine mss.up0 ?_ (by decide))
                     · first
                         | (simp [aup, hv2, hv3, hv4]; done)
                         | (simp [aup, hv2, hv3, hv4]; omega)
                     · simp [aup, hv2, hv3, hv4]
                     · simp [aup, hv2, hv3, hv4])
                  | (refine ⟨vI_eq (by first | rfl | omega), _, rfl, XR.yd (upA (upA (cm 1) (64 + 198 * a + 4) 0) (64 + 198 * a + 5) 0) hR HX HL HN HS HP ?_ ?_ ?_ ?_ ?_ ?_ ?_ ?_ ?_ ?_ ?_ ?_ ?_⟩
                     · rw [aup_rn (by decide), aup_r, aup_r]
                     · rw [upA_n (by omega), upA_n (by omega)]
                       exact ((HY.up0 (j := 7) (v := 0) hR.1.2 (by decide)).hfld (k := a) (j := 6) (v := 0) (by omega) (by omega) ehv (by omega)).hfld (k := a) (j := 7) (v := 0) (by omega) (by rw [upA_n (by omega)]; omega) (by rw [aup_rn nvhv]; exact ehv) (by omega)
                     · intro i hi
                       repeat rw [upA_n (by omega)]
                     · intro k k0 k1
                       repeat rw [upA_n (by omega)]
                     · obtain ⟨q1, q2, q3, q4, q5, q6, q7⟩ := gh
                       refine PI.one HP (k := a) (by omega) (by omega) (fun i hi i1 i2 => ?_) ?_ ?_ ?_ ?_ ?_ ?_ ?_ ?_
                       · repeat rw [upA_n (by omega)]
                       all_goals (repeat (first | rw [upA_s] | rw [upA_n (by omega)]))
                       all_goals omega
                     · repeat (first | exact HF | refine FC.ok (FC.up0 ?_ (by decide)) | refine FC.ok (FC.up1 ?_))
                     · intro x j hx hz
                       have hx1 : x ≠ hv := fun e => hx (by rw [e]; exact ohv)
                       have hx2 : x ≠ 10 := fun e => hx (by rw [e, HY.2.1]; decide)
                       repeat (first | rw [aup_rn hx1] | rw [aup_rn hx2] | rw [aup_n (fun z => hz ⟨z.1, Or.inl z.2⟩)])
                     · repeat rw [aup_n (by omega)]
                     · intro b b0 b1 b9
                       rw [aup_rn b0]
                       repeat rw [aup_rn b1]
                     · intro i hi
                       rw [aup_n (by omega)]
                       repeat rw [aup_rn (by decide)]
                     · repeat rw [aup_n (by omega)]
                       rw [aup_s, aup_s]
                     · repeat rw [aup_n (by omega)]
                       repeat rw [aup_rn (by decide)]
                       exact hv3
                     · repeat rw [aup_n (by omega)]
                       repeat rw [aup_rn (by decide)]
                       exact hv4)
          · first
              | (exfalso; omega)
              | skip
                refine aK_i ?_
                refine aw_zreturn dX7_treat_43 rfl (by omega) ?_
                first
                  | (exfalso; omega)
                  | (refine XR.sameE h ?_ ?_ ?_ ?_ ?_ ?_
                     · first
                         | rfl
                         | omega
                     · repeat (first | exact xs.rf | refine xs.up ?_ (by decide))
                     · repeat (first | exact mss.rf | refine mss.up0 ?_ (by decide))
                     · first
                         | (simp [aup, hv2, hv3, hv4]; done)
                         | (simp [aup, hv2, hv3, hv4]; omega)
                     · simp [aup, hv2, hv3, hv4]
                     · simp [aup, hv2, hv3, hv4])
                  | (refine ⟨vI_eq (by first | rfl | omega), _, rfl, XR.yd (upA (upA (cm 1) (64 + 198 * a + 4) 0) (64 + 198 * a + 5) 0) hR HX HL HN HS HP ?_ ?_ ?_ ?_ ?_ ?_ ?_ ?_ ?_ ?_ ?_ ?_ ?_⟩
                     · rw [aup_rn (by decide), aup_r, aup_r]
                     · rw [upA_n (by omega), upA_n (by omega)]
                       exact ((HY.up0 (j := 7) (v := 0) hR.1.2 (by decide)).hfld (k := a) (j := 6) (v := 0) (by omega) (by omega) ehv (by omega)).hfld (k := a) (j := 7) (v := 0) (by omega) (by rw [upA_n (by omega)]; omega) (by rw [aup_rn nvhv]; exact ehv) (by omega)
                     · intro i hi
                       repeat rw [upA_n (by omega)]
                     · intro k k0 k1
                       repeat rw [upA_n (by omega)]
                     · obtain ⟨q1, q2, q3, q4, q5, q6, q7⟩ := gh
                       refine PI.one HP (k := a) (by omega) (by omega) (fun i hi i1 i2 => ?_) ?_ ?_ ?_ ?_ ?_ ?_ ?_ ?_
                       · repeat rw [upA_n (by omega)]
                       all_goals (repeat (first | rw [upA_s] | rw [upA_n (by omega)]))
                       all_goals omega
                     · repeat (first | exact HF | refine FC.ok (FC.up0 ?_ (by decide)) | refine FC.ok (FC.up1 ?_))
                     · intro x j hx hz
                       have hx1 : x ≠ hv := fun e => hx (by rw [e]; exact ohv)
                       have hx2 : x ≠ 10 := fun e => hx (by rw [e, HY.2.1]; decide)
                       repeat (first | rw [aup_rn hx1] | rw [aup_rn hx2] | rw [aup_n (fun z => hz ⟨z.1, Or.inl z.2⟩)])
                     · repeat rw [aup_n (by omega)]
                     · intro b b0 b1 b9
                       rw [aup_rn b0]
                       repeat rw [aup_rn b1]
                     · intro i hi
                       rw [aup_n (by omega)]
                       repeat rw [aup_rn (by decide)]
                     · repeat rw [aup_n (by omega)]
                       rw [aup_s, aup_s]
                     · repeat rw [aup_n (by omega)]
                       repeat rw [aup_rn (by decide)]
                       exact hv3
                     · repeat rw [aup_n (by omega)]
                       repeat rw [aup_rn (by decide)]
                       exact hv4)
    · first
        | (exfalso; omega)
        | skip
          refine aK_i ?_
          refine aw_ifne (tgt := 14) dX7_treat_5 (by decide) (fun h => absurd h (by decide)) (fun _ => ?_)
          refine aw_aload_n dX7_treat_8 rfl ?_
          refine aw_iconst dX7_treat_9 (by decide) ?_
          refine c_X7_79 rfl dX7_treat_10 m_ob (Nat.le_of_ble_eq_true rfl) (by omega) (C_m_is (fun hz => ?_) (fun hz => ?_))
          · first
              | (exfalso; omega)
              | skip
                refine aK_i ?_
                refine aw_zreturn dX7_treat_13 rfl (by omega) ?_
                first
                  | (exfalso; omega)
                  | (refine XR.sameE h ?_ ?_ ?_ ?_ ?_ ?_
                     · first
                         | rfl
                         | omega
                     · repeat (first | exact xs.rf | refine xs.up ?_ (by decide))
                     · repeat (first | exact mss.rf | refine mss.up0 ?_ (by decide))
                     · first
                         | (simp [aup, hv2, hv3, hv4]; done)
                         | (simp [aup, hv2, hv3, hv4]; omega)
                     · simp [aup, hv2, hv3, hv4]
                     · simp [aup, hv2, hv3, hv4])
                  | (refine ⟨vI_eq (by first | rfl | omega), _, rfl, XR.yd (upA (upA (cm 1) (64 + 198 * a + 4) 0) (64 + 198 * a + 5) 0) hR HX HL HN HS HP ?_ ?_ ?_ ?_ ?_ ?_ ?_ ?_ ?_ ?_ ?_ ?_ ?_⟩
                     · rw [aup_rn (by decide), aup_r, aup_r]
                     · rw [upA_n (by omega), upA_n (by omega)]
                       exact ((HY.up0 (j := 7) (v := 0) hR.1.2 (by decide)).hfld (k := a) (j := 6) (v := 0) (by omega) (by omega) ehv (by omega)).hfld (k := a) (j := 7) (v := 0) (by omega) (by rw [upA_n (by omega)]; omega) (by rw [aup_rn nvhv]; exact ehv) (by omega)
                     · intro i hi
                       repeat rw [upA_n (by omega)]
                     · intro k k0 k1
                       repeat rw [upA_n (by omega)]
                     · obtain ⟨q1, q2, q3, q4, q5, q6, q7⟩ := gh
                       refine PI.one HP (k := a) (by omega) (by omega) (fun i hi i1 i2 => ?_) ?_ ?_ ?_ ?_ ?_ ?_ ?_ ?_
                       · repeat rw [upA_n (by omega)]
                       all_goals (repeat (first | rw [upA_s] | rw [upA_n (by omega)]))
                       all_goals omega
                     · repeat (first | exact HF | refine FC.ok (FC.up0 ?_ (by decide)) | refine FC.ok (FC.up1 ?_))
                     · intro x j hx hz
                       have hx1 : x ≠ hv := fun e => hx (by rw [e]; exact ohv)
                       have hx2 : x ≠ 10 := fun e => hx (by rw [e, HY.2.1]; decide)
                       repeat (first | rw [aup_rn hx1] | rw [aup_rn hx2] | rw [aup_n (fun z => hz ⟨z.1, Or.inl z.2⟩)])
                     · repeat rw [aup_n (by omega)]
                     · intro b b0 b1 b9
                       rw [aup_rn b0]
                       repeat rw [aup_rn b1]
                     · intro i hi
                       rw [aup_n (by omega)]
                       repeat rw [aup_rn (by decide)]
                     · repeat rw [aup_n (by omega)]
                       rw [aup_s, aup_s]
                     · repeat rw [aup_n (by omega)]
                       repeat rw [aup_rn (by decide)]
                       exact hv3
                     · repeat rw [aup_n (by omega)]
                       repeat rw [aup_rn (by decide)]
                       exact hv4)
          · first
              | (exfalso; omega)
              | skip
                refine aK_i ?_
                refine aw_zreturn dX7_treat_13 rfl (by omega) ?_
                first
                  | (exfalso; omega)
                  | (refine XR.sameE h ?_ ?_ ?_ ?_ ?_ ?_
                     · first
                         | rfl
                         | omega
                     · repeat (first | exact xs.rf | refine xs.up ?_ (by decide))
                     · repeat (first | exact mss.rf | refine mss.up0 ?_ (by decide))
                     · first
                         | (simp [aup, hv2, hv3, hv4]; done)
                         | (simp [aup, hv2, hv3, hv4]; omega)
                     · simp [aup, hv2, hv3, hv4]
                     · simp [aup, hv2, hv3, hv4])
                  | (refine ⟨vI_eq (by first | rfl | omega), _, rfl, XR.yd (upA (upA (cm 1) (64 + 198 * a + 4) 0) (64 + 198 * a + 5) 0) hR HX HL HN HS HP ?_ ?_ ?_ ?_ ?_ ?_ ?_ ?_ ?_ ?_ ?_ ?_ ?_⟩
                     · rw [aup_rn (by decide), aup_r, aup_r]
                     · rw [upA_n (by omega), upA_n (by omega)]
                       exact ((HY.up0 (j := 7) (v := 0) hR.1.2 (by decide)).hfld (k := a) (j := 6) (v := 0) (by omega) (by omega) ehv (by omega)).hfld (k := a) (j := 7) (v := 0) (by omega) (by rw [upA_n (by omega)]; omega) (by rw [aup_rn nvhv]; exact ehv) (by omega)
                     · intro i hi
                       repeat rw [upA_n (by omega)]
                     · intro k k0 k1
                       repeat rw [upA_n (by omega)]
                     · obtain ⟨q1, q2, q3, q4, q5, q6, q7⟩ := gh
                       refine PI.one HP (k := a) (by omega) (by omega) (fun i hi i1 i2 => ?_) ?_ ?_ ?_ ?_ ?_ ?_ ?_ ?_
                       · repeat rw [upA_n (by omega)]
                       all_goals (repeat (first | rw [upA_s] | rw [upA_n (by omega)]))
                       all_goals omega
                     · repeat (first | exact HF | refine FC.ok (FC.up0 ?_ (by decide)) | refine FC.ok (FC.up1 ?_))
                     · intro x j hx hz
                       have hx1 : x ≠ hv := fun e => hx (by rw [e]; exact ohv)
                       have hx2 : x ≠ 10 := fun e => hx (by rw [e, HY.2.1]; decide)
                       repeat (first | rw [aup_rn hx1] | rw [aup_rn hx2] | rw [aup_n (fun z => hz ⟨z.1, Or.inl z.2⟩)])
                     · repeat rw [aup_n (by omega)]
                     · intro b b0 b1 b9
                       rw [aup_rn b0]
                       repeat rw [aup_rn b1]
                     · intro i hi
                       rw [aup_n (by omega)]
                       repeat rw [aup_rn (by decide)]
                     · repeat rw [aup_n (by omega)]
                       rw [aup_s, aup_s]
                     · repeat rw [aup_n (by omega)]
                       repeat rw [aup_rn (by decide)]
                       exact hv3
                     · repeat rw [aup_n (by omega)]
                       repeat rw [aup_rn (by decide)]
                       exact hv4)
  · refine aK_i ?_
    refine aw_ifeq (tgt := 13) dX0_treat_6 (by decide) (fun _ => ?_) (fun h => absurd h (by decide))
    refine aw_iconst dX0_treat_13 (by decide) ?_
    refine p_X0_73_0 rfl dX0_treat_14 hR.o0 ?_
    refine aw_aload_n dX0_treat_17 rfl ?_
    refine g_X0_73_0 rfl dX0_treat_18 hR.o0 ?_
    repeat (first | rw [aup_s] | rw [aup_n (by omega)])
    refine aw_ifne (tgt := 42) dX0_treat_21 (by decide) (fun _ => ?_) (fun h => absurd h (by decide))
    refine aw_aload_n dX0_treat_42 rfl ?_
    refine g_X0_73_0 rfl dX0_treat_43 hR.o0 ?_
    repeat (first | rw [aup_s] | rw [aup_n (by omega)])
    refine aw_ifne (tgt := 53) dX0_treat_46 (by decide) (fun _ => ?_) (fun h => absurd h (by decide))
    refine aw_iconst dX0_treat_53 (by decide) ?_
    refine aw_zreturn dX0_treat_54 rfl (Or.inl rfl) ?_
    refine ⟨_, rfl, ?_⟩
    refine AMet.go (L := [some (vR 0), some (vI a)]) mok_X7_treat (Nat.le_of_ble_eq_true rfl) rfl ?_
    refine aw_aload_n dX7_treat_0 rfl ?_
    refine aw_iload_n dX7_treat_1 rfl ?_
    refine c_X7_274 rfl dX7_treat_2 m_ob (Nat.le_of_ble_eq_true rfl) (by omega) (C_m_isHive (fun hh => ?_) (fun hh => ?_))
    · first
        | (exfalso; omega)
        | skip
          refine aK_i ?_
          refine aw_ifne (tgt := 14) dX7_treat_5 (by decide) (fun _ => ?_) (fun h => absurd h (by decide))
          refine gm_7 rfl dX7_treat_14 dX7_treat_15 rfl ?_
          refine aw_iload_n dX7_treat_18 rfl ?_
          refine c_X7_217 rfl dX7_treat_19  (Nat.le_of_ble_eq_true rfl) (by omega) (C_m_hiveRow (by omega) ?_)
          refine aK_i ?_
          refine aw_iconst dX7_treat_22 (by decide) ?_
          refine aw_iaddr dX7_treat_23 (by omega) ?_
          refine aw_iconst dX7_treat_24 (by decide) ?_
          refine aw_iastore dX7_treat_25 m_a1 (by omega) (by omega) ?_
          refine gm_7 rfl dX7_treat_26 dX7_treat_27 rfl ?_
          refine aw_iload_n dX7_treat_30 rfl ?_
          refine c_X7_217 rfl dX7_treat_31  (Nat.le_of_ble_eq_true rfl) (by omega) (C_m_hiveRow (by omega) ?_)
          refine aK_i ?_
          refine aw_iconst dX7_treat_34 (by decide) ?_
          refine aw_iaddr dX7_treat_35 (by omega) ?_
          refine aw_iconst dX7_treat_36 (by decide) ?_
          refine aw_iastore dX7_treat_37 m_a1 (by omega) (by omega) ?_
          refine aw_aload_n dX7_treat_38 rfl ?_
          refine aw_iconst dX7_treat_39 (by decide) ?_
          refine c_X7_79 rfl dX7_treat_40 m_ob (Nat.le_of_ble_eq_true rfl) (by omega) (C_m_is (fun hz => ?_) (fun hz => ?_))
          · first
              | (exfalso; omega)
              | skip
                refine aK_i ?_
                refine aw_zreturn dX7_treat_43 rfl (by omega) ?_
                first
                  | (exfalso; omega)
                  | (refine XR.sameE h ?_ ?_ ?_ ?_ ?_ ?_
                     · first
                         | rfl
                         | omega
                     · repeat (first | exact xs.rf | refine xs.up ?_ (by decide))
                     · repeat (first | exact mss.rf | refine mss.up0 ?_ (by decide))
                     · first
                         | (simp [aup, hv2, hv3, hv4]; done)
                         | (simp [aup, hv2, hv3, hv4]; omega)
                     · simp [aup, hv2, hv3, hv4]
                     · simp [aup, hv2, hv3, hv4])
                  | (refine ⟨vI_eq (by first | rfl | omega), _, rfl, XR.yd (upA (upA (cm 1) (64 + 198 * a + 4) 0) (64 + 198 * a + 5) 0) hR HX HL HN HS HP ?_ ?_ ?_ ?_ ?_ ?_ ?_ ?_ ?_ ?_ ?_ ?_ ?_⟩
                     · rw [aup_rn (by decide), aup_r, aup_r]
                     · rw [upA_n (by omega), upA_n (by omega)]
                       exact ((HY.up0 (j := 7) (v := 0) hR.1.2 (by decide)).hfld (k := a) (j := 6) (v := 0) (by omega) (by omega) ehv (by omega)).hfld (k := a) (j := 7) (v := 0) (by omega) (by rw [upA_n (by omega)]; omega) (by rw [aup_rn nvhv]; exact ehv) (by omega)
                     · intro i hi
                       repeat rw [upA_n (by omega)]
                     · intro k k0 k1
                       repeat rw [upA_n (by omega)]
                     · obtain ⟨q1, q2, q3, q4, q5, q6, q7⟩ := gh
                       refine PI.one HP (k := a) (by omega) (by omega) (fun i hi i1 i2 => ?_) ?_ ?_ ?_ ?_ ?_ ?_ ?_ ?_
                       · repeat rw [upA_n (by omega)]
                       all_goals (repeat (first | rw [upA_s] | rw [upA_n (by omega)]))
                       all_goals omega
                     · repeat (first | exact HF | refine FC.ok (FC.up0 ?_ (by decide)) | refine FC.ok (FC.up1 ?_))
                     · intro x j hx hz
                       have hx1 : x ≠ hv := fun e => hx (by rw [e]; exact ohv)
                       have hx2 : x ≠ 10 := fun e => hx (by rw [e, HY.2.1]; decide)
                       repeat (first | rw [aup_rn hx1] | rw [aup_rn hx2] | rw [aup_n (fun z => hz ⟨z.1, Or.inl z.2⟩)])
                     · repeat rw [aup_n (by omega)]
                     · intro b b0 b1 b9
                       rw [aup_rn b0]
                       repeat rw [aup_rn b1]
                     · intro i hi
                       rw [aup_n (by omega)]
                       repeat rw [aup_rn (by decide)]
                     · repeat rw [aup_n (by omega)]
                       rw [aup_s, aup_s]
                     · repeat rw [aup_n (by omega)]
                       repeat rw [aup_rn (by decide)]
                       exact hv3
                     · repeat rw [aup_n (by omega)]
                       repeat rw [aup_rn (by decide)]
                       exact hv4)
          · first
              | (exfalso; omega)
              | skip
                refine aK_i ?_
                refine aw_zreturn dX7_treat_43 rfl (by omega) ?_
                first
                  | (exfalso; omega)
                  | (refine XR.sameE h ?_ ?_ ?_ ?_ ?_ ?_
                     · first
                         | rfl
                         | omega
                     · repeat (first | exact xs.rf | refine xs.up ?_ (by decide))
                     · repeat (first | exact mss.rf | refine mss.up0 ?_ (by decide))
                     · first
                         | (simp [aup, hv2, hv3, hv4]; done)
                         | (simp [aup, hv2, hv3, hv4]; omega)
                     · simp [aup, hv2, hv3, hv4]
                     · simp [aup, hv2, hv3, hv4])
                  | (refine ⟨vI_eq (by first | rfl | omega), _, rfl, XR.yd (upA (upA (cm 1) (64 + 198 * a + 4) 0) (64 + 198 * a + 5) 0) hR HX HL HN HS HP ?_ ?_ ?_ ?_ ?_ ?_ ?_ ?_ ?_ ?_ ?_ ?_ ?_⟩
                     · rw [aup_rn (by decide), aup_r, aup_r]
                     · rw [upA_n (by omega), upA_n (by omega)]
                       exact ((HY.up0 (j := 7) (v := 0) hR.1.2 (by decide)).hfld (k := a) (j := 6) (v := 0) (by omega) (by omega) ehv (by omega)).hfld (k := a) (j := 7) (v := 0) (by omega) (by rw [upA_n (by omega)]; omega) (by rw [aup_rn nvhv]; exact ehv) (by omega)
                     · intro i hi
                       repeat rw [upA_n (by omega)]
                     · intro k k0 k1
                       repeat rw [upA_n (by omega)]
                     · obtain ⟨q1, q2, q3, q4, q5, q6, q7⟩ := gh
                       refine PI.one HP (k := a) (by omega) (by omega) (fun i hi i1 i2 => ?_) ?_ ?_ ?_ ?_ ?_ ?_ ?_ ?_
                       · repeat rw [upA_n (by omega)]
                       all_goals (repeat (first | rw [upA_s] | rw [upA_n (by omega)]))
                       all_goals omega
                     · repeat (first | exact HF | refine FC.ok (FC.up0 ?_ (by decide)) | refine FC.ok (FC.up1 ?_))
                     · intro x j hx hz
                       have hx1 : x ≠ hv := fun e => hx (by rw [e]; exact ohv)
                       have hx2 : x ≠ 10 := fun e => hx (by rw [e, HY.2.1]; decide)
                       repeat (first | rw [aup_rn hx1] | rw [aup_rn hx2] | rw [aup_n (fun z => hz ⟨z.1, Or.inl z.2⟩)])
                     · repeat rw [aup_n (by omega)]
                     · intro b b0 b1 b9
                       rw [aup_rn b0]
                       repeat rw [aup_rn b1]
                     · intro i hi
                       rw [aup_n (by omega)]
                       repeat rw [aup_rn (by decide)]
                     · repeat rw [aup_n (by omega)]
                       rw [aup_s, aup_s]
                     · repeat rw [aup_n (by omega)]
                       repeat rw [aup_rn (by decide)]
                       exact hv3
                     · repeat rw [aup_n (by omega)]
                       repeat rw [aup_rn (by decide)]
                       exact hv4)
    · first
        | (exfalso; omega)
        | skip
          refine aK_i ?_
          refine aw_ifne (tgt := 14) dX7_treat_5 (by decide) (fun h => absurd h (by decide)) (fun _ => ?_)
          refine aw_aload_n dX7_treat_8 rfl ?_
          refine aw_iconst dX7_treat_9 (by decide) ?_
          refine c_X7_79 rfl dX7_treat_10 m_ob (Nat.le_of_ble_eq_true rfl) (by omega) (C_m_is (fun hz => ?_) (fun hz => ?_))
          · first
              | (exfalso; omega)
              | skip
                refine aK_i ?_
                refine aw_zreturn dX7_treat_13 rfl (by omega) ?_
                first
                  | (exfalso; omega)
                  | (refine XR.sameE h ?_ ?_ ?_ ?_ ?_ ?_
                     · first
                         | rfl
                         | omega
                     · repeat (first | exact xs.rf | refine xs.up ?_ (by decide))
                     · repeat (first | exact mss.rf | refine mss.up0 ?_ (by decide))
                     · first
                         | (simp [aup, hv2, hv3, hv4]; done)
                         | (simp [aup, hv2, hv3, hv4]; omega)
                     · simp [aup, hv2, hv3, hv4]
                     · simp [aup, hv2, hv3, hv4])
                  | (refine ⟨vI_eq (by first | rfl | omega), _, rfl, XR.yd (upA (upA (cm 1) (64 + 198 * a + 4) 0) (64 + 198 * a + 5) 0) hR HX HL HN HS HP ?_ ?_ ?_ ?_ ?_ ?_ ?_ ?_ ?_ ?_ ?_ ?_ ?_⟩
                     · rw [aup_rn (by decide), aup_r, aup_r]
                     · rw [upA_n (by omega), upA_n (by omega)]
                       exact ((HY.up0 (j := 7) (v := 0) hR.1.2 (by decide)).hfld (k := a) (j := 6) (v := 0) (by omega) (by omega) ehv (by omega)).hfld (k := a) (j := 7) (v := 0) (by omega) (by rw [upA_n (by omega)]; omega) (by rw [aup_rn nvhv]; exact ehv) (by omega)
                     · intro i hi
                       repeat rw [upA_n (by omega)]
                     · intro k k0 k1
                       repeat rw [upA_n (by omega)]
                     · obtain ⟨q1, q2, q3, q4, q5, q6, q7⟩ := gh
                       refine PI.one HP (k := a) (by omega) (by omega) (fun i hi i1 i2 => ?_) ?_ ?_ ?_ ?_ ?_ ?_ ?_ ?_
                       · repeat rw [upA_n (by omega)]
                       all_goals (repeat (first | rw [upA_s] | rw [upA_n (by omega)]))
                       all_goals omega
                     · repeat (first | exact HF | refine FC.ok (FC.up0 ?_ (by decide)) | refine FC.ok (FC.up1 ?_))
                     · intro x j hx hz
                       have hx1 : x ≠ hv := fun e => hx (by rw [e]; exact ohv)
                       have hx2 : x ≠ 10 := fun e => hx (by rw [e, HY.2.1]; decide)
                       repeat (first | rw [aup_rn hx1] | rw [aup_rn hx2] | rw [aup_n (fun z => hz ⟨z.1, Or.inl z.2⟩)])
                     · repeat rw [aup_n (by omega)]
                     · intro b b0 b1 b9
                       rw [aup_rn b0]
                       repeat rw [aup_rn b1]
                     · intro i hi
                       rw [aup_n (by omega)]
                       repeat rw [aup_rn (by decide)]
                     · repeat rw [aup_n (by omega)]
                       rw [aup_s, aup_s]
                     · repeat rw [aup_n (by omega)]
                       repeat rw [aup_rn (by decide)]
                       exact hv3
                     · repeat rw [aup_n (by omega)]
                       repeat rw [aup_rn (by decide)]
                       exact hv4)
          · first
              | (exfalso; omega)
              | skip
                refine aK_i ?_
                refine aw_zreturn dX7_treat_13 rfl (by omega) ?_
                first
                  | (exfalso; omega)
                  | (refine XR.sameE h ?_ ?_ ?_ ?_ ?_ ?_
                     · first
                         | rfl
                         | omega
                     · repeat (first | exact xs.rf | refine xs.up ?_ (by decide))
                     · repeat (first | exact mss.rf | refine mss.up0 ?_ (by decide))
                     · first
                         | (simp [aup, hv2, hv3, hv4]; done)
                         | (simp [aup, hv2, hv3, hv4]; omega)
                     · simp [aup, hv2, hv3, hv4]
                     · simp [aup, hv2, hv3, hv4])
                  | (refine ⟨vI_eq (by first | rfl | omega), _, rfl, XR.yd (upA (upA (cm 1) (64 + 198 * a + 4) 0) (64 + 198 * a + 5) 0) hR HX HL HN HS HP ?_ ?_ ?_ ?_ ?_ ?_ ?_ ?_ ?_ ?_ ?_ ?_ ?_⟩
                     · rw [aup_rn (by decide), aup_r, aup_r]
                     · rw [upA_n (by omega), upA_n (by omega)]
                       exact ((HY.up0 (j := 7) (v := 0) hR.1.2 (by decide)).hfld (k := a) (j := 6) (v := 0) (by omega) (by omega) ehv (by omega)).hfld (k := a) (j := 7) (v := 0) (by omega) (by rw [upA_n (by omega)]; omega) (by rw [aup_rn nvhv]; exact ehv) (by omega)
                     · intro i hi
                       repeat rw [upA_n (by omega)]
                     · intro k k0 k1
                       repeat rw [upA_n (by omega)]
                     · obtain ⟨q1, q2, q3, q4, q5, q6, q7⟩ := gh
                       refine PI.one HP (k := a) (by omega) (by omega) (fun i hi i1 i2 => ?_) ?_ ?_ ?_ ?_ ?_ ?_ ?_ ?_
                       · repeat rw [upA_n (by omega)]
                       all_goals (repeat (first | rw [upA_s] | rw [upA_n (by omega)]))
                       all_goals omega
                     · repeat (first | exact HF | refine FC.ok (FC.up0 ?_ (by decide)) | refine FC.ok (FC.up1 ?_))
                     · intro x j hx hz
                       have hx1 : x ≠ hv := fun e => hx (by rw [e]; exact ohv)
                       have hx2 : x ≠ 10 := fun e => hx (by rw [e, HY.2.1]; decide)
                       repeat (first | rw [aup_rn hx1] | rw [aup_rn hx2] | rw [aup_n (fun z => hz ⟨z.1, Or.inl z.2⟩)])
                     · repeat rw [aup_n (by omega)]
                     · intro b b0 b1 b9
                       rw [aup_rn b0]
                       repeat rw [aup_rn b1]
                     · intro i hi
                       rw [aup_n (by omega)]
                       repeat rw [aup_rn (by decide)]
                     · repeat rw [aup_n (by omega)]
                       rw [aup_s, aup_s]
                     · repeat rw [aup_n (by omega)]
                       repeat rw [aup_rn (by decide)]
                       exact hv3
                     · repeat rw [aup_n (by omega)]
                       repeat rw [aup_rn (by decide)]
                       exact hv4)
theorem OP_sample {sz : Int} {im : Int → aIm} {ct cm : Int → Int → Int} (h : XR (sz, im, ct) cm) {a b c : Int} (r0 : -2147483648 ≤ a ∧ a < 2147483648) (r1 : -2147483648 ≤ b ∧ b < 2147483648) (r2 : -2147483648 ≤ c ∧ c < 2147483648)  : AMet md_X0_sample 3 0 0 [vR 0, vI a, vI b, vI c] (sz, im, ct) (XQ md_X7_sample 2 [vR 0, vI a, vI b, vI c] cm) := by
  obtain ⟨own, N, hR, HY, HL, HN, HS, HP, HF, HX, hv2, hv3, hv4⟩ := id h
  dsimp only at hR HY HL HS HX hv2 hv3 hv4
  have hp0 := HP.1
  have hp3 := HP.2.1
  have hpq := HP.2.2.2.1.1
  have hps := HP.2.2.2.2.2
  refine AMet.go (L := [some (vR 0), some (vI a), some (vI b), some (vI c)]) mok_X0_sample (Nat.le_of_ble_eq_true rfl) rfl ?_
  refine aw_aload_n dX0_sample_0 rfl ?_
  refine aw_aload_n dX0_sample_1 rfl ?_
  refine aw_iload_n dX0_sample_2 rfl ?_
  refine c_X0_168 rfl dX0_sample_3 hR.o0 (Nat.le_of_ble_eq_true rfl) (by omega) (C_x_isHive hR HY (fun xh => ?_) (fun xh => ?_))
  · refine aK_i ?_
    refine aw_ifeq (tgt := 33) dX0_sample_6 (by decide) (fun h => absurd h (by decide)) (fun _ => ?_)
    refine aw_iload_n dX0_sample_9 rfl ?_
    refine aw_i2l dX0_sample_10 ?_
    refine aw_lconst1 dX0_sample_11 ?_
    refine aw_ldc2 (x := 999) dX0_sample_12 q1282 (by decide) ?_
    refine c_X0_164 rfl dX0_sample_15  (Nat.le_of_ble_eq_true rfl) (by omega) (C_x_isIn (fun hi => ?_) (fun hi => ?_))
    · refine aK_i ?_
      refine aw_ifeq (tgt := 33) dX0_sample_18 (by decide) (fun h => absurd h (by decide)) (fun _ => ?_)
      refine aw_iload_n dX0_sample_21 rfl ?_
      refine aw_i2l dX0_sample_22 ?_
      refine aw_lconst0 dX0_sample_23 ?_
      refine aw_ldc2 (x := 9999) dX0_sample_24 q1100 (by decide) ?_
      refine c_X0_164 rfl dX0_sample_27  (Nat.le_of_ble_eq_true rfl) (by omega) (C_x_isIn (fun hi => ?_) (fun hi => ?_))
      · refine aK_i ?_
        refine aw_ifne (tgt := 37) dX0_sample_30 (by decide) (fun _ => ?_) (fun h => absurd h (by decide))
        obtain ⟨hv, ehv, ⟨g1, g2, ⟨g3, g4, g5, g6, g7⟩, g8, g9, -⟩, nhv0, nhv10, nhv9, nv0, nvhv, nv10, ohv⟩ := HY.hv hR (k := a) (by omega) (by omega)
        have gn := g1.2.2.2
        have gh := HP.2.2.1 a (by omega) (by omega)
        have gq := gh.2.2.2.2.1
        have gp := HP.pd.2.1 a (by omega) (by omega)
        refine aw_aload_n dX0_sample_37 rfl ?_
        refine aw_iload_n dX0_sample_38 rfl ?_
        refine c_X0_172 rfl dX0_sample_39 hR.o0 (Nat.le_of_ble_eq_true rfl) (by omega) (C_x_xat2 (a := hv) hR HY (by omega) ehv ?_)
        refine aK_i ?_
        refine g_X0_408_9 rfl dX0_sample_42 g1.1 ?_
        repeat (first | rw [aup_s] | rw [aup_n (by omega)])
        try rw [g6]
        obtain ⟨q1, q2, q3, q4, q5, q6, q7⟩ := id gh
        refine aw_iload_n dX0_sample_45 rfl ?_
        refine aw_iaddr dX0_sample_46 (by omega) ?_
        refine aw_ldcw (x := 99999) dX0_sample_47 q1139 (by decide) ?_
        refine aw_icmple (tgt := 57) dX0_sample_50 (by decide) (fun h50 => ?_) (fun h50 => ?_)
        · refine aw_iconst dX0_sample_57 (by decide) ?_
          refine p_X0_73_0 rfl dX0_sample_58 hR.o0 ?_
          refine aw_aload_n dX0_sample_61 rfl ?_
          refine g_X0_73_0 rfl dX0_sample_62 hR.o0 ?_
          repeat (first | rw [aup_s] | rw [aup_n (by omega)])
          refine aw_ifle (tgt := 70) dX0_sample_65 (by decide) (fun _ => ?_) (fun h => absurd h (by decide))
          refine aw_aload_n dX0_sample_70 rfl ?_
          refine aw_iload_n dX0_sample_71 rfl ?_
          refine c_X0_172 rfl dX0_sample_72 hR.o0 (Nat.le_of_ble_eq_true rfl) (by omega) (C_x_xat2 (a := hv) hR HY (by omega) (by repeat (first | exact ehv | rw [aup_rn nvhv] | rw [aup_rn nv10] | rw [aup_rn nv0])) ?_)
          refine aK_i ?_
          refine aw_dup dX0_sample_75 rfl ?_
          refine g_X0_408_9 rfl dX0_sample_76 g1.1 ?_
          repeat (first | rw [aup_s] | rw [aup_n (by omega)])
          try rw [g6]
          refine aw_iload_n dX0_sample_79 rfl ?_
          refine aw_iaddr dX0_sample_80 (by omega) ?_
          refine p_X0_408_9 rfl dX0_sample_81 g1.1 ?_
          refine aw_aload_n dX0_sample_84 rfl ?_
          refine aw_iload_n dX0_sample_85 rfl ?_
          refine c_X0_172 rfl dX0_sample_86 hR.o0 (Nat.le_of_ble_eq_true rfl) (by omega) (C_x_xat2 (a := hv) hR HY (by omega) (by repeat (first | exact ehv | rw [aup_rn nvhv] | rw [aup_rn nv10] | rw [aup_rn nv0])) ?_)
          refine aK_i ?_
          refine aw_dup dX0_sample_89 rfl ?_
          refine g_X0_411_9 rfl dX0_sample_90 g1.1 ?_
          repeat (first | rw [aup_s] | rw [aup_n (by omega)])
          try rw [g7]
          refine aw_iload_n dX0_sample_93 rfl ?_
          refine aw_iaddr dX0_sample_94 (by omega) ?_
          refine p_X0_411_9 rfl dX0_sample_95 g1.1 ?_
          refine aw_aload_n dX0_sample_98 rfl ?_
          refine aw_iload_n dX0_sample_99 rfl ?_
          refine c_X0_172 rfl dX0_sample_100 hR.o0 (Nat.le_of_ble_eq_true rfl) (by omega) (C_x_xat2 (a := hv) hR HY (by omega) (by repeat (first | exact ehv | rw [aup_rn nvhv] | rw [aup_rn nv10] | rw [aup_rn nv0])) ?_)
          refine aK_i ?_
          refine g_X0_408_9 rfl dX0_sample_103 g1.1 ?_
          repeat (first | rw [aup_s] | rw [aup_n (by omega)])
          try rw [g6]
          refine aw_ireturn dX0_sample_106 rfl ?_
          refine ⟨_, rfl, ?_⟩
          refine AMet.go (L := [some (vR 0), some (vI a), some (vI b), some (vI c), none]) mok_X7_sample (Nat.le_of_ble_eq_true rfl) rfl ?_
          refine aw_aload_n dX7_sample_0 rfl ?_
          refine aw_iload_n dX7_sample_1 rfl ?_
          refine c_X7_274 rfl dX7_sample_2 m_ob (Nat.le_of_ble_eq_true rfl) (by omega) (C_m_isHive (fun hh => ?_) (fun hh => ?_))
          · first
              | (exfalso; omega)
              | skip
                refine aK_i ?_
                refine aw_ifeq (tgt := 32) dX7_sample_5 (by decide) (fun h => absurd h (by decide)) (fun _ => ?_)
                refine aw_iload_n dX7_sample_8 rfl ?_
                refine aw_i2l dX7_sample_9 ?_
                refine aw_lconst1 dX7_sample_10 ?_
                refine aw_ldc2 (x := 999) dX7_sample_11 q2005 (by decide) ?_
                refine c_X7_306 rfl dX7_sample_14  (Nat.le_of_ble_eq_true rfl) (by omega) (C_m_isFrom (fun hfr => ?_) (fun hfr => ?_))
                · first
                    | (exfalso; omega)
                    | skip
                      refine aK_i ?_
                      refine aw_ifeq (tgt := 32) dX7_sample_17 (by decide) (fun h => absurd h (by decide)) (fun _ => ?_)
                      refine aw_iload_n dX7_sample_20 rfl ?_
                      refine aw_i2l dX7_sample_21 ?_
                      refine aw_lconst0 dX7_sample_22 ?_
                      refine aw_ldc2 (x := 9999) dX7_sample_23 q1843 (by decide) ?_
                      refine c_X7_306 rfl dX7_sample_26  (Nat.le_of_ble_eq_true rfl) (by omega) (C_m_isFrom (fun hfr => ?_) (fun hfr => ?_))
                      · first
                          | (exfalso; omega)
                          | skip
                            refine aK_i ?_
                            refine aw_ifne (tgt := 38) dX7_sample_29 (by decide) (fun _ => ?_) (fun h => absurd h (by decide))
                            refine aw_iload_n dX7_sample_38 rfl ?_
                            refine c_X7_217 rfl dX7_sample_39  (Nat.le_of_ble_eq_true rfl) (by omega) (C_m_hiveRow (by omega) ?_)
                            refine aK_i ?_
                            refine aw_istore4 dX7_sample_42 (by decide) rfl ?_
                            refine gm_7 rfl dX7_sample_44 dX7_sample_45 rfl ?_
                            refine aw_iload dX7_sample_48 rfl ?_
                            refine aw_iconst dX7_sample_50 (by decide) ?_
                            refine aw_iaddr dX7_sample_51 (by omega) ?_
                            refine aw_iaload dX7_sample_52 m_a1 (by omega) (by omega) ?_
                            refine aw_iload_n dX7_sample_53 rfl ?_
                            refine aw_iaddr dX7_sample_54 (by omega) ?_
                            refine aw_ldcw (x := 99999) dX7_sample_55 q1876 (by decide) ?_
                            refine aw_icmple (tgt := 67) dX7_sample_58 (by decide) (fun h58 => ?_) (fun h58 => ?_)
                            · first
                                | (exfalso; omega)
                                | skip
                                  refine gm_7 rfl dX7_sample_67 dX7_sample_68 rfl ?_
                                  refine aw_iload dX7_sample_71 rfl ?_
                                  refine aw_iconst dX7_sample_73 (by decide) ?_
                                  refine aw_iaddr dX7_sample_74 (by omega) ?_
                                  refine aw_dup2 dX7_sample_75 rfl rfl ?_
                                  refine aw_iaload dX7_sample_76 m_a1 (by omega) (by omega) ?_
                                  refine aw_iload_n dX7_sample_77 rfl ?_
                                  refine aw_iaddr dX7_sample_78 (by omega) ?_
                                  refine aw_iastore dX7_sample_79 m_a1 (by omega) (by omega) ?_
                                  refine gm_7 rfl dX7_sample_80 dX7_sample_81 rfl ?_
                                  refine aw_iload dX7_sample_84 rfl ?_
                                  refine aw_iconst dX7_sample_86 (by decide) ?_
                                  refine aw_iaddr dX7_sample_87 (by omega) ?_
                                  refine aw_dup2 dX7_sample_88 rfl rfl ?_
                                  refine aw_iaload dX7_sample_89 m_a1 (by omega) (by omega) ?_
                                  rw [aup_n (by omega)]
                                  refine aw_iload_n dX7_sample_90 rfl ?_
                                  refine aw_iaddr dX7_sample_91 (by omega) ?_
                                  refine aw_iastore dX7_sample_92 m_a1 (by omega) (by omega) ?_
                                  refine aw_aload_n dX7_sample_93 rfl ?_
                                  refine gm_7 rfl dX7_sample_94 dX7_sample_95 rfl ?_
                                  refine aw_iload dX7_sample_98 rfl ?_
                                  refine aw_iconst dX7_sample_100 (by decide) ?_
                                  refine aw_iaddr dX7_sample_101 (by omega) ?_
                                  refine aw_iaload dX7_sample_102 m_a1 (by omega) (by omega) ?_
                                  rw [aup_n (by omega), aup_s]
                                  refine c_X7_76 rfl dX7_sample_103 m_ob (Nat.le_of_ble_eq_true rfl) (by omega) (C_m_gives ?_)
                                  refine aK_i ?_
                                  refine aw_ireturn dX7_sample_106 rfl ?_
                                  first
                                    | (exfalso; omega)
                                    | (refine XR.sameE h ?_ ?_ ?_ ?_ ?_ ?_
                                       · first
                                           | rfl
                                           | omega
                                       · repeat (first | exact xs.rf | refine xs.up ?_ (by decide))
                                       · repeat (first | exact mss.rf | refine mss.up0 ?_ (by decide))
                                       · first
                                           | (simp [aup, hv2, hv3, hv4]; done)
                                           | (simp [aup, hv2, hv3, hv4]; omega)
                                       · simp [aup, hv2, hv3, hv4]
                                       · simp [aup, hv2, hv3, hv4])
                                    | (refine ⟨vI_eq (by first | rfl | omega), _, rfl, XR.yd (upA (upA (cm 1) (64 + 198 * a + 4) (cm 1 (64 + 198 * a + 4) + b)) (64 + 198 * a + 5) (cm 1 (64 + 198 * a + 5) + c)) hR HX HL HN HS HP ?_ ?_ ?_ ?_ ?_ ?_ ?_ ?_ ?_ ?_ ?_ ?_ ?_⟩
                                       · rw [aup_rn (by decide), aup_r, aup_r]
                                       · rw [upA_n (by omega), upA_n (by omega)]
                                         exact ((HY.up0 (j := 7) (v := 0) hR.1.2 (by decide)).hfld (k := a) (j := 6) (v := cm 1 (64 + 198 * a + 4) + b) (by omega) (by omega) (by rw [aup_rn nv0]; exact ehv) (by omega)).hfld (k := a) (j := 7) (v := cm 1 (64 + 198 * a + 5) + c) (by omega) (by rw [upA_n (by omega)]; omega) (by rw [aup_rn nvhv, aup_rn nv0]; exact ehv) (by omega)
                                       · intro i hi
                                         repeat rw [upA_n (by omega)]
                                       · intro k k0 k1
                                         repeat rw [upA_n (by omega)]
                                       · obtain ⟨q1, q2, q3, q4, q5, q6, q7⟩ := gh
                                         refine PI.one HP (k := a) (by omega) (by omega) (fun i hi i1 i2 => ?_) ?_ ?_ ?_ ?_ ?_ ?_ ?_ ?_
                                         · repeat rw [upA_n (by omega)]
                                         all_goals (repeat (first | rw [upA_s] | rw [upA_n (by omega)]))
                                         all_goals omega
                                       · repeat (first | exact HF | refine FC.ok (FC.up0 ?_ (by decide)) | refine FC.ok (FC.up1 ?_))
                                       · intro x j hx hz
                                         have hx1 : x ≠ hv := fun e => hx (by rw [e]; exact ohv)
                                         have hx2 : x ≠ 10 := fun e => hx (by rw [e, HY.2.1]; decide)
                                         repeat (first | rw [aup_rn hx1] | rw [aup_rn hx2] | rw [aup_n (fun z => hz ⟨z.1, Or.inl z.2⟩)])
                                       · repeat rw [aup_n (by omega)]
                                       · intro b b0 b1 b9
                                         rw [aup_rn b0]
                                         repeat rw [aup_rn b1]
                                       · intro i hi
                                         rw [aup_n (by omega)]
                                         repeat rw [aup_rn (by decide)]
                                       · repeat rw [aup_n (by omega)]
                                         rw [aup_s, aup_s]
                                       · repeat rw [aup_n (by omega)]
                                         repeat rw [aup_rn (by decide)]
                                         exact hv3
                                       · repeat rw [aup_n (by omega)]
                                         repeat rw [aup_rn (by decide)]
                                         exact hv4)
                            · first
                                | (exfalso; omega)
                                | skip
                                  refine aw_aload_n dX7_sample_61 rfl ?_
                                  refine aw_iconst dX7_sample_62 (by decide) ?_
                                  refine c_X7_72 rfl dX7_sample_63 m_ob (Nat.le_of_ble_eq_true rfl) (by omega) (C_m_refuse ?_)
                                  refine aK_i ?_
                                  refine aw_ireturn dX7_sample_66 rfl ?_
                                  first
                                    | (exfalso; omega)
                                    | (refine XR.sameE h ?_ ?_ ?_ ?_ ?_ ?_
                                       · first
                                           | rfl
                                           | omega
                                       · repeat (first | exact xs.rf | refine xs.up ?_ (by decide))
                                       · repeat (first | exact mss.rf | refine mss.up0 ?_ (by decide))
                                       · first
                                           | (simp [aup, hv2, hv3, hv4]; done)
                                           | (simp [aup, hv2, hv3, hv4]; omega)
                                       · simp [aup, hv2, hv3, hv4]
                                       · simp [aup, hv2, hv3, hv4])
                                    | (refine ⟨vI_eq (by first | rfl | omega), _, rfl, XR.yd (upA (upA (cm 1) (64 + 198 * a + 4) (cm 1 (64 + 198 * a + 4) + b)) (64 + 198 * a + 5) (cm 1 (64 + 198 * a + 5) + c)) hR HX HL HN HS HP ?_ ?_ ?_ ?_ ?_ ?_ ?_ ?_ ?_ ?_ ?_ ?_ ?_⟩
                                       · rw [aup_rn (by decide), aup_r, aup_r]
                                       · rw [upA_n (by omega), upA_n (by omega)]
                                         exact ((HY.up0 (j := 7) (v := 0) hR.1.2 (by decide)).hfld (k := a) (j := 6) (v := cm 1 (64 + 198 * a + 4) + b) (by omega) (by omega) (by rw [aup_rn nv0]; exact ehv) (by omega)).hfld (k := a) (j := 7) (v := cm 1 (64 + 198 * a + 5) + c) (by omega) (by rw [upA_n (by omega)]; omega) (by rw [aup_rn nvhv, aup_rn nv0]; exact ehv) (by omega)
                                       · intro i hi
                                         repeat rw [upA_n (by omega)]
                                       · intro k k0 k1
                                         repeat rw [upA_n (by omega)]
                                       · obtain ⟨q1, q2, q3, q4, q5, q6, q7⟩ := gh
                                         refine PI.one HP (k := a) (by omega) (by omega) (fun i hi i1 i2 => ?_) ?_ ?_ ?_ ?_ ?_ ?_ ?_ ?_
                                         · repeat rw [upA_n (by omega)]
                                         all_goals (repeat (first | rw [upA_s] | rw [upA_n (by omega)]))
                                         all_goals omega
                                       · repeat (first | exact HF | refine FC.ok (FC.up0 ?_ (by decide)) | refine FC.ok (FC.up1 ?_))
                                       · intro x j hx hz
                                         have hx1 : x ≠ hv := fun e => hx (by rw [e]; exact ohv)
                                         have hx2 : x ≠ 10 := fun e => hx (by rw [e, HY.2.1]; decide)
                                         repeat (first | rw [aup_rn hx1] | rw [aup_rn hx2] | rw [aup_n (fun z => hz ⟨z.1, Or.inl z.2⟩)])
                                       · repeat rw [aup_n (by omega)]
                                       · intro b b0 b1 b9
                                         rw [aup_rn b0]
                                         repeat rw [aup_rn b1]
                                       · intro i hi
                                         rw [aup_n (by omega)]
                                         repeat rw [aup_rn (by decide)]
                                       · repeat rw [aup_n (by omega)]
                                         rw [aup_s, aup_s]
                                       · repeat rw [aup_n (by omega)]
                                         repeat rw [aup_rn (by decide)]
                                         exact hv3
                                       · repeat rw [aup_n (by omega)]
                                         repeat rw [aup_rn (by decide)]
                                         exact hv4)
                      · first
                          | (exfalso; omega)
                          | skip
                            refine aK_i ?_
                            refine aw_ifne (tgt := 38) dX7_sample_29 (by decide) (fun h => absurd h (by decide)) (fun _ => ?_)
                            refine aw_aload_n dX7_sample_32 rfl ?_
                            refine aw_iconst dX7_sample_33 (by decide) ?_
                            refine c_X7_72 rfl dX7_sample_34 m_ob (Nat.le_of_ble_eq_true rfl) (by omega) (C_m_refuse ?_)
                            refine aK_i ?_
                            refine aw_ireturn dX7_sample_37 rfl ?_
                            first
                              | (exfalso; omega)
                              | (refine XR.sameE h ?_ ?_ ?_ ?_ ?_ ?_
                                 · first
                                     | rfl
                                     | omega
                                 · repeat (first | exact xs.rf | refine xs.up ?_ (by decide))
                                 · repeat (first | exact mss.rf | refine mss.up0 ?_ (by decide))
                                 · first
                                     | (simp [aup, hv2, hv3, hv4]; done)
                                     | (simp [aup, hv2, hv3, hv4]; omega)
                                 · simp [aup, hv2, hv3, hv4]
                                 · simp [aup, hv2, hv3, hv4])
                              | (refine ⟨vI_eq (by first | rfl | omega), _, rfl, XR.yd (upA (upA (cm 1) (64 + 198 * a + 4) (cm 1 (64 + 198 * a + 4) + b)) (64 + 198 * a + 5) (cm 1 (64 + 198 * a + 5) + c)) hR HX HL HN HS HP ?_ ?_ ?_ ?_ ?_ ?_ ?_ ?_ ?_ ?_ ?_ ?_ ?_⟩
                                 · rw [aup_rn (by decide), aup_r, aup_r]
                                 · rw [upA_n (by omega), upA_n (by omega)]
                                   exact ((HY.up0 (j := 7) (v := 0) hR.1.2 (by decide)).hfld (k := a) (j := 6) (v := cm 1 (64 + 198 * a + 4) + b) (by omega) (by omega) (by rw [aup_rn nv0]; exact ehv) (by omega)).hfld (k := a) (j := 7) (v := cm 1 (64 + 198 * a + 5) + c) (by omega) (by rw [upA_n (by omega)]; omega) (by rw [aup_rn nvhv, aup_rn nv0]; exact ehv) (by omega)
                                 · intro i hi
                                   repeat rw [upA_n (by omega)]
                                 · intro k k0 k1
                                   repeat rw [upA_n (by omega)]
                                 · obtain ⟨q1, q2, q3, q4, q5, q6, q7⟩ := gh
                                   refine PI.one HP (k := a) (by omega) (by omega) (fun i hi i1 i2 => ?_) ?_ ?_ ?_ ?_ ?_ ?_ ?_ ?_
                                   · repeat rw [upA_n (by omega)]
                                   all_goals (repeat (first | rw [upA_s] | rw [upA_n (by omega)]))
                                   all_goals omega
                                 · repeat (first | exact HF | refine FC.ok (FC.up0 ?_ (by decide)) | refine FC.ok (FC.up1 ?_))
                                 · intro x j hx hz
                                   have hx1 : x ≠ hv := fun e => hx (by rw [e]; exact ohv)
                                   have hx2 : x ≠ 10 := fun e => hx (by rw [e, HY.2.1]; decide)
                                   repeat (first | rw [aup_rn hx1] | rw [aup_rn hx2] | rw [aup_n (fun z => hz ⟨z.1, Or.inl z.2⟩)])
                                 · repeat rw [aup_n (by omega)]
                                 · intro b b0 b1 b9
                                   rw [aup_rn b0]
                                   repeat rw [aup_rn b1]
                                 · intro i hi
                                   rw [aup_n (by omega)]
                                   repeat rw [aup_rn (by decide)]
                                 · repeat rw [aup_n (by omega)]
                                   rw [aup_s, aup_s]
                                 · repeat rw [aup_n (by omega)]
                                   repeat rw [aup_rn (by decide)]
                                   exact hv3
                                 · repeat rw [aup_n (by omega)]
                                   repeat rw [aup_rn (by decide)]
                                   exact hv4)
                · first
                    | (exfalso; omega)
                    | skip
                      refine aK_i ?_
                      refine aw_ifeq (tgt := 32) dX7_sample_17 (by decide) (fun _ => ?_) (fun h => absurd h (by decide))
                      refine aw_aload_n dX7_sample_32 rfl ?_
                      refine aw_iconst dX7_sample_33 (by decide) ?_
                      refine c_X7_72 rfl dX7_sample_34 m_ob (Nat.le_of_ble_eq_true rfl) (by omega) (C_m_refuse ?_)
                      refine aK_i ?_
                      refine aw_ireturn dX7_sample_37 rfl ?_
                      first
                        | (exfalso; omega)
                        | (refine XR.sameE h ?_ ?_ ?_ ?_ ?_ ?_
                           · first
                               | rfl
                               | omega
                           · repeat (first | exact xs.rf | refine xs.up ?_ (by decide))
                           · repeat (first | exact mss.rf | refine mss.up0 ?_ (by decide))
                           · first
                               | (simp [aup, hv2, hv3, hv4]; done)
                               | (simp [aup, hv2, hv3, hv4]; omega)
                           · simp [aup, hv2, hv3, hv4]
                           · simp [aup, hv2, hv3, hv4])
                        | (refine ⟨vI_eq (by first | rfl | omega), _, rfl, XR.yd (upA (upA (cm 1) (64 + 198 * a + 4) (cm 1 (64 + 198 * a + 4) + b)) (64 + 198 * a + 5) (cm 1 (64 + 198 * a + 5) + c)) hR HX HL HN HS HP ?_ ?_ ?_ ?_ ?_ ?_ ?_ ?_ ?_ ?_ ?_ ?_ ?_⟩
                           · rw [aup_rn (by decide), aup_r, aup_r]
                           · rw [upA_n (by omega), upA_n (by omega)]
                             exact ((HY.up0 (j := 7) (v := 0) hR.1.2 (by decide)).hfld (k := a) (j := 6) (v := cm 1 (64 + 198 * a + 4) + b) (by omega) (by omega) (by rw [aup_rn nv0]; exact ehv) (by omega)).hfld (k := a) (j := 7) (v := cm 1 (64 + 198 * a + 5) + c) (by omega) (by rw [upA_n (by omega)]; omega) (by rw [aup_rn nvhv, aup_rn nv0]; exact ehv) (by omega)
                           · intro i hi
                             repeat rw [upA_n (by omega)]
                           · intro k k0 k1
                             repeat rw [upA_n (by omega)]
                           · obtain ⟨q1, q2, q3, q4, q5, q6, q7⟩ := gh
                             refine PI.one HP (k := a) (by omega) (by omega) (fun i hi i1 i2 => ?_) ?_ ?_ ?_ ?_ ?_ ?_ ?_ ?_
                             · repeat rw [upA_n (by omega)]
                             all_goals (repeat (first | rw [upA_s] | rw [upA_n (by omega)]))
                             all_goals omega
                           · repeat (first | exact HF | refine FC.ok (FC.up0 ?_ (by decide)) | refine FC.ok (FC.up1 ?_))
                           · intro x j hx hz
                             have hx1 : x ≠ hv := fun e => hx (by rw [e]; exact ohv)
                             have hx2 : x ≠ 10 := fun e => hx (by rw [e, HY.2.1]; decide)
                             repeat (first | rw [aup_rn hx1] | rw [aup_rn hx2] | rw [aup_n (fun z => hz ⟨z.1, Or.inl z.2⟩)])
                           · repeat rw [aup_n (by omega)]
                           · intro b b0 b1 b9
                             rw [aup_rn b0]
                             repeat rw [aup_rn b1]
                           · intro i hi
                             rw [aup_n (by omega)]
                             repeat rw [aup_rn (by decide)]
                           · repeat rw [aup_n (by omega)]
                             rw [aup_s, aup_s]
                           · repeat rw [aup_n (by omega)]
                             repeat rw [aup_rn (by decide)]
                             exact hv3
                           · repeat rw [aup_n (by omega)]
                             repeat rw [aup_rn (by decide)]
                             exact hv4)
          · first
              | (exfalso; omega)
              | skip
                refine aK_i ?_
                refine aw_ifeq (tgt := 32) dX7_sample_5 (by decide) (fun _ => ?_) (fun h => absurd h (by decide))
                refine aw_aload_n dX7_sample_32 rfl ?_
                refine aw_iconst dX7_sample_33 (by decide) ?_
                refine c_X7_72 rfl dX7_sample_34 m_ob (Nat.le_of_ble_eq_true rfl) (by omega) (C_m_refuse ?_)
                refine aK_i ?_
                refine aw_ireturn dX7_sample_37 rfl ?_
                first
                  | (exfalso; omega)
                  | (refine XR.sameE h ?_ ?_ ?_ ?_ ?_ ?_
                     · first
                         | rfl
                         | omega
                     · repeat (first | exact xs.rf | refine xs.up ?_ (by decide))
                     · repeat (first | exact mss.rf | refine mss.up0 ?_ (by decide))
                     · first
                         | (simp [aup, hv2, hv3, hv4]; done)
                         | (simp [aup, hv2, hv3, hv4]; omega)
                     · simp [aup, hv2, hv3, hv4]
                     · simp [aup, hv2, hv3, hv4])
                  | (refine ⟨vI_eq (by first | rfl | omega), _, rfl, XR.yd (upA (upA (cm 1) (64 + 198 * a + 4) (cm 1 (64 + 198 * a + 4) + b)) (64 + 198 * a + 5) (cm 1 (64 + 198 * a + 5) + c)) hR HX HL HN HS HP ?_ ?_ ?_ ?_ ?_ ?_ ?_ ?_ ?_ ?_ ?_ ?_ ?_⟩
                     · rw [aup_rn (by decide), aup_r, aup_r]
                     · rw [upA_n (by omega), upA_n (by omega)]
                       exact ((HY.up0 (j := 7) (v := 0) hR.1.2 (by decide)).hfld (k := a) (j := 6) (v := cm 1 (64 + 198 * a + 4) + b) (by omega) (by omega) (by rw [aup_rn nv0]; exact ehv) (by omega)).hfld (k := a) (j := 7) (v := cm 1 (64 + 198 * a + 5) + c) (by omega) (by rw [upA_n (by omega)]; omega) (by rw [aup_rn nvhv, aup_rn nv0]; exact ehv) (by omega)
                     · intro i hi
                       repeat rw [upA_n (by omega)]
                     · intro k k0 k1
                       repeat rw [upA_n (by omega)]
                     · obtain ⟨q1, q2, q3, q4, q5, q6, q7⟩ := gh
                       refine PI.one HP (k := a) (by omega) (by omega) (fun i hi i1 i2 => ?_) ?_ ?_ ?_ ?_ ?_ ?_ ?_ ?_
                       · repeat rw [upA_n (by omega)]
                       all_goals (repeat (first | rw [upA_s] | rw [upA_n (by omega)]))
                       all_goals omega
                     · repeat (first | exact HF | refine FC.ok (FC.up0 ?_ (by decide)) | refine FC.ok (FC.up1 ?_))
                     · intro x j hx hz
                       have hx1 : x ≠ hv := fun e => hx (by rw [e]; exact ohv)
                       have hx2 : x ≠ 10 := fun e => hx (by rw [e, HY.2.1]; decide)
                       repeat (first | rw [aup_rn hx1] | rw [aup_rn hx2] | rw [aup_n (fun z => hz ⟨z.1, Or.inl z.2⟩)])
                     · repeat rw [aup_n (by omega)]
                     · intro b b0 b1 b9
                       rw [aup_rn b0]
                       repeat rw [aup_rn b1]
                     · intro i hi
                       rw [aup_n (by omega)]
                       repeat rw [aup_rn (by decide)]
                     · repeat rw [aup_n (by omega)]
                       rw [aup_s, aup_s]
                     · repeat rw [aup_n (by omega)]
                       repeat rw [aup_rn (by decide)]
                       exact hv3
                     · repeat rw [aup_n (by omega)]
                       repeat rw [aup_rn (by decide)]
                       exact hv4)
        · refine aw_iconst dX0_sample_53 (by decide) ?_
          refine aw_goto (tgt := 58) dX0_sample_54 (by decide) ?_
          refine p_X0_73_0 rfl dX0_sample_58 hR.o0 ?_
          refine aw_aload_n dX0_sample_61 rfl ?_
          refine g_X0_73_0 rfl dX0_sample_62 hR.o0 ?_
          repeat (first | rw [aup_s] | rw [aup_n (by omega)])
          refine aw_ifle (tgt := 70) dX0_sample_65 (by decide) (fun h => absurd h (by decide)) (fun _ => ?_)
          refine aw_iconst dX0_sample_68 (by decide) ?_
          refine aw_ireturn dX0_sample_69 rfl ?_
          refine ⟨_, rfl, ?_⟩
          refine AMet.go (L := [some (vR 0), some (vI a), some (vI b), some (vI c), none]) mok_X7_sample (Nat.le_of_ble_eq_true rfl) rfl ?_
          refine aw_aload_n dX7_sample_0 rfl ?_
          refine aw_iload_n dX7_sample_1 rfl ?_
          refine c_X7_274 rfl dX7_sample_2 m_ob (Nat.le_of_ble_eq_true rfl) (by omega) (C_m_isHive (fun hh => ?_) (fun hh => ?_))
          · first
              | (exfalso; omega)
              | skip
                refine aK_i ?_
                refine aw_ifeq (tgt := 32) dX7_sample_5 (by decide) (fun h => absurd h (by decide)) (fun _ => ?_)
                refine aw_iload_n dX7_sample_8 rfl ?_
                refine aw_i2l dX7_sample_9 ?_
                refine aw_lconst1 dX7_sample_10 ?_
                refine aw_ldc2 (x := 999) dX7_sample_11 q2005 (by decide) ?_
                refine c_X7_306 rfl dX7_sample_14  (Nat.le_of_ble_eq_true rfl) (by omega) (C_m_isFrom (fun hfr => ?_) (fun hfr => ?_))
                · first
                    | (exfalso; omega)
                    | skip
                      refine aK_i ?_
                      refine aw_ifeq (tgt := 32) dX7_sample_17 (by decide) (fun h => absurd h (by decide)) (fun _ => ?_)
                      refine aw_iload_n dX7_sample_20 rfl ?_
                      refine aw_i2l dX7_sample_21 ?_
                      refine aw_lconst0 dX7_sample_22 ?_
                      refine aw_ldc2 (x := 9999) dX7_sample_23 q1843 (by decide) ?_
                      refine c_X7_306 rfl dX7_sample_26  (Nat.le_of_ble_eq_true rfl) (by omega) (C_m_isFrom (fun hfr => ?_) (fun hfr => ?_))
                      · first
                          | (exfalso; omega)
                          | skip
                            refine aK_i ?_
                            refine aw_ifne (tgt := 38) dX7_sample_29 (by decide) (fun _ => ?_) (fun h => absurd h (by decide))
                            refine aw_iload_n dX7_sample_38 rfl ?_
                            refine c_X7_217 rfl dX7_sample_39  (Nat.le_of_ble_eq_true rfl) (by omega) (C_m_hiveRow (by omega) ?_)
                            refine aK_i ?_
                            refine aw_istore4 dX7_sample_42 (by decide) rfl ?_
                            refine gm_7 rfl dX7_sample_44 dX7_sample_45 rfl ?_
                            refine aw_iload dX7_sample_48 rfl ?_
                            refine aw_iconst dX7_sample_50 (by decide) ?_
                            refine aw_iaddr dX7_sample_51 (by omega) ?_
                            refine aw_iaload dX7_sample_52 m_a1 (by omega) (by omega) ?_
                            refine aw_iload_n dX7_sample_53 rfl ?_
                            refine aw_iaddr dX7_sample_54 (by omega) ?_
                            refine aw_ldcw (x := 99999) dX7_sample_55 q1876 (by decide) ?_
                            refine aw_icmple (tgt := 67) dX7_sample_58 (by decide) (fun h58 => ?_) (fun h58 => ?_)
                            · first
                                | (exfalso; omega)
                                | skip
                                  refine gm_7 rfl dX7_sample_67 dX7_sample_68 rfl ?_
                                  refine aw_iload dX7_sample_71 rfl ?_
                                  refine aw_iconst dX7_sample_73 (by decide) ?_
                                  refine aw_iaddr dX7_sample_74 (by omega) ?_
                                  refine aw_dup2 dX7_sample_75 rfl rfl ?_
                                  refine aw_iaload dX7_sample_76 m_a1 (by omega) (by omega) ?_
                                  refine aw_iload_n dX7_sample_77 rfl ?_
                                  refine aw_iaddr dX7_sample_78 (by omega) ?_
                                  refine aw_iastore dX7_sample_79 m_a1 (by omega) (by omega) ?_
                                  refine gm_7 rfl dX7_sample_80 dX7_sample_81 rfl ?_
                                  refine aw_iload dX7_sample_84 rfl ?_
                                  refine aw_iconst dX7_sample_86 (by decide) ?_
                                  refine aw_iaddr dX7_sample_87 (by omega) ?_
                                  refine aw_dup2 dX7_sample_88 rfl rfl ?_
                                  refine aw_iaload dX7_sample_89 m_a1 (by omega) (by omega) ?_
                                  rw [aup_n (by omega)]
                                  refine aw_iload_n dX7_sample_90 rfl ?_
                                  refine aw_iaddr dX7_sample_91 (by omega) ?_
                                  refine aw_iastore dX7_sample_92 m_a1 (by omega) (by omega) ?_
                                  refine aw_aload_n dX7_sample_93 rfl ?_
                                  refine gm_7 rfl dX7_sample_94 dX7_sample_95 rfl ?_
                                  refine aw_iload dX7_sample_98 rfl ?_
                                  refine aw_iconst dX7_sample_100 (by decide) ?_
                                  refine aw_iaddr dX7_sample_101 (by omega) ?_
                                  refine aw_iaload dX7_sample_102 m_a1 (by omega) (by omega) ?_
                                  rw [aup_n (by omega), aup_s]
                                  refine c_X7_76 rfl dX7_sample_103 m_ob (Nat.le_of_ble_eq_true rfl) (by omega) (C_m_gives ?_)
                                  refine aK_i ?_
                                  refine aw_ireturn dX7_sample_106 rfl ?_
                                  first
                                    | (exfalso; omega)
                                    | (refine XR.sameE h ?_ ?_ ?_ ?_ ?_ ?_
                                       · first
                                           | rfl
                                           | omega
                                       · repeat (first | exact xs.rf | refine xs.up ?_ (by decide))
                                       · repeat (first | exact mss.rf | refine mss.up0 ?_ (by decide))
                                       · first
                                           | (simp [aup, hv2, hv3, hv4]; done)
                                           | (simp [aup, hv2, hv3, hv4]; omega)
                                       · simp [aup, hv2, hv3, hv4]
                                       · simp [aup, hv2, hv3, hv4])
                                    | (refine ⟨vI_eq (by first | rfl | omega), _, rfl, XR.yd (upA (upA (cm 1) (64 + 198 * a + 4) (cm 1 (64 + 198 * a + 4) + b)) (64 + 198 * a + 5) (cm 1 (64 + 198 * a + 5) + c)) hR HX HL HN HS HP ?_ ?_ ?_ ?_ ?_ ?_ ?_ ?_ ?_ ?_ ?_ ?_ ?_⟩
                                       · rw [aup_rn (by decide), aup_r, aup_r]
                                       · rw [upA_n (by omega), upA_n (by omega)]
                                         exact ((HY.up0 (j := 7) (v := 0) hR.1.2 (by decide)).hfld (k := a) (j := 6) (v := cm 1 (64 + 198 * a + 4) + b) (by omega) (by omega) (by rw [aup_rn nv0]; exact ehv) (by omega)).hfld (k := a) (j := 7) (v := cm 1 (64 + 198 * a + 5) + c) (by omega) (by rw [upA_n (by omega)]; omega) (by rw [aup_rn nvhv, aup_rn nv0]; exact ehv) (by omega)
                                       · intro i hi
                                         repeat rw [upA_n (by omega)]
                                       · intro k k0 k1
                                         repeat rw [upA_n (by omega)]
                                       · obtain ⟨q1, q2, q3, q4, q5, q6, q7⟩ := gh
                                         refine PI.one HP (k := a) (by omega) (by omega) (fun i hi i1 i2 => ?_) ?_ ?_ ?_ ?_ ?_ ?_ ?_ ?_
                                         · repeat rw [upA_n (by omega)]
                                         all_goals (repeat (first | rw [upA_s] | rw [upA_n (by omega)]))
                                         all_goals omega
                                       · repeat (first | exact HF | refine FC.ok (FC.up0 ?_ (by decide)) | refine FC.ok (FC.up1 ?_))
                                       · intro x j hx hz
                                         have hx1 : x ≠ hv := fun e => hx (by rw [e]; exact ohv)
                                         have hx2 : x ≠ 10 := fun e => hx (by rw [e, HY.2.1]; decide)
                                         repeat (first | rw [aup_rn hx1] | rw [aup_rn hx2] | rw [aup_n (fun z => hz ⟨z.1, Or.inl z.2⟩)])
                                       · repeat rw [aup_n (by omega)]
                                       · intro b b0 b1 b9
                                         rw [aup_rn b0]
                                         repeat rw [aup_rn b1]
                                       · intro i hi
                                         rw [aup_n (by omega)]
                                         repeat rw [aup_rn (by decide)]
                                       · repeat rw [aup_n (by omega)]
                                         rw [aup_s, aup_s]
                                       · repeat rw [aup_n (by omega)]
                                         repeat rw [aup_rn (by decide)]
                                         exact hv3
                                       · repeat rw [aup_n (by omega)]
                                         repeat rw [aup_rn (by decide)]
                                         exact hv4)
                            · first
                                | (exfalso; omega)
                                | skip
                                  refine aw_aload_n dX7_sample_61 rfl ?_
                                  refine aw_iconst dX7_sample_62 (by decide) ?_
                                  refine c_X7_72 rfl dX7_sample_63 m_ob (Nat.le_of_ble_eq_true rfl) (by omega) (C_m_refuse ?_)
                                  refine aK_i ?_
                                  refine aw_ireturn dX7_sample_66 rfl ?_
                                  first
                                    | (exfalso; omega)
                                    | (refine XR.sameE h ?_ ?_ ?_ ?_ ?_ ?_
                                       · first
                                           | rfl
                                           | omega
                                       · repeat (first | exact xs.rf | refine xs.up ?_ (by decide))
                                       · repeat (first | exact mss.rf | refine mss.up0 ?_ (by decide))
                                       · first
                                           | (simp [aup, hv2, hv3, hv4]; done)
                                           | (simp [aup, hv2, hv3, hv4]; omega)
                                       · simp [aup, hv2, hv3, hv4]
                                       · simp [aup, hv2, hv3, hv4])
                                    | (refine ⟨vI_eq (by first | rfl | omega), _, rfl, XR.yd (upA (upA (cm 1) (64 + 198 * a + 4) (cm 1 (64 + 198 * a + 4) + b)) (64 + 198 * a + 5) (cm 1 (64 + 198 * a + 5) + c)) hR HX HL HN HS HP ?_ ?_ ?_ ?_ ?_ ?_ ?_ ?_ ?_ ?_ ?_ ?_ ?_⟩
                                       · rw [aup_rn (by decide), aup_r, aup_r]
                                       · rw [upA_n (by omega), upA_n (by omega)]
                                         exact ((HY.up0 (j := 7) (v := 0) hR.1.2 (by decide)).hfld (k := a) (j := 6) (v := cm 1 (64 + 198 * a + 4) + b) (by omega) (by omega) (by rw [aup_rn nv0]; exact ehv) (by omega)).hfld (k := a) (j := 7) (v := cm 1 (64 + 198 * a + 5) + c) (by omega) (by rw [upA_n (by omega)]; omega) (by rw [aup_rn nvhv, aup_rn nv0]; exact ehv) (by omega)
                                       · intro i hi
                                         repeat rw [upA_n (by omega)]
                                       · intro k k0 k1
                                         repeat rw [upA_n (by omega)]
                                       · obtain ⟨q1, q2, q3, q4, q5, q6, q7⟩ := gh
                                         refine PI.one HP (k := a) (by omega) (by omega) (fun i hi i1 i2 => ?_) ?_ ?_ ?_ ?_ ?_ ?_ ?_ ?_
                                         · repeat rw [upA_n (by omega)]
                                         all_goals (repeat (first | rw [upA_s] | rw [upA_n (by omega)]))
                                         all_goals omega
                                       · repeat (first | exact HF | refine FC.ok (FC.up0 ?_ (by decide)) | refine FC.ok (FC.up1 ?_))
                                       · intro x j hx hz
                                         have hx1 : x ≠ hv := fun e => hx (by rw [e]; exact ohv)
                                         have hx2 : x ≠ 10 := fun e => hx (by rw [e, HY.2.1]; decide)
                                         repeat (first | rw [aup_rn hx1] | rw [aup_rn hx2] | rw [aup_n (fun z => hz ⟨z.1, Or.inl z.2⟩)])
                                       · repeat rw [aup_n (by omega)]
                                       · intro b b0 b1 b9
                                         rw [aup_rn b0]
                                         repeat rw [aup_rn b1]
                                       · intro i hi
                                         rw [aup_n (by omega)]
                                         repeat rw [aup_rn (by decide)]
                                       · repeat rw [aup_n (by omega)]
                                         rw [aup_s, aup_s]
                                       · repeat rw [aup_n (by omega)]
                                         repeat rw [aup_rn (by decide)]
                                         exact hv3
                                       · repeat rw [aup_n (by omega)]
                                         repeat rw [aup_rn (by decide)]
                                         exact hv4)
                      · first
                          | (exfalso; omega)
                          | skip
                            refine aK_i ?_
                            refine aw_ifne (tgt := 38) dX7_sample_29 (by decide) (fun h => absurd h (by decide)) (fun _ => ?_)
                            refine aw_aload_n dX7_sample_32 rfl ?_
                            refine aw_iconst dX7_sample_33 (by decide) ?_
                            refine c_X7_72 rfl dX7_sample_34 m_ob (Nat.le_of_ble_eq_true rfl) (by omega) (C_m_refuse ?_)
                            refine aK_i ?_
                            refine aw_ireturn dX7_sample_37 rfl ?_
                            first
                              | (exfalso; omega)
                              | (refine XR.sameE h ?_ ?_ ?_ ?_ ?_ ?_
                                 · first
                                     | rfl
                                     | omega
                                 · repeat (first | exact xs.rf | refine xs.up ?_ (by decide))
                                 · repeat (first | exact mss.rf | refine mss.up0 ?_ (by decide))
                                 · first
                                     | (simp [aup, hv2, hv3, hv4]; done)
                                     | (simp [aup, hv2, hv3, hv4]; omega)
                                 · simp [aup, hv2, hv3, hv4]
                                 · simp [aup, hv2, hv3, hv4])
                              | (refine ⟨vI_eq (by first | rfl | omega), _, rfl, XR.yd (upA (upA (cm 1) (64 + 198 * a + 4) (cm 1 (64 + 198 * a + 4) + b)) (64 + 198 * a + 5) (cm 1 (64 + 198 * a + 5) + c)) hR HX HL HN HS HP ?_ ?_ ?_ ?_ ?_ ?_ ?_ ?_ ?_ ?_ ?_ ?_ ?_⟩
                                 · rw [aup_rn (by decide), aup_r, aup_r]
                                 · rw [upA_n (by omega), upA_n (by omega)]
                                   exact ((HY.up0 (j := 7) (v := 0) hR.1.2 (by decide)).hfld (k := a) (j := 6) (v := cm 1 (64 + 198 * a + 4) + b) (by omega) (by omega) (by rw [aup_rn nv0]; exact ehv) (by omega)).hfld (k := a) (j := 7) (v := cm 1 (64 + 198 * a + 5) + c) (by omega) (by rw [upA_n (by omega)]; omega) (by rw [aup_rn nvhv, aup_rn nv0]; exact ehv) (by omega)
                                 · intro i hi
                                   repeat rw [upA_n (by omega)]
                                 · intro k k0 k1
                                   repeat rw [upA_n (by omega)]
                                 · obtain ⟨q1, q2, q3, q4, q5, q6, q7⟩ := gh
                                   refine PI.one HP (k := a) (by omega) (by omega) (fun i hi i1 i2 => ?_) ?_ ?_ ?_ ?_ ?_ ?_ ?_ ?_
                                   · repeat rw [upA_n (by omega)]
                                   all_goals (repeat (first | rw [upA_s] | rw [upA_n (by omega)]))
                                   all_goals omega
                                 · repeat (first | exact HF | refine FC.ok (FC.up0 ?_ (by decide)) | refine FC.ok (FC.up1 ?_))
                                 · intro x j hx hz
                                   have hx1 : x ≠ hv := fun e => hx (by rw [e]; exact ohv)
                                   have hx2 : x ≠ 10 := fun e => hx (by rw [e, HY.2.1]; decide)
                                   repeat (first | rw [aup_rn hx1] | rw [aup_rn hx2] | rw [aup_n (fun z => hz ⟨z.1, Or.inl z.2⟩)])
                                 · repeat rw [aup_n (by omega)]
                                 · intro b b0 b1 b9
                                   rw [aup_rn b0]
                                   repeat rw [aup_rn b1]
                                 · intro i hi
                                   rw [aup_n (by omega)]
                                   repeat rw [aup_rn (by decide)]
                                 · repeat rw [aup_n (by omega)]
                                   rw [aup_s, aup_s]
                                 · repeat rw [aup_n (by omega)]
                                   repeat rw [aup_rn (by decide)]
                                   exact hv3
                                 · repeat rw [aup_n (by omega)]
                                   repeat rw [aup_rn (by decide)]
                                   exact hv4)
                · first
                    | (exfalso; omega)
                    | skip
                      refine aK_i ?_
                      refine aw_ifeq (tgt := 32) dX7_sample_17 (by decide) (fun _ => ?_) (fun h => absurd h (by decide))
                      refine aw_aload_n dX7_sample_32 rfl ?_
                      refine aw_iconst dX7_sample_33 (by decide) ?_
                      refine c_X7_72 rfl dX7_sample_34 m_ob (Nat.le_of_ble_eq_true rfl) (by omega) (C_m_refuse ?_)
                      refine aK_i ?_
                      refine aw_ireturn dX7_sample_37 rfl ?_
                      first
                        | (exfalso; omega)
                        | (refine XR.sameE h ?_ ?_ ?_ ?_ ?_ ?_
                           · first
                               | rfl
                               | omega
                           · repeat (first | exact xs.rf | refine xs.up ?_ (by decide))
                           · repeat (first | exact mss.rf | refine mss.up0 ?_ (by decide))
                           · first
                               | (simp [aup, hv2, hv3, hv4]; done)
                               | (simp [aup, hv2, hv3, hv4]; omega)
                           · simp [aup, hv2, hv3, hv4]
                           · simp [aup, hv2, hv3, hv4])
                        | (refine ⟨vI_eq (by first | rfl | omega), _, rfl, XR.yd (upA (upA (cm 1) (64 + 198 * a + 4) (cm 1 (64 + 198 * a + 4) + b)) (64 + 198 * a + 5) (cm 1 (64 + 198 * a + 5) + c)) hR HX HL HN HS HP ?_ ?_ ?_ ?_ ?_ ?_ ?_ ?_ ?_ ?_ ?_ ?_ ?_⟩
                           · rw [aup_rn (by decide), aup_r, aup_r]
                           · rw [upA_n (by omega), upA_n (by omega)]
                             exact ((HY.up0 (j := 7) (v := 0) hR.1.2 (by decide)).hfld (k := a) (j := 6) (v := cm 1 (64 + 198 * a + 4) + b) (by omega) (by omega) (by rw [aup_rn nv0]; exact ehv) (by omega)).hfld (k := a) (j := 7) (v := cm 1 (64 + 198 * a + 5) + c) (by omega) (by rw [upA_n (by omega)]; omega) (by rw [aup_rn nvhv, aup_rn nv0]; exact ehv) (by omega)
                           · intro i hi
                             repeat rw [upA_n (by omega)]
                           · intro k k0 k1
                             repeat rw [upA_n (by omega)]
                           · obtain ⟨q1, q2, q3, q4, q5, q6, q7⟩ := gh
                             refine PI.one HP (k := a) (by omega) (by omega) (fun i hi i1 i2 => ?_) ?_ ?_ ?_ ?_ ?_ ?_ ?_ ?_
                             · repeat rw [upA_n (by omega)]
                             all_goals (repeat (first | rw [upA_s] | rw [upA_n (by omega)]))
                             all_goals omega
                           · repeat (first | exact HF | refine FC.ok (FC.up0 ?_ (by decide)) | refine FC.ok (FC.up1 ?_))
                           · intro x j hx hz
                             have hx1 : x ≠ hv := fun e => hx (by rw [e]; exact ohv)
                             have hx2 : x ≠ 10 := fun e => hx (by rw [e, HY.2.1]; decide)
                             repeat (first | rw [aup_rn hx1] | rw [aup_rn hx2] | rw [aup_n (fun z => hz ⟨z.1, Or.inl z.2⟩)])
                           · repeat rw [aup_n (by omega)]
                           · intro b b0 b1 b9
                             rw [aup_rn b0]
                             repeat rw [aup_rn b1]
                           · intro i hi
                             rw [aup_n (by omega)]
                             repeat rw [aup_rn (by decide)]
                           · repeat rw [aup_n (by omega)]
                             rw [aup_s, aup_s]
                           · repeat rw [aup_n (by omega)]
                             repeat rw [aup_rn (by decide)]
                             exact hv3
                           · repeat rw [aup_n (by omega)]
                             repeat rw [aup_rn (by decide)]
                             exact hv4)
          · first
              | (exfalso; omega)
              | skip
                refine aK_i ?_
                refine aw_ifeq (tgt := 32) dX7_sample_5 (by decide) (fun _ => ?_) (fun h => absurd h (by decide))
                refine aw_aload_n dX7_sample_32 rfl ?_
                refine aw_iconst dX7_sample_33 (by decide) ?_
                refine c_X7_72 rfl dX7_sample_34 m_ob (Nat.le_of_ble_eq_true rfl) (by omega) (C_m_refuse ?_)
                refine aK_i ?_
                refine aw_ireturn dX7_sample_37 rfl ?_
                first
                  | (exfalso; omega)
                  | (refine XR.sameE h ?_ ?_ ?_ ?_ ?_ ?_
                     · first
                         | rfl
                         | omega
                     · repeat (first | exact xs.rf | refine xs.up ?_ (by decide))
                     · repeat (first | exact mss.rf | refine mss.up0 ?_ (by decide))
                     · first
                         | (simp [aup, hv2, hv3, hv4]; done)
                         | (simp [aup, hv2, hv3, hv4]; omega)
                     · simp [aup, hv2, hv3, hv4]
                     · simp [aup, hv2, hv3, hv4])
                  | (refine ⟨vI_eq (by first | rfl | omega), _, rfl, XR.yd (upA (upA (cm 1) (64 + 198 * a + 4) (cm 1 (64 + 198 * a + 4) + b)) (64 + 198 * a + 5) (cm 1 (64 + 198 * a + 5) + c)) hR HX HL HN HS HP ?_ ?_ ?_ ?_ ?_ ?_ ?_ ?_ ?_ ?_ ?_ ?_ ?_⟩
                     · rw [aup_rn (by decide), aup_r, aup_r]
                     · rw [upA_n (by omega), upA_n (by omega)]
                       exact ((HY.up0 (j := 7) (v := 0) hR.1.2 (by decide)).hfld (k := a) (j := 6) (v := cm 1 (64 + 198 * a + 4) + b) (by omega) (by omega) (by rw [aup_rn nv0]; exact ehv) (by omega)).hfld (k := a) (j := 7) (v := cm 1 (64 + 198 * a + 5) + c) (by omega) (by rw [upA_n (by omega)]; omega) (by rw [aup_rn nvhv, aup_rn nv0]; exact ehv) (by omega)
                     · intro i hi
                       repeat rw [upA_n (by omega)]
                     · intro k k0 k1
                       repeat rw [upA_n (by omega)]
                     · obtain ⟨q1, q2, q3, q4, q5, q6, q7⟩ := gh
                       refine PI.one HP (k := a) (by omega) (by omega) (fun i hi i1 i2 => ?_) ?_ ?_ ?_ ?_ ?_ ?_ ?_ ?_
                       · repeat rw [upA_n (by omega)]
                       all_goals (repeat (first | rw [upA_s] | rw [upA_n (by omega)]))
                       all_goals omega
                     · repeat (first | exact HF | refine FC.ok (FC.up0 ?_ (by decide)) | refine FC.ok (FC.up1 ?_))
                     · intro x j hx hz
                       have hx1 : x ≠ hv := fun e => hx (by rw [e]; exact ohv)
                       have hx2 : x ≠ 10 := fun e => hx (by rw [e, HY.2.1]; decide)
                       repeat (first | rw [aup_rn hx1] | rw [aup_rn hx2] | rw [aup_n (fun z => hz ⟨z.1, Or.inl z.2⟩)])
                     · repeat rw [aup_n (by omega)]
                     · intro b b0 b1 b9
                       rw [aup_rn b0]
                       repeat rw [aup_rn b1]
                     · intro i hi
                       rw [aup_n (by omega)]
                       repeat rw [aup_rn (by decide)]
                     · repeat rw [aup_n (by omega)]
                       rw [aup_s, aup_s]
                     · repeat rw [aup_n (by omega)]
                       repeat rw [aup_rn (by decide)]
                       exact hv3
                     · repeat rw [aup_n (by omega)]
                       repeat rw [aup_rn (by decide)]
                       exact hv4)
      · refine aK_i ?_
        refine aw_ifne (tgt := 37) dX0_sample_30 (by decide) (fun h => absurd h (by decide)) (fun _ => ?_)
        refine aw_iconst dX0_sample_33 (by decide) ?_
        refine aw_goto (tgt := 58) dX0_sample_34 (by decide) ?_
        refine p_X0_73_0 rfl dX0_sample_58 hR.o0 ?_
        refine aw_aload_n dX0_sample_61 rfl ?_
        refine g_X0_73_0 rfl dX0_sample_62 hR.o0 ?_
        repeat (first | rw [aup_s] | rw [aup_n (by omega)])
        refine aw_ifle (tgt := 70) dX0_sample_65 (by decide) (fun h => absurd h (by decide)) (fun _ => ?_)
        refine aw_iconst dX0_sample_68 (by decide) ?_
        refine aw_ireturn dX0_sample_69 rfl ?_
        refine ⟨_, rfl, ?_⟩
        refine AMet.go (L := [some (vR 0), some (vI a), some (vI b), some (vI c), none]) mok_X7_sample (Nat.le_of_ble_eq_true rfl) rfl ?_
        refine aw_aload_n dX7_sample_0 rfl ?_
        refine aw_iload_n dX7_sample_1 rfl ?_
        refine c_X7_274 rfl dX7_sample_2 m_ob (Nat.le_of_ble_eq_true rfl) (by omega) (C_m_isHive (fun hh => ?_) (fun hh => ?_))
        · first
            | (exfalso; omega)
            | skip
              refine aK_i ?_
              refine aw_ifeq (tgt := 32) dX7_sample_5 (by decide) (fun h => absurd h (by decide)) (fun _ => ?_)
              refine aw_iload_n dX7_sample_8 rfl ?_
              refine aw_i2l dX7_sample_9 ?_
              refine aw_lconst1 dX7_sample_10 ?_
              refine aw_ldc2 (x := 999) dX7_sample_11 q2005 (by decide) ?_
              refine c_X7_306 rfl dX7_sample_14  (Nat.le_of_ble_eq_true rfl) (by omega) (C_m_isFrom (fun hfr => ?_) (fun hfr => ?_))
              · first
                  | (exfalso; omega)
                  | skip
                    refine aK_i ?_
                    refine aw_ifeq (tgt := 32) dX7_sample_17 (by decide) (fun h => absurd h (by decide)) (fun _ => ?_)
                    refine aw_iload_n dX7_sample_20 rfl ?_
                    refine aw_i2l dX7_sample_21 ?_
                    refine aw_lconst0 dX7_sample_22 ?_
                    refine aw_ldc2 (x := 9999) dX7_sample_23 q1843 (by decide) ?_
                    refine c_X7_306 rfl dX7_sample_26  (Nat.le_of_ble_eq_true rfl) (by omega) (C_m_isFrom (fun hfr => ?_) (fun hfr => ?_))
                    · first
                        | (exfalso; omega)
                        | skip
                          refine aK_i ?_
                          refine aw_ifne (tgt := 38) dX7_sample_29 (by decide) (fun _ => ?_) (fun h => absurd h (by decide))
                          refine aw_iload_n dX7_sample_38 rfl ?_
                          refine c_X7_217 rfl dX7_sample_39  (Nat.le_of_ble_eq_true rfl) (by omega) (C_m_hiveRow (by omega) ?_)
                          refine aK_i ?_
                          refine aw_istore4 dX7_sample_42 (by decide) rfl ?_
                          refine gm_7 rfl dX7_sample_44 dX7_sample_45 rfl ?_
                          refine aw_iload dX7_sample_48 rfl ?_
                          refine aw_iconst dX7_sample_50 (by decide) ?_
                          refine aw_iaddr dX7_sample_51 (by omega) ?_
                          refine aw_iaload dX7_sample_52 m_a1 (by omega) (by omega) ?_
                          refine aw_iload_n dX7_sample_53 rfl ?_
                          refine aw_iaddr dX7_sample_54 (by omega) ?_
                          refine aw_ldcw (x := 99999) dX7_sample_55 q1876 (by decide) ?_
                          refine aw_icmple (tgt := 67) dX7_sample_58 (by decide) (fun h58 => ?_) (fun h58 => ?_)
                          · first
                              | (exfalso; omega)
                              | skip
                                refine gm_7 rfl dX7_sample_67 dX7_sample_68 rfl ?_
                                refine aw_iload dX7_sample_71 rfl ?_
                                refine aw_iconst dX7_sample_73 (by decide) ?_
                                refine aw_iaddr dX7_sample_74 (by omega) ?_
                                refine aw_dup2 dX7_sample_75 rfl rfl ?_
                                refine aw_iaload dX7_sample_76 m_a1 (by omega) (by omega) ?_
                                refine aw_iload_n dX7_sample_77 rfl ?_
                                refine aw_iaddr dX7_sample_78 (by omega) ?_
                                refine aw_iastore dX7_sample_79 m_a1 (by omega) (by omega) ?_
                                refine gm_7 rfl dX7_sample_80 dX7_sample_81 rfl ?_
                                refine aw_iload dX7_sample_84 rfl ?_
                                refine aw_iconst dX7_sample_86 (by decide) ?_
                                refine aw_iaddr dX7_sample_87 (by omega) ?_
                                refine aw_dup2 dX7_sample_88 rfl rfl ?_
                                refine aw_iaload dX7_sample_89 m_a1 (by omega) (by omega) ?_
                                rw [aup_n (by omega)]
                                refine aw_iload_n dX7_sample_90 rfl ?_
                                refine aw_iaddr dX7_sample_91 (by omega) ?_
                                refine aw_iastore dX7_sample_92 m_a1 (by omega) (by omega) ?_
                                refine aw_aload_n dX7_sample_93 rfl ?_
                                refine gm_7 rfl dX7_sample_94 dX7_sample_95 rfl ?_
                                refine aw_iload dX7_sample_98 rfl ?_
                                refine aw_iconst dX7_sample_100 (by decide) ?_
                                refine aw_iaddr dX7_sample_101 (by omega) ?_
                                refine aw_iaload dX7_sample_102 m_a1 (by omega) (by omega) ?_
                                rw [aup_n (by omega), aup_s]
                                refine c_X7_76 rfl dX7_sample_103 m_ob (Nat.le_of_ble_eq_true rfl) (by omega) (C_m_gives ?_)
                                refine aK_i ?_
                                refine aw_ireturn dX7_sample_106 rfl ?_
                                first
                                  | (exfalso; omega)
                                  | (refine XR.sameE h ?_ ?_ ?_ ?_ ?_ ?_
                                     · first
                                         | rfl
                                         | omega
                                     · repeat (first | exact xs.rf | refine xs.up ?_ (by decide))
                                     · repeat (first | exact mss.rf | refine mss.up0 ?_ (by decide))
                                     · first
                                         | (simp [aup, hv2, hv3, hv4]; done)
                                         | (simp [aup, hv2, hv3, hv4]; omega)
                                     · simp [aup, hv2, hv3, hv4]
                                     · simp [aup, hv2, hv3, hv4])
                                  | (refine ⟨vI_eq (by first | rfl | omega), _, rfl, XR.yd (upA (upA (cm 1) (64 + 198 * a + 4) (cm 1 (64 + 198 * a + 4) + b)) (64 + 198 * a + 5) (cm 1 (64 + 198 * a + 5) + c)) hR HX HL HN HS HP ?_ ?_ ?_ ?_ ?_ ?_ ?_ ?_ ?_ ?_ ?_ ?_ ?_⟩
                                     · rw [aup_rn (by decide), aup_r, aup_r]
                                     · rw [upA_n (by omega), upA_n (by omega)]
                                       exact ((HY.up0 (j := 7) (v := 0) hR.1.2 (by decide)).hfld (k := a) (j := 6) (v := cm 1 (64 + 198 * a + 4) + b) (by omega) (by omega) (by rw [aup_rn nv0]; exact ehv) (by omega)).hfld (k := a) (j := 7) (v := cm 1 (64 + 198 * a + 5) + c) (by omega) (by rw [upA_n (by omega)]; omega) (by rw [aup_rn nvhv, aup_rn nv0]; exact ehv) (by omega)
                                     · intro i hi
                                       repeat rw [upA_n (by omega)]
                                     · intro k k0 k1
                                       repeat rw [upA_n (by omega)]
                                     · obtain ⟨q1, q2, q3, q4, q5, q6, q7⟩ := gh
                                       refine PI.one HP (k := a) (by omega) (by omega) (fun i hi i1 i2 => ?_) ?_ ?_ ?_ ?_ ?_ ?_ ?_ ?_
                                       · repeat rw [upA_n (by omega)]
                                       all_goals (repeat (first | rw [upA_s] | rw [upA_n (by omega)]))
                                       all_goals omega
                                     · repeat (first | exact HF | refine FC.ok (FC.up0 ?_ (by decide)) | refine FC.ok (FC.up1 ?_))
                                     · intro x j hx hz
                                       have hx1 : x ≠ hv := fun e => hx (by rw [e]; exact ohv)
                                       have hx2 : x ≠ 10 := fun e => hx (by rw [e, HY.2.1]; decide)
                                       repeat (first | rw [aup_rn hx1] | rw [aup_rn hx2] | rw [aup_n (fun z => hz ⟨z.1, Or.inl z.2⟩)])
                                     · repeat rw [aup_n (by omega)]
                                     · intro b b0 b1 b9
                                       rw [aup_rn b0]
                                       repeat rw [aup_rn b1]
                                     · intro i hi
                                       rw [aup_n (by omega)]
                                       repeat rw [aup_rn (by decide)]
                                     · repeat rw [aup_n (by omega)]
                                       rw [aup_s, aup_s]
                                     · repeat rw [aup_n (by omega)]
                                       repeat rw [aup_rn (by decide)]
                                       exact hv3
                                     · repeat rw [aup_n (by omega)]
                                       repeat rw [aup_rn (by decide)]
                                       exact hv4)
                          · first
                              | (exfalso; omega)
                              | skip
                                refine aw_aload_n dX7_sample_61 rfl ?_
                                refine aw_iconst dX7_sample_62 (by decide) ?_
                                refine c_X7_72 rfl dX7_sample_63 m_ob (Nat.le_of_ble_eq_true rfl) (by omega) (C_m_refuse ?_)
                                refine aK_i ?_
                                refine aw_ireturn dX7_sample_66 rfl ?_
                                first
                                  | (exfalso; omega)
                                  | (refine XR.sameE h ?_ ?_ ?_ ?_ ?_ ?_
                                     · first
                                         | rfl
                                         | omega
                                     · repeat (first | exact xs.rf | refine xs.up ?_ (by decide))
                                     · repeat (first | exact mss.rf | refine mss.up0 ?_ (by decide))
                                     · first
                                         | (simp [aup, hv2, hv3, hv4]; done)
                                         | (simp [aup, hv2, hv3, hv4]; omega)
                                     · simp [aup, hv2, hv3, hv4]
                                     · simp [aup, hv2, hv3, hv4])
                                  | (refine ⟨vI_eq (by first | rfl | omega), _, rfl, XR.yd (upA (upA (cm 1) (64 + 198 * a + 4) (cm 1 (64 + 198 * a + 4) + b)) (64 + 198 * a + 5) (cm 1 (64 + 198 * a + 5) + c)) hR HX HL HN HS HP ?_ ?_ ?_ ?_ ?_ ?_ ?_ ?_ ?_ ?_ ?_ ?_ ?_⟩
                                     · rw [aup_rn (by decide), aup_r, aup_r]
                                     · rw [upA_n (by omega), upA_n (by omega)]
                                       exact ((HY.up0 (j := 7) (v := 0) hR.1.2 (by decide)).hfld (k := a) (j := 6) (v := cm 1 (64 + 198 * a + 4) + b) (by omega) (by omega) (by rw [aup_rn nv0]; exact ehv) (by omega)).hfld (k := a) (j := 7) (v := cm 1 (64 + 198 * a + 5) + c) (by omega) (by rw [upA_n (by omega)]; omega) (by rw [aup_rn nvhv, aup_rn nv0]; exact ehv) (by omega)
                                     · intro i hi
                                       repeat rw [upA_n (by omega)]
                                     · intro k k0 k1
                                       repeat rw [upA_n (by omega)]
                                     · obtain ⟨q1, q2, q3, q4, q5, q6, q7⟩ := gh
                                       refine PI.one HP (k := a) (by omega) (by omega) (fun i hi i1 i2 => ?_) ?_ ?_ ?_ ?_ ?_ ?_ ?_ ?_
                                       · repeat rw [upA_n (by omega)]
                                       all_goals (repeat (first | rw [upA_s] | rw [upA_n (by omega)]))
                                       all_goals omega
                                     · repeat (first | exact HF | refine FC.ok (FC.up0 ?_ (by decide)) | refine FC.ok (FC.up1 ?_))
                                     · intro x j hx hz
                                       have hx1 : x ≠ hv := fun e => hx (by rw [e]; exact ohv)
                                       have hx2 : x ≠ 10 := fun e => hx (by rw [e, HY.2.1]; decide)
                                       repeat (first | rw [aup_rn hx1] | rw [aup_rn hx2] | rw [aup_n (fun z => hz ⟨z.1, Or.inl z.2⟩)])
                                     · repeat rw [aup_n (by omega)]
                                     · intro b b0 b1 b9
                                       rw [aup_rn b0]
                                       repeat rw [aup_rn b1]
                                     · intro i hi
                                       rw [aup_n (by omega)]
                                       repeat rw [aup_rn (by decide)]
                                     · repeat rw [aup_n (by omega)]
                                       rw [aup_s, aup_s]
                                     · repeat rw [aup_n (by omega)]
                                       repeat rw [aup_rn (by decide)]
                                       exact hv3
                                     · repeat rw [aup_n (by omega)]
                                       repeat rw [aup_rn (by decide)]
                                       exact hv4)
                    · first
                        | (exfalso; omega)
                        | skip
                          refine aK_i ?_
                          refine aw_ifne (tgt := 38) dX7_sample_29 (by decide) (fun h => absurd h (by decide)) (fun _ => ?_)
                          refine aw_aload_n dX7_sample_32 rfl ?_
                          refine aw_iconst dX7_sample_33 (by decide) ?_
                          refine c_X7_72 rfl dX7_sample_34 m_ob (Nat.le_of_ble_eq_true rfl) (by omega) (C_m_refuse ?_)
                          refine aK_i ?_
                          refine aw_ireturn dX7_sample_37 rfl ?_
                          first
                            | (exfalso; omega)
                            | (refine XR.sameE h ?_ ?_ ?_ ?_ ?_ ?_
                               · first
                                   | rfl
                                   | omega
                               · repeat (first | exact xs.rf | refine xs.up ?_ (by decide))
                               · repeat (first | exact mss.rf | refine mss.up0 ?_ (by decide))
                               · first
                                   | (simp [aup, hv2, hv3, hv4]; done)
                                   | (simp [aup, hv2, hv3, hv4]; omega)
                               · simp [aup, hv2, hv3, hv4]
                               · simp [aup, hv2, hv3, hv4])
                            | (refine ⟨vI_eq (by first | rfl | omega), _, rfl, XR.yd (upA (upA (cm 1) (64 + 198 * a + 4) (cm 1 (64 + 198 * a + 4) + b)) (64 + 198 * a + 5) (cm 1 (64 + 198 * a + 5) + c)) hR HX HL HN HS HP ?_ ?_ ?_ ?_ ?_ ?_ ?_ ?_ ?_ ?_ ?_ ?_ ?_⟩
                               · rw [aup_rn (by decide), aup_r, aup_r]
                               · rw [upA_n (by omega), upA_n (by omega)]
                                 exact ((HY.up0 (j := 7) (v := 0) hR.1.2 (by decide)).hfld (k := a) (j := 6) (v := cm 1 (64 + 198 * a + 4) + b) (by omega) (by omega) (by rw [aup_rn nv0]; exact ehv) (by omega)).hfld (k := a) (j := 7) (v := cm 1 (64 + 198 * a + 5) + c) (by omega) (by rw [upA_n (by omega)]; omega) (by rw [aup_rn nvhv, aup_rn nv0]; exact ehv) (by omega)
                               · intro i hi
                                 repeat rw [upA_n (by omega)]
                               · intro k k0 k1
                                 repeat rw [upA_n (by omega)]
                               · obtain ⟨q1, q2, q3, q4, q5, q6, q7⟩ := gh
                                 refine PI.one HP (k := a) (by omega) (by omega) (fun i hi i1 i2 => ?_) ?_ ?_ ?_ ?_ ?_ ?_ ?_ ?_
                                 · repeat rw [upA_n (by omega)]
                                 all_goals (repeat (first | rw [upA_s] | rw [upA_n (by omega)]))
                                 all_goals omega
                               · repeat (first | exact HF | refine FC.ok (FC.up0 ?_ (by decide)) | refine FC.ok (FC.up1 ?_))
                               · intro x j hx hz
                                 have hx1 : x ≠ hv := fun e => hx (by rw [e]; exact ohv)
                                 have hx2 : x ≠ 10 := fun e => hx (by rw [e, HY.2.1]; decide)
                                 repeat (first | rw [aup_rn hx1] | rw [aup_rn hx2] | rw [aup_n (fun z => hz ⟨z.1, Or.inl z.2⟩)])
                               · repeat rw [aup_n (by omega)]
                               · intro b b0 b1 b9
                                 rw [aup_rn b0]
                                 repeat rw [aup_rn b1]
                               · intro i hi
                                 rw [aup_n (by omega)]
                                 repeat rw [aup_rn (by decide)]
                               · repeat rw [aup_n (by omega)]
                                 rw [aup_s, aup_s]
                               · repeat rw [aup_n (by omega)]
                                 repeat rw [aup_rn (by decide)]
                                 exact hv3
                               · repeat rw [aup_n (by omega)]
                                 repeat rw [aup_rn (by decide)]
                                 exact hv4)
              · first
                  | (exfalso; omega)
                  | skip
                    refine aK_i ?_
                    refine aw_ifeq (tgt := 32) dX7_sample_17 (by decide) (fun _ => ?_) (fun h => absurd h (by decide))
                    refine aw_aload_n dX7_sample_32 rfl ?_
                    refine aw_iconst dX7_sample_33 (by decide) ?_
                    refine c_X7_72 rfl dX7_sample_34 m_ob (Nat.le_of_ble_eq_true rfl) (by omega) (C_m_refuse ?_)
                    refine aK_i ?_
                    refine aw_ireturn dX7_sample_37 rfl ?_
                    first
                      | (exfalso; omega)
                      | (refine XR.sameE h ?_ ?_ ?_ ?_ ?_ ?_
                         · first
                             | rfl
                             | omega
                         · repeat (first | exact xs.rf | refine xs.up ?_ (by decide))
                         · repeat (first | exact mss.rf | refine mss.up0 ?_ (by decide))
                         · first
                             | (simp [aup, hv2, hv3, hv4]; done)
                             | (simp [aup, hv2, hv3, hv4]; omega)
                         · simp [aup, hv2, hv3, hv4]
                         · simp [aup, hv2, hv3, hv4])
                      | (refine ⟨vI_eq (by first | rfl | omega), _, rfl, XR.yd (upA (upA (cm 1) (64 + 198 * a + 4) (cm 1 (64 + 198 * a + 4) + b)) (64 + 198 * a + 5) (cm 1 (64 + 198 * a + 5) + c)) hR HX HL HN HS HP ?_ ?_ ?_ ?_ ?_ ?_ ?_ ?_ ?_ ?_ ?_ ?_ ?_⟩
                         · rw [aup_rn (by decide), aup_r, aup_r]
                         · rw [upA_n (by omega), upA_n (by omega)]
                           exact ((HY.up0 (j := 7) (v := 0) hR.1.2 (by decide)).hfld (k := a) (j := 6) (v := cm 1 (64 + 198 * a + 4) + b) (by omega) (by omega) (by rw [aup_rn nv0]; exact ehv) (by omega)).hfld (k := a) (j := 7) (v := cm 1 (64 + 198 * a + 5) + c) (by omega) (by rw [upA_n (by omega)]; omega) (by rw [aup_rn nvhv, aup_rn nv0]; exact ehv) (by omega)
                         · intro i hi
                           repeat rw [upA_n (by omega)]
                         · intro k k0 k1
                           repeat rw [upA_n (by omega)]
                         · obtain ⟨q1, q2, q3, q4, q5, q6, q7⟩ := gh
                           refine PI.one HP (k := a) (by omega) (by omega) (fun i hi i1 i2 => ?_) ?_ ?_ ?_ ?_ ?_ ?_ ?_ ?_
                           · repeat rw [upA_n (by omega)]
                           all_goals (repeat (first | rw [upA_s] | rw [upA_n (by omega)]))
                           all_goals omega
                         · repeat (first | exact HF | refine FC.ok (FC.up0 ?_ (by decide)) | refine FC.ok (FC.up1 ?_))
                         · intro x j hx hz
                           have hx1 : x ≠ hv := fun e => hx (by rw [e]; exact ohv)
                           have hx2 : x ≠ 10 := fun e => hx (by rw [e, HY.2.1]; decide)
                           repeat (first | rw [aup_rn hx1] | rw [aup_rn hx2] | rw [aup_n (fun z => hz ⟨z.1, Or.inl z.2⟩)])
                         · repeat rw [aup_n (by omega)]
                         · intro b b0 b1 b9
                           rw [aup_rn b0]
                           repeat rw [aup_rn b1]
                         · intro i hi
                           rw [aup_n (by omega)]
                           repeat rw [aup_rn (by decide)]
                         · repeat rw [aup_n (by omega)]
                           rw [aup_s, aup_s]
                         · repeat rw [aup_n (by omega)]
                           repeat rw [aup_rn (by decide)]
                           exact hv3
                         · repeat rw [aup_n (by omega)]
                           repeat rw [aup_rn (by decide)]
                           exact hv4)
        · first
            | (exfalso; omega)
            | skip
              refine aK_i ?_
              refine aw_ifeq (tgt := 32) dX7_sample_5 (by decide) (fun _ => ?_) (fun h => absurd h (by decide))
              refine aw_aload_n dX7_sample_32 rfl ?_
              refine aw_iconst dX7_sample_33 (by decide) ?_
              refine c_X7_72 rfl dX7_sample_34 m_ob (Nat.le_of_ble_eq_true rfl) (by omega) (C_m_refuse ?_)
              refine aK_i ?_
              refine aw_ireturn dX7_sample_37 rfl ?_
              first
                | (exfalso; omega)
                | (refine XR.sameE h ?_ ?_ ?_ ?_ ?_ ?_
                   · first
                       | rfl
                       | omega
                   · repeat (first | exact xs.rf | refine xs.up ?_ (by decide))
                   · repeat (first | exact mss.rf | refine mss.up0 ?_ (by decide))
                   · first
                       | (simp [aup, hv2, hv3, hv4]; done)
                       | (simp [aup, hv2, hv3, hv4]; omega)
                   · simp [aup, hv2, hv3, hv4]
                   · simp [aup, hv2, hv3, hv4])
                | (refine ⟨vI_eq (by first | rfl | omega), _, rfl, XR.yd (upA (upA (cm 1) (64 + 198 * a + 4) (cm 1 (64 + 198 * a + 4) + b)) (64 + 198 * a + 5) (cm 1 (64 + 198 * a + 5) + c)) hR HX HL HN HS HP ?_ ?_ ?_ ?_ ?_ ?_ ?_ ?_ ?_ ?_ ?_ ?_ ?_⟩
                   · rw [aup_rn (by decide), aup_r, aup_r]
                   · rw [upA_n (by omega), upA_n (by omega)]
                     exact ((HY.up0 (j := 7) (v := 0) hR.1.2 (by decide)).hfld (k := a) (j := 6) (v := cm 1 (64 + 198 * a + 4) + b) (by omega) (by omega) (by rw [aup_rn nv0]; exact ehv) (by omega)).hfld (k := a) (j := 7) (v := cm 1 (64 + 198 * a + 5) + c) (by omega) (by rw [upA_n (by omega)]; omega) (by rw [aup_rn nvhv, aup_rn nv0]; exact ehv) (by omega)
                   · intro i hi
                     repeat rw [upA_n (by omega)]
                   · intro k k0 k1
                     repeat rw [upA_n (by omega)]
                   · obtain ⟨q1, q2, q3, q4, q5, q6, q7⟩ := gh
                     refine PI.one HP (k := a) (by omega) (by omega) (fun i hi i1 i2 => ?_) ?_ ?_ ?_ ?_ ?_ ?_ ?_ ?_
                     · repeat rw [upA_n (by omega)]
                     all_goals (repeat (first | rw [upA_s] | rw [upA_n (by omega)]))
                     all_goals omega
                   · repeat (first | exact HF | refine FC.ok (FC.up0 ?_ (by decide)) | refine FC.ok (FC.up1 ?_))
                   · intro x j hx hz
                     have hx1 : x ≠ hv := fun e => hx (by rw [e]; exact ohv)
                     have hx2 : x ≠ 10 := fun e => hx (by rw [e, HY.2.1]; decide)
                     repeat (first | rw [aup_rn hx1] | rw [aup_rn hx2] | rw [aup_n (fun z => hz ⟨z.1, Or.inl z.2⟩)])
                   · repeat rw [aup_n (by omega)]
                   · intro b b0 b1 b9
                     rw [aup_rn b0]
                     repeat rw [aup_rn b1]
                   · intro i hi
                     rw [aup_n (by omega)]
                     repeat rw [aup_rn (by decide)]
                   · repeat rw [aup_n (by omega)]
                     rw [aup_s, aup_s]
                   · repeat rw [aup_n (by omega)]
                     repeat rw [aup_rn (by decide)]
                     exact hv3
                   · repeat rw [aup_n (by omega)]
                     repeat rw [aup_rn (by decide)]
                     exact hv4)
    · refine aK_i ?_
      refine aw_ifeq (tgt := 33) dX0_sample_18 (by decide) (fun _ => ?_) (fun h => absurd h (by decide))
      refine aw_iconst dX0_sample_33 (by decide) ?_
      refine aw_goto (tgt := 58) dX0_sample_34 (by decide) ?_
      refine p_X0_73_0 rfl dX0_sample_58 hR.o0 ?_
      refine aw_aload_n dX0_sample_61 rfl ?_
      refine g_X0_73_0 rfl dX0_sample_62 hR.o0 ?_
      repeat (first | rw [aup_s] | rw [aup_n (by omega)])
      refine aw_ifle (tgt := 70) dX0_sample_65 (by decide) (fun h => absurd h (by decide)) (fun _ => ?_)
      refine aw_iconst dX0_sample_68 (by decide) ?_
      refine aw_ireturn dX0_sample_69 rfl ?_
      refine ⟨_, rfl, ?_⟩
      refine AMet.go (L := [some (vR 0), some (vI a), some (vI b), some (vI c), none]) mok_X7_sample (Nat.le_of_ble_eq_true rfl) rfl ?_
      refine aw_aload_n dX7_sample_0 rfl ?_
      refine aw_iload_n dX7_sample_1 rfl ?_
      refine c_X7_274 rfl dX7_sample_2 m_ob (Nat.le_of_ble_eq_true rfl) (by omega) (C_m_isHive (fun hh => ?_) (fun hh => ?_))
      · first
          | (exfalso; omega)
          | skip
            refine aK_i ?_
            refine aw_ifeq (tgt := 32) dX7_sample_5 (by decide) (fun h => absurd h (by decide)) (fun _ => ?_)
            refine aw_iload_n dX7_sample_8 rfl ?_
            refine aw_i2l dX7_sample_9 ?_
            refine aw_lconst1 dX7_sample_10 ?_
            refine aw_ldc2 (x := 999) dX7_sample_11 q2005 (by decide) ?_
            refine c_X7_306 rfl dX7_sample_14  (Nat.le_of_ble_eq_true rfl) (by omega) (C_m_isFrom (fun hfr => ?_) (fun hfr => ?_))
            · first
                | (exfalso; omega)
                | skip
                  refine aK_i ?_
                  refine aw_ifeq (tgt := 32) dX7_sample_17 (by decide) (fun h => absurd h (by decide)) (fun _ => ?_)
                  refine aw_iload_n dX7_sample_20 rfl ?_
                  refine aw_i2l dX7_sample_21 ?_
                  refine aw_lconst0 dX7_sample_22 ?_
                  refine aw_ldc2 (x := 9999) dX7_sample_23 q1843 (by decide) ?_
                  refine c_X7_306 rfl dX7_sample_26  (Nat.le_of_ble_eq_true rfl) (by omega) (C_m_isFrom (fun hfr => ?_) (fun hfr => ?_))
                  · first
                      | (exfalso; omega)
                      | skip
                        refine aK_i ?_
                        refine aw_ifne (tgt := 38) dX7_sample_29 (by decide) (fun _ => ?_) (fun h => absurd h (by decide))
                        refine aw_iload_n dX7_sample_38 rfl ?_
                        refine c_X7_217 rfl dX7_sample_39  (Nat.le_of_ble_eq_true rfl) (by omega) (C_m_hiveRow (by omega) ?_)
                        refine aK_i ?_
                        refine aw_istore4 dX7_sample_42 (by decide) rfl ?_
                        refine gm_7 rfl dX7_sample_44 dX7_sample_45 rfl ?_
                        refine aw_iload dX7_sample_48 rfl ?_
                        refine aw_iconst dX7_sample_50 (by decide) ?_
                        refine aw_iaddr dX7_sample_51 (by omega) ?_
                        refine aw_iaload dX7_sample_52 m_a1 (by omega) (by omega) ?_
                        refine aw_iload_n dX7_sample_53 rfl ?_
                        refine aw_iaddr dX7_sample_54 (by omega) ?_
                        refine aw_ldcw (x := 99999) dX7_sample_55 q1876 (by decide) ?_
                        refine aw_icmple (tgt := 67) dX7_sample_58 (by decide) (fun h58 => ?_) (fun h58 => ?_)
                        · first
                            | (exfalso; omega)
                            | skip
                              refine gm_7 rfl dX7_sample_67 dX7_sample_68 rfl ?_
                              refine aw_iload dX7_sample_71 rfl ?_
                              refine aw_iconst dX7_sample_73 (by decide) ?_
                              refine aw_iaddr dX7_sample_74 (by omega) ?_
                              refine aw_dup2 dX7_sample_75 rfl rfl ?_
                              refine aw_iaload dX7_sample_76 m_a1 (by omega) (by omega) ?_
                              refine aw_iload_n dX7_sample_77 rfl ?_
                              refine aw_iaddr dX7_sample_78 (by omega) ?_
                              refine aw_iastore dX7_sample_79 m_a1 (by omega) (by omega) ?_
                              refine gm_7 rfl dX7_sample_80 dX7_sample_81 rfl ?_
                              refine aw_iload dX7_sample_84 rfl ?_
                              refine aw_iconst dX7_sample_86 (by decide) ?_
                              refine aw_iaddr dX7_sample_87 (by omega) ?_
                              refine aw_dup2 dX7_sample_88 rfl rfl ?_
                              refine aw_iaload dX7_sample_89 m_a1 (by omega) (by omega) ?_
                              rw [aup_n (by omega)]
                              refine aw_iload_n dX7_sample_90 rfl ?_
                              refine aw_iaddr dX7_sample_91 (by omega) ?_
                              refine aw_iastore dX7_sample_92 m_a1 (by omega) (by omega) ?_
                              refine aw_aload_n dX7_sample_93 rfl ?_
                              refine gm_7 rfl dX7_sample_94 dX7_sample_95 rfl ?_
                              refine aw_iload dX7_sample_98 rfl ?_
                              refine aw_iconst dX7_sample_100 (by decide) ?_
                              refine aw_iaddr dX7_sample_101 (by omega) ?_
                              refine aw_iaload dX7_sample_102 m_a1 (by omega) (by omega) ?_
                              rw [aup_n (by omega), aup_s]
                              refine c_X7_76 rfl dX7_sample_103 m_ob (Nat.le_of_ble_eq_true rfl) (by omega) (C_m_gives ?_)
                              refine aK_i ?_
                              refine aw_ireturn dX7_sample_106 rfl ?_
                              first
                                | (exfalso; omega)
                                | (refine XR.sameE h ?_ ?_ ?_ ?_ ?_ ?_
                                   · first
                                       | rfl
                                       | omega
                                   · repeat (first | exact xs.rf | refine xs.up ?_ (by decide))
                                   · repeat (first | exact mss.rf | refine mss.up0 ?_ (by decide))
                                   · first
                                       | (simp [aup, hv2, hv3, hv4]; done)
                                       | (simp [aup, hv2, hv3, hv4]; omega)
                                   · simp [aup, hv2, hv3, hv4]
                                   · simp [aup, hv2, hv3, hv4])
                                | (refine ⟨vI_eq (by first | rfl | omega), _, rfl, XR.yd (upA (upA (cm 1) (64 + 198 * a + 4) (cm 1 (64 + 198 * a + 4) + b)) (64 + 198 * a + 5) (cm 1 (64 + 198 * a + 5) + c)) hR HX HL HN HS HP ?_ ?_ ?_ ?_ ?_ ?_ ?_ ?_ ?_ ?_ ?_ ?_ ?_⟩
                                   · rw [aup_rn (by decide), aup_r, aup_r]
                                   · rw [upA_n (by omega), upA_n (by omega)]
                                     exact ((HY.up0 (j := 7) (v := 0) hR.1.2 (by decide)).hfld (k := a) (j := 6) (v := cm 1 (64 + 198 * a + 4) + b) (by omega) (by omega) (by rw [aup_rn nv0]; exact ehv) (by omega)).hfld (k := a) (j := 7) (v := cm 1 (64 + 198 * a + 5) + c) (by omega) (by rw [upA_n (by omega)]; omega) (by rw [aup_rn nvhv, aup_rn nv0]; exact ehv) (by omega)
                                   · intro i hi
                                     repeat rw [upA_n (by omega)]
                                   · intro k k0 k1
                                     repeat rw [upA_n (by omega)]
                                   · obtain ⟨q1, q2, q3, q4, q5, q6, q7⟩ := gh
                                     refine PI.one HP (k := a) (by omega) (by omega) (fun i hi i1 i2 => ?_) ?_ ?_ ?_ ?_ ?_ ?_ ?_ ?_
                                     · repeat rw [upA_n (by omega)]
                                     all_goals (repeat (first | rw [upA_s] | rw [upA_n (by omega)]))
                                     all_goals omega
                                   · repeat (first | exact HF | refine FC.ok (FC.up0 ?_ (by decide)) | refine FC.ok (FC.up1 ?_))
                                   · intro x j hx hz
                                     have hx1 : x ≠ hv := fun e => hx (by rw [e]; exact ohv)
                                     have hx2 : x ≠ 10 := fun e => hx (by rw [e, HY.2.1]; decide)
                                     repeat (first | rw [aup_rn hx1] | rw [aup_rn hx2] | rw [aup_n (fun z => hz ⟨z.1, Or.inl z.2⟩)])
                                   · repeat rw [aup_n (by omega)]
                                   · intro b b0 b1 b9
                                     rw [aup_rn b0]
                                     repeat rw [aup_rn b1]
                                   · intro i hi
                                     rw [aup_n (by omega)]
                                     repeat rw [aup_rn (by decide)]
                                   · repeat rw [aup_n (by omega)]
                                     rw [aup_s, aup_s]
                                   · repeat rw [aup_n (by omega)]
                                     repeat rw [aup_rn (by decide)]
                                     exact hv3
                                   · repeat rw [aup_n (by omega)]
                                     repeat rw [aup_rn (by decide)]
                                     exact hv4)
                        · first
                            | (exfalso; omega)
                            | skip
                              refine aw_aload_n dX7_sample_61 rfl ?_
                              refine aw_iconst dX7_sample_62 (by decide) ?_
                              refine c_X7_72 rfl dX7_sample_63 m_ob (Nat.le_of_ble_eq_true rfl) (by omega) (C_m_refuse ?_)
                              refine aK_i ?_
                              refine aw_ireturn dX7_sample_66 rfl ?_
                              first
                                | (exfalso; omega)
                                | (refine XR.sameE h ?_ ?_ ?_ ?_ ?_ ?_
                                   · first
                                       | rfl
                                       | omega
                                   · repeat (first | exact xs.rf | refine xs.up ?_ (by decide))
                                   · repeat (first | exact mss.rf | refine mss.up0 ?_ (by decide))
                                   · first
                                       | (simp [aup, hv2, hv3, hv4]; done)
                                       | (simp [aup, hv2, hv3, hv4]; omega)
                                   · simp [aup, hv2, hv3, hv4]
                                   · simp [aup, hv2, hv3, hv4])
                                | (refine ⟨vI_eq (by first | rfl | omega), _, rfl, XR.yd (upA (upA (cm 1) (64 + 198 * a + 4) (cm 1 (64 + 198 * a + 4) + b)) (64 + 198 * a + 5) (cm 1 (64 + 198 * a + 5) + c)) hR HX HL HN HS HP ?_ ?_ ?_ ?_ ?_ ?_ ?_ ?_ ?_ ?_ ?_ ?_ ?_⟩
                                   · rw [aup_rn (by decide), aup_r, aup_r]
                                   · rw [upA_n (by omega), upA_n (by omega)]
                                     exact ((HY.up0 (j := 7) (v := 0) hR.1.2 (by decide)).hfld (k := a) (j := 6) (v := cm 1 (64 + 198 * a + 4) + b) (by omega) (by omega) (by rw [aup_rn nv0]; exact ehv) (by omega)).hfld (k := a) (j := 7) (v := cm 1 (64 + 198 * a + 5) + c) (by omega) (by rw [upA_n (by omega)]; omega) (by rw [aup_rn nvhv, aup_rn nv0]; exact ehv) (by omega)
                                   · intro i hi
                                     repeat rw [upA_n (by omega)]
                                   · intro k k0 k1
                                     repeat rw [upA_n (by omega)]
                                   · obtain ⟨q1, q2, q3, q4, q5, q6, q7⟩ := gh
                                     refine PI.one HP (k := a) (by omega) (by omega) (fun i hi i1 i2 => ?_) ?_ ?_ ?_ ?_ ?_ ?_ ?_ ?_
                                     · repeat rw [upA_n (by omega)]
                                     all_goals (repeat (first | rw [upA_s] | rw [upA_n (by omega)]))
                                     all_goals omega
                                   · repeat (first | exact HF | refine FC.ok (FC.up0 ?_ (by decide)) | refine FC.ok (FC.up1 ?_))
                                   · intro x j hx hz
                                     have hx1 : x ≠ hv := fun e => hx (by rw [e]; exact ohv)
                                     have hx2 : x ≠ 10 := fun e => hx (by rw [e, HY.2.1]; decide)
                                     repeat (first | rw [aup_rn hx1] | rw [aup_rn hx2] | rw [aup_n (fun z => hz ⟨z.1, Or.inl z.2⟩)])
                                   · repeat rw [aup_n (by omega)]
                                   · intro b b0 b1 b9
                                     rw [aup_rn b0]
                                     repeat rw [aup_rn b1]
                                   · intro i hi
                                     rw [aup_n (by omega)]
                                     repeat rw [aup_rn (by decide)]
                                   · repeat rw [aup_n (by omega)]
                                     rw [aup_s, aup_s]
                                   · repeat rw [aup_n (by omega)]
                                     repeat rw [aup_rn (by decide)]
                                     exact hv3
                                   · repeat rw [aup_n (by omega)]
                                     repeat rw [aup_rn (by decide)]
                                     exact hv4)
                  · first
                      | (exfalso; omega)
                      | skip
                        refine aK_i ?_
                        refine aw_ifne (tgt := 38) dX7_sample_29 (by decide) (fun h => absurd h (by decide)) (fun _ => ?_)
                        refine aw_aload_n dX7_sample_32 rfl ?_
                        refine aw_iconst dX7_sample_33 (by decide) ?_
                        refine c_X7_72 rfl dX7_sample_34 m_ob (Nat.le_of_ble_eq_true rfl) (by omega) (C_m_refuse ?_)
                        refine aK_i ?_
                        refine aw_ireturn dX7_sample_37 rfl ?_
                        first
                          | (exfalso; omega)
                          | (refine XR.sameE h ?_ ?_ ?_ ?_ ?_ ?_
                             · first
                                 | rfl
                                 | omega
                             · repeat (first | exact xs.rf | refine xs.up ?_ (by decide))
                             · repeat (first | exact mss.rf | refine mss.up0 ?_ (by decide))
                             · first
                                 | (simp [aup, hv2, hv3, hv4]; done)
                                 | (simp [aup, hv2, hv3, hv4]; omega)
                             · simp [aup, hv2, hv3, hv4]
                             · simp [aup, hv2, hv3, hv4])
                          | (refine ⟨vI_eq (by first | rfl | omega), _, rfl, XR.yd (upA (upA (cm 1) (64 + 198 * a + 4) (cm 1 (64 + 198 * a + 4) + b)) (64 + 198 * a + 5) (cm 1 (64 + 198 * a + 5) + c)) hR HX HL HN HS HP ?_ ?_ ?_ ?_ ?_ ?_ ?_ ?_ ?_ ?_ ?_ ?_ ?_⟩
                             · rw [aup_rn (by decide), aup_r, aup_r]
                             · rw [upA_n (by omega), upA_n (by omega)]
                               exact ((HY.up0 (j := 7) (v := 0) hR.1.2 (by decide)).hfld (k := a) (j := 6) (v := cm 1 (64 + 198 * a + 4) + b) (by omega) (by omega) (by rw [aup_rn nv0]; exact ehv) (by omega)).hfld (k := a) (j := 7) (v := cm 1 (64 + 198 * a + 5) + c) (by omega) (by rw [upA_n (by omega)]; omega) (by rw [aup_rn nvhv, aup_rn nv0]; exact ehv) (by omega)
                             · intro i hi
                               repeat rw [upA_n (by omega)]
                             · intro k k0 k1
                               repeat rw [upA_n (by omega)]
                             · obtain ⟨q1, q2, q3, q4, q5, q6, q7⟩ := gh
                               refine PI.one HP (k := a) (by omega) (by omega) (fun i hi i1 i2 => ?_) ?_ ?_ ?_ ?_ ?_ ?_ ?_ ?_
                               · repeat rw [upA_n (by omega)]
                               all_goals (repeat (first | rw [upA_s] | rw [upA_n (by omega)]))
                               all_goals omega
                             · repeat (first | exact HF | refine FC.ok (FC.up0 ?_ (by decide)) | refine FC.ok (FC.up1 ?_))
                             · intro x j hx hz
                               have hx1 : x ≠ hv := fun e => hx (by rw [e]; exact ohv)
                               have hx2 : x ≠ 10 := fun e => hx (by rw [e, HY.2.1]; decide)
                               repeat (first | rw [aup_rn hx1] | rw [aup_rn hx2] | rw [aup_n (fun z => hz ⟨z.1, Or.inl z.2⟩)])
                             · repeat rw [aup_n (by omega)]
                             · intro b b0 b1 b9
                               rw [aup_rn b0]
                               repeat rw [aup_rn b1]
                             · intro i hi
                               rw [aup_n (by omega)]
                               repeat rw [aup_rn (by decide)]
                             · repeat rw [aup_n (by omega)]
                               rw [aup_s, aup_s]
                             · repeat rw [aup_n (by omega)]
                               repeat rw [aup_rn (by decide)]
                               exact hv3
                             · repeat rw [aup_n (by omega)]
                               repeat rw [aup_rn (by decide)]
                               exact hv4)
            · first
                | (exfalso; omega)
                | skip
                  refine aK_i ?_
                  refine aw_ifeq (tgt := 32) dX7_sample_17 (by decide) (fun _ => ?_) (fun h => absurd h (by decide))
                  refine aw_aload_n dX7_sample_32 rfl ?_
                  refine aw_iconst dX7_sample_33 (by decide) ?_
                  refine c_X7_72 rfl dX7_sample_34 m_ob (Nat.le_of_ble_eq_true rfl) (by omega) (C_m_refuse ?_)
                  refine aK_i ?_
                  refine aw_ireturn dX7_sample_37 rfl ?_
                  first
                    | (exfalso; omega)
                    | (refine XR.sameE h ?_ ?_ ?_ ?_ ?_ ?_
                       · first
                           | rfl
                           | omega
                       · repeat (first | exact xs.rf | refine xs.up ?_ (by decide))
                       · repeat (first | exact mss.rf | refine mss.up0 ?_ (by decide))
                       · first
                           | (simp [aup, hv2, hv3, hv4]; done)
                           | (simp [aup, hv2, hv3, hv4]; omega)
                       · simp [aup, hv2, hv3, hv4]
                       · simp [aup, hv2, hv3, hv4])
                    | (refine ⟨vI_eq (by first | rfl | omega), _, rfl, XR.yd (upA (upA (cm 1) (64 + 198 * a + 4) (cm 1 (64 + 198 * a + 4) + b)) (64 + 198 * a + 5) (cm 1 (64 + 198 * a + 5) + c)) hR HX HL HN HS HP ?_ ?_ ?_ ?_ ?_ ?_ ?_ ?_ ?_ ?_ ?_ ?_ ?_⟩
                       · rw [aup_rn (by decide), aup_r, aup_r]
                       · rw [upA_n (by omega), upA_n (by omega)]
                         exact ((HY.up0 (j := 7) (v := 0) hR.1.2 (by decide)).hfld (k := a) (j := 6) (v := cm 1 (64 + 198 * a + 4) + b) (by omega) (by omega) (by rw [aup_rn nv0]; exact ehv) (by omega)).hfld (k := a) (j := 7) (v := cm 1 (64 + 198 * a + 5) + c) (by omega) (by rw [upA_n (by omega)]; omega) (by rw [aup_rn nvhv, aup_rn nv0]; exact ehv) (by omega)
                       · intro i hi
                         repeat rw [upA_n (by omega)]
                       · intro k k0 k1
                         repeat rw [upA_n (by omega)]
                       · obtain ⟨q1, q2, q3, q4, q5, q6, q7⟩ := gh
                         refine PI.one HP (k := a) (by omega) (by omega) (fun i hi i1 i2 => ?_) ?_ ?_ ?_ ?_ ?_ ?_ ?_ ?_
                         · repeat rw [upA_n (by omega)]
                         all_goals (repeat (first | rw [upA_s] | rw [upA_n (by omega)]))
                         all_goals omega
                       · repeat (first | exact HF | refine FC.ok (FC.up0 ?_ (by decide)) | refine FC.ok (FC.up1 ?_))
                       · intro x j hx hz
                         have hx1 : x ≠ hv := fun e => hx (by rw [e]; exact ohv)
                         have hx2 : x ≠ 10 := fun e => hx (by rw [e, HY.2.1]; decide)
                         repeat (first | rw [aup_rn hx1] | rw [aup_rn hx2] | rw [aup_n (fun z => hz ⟨z.1, Or.inl z.2⟩)])
                       · repeat rw [aup_n (by omega)]
                       · intro b b0 b1 b9
                         rw [aup_rn b0]
                         repeat rw [aup_rn b1]
                       · intro i hi
                         rw [aup_n (by omega)]
                         repeat rw [aup_rn (by decide)]
                       · repeat rw [aup_n (by omega)]
                         rw [aup_s, aup_s]
                       · repeat rw [aup_n (by omega)]
                         repeat rw [aup_rn (by decide)]
                         exact hv3
                       · repeat rw [aup_n (by omega)]
                         repeat rw [aup_rn (by decide)]
                         exact hv4)
      · first
          | (exfalso; omega)
          | skip
            refine aK_i ?_
            refine aw_ifeq (tgt := 32) dX7_sample_5 (by decide) (fun _ => ?_) (fun h => absurd h (by decide))
            refine aw_aload_n dX7_sample_32 rfl ?_
            refine aw_iconst dX7_sample_33 (by decide) ?_
            refine c_X7_72 rfl dX7_sample_34 m_ob (Nat.le_of_ble_eq_true rfl) (by omega) (C_m_refuse ?_)
            refine aK_i ?_
            refine aw_ireturn dX7_sample_37 rfl ?_
            first
              | (exfalso; omega)
              | (refine XR.sameE h ?_ ?_ ?_ ?_ ?_ ?_
                 · first
                     | rfl
                     | omega
                 · repeat (first | exact xs.rf | refine xs.up ?_ (by decide))
                 · repeat (first | exact mss.rf | refine mss.up0 ?_ (by decide))
                 · first
                     | (simp [aup, hv2, hv3, hv4]; done)
                     | (simp [aup, hv2, hv3, hv4]; omega)
                 · simp [aup, hv2, hv3, hv4]
                 · simp [aup, hv2, hv3, hv4])
              | (refine ⟨vI_eq (by first | rfl | omega), _, rfl, XR.yd (upA (upA (cm 1) (64 + 198 * a + 4) (cm 1 (64 + 198 * a + 4) + b)) (64 + 198 * a + 5) (cm 1 (64 + 198 * a + 5) + c)) hR HX HL HN HS HP ?_ ?_ ?_ ?_ ?_ ?_ ?_ ?_ ?_ ?_ ?_ ?_ ?_⟩
                 · rw [aup_rn (by decide), aup_r, aup_r]
                 · rw [upA_n (by omega), upA_n (by omega)]
                   exact ((HY.up0 (j := 7) (v := 0) hR.1.2 (by decide)).hfld (k := a) (j := 6) (v := cm 1 (64 + 198 * a + 4) + b) (by omega) (by omega) (by rw [aup_rn nv0]; exact ehv) (by omega)).hfld (k := a) (j := 7) (v := cm 1 (64 + 198 * a + 5) + c) (by omega) (by rw [upA_n (by omega)]; omega) (by rw [aup_rn nvhv, aup_rn nv0]; exact ehv) (by omega)
                 · intro i hi
                   repeat rw [upA_n (by omega)]
                 · intro k k0 k1
                   repeat rw [upA_n (by omega)]
                 · obtain ⟨q1, q2, q3, q4, q5, q6, q7⟩ := gh
                   refine PI.one HP (k := a) (by omega) (by omega) (fun i hi i1 i2 => ?_) ?_ ?_ ?_ ?_ ?_ ?_ ?_ ?_
                   · repeat rw [upA_n (by omega)]
                   all_goals (repeat (first | rw [upA_s] | rw [upA_n (by omega)]))
                   all_goals omega
                 · repeat (first | exact HF | refine FC.ok (FC.up0 ?_ (by decide)) | refine FC.ok (FC.up1 ?_))
                 · intro x j hx hz
                   have hx1 : x ≠ hv := fun e => hx (by rw [e]; exact ohv)
                   have hx2 : x ≠ 10 := fun e => hx (by rw [e, HY.2.1]; decide)
                   repeat (first | rw [aup_rn hx1] | rw [aup_rn hx2] | rw [aup_n (fun z => hz ⟨z.1, Or.inl z.2⟩)])
                 · repeat rw [aup_n (by omega)]
                 · intro b b0 b1 b9
                   rw [aup_rn b0]
                   repeat rw [aup_rn b1]
                 · intro i hi
                   rw [aup_n (by omega)]
                   repeat rw [aup_rn (by decide)]
                 · repeat rw [aup_n (by omega)]
                   rw [aup_s, aup_s]
                 · repeat rw [aup_n (by omega)]
                   repeat rw [aup_rn (by decide)]
                   exact hv3
                 · repeat rw [aup_n (by omega)]
                   repeat rw [aup_rn (by decide)]
                   exact hv4)
  · refine aK_i ?_
    refine aw_ifeq (tgt := 33) dX0_sample_6 (by decide) (fun _ => ?_) (fun h => absurd h (by decide))
    refine aw_iconst dX0_sample_33 (by decide) ?_
    refine aw_goto (tgt := 58) dX0_sample_34 (by decide) ?_
    refine p_X0_73_0 rfl dX0_sample_58 hR.o0 ?_
    refine aw_aload_n dX0_sample_61 rfl ?_
    refine g_X0_73_0 rfl dX0_sample_62 hR.o0 ?_
    repeat (first | rw [aup_s] | rw [aup_n (by omega)])
    refine aw_ifle (tgt := 70) dX0_sample_65 (by decide) (fun h => absurd h (by decide)) (fun _ => ?_)
    refine aw_iconst dX0_sample_68 (by decide) ?_
    refine aw_ireturn dX0_sample_69 rfl ?_
    refine ⟨_, rfl, ?_⟩
    refine AMet.go (L := [some (vR 0), some (vI a), some (vI b), some (vI c), none]) mok_X7_sample (Nat.le_of_ble_eq_true rfl) rfl ?_
    refine aw_aload_n dX7_sample_0 rfl ?_
    refine aw_iload_n dX7_sample_1 rfl ?_
    refine c_X7_274 rfl dX7_sample_2 m_ob (Nat.le_of_ble_eq_true rfl) (by omega) (C_m_isHive (fun hh => ?_) (fun hh => ?_))
    · first
        | (exfalso; omega)
        | skip
          refine aK_i ?_
          refine aw_ifeq (tgt := 32) dX7_sample_5 (by decide) (fun h => absurd h (by decide)) (fun _ => ?_)
          refine aw_iload_n dX7_sample_8 rfl ?_
          refine aw_i2l dX7_sample_9 ?_
          refine aw_lconst1 dX7_sample_10 ?_
          refine aw_ldc2 (x := 999) dX7_sample_11 q2005 (by decide) ?_
          refine c_X7_306 rfl dX7_sample_14  (Nat.le_of_ble_eq_true rfl) (by omega) (C_m_isFrom (fun hfr => ?_) (fun hfr => ?_))
          · first
              | (exfalso; omega)
              | skip
                refine aK_i ?_
                refine aw_ifeq (tgt := 32) dX7_sample_17 (by decide) (fun h => absurd h (by decide)) (fun _ => ?_)
                refine aw_iload_n dX7_sample_20 rfl ?_
                refine aw_i2l dX7_sample_21 ?_
                refine aw_lconst0 dX7_sample_22 ?_
                refine aw_ldc2 (x := 9999) dX7_sample_23 q1843 (by decide) ?_
                refine c_X7_306 rfl dX7_sample_26  (Nat.le_of_ble_eq_true rfl) (by omega) (C_m_isFrom (fun hfr => ?_) (fun hfr => ?_))
                · first
                    | (exfalso; omega)
                    | skip
                      refine aK_i ?_
                      refine aw_ifne (tgt := 38) dX7_sample_29 (by decide) (fun _ => ?_) (fun h => absurd h (by decide))
                      refine aw_iload_n dX7_sample_38 rfl ?_
                      refine c_X7_217 rfl dX7_sample_39  (Nat.le_of_ble_eq_true rfl) (by omega) (C_m_hiveRow (by omega) ?_)
                      refine aK_i ?_
                      refine aw_istore4 dX7_sample_42 (by decide) rfl ?_
                      refine gm_7 rfl dX7_sample_44 dX7_sample_45 rfl ?_
                      refine aw_iload dX7_sample_48 rfl ?_
                      refine aw_iconst dX7_sample_50 (by decide) ?_
                      refine aw_iaddr dX7_sample_51 (by omega) ?_
                      refine aw_iaload dX7_sample_52 m_a1 (by omega) (by omega) ?_
                      refine aw_iload_n dX7_sample_53 rfl ?_
                      refine aw_iaddr dX7_sample_54 (by omega) ?_
                      refine aw_ldcw (x := 99999) dX7_sample_55 q1876 (by decide) ?_
                      refine aw_icmple (tgt := 67) dX7_sample_58 (by decide) (fun h58 => ?_) (fun h58 => ?_)
                      · first
                          | (exfalso; omega)
                          | skip
                            refine gm_7 rfl dX7_sample_67 dX7_sample_68 rfl ?_
                            refine aw_iload dX7_sample_71 rfl ?_
                            refine aw_iconst dX7_sample_73 (by decide) ?_
                            refine aw_iaddr dX7_sample_74 (by omega) ?_
                            refine aw_dup2 dX7_sample_75 rfl rfl ?_
                            refine aw_iaload dX7_sample_76 m_a1 (by omega) (by omega) ?_
                            refine aw_iload_n dX7_sample_77 rfl ?_
                            refine aw_iaddr dX7_sample_78 (by omega) ?_
                            refine aw_iastore dX7_sample_79 m_a1 (by omega) (by omega) ?_
                            refine gm_7 rfl dX7_sample_80 dX7_sample_81 rfl ?_
                            refine aw_iload dX7_sample_84 rfl ?_
                            refine aw_iconst dX7_sample_86 (by decide) ?_
                            refine aw_iaddr dX7_sample_87 (by omega) ?_
                            refine aw_dup2 dX7_sample_88 rfl rfl ?_
                            refine aw_iaload dX7_sample_89 m_a1 (by omega) (by omega) ?_
                            rw [aup_n (by omega)]
                            refine aw_iload_n dX7_sample_90 rfl ?_
                            refine aw_iaddr dX7_sample_91 (by omega) ?_
                            refine aw_iastore dX7_sample_92 m_a1 (by omega) (by omega) ?_
                            refine aw_aload_n dX7_sample_93 rfl ?_
                            refine gm_7 rfl dX7_sample_94 dX7_sample_95 rfl ?_
                            refine aw_iload dX7_sample_98 rfl ?_
                            refine aw_iconst dX7_sample_100 (by decide) ?_
                            refine aw_iaddr dX7_sample_101 (by omega) ?_
                            refine aw_iaload dX7_sample_102 m_a1 (by omega) (by omega) ?_
                            rw [aup_n (by omega), aup_s]
                            refine c_X7_76 rfl dX7_sample_103 m_ob (Nat.le_of_ble_eq_true rfl) (by omega) (C_m_gives ?_)
                            refine aK_i ?_
                            refine aw_ireturn dX7_sample_106 rfl ?_
                            first
                              | (exfalso; omega)
                              | (refine XR.sameE h ?_ ?_ ?_ ?_ ?_ ?_
                                 · first
                                     | rfl
                                     | omega
                                 · repeat (first | exact xs.rf | refine xs.up ?_ (by decide))
                                 · repeat (first | exact mss.rf | refine mss.up0 ?_ (by decide))
                                 · first
                                     | (simp [aup, hv2, hv3, hv4]; done)
                                     | (simp [aup, hv2, hv3, hv4]; omega)
                                 · simp [aup, hv2, hv3, hv4]
                                 · simp [aup, hv2, hv3, hv4])
                              | (refine ⟨vI_eq (by first | rfl | omega), _, rfl, XR.yd (upA (upA (cm 1) (64 + 198 * a + 4) (cm 1 (64 + 198 * a + 4) + b)) (64 + 198 * a + 5) (cm 1 (64 + 198 * a + 5) + c)) hR HX HL HN HS HP ?_ ?_ ?_ ?_ ?_ ?_ ?_ ?_ ?_ ?_ ?_ ?_ ?_⟩
                                 · rw [aup_rn (by decide), aup_r, aup_r]
                                 · rw [upA_n (by omega), upA_n (by omega)]
                                   exact ((HY.up0 (j := 7) (v := 0) hR.1.2 (by decide)).hfld (k := a) (j := 6) (v := cm 1 (64 + 198 * a + 4) + b) (by omega) (by omega) (by rw [aup_rn nv0]; exact ehv) (by omega)).hfld (k := a) (j := 7) (v := cm 1 (64 + 198 * a + 5) + c) (by omega) (by rw [upA_n (by omega)]; omega) (by rw [aup_rn nvhv, aup_rn nv0]; exact ehv) (by omega)
                                 · intro i hi
                                   repeat rw [upA_n (by omega)]
                                 · intro k k0 k1
                                   repeat rw [upA_n (by omega)]
                                 · obtain ⟨q1, q2, q3, q4, q5, q6, q7⟩ := gh
                                   refine PI.one HP (k := a) (by omega) (by omega) (fun i hi i1 i2 => ?_) ?_ ?_ ?_ ?_ ?_ ?_ ?_ ?_
                                   · repeat rw [upA_n (by omega)]
                                   all_goals (repeat (first | rw [upA_s] | rw [upA_n (by omega)]))
                                   all_goals omega
                                 · repeat (first | exact HF | refine FC.ok (FC.up0 ?_ (by decide)) | refine FC.ok (FC.up1 ?_))
                                 · intro x j hx hz
                                   have hx1 : x ≠ hv := fun e => hx (by rw [e]; exact ohv)
                                   have hx2 : x ≠ 10 := fun e => hx (by rw [e, HY.2.1]; decide)
                                   repeat (first | rw [aup_rn hx1] | rw [aup_rn hx2] | rw [aup_n (fun z => hz ⟨z.1, Or.inl z.2⟩)])
                                 · repeat rw [aup_n (by omega)]
                                 · intro b b0 b1 b9
                                   rw [aup_rn b0]
                                   repeat rw [aup_rn b1]
                                 · intro i hi
                                   rw [aup_n (by omega)]
                                   repeat rw [aup_rn (by decide)]
                                 · repeat rw [aup_n (by omega)]
                                   rw [aup_s, aup_s]
                                 · repeat rw [aup_n (by omega)]
                                   repeat rw [aup_rn (by decide)]
                                   exact hv3
                                 · repeat rw [aup_n (by omega)]
                                   repeat rw [aup_rn (by decide)]
                                   exact hv4)
                      · first
                          | (exfalso; omega)
                          | skip
                            refine aw_aload_n dX7_sample_61 rfl ?_
                            refine aw_iconst dX7_sample_62 (by decide) ?_
                            refine c_X7_72 rfl dX7_sample_63 m_ob (Nat.le_of_ble_eq_true rfl) (by omega) (C_m_refuse ?_)
                            refine aK_i ?_
                            refine aw_ireturn dX7_sample_66 rfl ?_
                            first
                              | (exfalso; omega)
                              | (refine XR.sameE h ?_ ?_ ?_ ?_ ?_ ?_
                                 · first
                                     | rfl
                                     | omega
                                 · repeat (first | exact xs.rf | refine xs.up ?_ (by decide))
                                 · repeat (first | exact mss.rf | refine mss.up0 ?_ (by decide))
                                 · first
                                     | (simp [aup, hv2, hv3, hv4]; done)
                                     | (simp [aup, hv2, hv3, hv4]; omega)
                                 · simp [aup, hv2, hv3, hv4]
                                 · simp [aup, hv2, hv3, hv4])
                              | (refine ⟨vI_eq (by first | rfl | omega), _, rfl, XR.yd (upA (upA (cm 1) (64 + 198 * a + 4) (cm 1 (64 + 198 * a + 4) + b)) (64 + 198 * a + 5) (cm 1 (64 + 198 * a + 5) + c)) hR HX HL HN HS HP ?_ ?_ ?_ ?_ ?_ ?_ ?_ ?_ ?_ ?_ ?_ ?_ ?_⟩
                                 · rw [aup_rn (by decide), aup_r, aup_r]
                                 · rw [upA_n (by omega), upA_n (by omega)]
                                   exact ((HY.up0 (j := 7) (v := 0) hR.1.2 (by decide)).hfld (k := a) (j := 6) (v := cm 1 (64 + 198 * a + 4) + b) (by omega) (by omega) (by rw [aup_rn nv0]; exact ehv) (by omega)).hfld (k := a) (j := 7) (v := cm 1 (64 + 198 * a + 5) + c) (by omega) (by rw [upA_n (by omega)]; omega) (by rw [aup_rn nvhv, aup_rn nv0]; exact ehv) (by omega)
                                 · intro i hi
                                   repeat rw [upA_n (by omega)]
                                 · intro k k0 k1
                                   repeat rw [upA_n (by omega)]
                                 · obtain ⟨q1, q2, q3, q4, q5, q6, q7⟩ := gh
                                   refine PI.one HP (k := a) (by omega) (by omega) (fun i hi i1 i2 => ?_) ?_ ?_ ?_ ?_ ?_ ?_ ?_ ?_
                                   · repeat rw [upA_n (by omega)]
                                   all_goals (repeat (first | rw [upA_s] | rw [upA_n (by omega)]))
                                   all_goals omega
                                 · repeat (first | exact HF | refine FC.ok (FC.up0 ?_ (by decide)) | refine FC.ok (FC.up1 ?_))
                                 · intro x j hx hz
                                   have hx1 : x ≠ hv := fun e => hx (by rw [e]; exact ohv)
                                   have hx2 : x ≠ 10 := fun e => hx (by rw [e, HY.2.1]; decide)
                                   repeat (first | rw [aup_rn hx1] | rw [aup_rn hx2] | rw [aup_n (fun z => hz ⟨z.1, Or.inl z.2⟩)])
                                 · repeat rw [aup_n (by omega)]
                                 · intro b b0 b1 b9
                                   rw [aup_rn b0]
                                   repeat rw [aup_rn b1]
                                 · intro i hi
                                   rw [aup_n (by omega)]
                                   repeat rw [aup_rn (by decide)]
                                 · repeat rw [aup_n (by omega)]
                                   rw [aup_s, aup_s]
                                 · repeat rw [aup_n (by omega)]
                                   repeat rw [aup_rn (by decide)]
                                   exact hv3
                                 · repeat rw [aup_n (by omega)]
                                   repeat rw [aup_rn (by decide)]
                                   exact hv4)
                · first
                    | (exfalso; omega)
                    | skip
                      refine aK_i ?_
                      refine aw_ifne (tgt := 38) dX7_sample_29 (by decide) (fun h => absurd h (by decide)) (fun _ => ?_)
                      refine aw_aload_n dX7_sample_32 rfl ?_
                      refine aw_iconst dX7_sample_33 (by decide) ?_
                      refine c_X7_72 rfl dX7_sample_34 m_ob (Nat.le_of_ble_eq_true rfl) (by omega) (C_m_refuse ?_)
                      refine aK_i ?_
                      refine aw_ireturn dX7_sample_37 rfl ?_
                      first
                        | (exfalso; omega)
                        | (refine XR.sameE h ?_ ?_ ?_ ?_ ?_ ?_
                           · first
                               | rfl
                               | omega
                           · repeat (first | exact xs.rf | refine xs.up ?_ (by decide))
                           · repeat (first | exact mss.rf | refine mss.up0 ?_ (by decide))
                           · first
                               | (simp [aup, hv2, hv3, hv4]; done)
                               | (simp [aup, hv2, hv3, hv4]; omega)
                           · simp [aup, hv2, hv3, hv4]
                           · simp [aup, hv2, hv3, hv4])
                        | (refine ⟨vI_eq (by first | rfl | omega), _, rfl, XR.yd (upA (upA (cm 1) (64 + 198 * a + 4) (cm 1 (64 + 198 * a + 4) + b)) (64 + 198 * a + 5) (cm 1 (64 + 198 * a + 5) + c)) hR HX HL HN HS HP ?_ ?_ ?_ ?_ ?_ ?_ ?_ ?_ ?_ ?_ ?_ ?_ ?_⟩
                           · rw [aup_rn (by decide), aup_r, aup_r]
                           · rw [upA_n (by omega), upA_n (by omega)]
                             exact ((HY.up0 (j := 7) (v := 0) hR.1.2 (by decide)).hfld (k := a) (j := 6) (v := cm 1 (64 + 198 * a + 4) + b) (by omega) (by omega) (by rw [aup_rn nv0]; exact ehv) (by omega)).hfld (k := a) (j := 7) (v := cm 1 (64 + 198 * a + 5) + c) (by omega) (by rw [upA_n (by omega)]; omega) (by rw [aup_rn nvhv, aup_rn nv0]; exact ehv) (by omega)
                           · intro i hi
                             repeat rw [upA_n (by omega)]
                           · intro k k0 k1
                             repeat rw [upA_n (by omega)]
                           · obtain ⟨q1, q2, q3, q4, q5, q6, q7⟩ := gh
                             refine PI.one HP (k := a) (by omega) (by omega) (fun i hi i1 i2 => ?_) ?_ ?_ ?_ ?_ ?_ ?_ ?_ ?_
                             · repeat rw [upA_n (by omega)]
                             all_goals (repeat (first | rw [upA_s] | rw [upA_n (by omega)]))
                             all_goals omega
                           · repeat (first | exact HF | refine FC.ok (FC.up0 ?_ (by decide)) | refine FC.ok (FC.up1 ?_))
                           · intro x j hx hz
                             have hx1 : x ≠ hv := fun e => hx (by rw [e]; exact ohv)
                             have hx2 : x ≠ 10 := fun e => hx (by rw [e, HY.2.1]; decide)
                             repeat (first | rw [aup_rn hx1] | rw [aup_rn hx2] | rw [aup_n (fun z => hz ⟨z.1, Or.inl z.2⟩)])
                           · repeat rw [aup_n (by omega)]
                           · intro b b0 b1 b9
                             rw [aup_rn b0]
                             repeat rw [aup_rn b1]
                           · intro i hi
                             rw [aup_n (by omega)]
                             repeat rw [aup_rn (by decide)]
                           · repeat rw [aup_n (by omega)]
                             rw [aup_s, aup_s]
                           · repeat rw [aup_n (by omega)]
                             repeat rw [aup_rn (by decide)]
                             exact hv3
                           · repeat rw [aup_n (by omega)]
                             repeat rw [aup_rn (by decide)]
                             exact hv4)
          · first
              | (exfalso; omega)
              | skip
                refine aK_i ?_
                refine aw_ifeq (tgt := 32) dX7_sample_17 (by decide) (fun _ => ?_) (fun h => absurd h (by decide))
                refine aw_aload_n dX7_sample_32 rfl ?_
                refine aw_iconst dX7_sample_33 (by decide) ?_
                refine c_X7_72 rfl dX7_sample_34 m_ob (Nat.le_of_ble_eq_true rfl) (by omega) (C_m_refuse ?_)
                refine aK_i ?_
                refine aw_ireturn dX7_sample_37 rfl ?_
                first
                  | (exfalso; omega)
                  | (refine XR.sameE h ?_ ?_ ?_ ?_ ?_ ?_
                     · first
                         | rfl
                         | omega
                     · repeat (first | exact xs.rf | refine xs.up ?_ (by decide))
                     · repeat (first | exact mss.rf | refine mss.up0 ?_ (by decide))
                     · first
                         | (simp [aup, hv2, hv3, hv4]; done)
                         | (simp [aup, hv2, hv3, hv4]; omega)
                     · simp [aup, hv2, hv3, hv4]
                     · simp [aup, hv2, hv3, hv4])
                  | (refine ⟨vI_eq (by first | rfl | omega), _, rfl, XR.yd (upA (upA (cm 1) (64 + 198 * a + 4) (cm 1 (64 + 198 * a + 4) + b)) (64 + 198 * a + 5) (cm 1 (64 + 198 * a + 5) + c)) hR HX HL HN HS HP ?_ ?_ ?_ ?_ ?_ ?_ ?_ ?_ ?_ ?_ ?_ ?_ ?_⟩
                     · rw [aup_rn (by decide), aup_r, aup_r]
                     · rw [upA_n (by omega), upA_n (by omega)]
                       exact ((HY.up0 (j := 7) (v := 0) hR.1.2 (by decide)).hfld (k := a) (j := 6) (v := cm 1 (64 + 198 * a + 4) + b) (by omega) (by omega) (by rw [aup_rn nv0]; exact ehv) (by omega)).hfld (k := a) (j := 7) (v := cm 1 (64 + 198 * a + 5) + c) (by omega) (by rw [upA_n (by omega)]; omega) (by rw [aup_rn nvhv, aup_rn nv0]; exact ehv) (by omega)
                     · intro i hi
                       repeat rw [upA_n (by omega)]
                     · intro k k0 k1
                       repeat rw [upA_n (by omega)]
                     · obtain ⟨q1, q2, q3, q4, q5, q6, q7⟩ := gh
                       refine PI.one HP (k := a) (by omega) (by omega) (fun i hi i1 i2 => ?_) ?_ ?_ ?_ ?_ ?_ ?_ ?_ ?_
                       · repeat rw [upA_n (by omega)]
                       all_goals (repeat (first | rw [upA_s] | rw [upA_n (by omega)]))
                       all_goals omega
                     · repeat (first | exact HF | refine FC.ok (FC.up0 ?_ (by decide)) | refine FC.ok (FC.up1 ?_))
                     · intro x j hx hz
                       have hx1 : x ≠ hv := fun e => hx (by rw [e]; exact ohv)
                       have hx2 : x ≠ 10 := fun e => hx (by rw [e, HY.2.1]; decide)
                       repeat (first | rw [aup_rn hx1] | rw [aup_rn hx2] | rw [aup_n (fun z => hz ⟨z.1, Or.inl z.2⟩)])
                     · repeat rw [aup_n (by omega)]
                     · intro b b0 b1 b9
                       rw [aup_rn b0]
                       repeat rw [aup_rn b1]
                     · intro i hi
                       rw [aup_n (by omega)]
                       repeat rw [aup_rn (by decide)]
                     · repeat rw [aup_n (by omega)]
                       rw [aup_s, aup_s]
                     · repeat rw [aup_n (by omega)]
                       repeat rw [aup_rn (by decide)]
                       exact hv3
                     · repeat rw [aup_n (by omega)]
                       repeat rw [aup_rn (by decide)]
                       exact hv4)
    · first
        | (exfalso; omega)
        | skip
          refine aK_i ?_
          refine aw_ifeq (tgt := 32) dX7_sample_5 (by decide) (fun _ => ?_) (fun h => absurd h (by decide))
          refine aw_aload_n dX7_sample_32 rfl ?_
          refine aw_iconst dX7_sample_33 (by decide) ?_
          refine c_X7_72 rfl dX7_sample_34 m_ob (Nat.le_of_ble_eq_true rfl) (by omega) (C_m_refuse ?_)
          refine aK_i ?_
          refine aw_ireturn dX7_sample_37 rfl ?_
          first
            | (exfalso; omega)
            | (refine XR.sameE h ?_ ?_ ?_ ?_ ?_ ?_
               · first
                   | rfl
                   | omega
               · repeat (first | exact xs.rf | refine xs.up ?_ (by decide))
               · repeat (first | exact mss.rf | refine mss.up0 ?_ (by decide))
               · first
                   | (simp [aup, hv2, hv3, hv4]; done)
                   | (simp [aup, hv2, hv3, hv4]; omega)
               · simp [aup, hv2, hv3, hv4]
               · simp [aup, hv2, hv3, hv4])
            | (refine ⟨vI_eq (by first | rfl | omega), _, rfl, XR.yd (upA (upA (cm 1) (64 + 198 * a + 4) (cm 1 (64 + 198 * a + 4) + b)) (64 + 198 * a + 5) (cm 1 (64 + 198 * a + 5) + c)) hR HX HL HN HS HP ?_ ?_ ?_ ?_ ?_ ?_ ?_ ?_ ?_ ?_ ?_ ?_ ?_⟩
               · rw [aup_rn (by decide), aup_r, aup_r]
               · rw [upA_n (by omega), upA_n (by omega)]
                 exact ((HY.up0 (j := 7) (v := 0) hR.1.2 (by decide)).hfld (k := a) (j := 6) (v := cm 1 (64 + 198 * a + 4) + b) (by omega) (by omega) (by rw [aup_rn nv0]; exact ehv) (by omega)).hfld (k := a) (j := 7) (v := cm 1 (64 + 198 * a + 5) + c) (by omega) (by rw [upA_n (by omega)]; omega) (by rw [aup_rn nvhv, aup_rn nv0]; exact ehv) (by omega)
               · intro i hi
                 repeat rw [upA_n (by omega)]
               · intro k k0 k1
                 repeat rw [upA_n (by omega)]
               · obtain ⟨q1, q2, q3, q4, q5, q6, q7⟩ := gh
                 refine PI.one HP (k := a) (by omega) (by omega) (fun i hi i1 i2 => ?_) ?_ ?_ ?_ ?_ ?_ ?_ ?_ ?_
                 · repeat rw [upA_n (by omega)]
                 all_goals (repeat (first | rw [upA_s] | rw [upA_n (by omega)]))
                 all_goals omega
               · repeat (first | exact HF | refine FC.ok (FC.up0 ?_ (by decide)) | refine FC.ok (FC.up1 ?_))
               · intro x j hx hz
                 have hx1 : x ≠ hv := fun e => hx (by rw [e]; exact ohv)
                 have hx2 : x ≠ 10 := fun e => hx (by rw [e, HY.2.1]; decide)
                 repeat (first | rw [aup_rn hx1] | rw [aup_rn hx2] | rw [aup_n (fun z => hz ⟨z.1, Or.inl z.2⟩)])
               · repeat rw [aup_n (by omega)]
               · intro b b0 b1 b9
                 rw [aup_rn b0]
                 repeat rw [aup_rn b1]
               · intro i hi
                 rw [aup_n (by omega)]
                 repeat rw [aup_rn (by decide)]
               · repeat rw [aup_n (by omega)]
                 rw [aup_s, aup_s]
               · repeat rw [aup_n (by omega)]
                 repeat rw [aup_rn (by decide)]
                 exact hv3
               · repeat rw [aup_n (by omega)]
                 repeat rw [aup_rn (by decide)]
                 exact hv4)
theorem OP_seat {sz : Int} {im : Int → aIm} {ct cm : Int → Int → Int} (h : XR (sz, im, ct) cm) {a b : Int} (r0 : -2147483648 ≤ a ∧ a < 2147483648) (r1 : -2147483648 ≤ b ∧ b < 2147483648)  : AMet md_X0_seat 4 0 0 [vR 0, vI a, vI b] (sz, im, ct) (XQ md_X7_seat 4 [vR 0, vI a, vI b] cm) := by
  obtain ⟨own, N, hR, HY, HL, HN, HS, HP, HF, HX, hv2, hv3, hv4⟩ := id h
  dsimp only at hR HY HL HS HX hv2 hv3 hv4
  have hp0 := HP.1
  have hp3 := HP.2.1
  have hpq := HP.2.2.2.1.1
  have hps := HP.2.2.2.2.2
  refine AMet.go (L := [some (vR 0), some (vI a), some (vI b)]) mok_X0_seat (Nat.le_of_ble_eq_true rfl) rfl ?_
  refine aw_aload_n dX0_seat_0 rfl ?_
  refine aw_aload_n dX0_seat_1 rfl ?_
  refine aw_iload_n dX0_seat_2 rfl ?_
  refine c_X0_357 rfl dX0_seat_3 hR.o0 (Nat.le_of_ble_eq_true rfl) (by omega) (C_x_isQueen hR HY HL (fun xq => ?_) (fun xq => ?_))
  · refine aK_i ?_
    refine aw_ifeq (tgt := 17) dX0_seat_6 (by decide) (fun h => absurd h (by decide)) (fun _ => ?_)
    refine aw_aload_n dX0_seat_9 rfl ?_
    refine aw_iload_n dX0_seat_10 rfl ?_
    refine c_X0_168 rfl dX0_seat_11 hR.o0 (Nat.le_of_ble_eq_true rfl) (by omega) (C_x_isHive hR HY (fun xh => ?_) (fun xh => ?_))
    · refine aK_i ?_
      refine aw_ifne (tgt := 21) dX0_seat_14 (by decide) (fun _ => ?_) (fun h => absurd h (by decide))
      refine aw_aload_n dX0_seat_21 rfl ?_
      refine c_X0_158 rfl dX0_seat_22 hR.o0 (Nat.le_of_ble_eq_true rfl) (by omega) (C_x_yard2 hR ?_)
      refine aK_i ?_
      have gh0 := HP.2.2.1 b (by omega) (by omega)
      have gq0 := gh0.2.2.2.2.1
      refine aw_iload_n dX0_seat_25 rfl ?_
      refine aw_iload_n dX0_seat_26 rfl ?_
      refine c_X0_360 rfl dX0_seat_27 HY.1 (Nat.le_of_ble_eq_true rfl) (by omega) (C_x_canSeat HY (by omega) (by omega) (fun xc => ?_) (fun xc => ?_))
      · refine aK_i ?_
        refine aw_ifeq (tgt := 37) dX0_seat_30 (by decide) (fun h => absurd h (by decide)) (fun _ => ?_)
        refine aw_iconst dX0_seat_33 (by decide) ?_
        refine aw_goto (tgt := 39) dX0_seat_34 (by decide) ?_
        refine p_X0_73_0 rfl dX0_seat_39 hR.o0 ?_
        refine aw_aload_n dX0_seat_42 rfl ?_
        refine g_X0_73_0 rfl dX0_seat_43 hR.o0 ?_
        repeat (first | rw [aup_s] | rw [aup_n (by omega)])
        refine aw_ifne (tgt := 58) dX0_seat_46 (by decide) (fun h => absurd h (by decide)) (fun _ => ?_)
        obtain ⟨hv, ehv, ⟨g1, g2, ⟨g3, g4, g5, g6, g7⟩, g8, g9, -⟩, nhv0, nhv10, nhv9, nv0, nvhv, nv10, ohv⟩ := (HY.up0 (j := 7) (v := 0) hR.1.2 (by decide)).hv (hR.up0 (j := 7) (v := 0)) (k := b) (by omega) (by omega)
        have gn := g1.2.2.2
        have gh := HP.2.2.1 b (by omega) (by omega)
        have gq := gh.2.2.2.2.1
        have gp := HP.pd.2.1 b (by omega) (by omega)
        refine aw_aload_n dX0_seat_49 rfl ?_
        refine aw_iload_n dX0_seat_50 rfl ?_
        refine c_X0_172 rfl dX0_seat_51 hR.o0 (Nat.le_of_ble_eq_true rfl) (by omega) (C_x_xat2 (a := hv) hR HY (by omega) (by repeat (first | exact ehv | rw [aup_rn nvhv] | rw [aup_rn nv10] | rw [aup_rn nv0])) ?_)
        refine aK_i ?_
        refine aw_iload_n dX0_seat_54 rfl ?_
        refine p_X0_280_9 rfl dX0_seat_55 g1.1 ?_
        refine aw_aload_n dX0_seat_58 rfl ?_
        refine g_X0_73_0 rfl dX0_seat_59 hR.o0 ?_
        repeat (first | rw [aup_s] | rw [aup_n (by omega)])
        refine aw_ifne (tgt := 69) dX0_seat_62 (by decide) (fun h => absurd h (by decide)) (fun _ => ?_)
        refine aw_iconst dX0_seat_65 (by decide) ?_
        refine aw_goto (tgt := 70) dX0_seat_66 (by decide) ?_
        refine aw_zreturn dX0_seat_70 rfl (Or.inr rfl) ?_
        refine ⟨_, rfl, ?_⟩
        refine AMet.go (L := [some (vR 0), some (vI a), some (vI b)]) mok_X7_seat (Nat.le_of_ble_eq_true rfl) rfl ?_
        refine aw_aload_n dX7_seat_0 rfl ?_
        refine aw_iload_n dX7_seat_1 rfl ?_
        refine c_X7_277 rfl dX7_seat_2 m_ob (Nat.le_of_ble_eq_true rfl) (by omega) (C_m_isQueen (fun hh => ?_) (fun hh => ?_))
        · first
            | (exfalso; omega)
            | (have xc3 := xc.2.2; exact absurd ⟨xc.1, xc.2.1, by omega⟩ mc)
            | (have mc3 := mc.2.2; exact absurd ⟨mc.1, mc.2.1, by omega⟩ xc)
            | skip
              refine aK_i ?_
              refine aw_ifeq (tgt := 16) dX7_seat_5 (by decide) (fun h => absurd h (by decide)) (fun _ => ?_)
              refine aw_aload_n dX7_seat_8 rfl ?_
              refine aw_iload_n dX7_seat_9 rfl ?_
              refine c_X7_274 rfl dX7_seat_10 m_ob (Nat.le_of_ble_eq_true rfl) (by omega) (C_m_isHive (fun hh => ?_) (fun hh => ?_))
              · first
                  | (exfalso; omega)
                  | (have xc3 := xc.2.2; exact absurd ⟨xc.1, xc.2.1, by omega⟩ mc)
                  | (have mc3 := mc.2.2; exact absurd ⟨mc.1, mc.2.1, by omega⟩ xc)
                  | skip
                    refine aK_i ?_
                    refine aw_ifne (tgt := 22) dX7_seat_13 (by decide) (fun _ => ?_) (fun h => absurd h (by decide))
                    refine aw_aload_n dX7_seat_22 rfl ?_
                    refine aw_iload_n dX7_seat_23 rfl ?_
                    refine aw_iload_n dX7_seat_24 rfl ?_
                    refine c_X7_331 rfl dX7_seat_25 m_ob (Nat.le_of_ble_eq_true rfl) (by omega) (C_m_maySeat (by omega) (by omega) (fun mc => ?_) (fun mc => ?_))
                    · first
                        | (exfalso; omega)
                        | (have xc3 := xc.2.2; exact absurd ⟨xc.1, xc.2.1, by omega⟩ mc)
                        | (have mc3 := mc.2.2; exact absurd ⟨mc.1, mc.2.1, by omega⟩ xc)
                        | skip
                          refine aK_i ?_
                          refine aw_ifne (tgt := 38) dX7_seat_28 (by decide) (fun _ => ?_) (fun h => absurd h (by decide))
                          refine gm_7 rfl dX7_seat_38 dX7_seat_39 rfl ?_
                          refine aw_iload_n dX7_seat_42 rfl ?_
                          refine c_X7_217 rfl dX7_seat_43  (Nat.le_of_ble_eq_true rfl) (by omega) (C_m_hiveRow (by omega) ?_)
                          refine aK_i ?_
                          refine aw_iconst dX7_seat_46 (by decide) ?_
                          refine aw_iaddr dX7_seat_47 (by omega) ?_
                          refine aw_iload_n dX7_seat_48 rfl ?_
                          refine aw_iastore dX7_seat_49 m_a1 (by omega) (by omega) ?_
                          refine aw_aload_n dX7_seat_50 rfl ?_
                          refine aw_iconst dX7_seat_51 (by decide) ?_
                          refine c_X7_79 rfl dX7_seat_52 m_ob (Nat.le_of_ble_eq_true rfl) (by omega) (C_m_is (fun hz => ?_) (fun hz => ?_))
                          · first
                              | (exfalso; omega)
                              | (have xc3 := xc.2.2; exact absurd ⟨xc.1, xc.2.1, by omega⟩ mc)
                              | (have mc3 := mc.2.2; exact absurd ⟨mc.1, mc.2.1, by omega⟩ xc)
                              | skip
                                refine aK_i ?_
                                refine aw_zreturn dX7_seat_55 rfl (by omega) ?_
                                first
                                  | (exfalso; omega)
                                  | (refine XR.sameE h ?_ ?_ ?_ ?_ ?_ ?_
                                     · first
                                         | rfl
                                         | omega
                                     · repeat (first | exact xs.rf | refine xs.up ?_ (by decide))
                                     · repeat (first | exact mss.rf | refine mss.up0 ?_ (by decide))
                                     · first
                                         | (simp [aup, hv2, hv3, hv4]; done)
                                         | (simp [aup, hv2, hv3, hv4]; omega)
                                     · simp [aup, hv2, hv3, hv4]
                                     · simp [aup, hv2, hv3, hv4])
                                  | (refine ⟨vI_eq (by first | rfl | omega), _, rfl, XR.yd (upA (cm 1) (64 + 198 * b + 3) a) hR HX HL HN HS HP ?_ ?_ ?_ ?_ ?_ ?_ ?_ ?_ ?_ ?_ ?_ ?_ ?_⟩
                                     · rw [aup_rn (by decide), aup_r]
                                     · rw [upA_n (by omega)]
                                       exact (HY.up0 (j := 7) (v := 0) hR.1.2 (by decide)).hfld (k := b) (j := 5) (v := a) (by omega) (by omega) ehv (by omega)
                                     · intro i hi
                                       repeat rw [upA_n (by omega)]
                                     · intro k k0 k1
                                       repeat rw [upA_n (by omega)]
                                     · obtain ⟨q1, q2, q3, q4, q5, q6, q7⟩ := gh
                                       refine PI.one HP (k := b) (by omega) (by omega) (fun i hi i1 i2 => ?_) ?_ ?_ ?_ ?_ ?_ ?_ ?_ ?_
                                       · repeat rw [upA_n (by omega)]
                                       all_goals (repeat (first | rw [upA_s] | rw [upA_n (by omega)]))
                                       all_goals omega
                                     · repeat (first | exact HF | refine FC.ok (FC.up0 ?_ (by decide)) | refine FC.ok (FC.up1 ?_))
                                     · intro x j hx hz
                                       have hx1 : x ≠ hv := fun e => hx (by rw [e]; exact ohv)
                                       have hx2 : x ≠ 10 := fun e => hx (by rw [e, HY.2.1]; decide)
                                       repeat (first | rw [aup_rn hx1] | rw [aup_rn hx2] | rw [aup_n (fun z => hz ⟨z.1, Or.inl z.2⟩)])
                                     · repeat rw [aup_n (by omega)]
                                     · intro b b0 b1 b9
                                       rw [aup_rn b0]
                                       repeat rw [aup_rn b1]
                                     · intro i hi
                                       rw [aup_n (by omega)]
                                       repeat rw [aup_rn (by decide)]
                                     · repeat rw [aup_n (by omega)]
                                       rw [aup_s, aup_s]
                                     · repeat rw [aup_n (by omega)]
                                       repeat rw [aup_rn (by decide)]
                                       exact hv3
                                     · repeat rw [aup_n (by omega)]
                                       repeat rw [aup_rn (by decide)]
                                       exact hv4)
                          · first
                              | (exfalso; omega)
                              | (have xc3 := xc.2.2; exact absurd ⟨xc.1, xc.2.1, by omega⟩ mc)
                              | (have mc3 := mc.2.2; exact absurd ⟨mc.1, mc.2.1, by omega⟩ xc)
                              | skip
                                refine aK_i ?_
                                refine aw_zreturn dX7_seat_55 rfl (by omega) ?_
                                first
                                  | (exfalso; omega)
                                  | (refine XR.sameE h ?_ ?_ ?_ ?_ ?_ ?_
                                     · first
                                         | rfl
                                         | omega
                                     · repeat (first | exact xs.rf | refine xs.up ?_ (by decide))
                                     · repeat (first | exact mss.rf | refine mss.up0 ?_ (by decide))
                                     · first
                                         | (simp [aup, hv2, hv3, hv4]; done)
                                         | (simp [aup, hv2, hv3, hv4]; omega)
                                     · simp [aup, hv2, hv3, hv4]
                                     · simp [aup, hv2, hv3, hv4])
                                  | (refine ⟨vI_eq (by first | rfl | omega), _, rfl, XR.yd (upA (cm 1) (64 + 198 * b + 3) a) hR HX HL HN HS HP ?_ ?_ ?_ ?_ ?_ ?_ ?_ ?_ ?_ ?_ ?_ ?_ ?_⟩
                                     · rw [aup_rn (by decide), aup_r]
                                     · rw [upA_n (by omega)]
                                       exact (HY.up0 (j := 7) (v := 0) hR.1.2 (by decide)).hfld (k := b) (j := 5) (v := a) (by omega) (by omega) ehv (by omega)
                                     · intro i hi
                                       repeat rw [upA_n (by omega)]
                                     · intro k k0 k1
                                       repeat rw [upA_n (by omega)]
                                     · obtain ⟨q1, q2, q3, q4, q5, q6, q7⟩ := gh
                                       refine PI.one HP (k := b) (by omega) (by omega) (fun i hi i1 i2 => ?_) ?_ ?_ ?_ ?_ ?_ ?_ ?_ ?_
                                       · repeat rw [upA_n (by omega)]
                                       all_goals (repeat (first | rw [upA_s] | rw [upA_n (by omega)]))
                                       all_goals omega
                                     · repeat (first | exact HF | refine FC.ok (FC.up0 ?_ (by decide)) | refine FC.ok (FC.up1 ?_))
                                     · intro x j hx hz
                                       have hx1 : x ≠ hv := fun e => hx (by rw [e]; exact ohv)
                                       have hx2 : x ≠ 10 := fun e => hx (by rw [e, HY.2.1]; decide)
                                       repeat (first | rw [aup_rn hx1] | rw [aup_rn hx2] | rw [aup_n (fun z => hz ⟨z.1, Or.inl z.2⟩)])
                                     · repeat rw [aup_n (by omega)]
                                     · intro b b0 b1 b9
                                       rw [aup_rn b0]
                                       repeat rw [aup_rn b1]
                                     · intro i hi
                                       rw [aup_n (by omega)]
                                       repeat rw [aup_rn (by decide)]
                                     · repeat rw [aup_n (by omega)]
                                       rw [aup_s, aup_s]
                                     · repeat rw [aup_n (by omega)]
                                       repeat rw [aup_rn (by decide)]
                                       exact hv3
                                     · repeat rw [aup_n (by omega)]
                                       repeat rw [aup_rn (by decide)]
                                       exact hv4)
                    · first
                        | (exfalso; omega)
                        | (have xc3 := xc.2.2; exact absurd ⟨xc.1, xc.2.1, by omega⟩ mc)
                        | (have mc3 := mc.2.2; exact absurd ⟨mc.1, mc.2.1, by omega⟩ xc)
                        | skip
                          refine aK_i ?_
                          refine aw_ifne (tgt := 38) dX7_seat_28 (by decide) (fun h => absurd h (by decide)) (fun _ => ?_)
                          refine aw_aload_n dX7_seat_31 rfl ?_
                          refine aw_bipush dX7_seat_32 (by decide) ?_
                          refine c_X7_79 rfl dX7_seat_34 m_ob (Nat.le_of_ble_eq_true rfl) (by omega) (C_m_is (fun hz => ?_) (fun hz => ?_))
                          · first
                              | (exfalso; omega)
                              | (have xc3 := xc.2.2; exact absurd ⟨xc.1, xc.2.1, by omega⟩ mc)
                              | (have mc3 := mc.2.2; exact absurd ⟨mc.1, mc.2.1, by omega⟩ xc)
                              | skip
                                refine aK_i ?_
                                refine aw_zreturn dX7_seat_37 rfl (by omega) ?_
                                first
                                  | (exfalso; omega)
                                  | (refine XR.sameE h ?_ ?_ ?_ ?_ ?_ ?_
                                     · first
                                         | rfl
                                         | omega
                                     · repeat (first | exact xs.rf | refine xs.up ?_ (by decide))
                                     · repeat (first | exact mss.rf | refine mss.up0 ?_ (by decide))
                                     · first
                                         | (simp [aup, hv2, hv3, hv4]; done)
                                         | (simp [aup, hv2, hv3, hv4]; omega)
                                     · simp [aup, hv2, hv3, hv4]
                                     · simp [aup, hv2, hv3, hv4])
                                  | (refine ⟨vI_eq (by first | rfl | omega), _, rfl, XR.yd (upA (cm 1) (64 + 198 * b + 3) a) hR HX HL HN HS HP ?_ ?_ ?_ ?_ ?_ ?_ ?_ ?_ ?_ ?_ ?_ ?_ ?_⟩
                                     · rw [aup_rn (by decide), aup_r]
                                     · rw [upA_n (by omega)]
                                       exact (HY.up0 (j := 7) (v := 0) hR.1.2 (by decide)).hfld (k := b) (j := 5) (v := a) (by omega) (by omega) ehv (by omega)
                                     · intro i hi
                                       repeat rw [upA_n (by omega)]
                                     · intro k k0 k1
                                       repeat rw [upA_n (by omega)]
                                     · obtain ⟨q1, q2, q3, q4, q5, q6, q7⟩ := gh
                                       refine PI.one HP (k := b) (by omega) (by omega) (fun i hi i1 i2 => ?_) ?_ ?_ ?_ ?_ ?_ ?_ ?_ ?_
                                       · repeat rw [upA_n (by omega)]
                                       all_goals (repeat (first | rw [upA_s] | rw [upA_n (by omega)]))
                                       all_goals omega
                                     · repeat (first | exact HF | refine FC.ok (FC.up0 ?_ (by decide)) | refine FC.ok (FC.up1 ?_))
                                     · intro x j hx hz
                                       have hx1 : x ≠ hv := fun e => hx (by rw [e]; exact ohv)
                                       have hx2 : x ≠ 10 := fun e => hx (by rw [e, HY.2.1]; decide)
                                       repeat (first | rw [aup_rn hx1] | rw [aup_rn hx2] | rw [aup_n (fun z => hz ⟨z.1, Or.inl z.2⟩)])
                                     · repeat rw [aup_n (by omega)]
                                     · intro b b0 b1 b9
                                       rw [aup_rn b0]
                                       repeat rw [aup_rn b1]
                                     · intro i hi
                                       rw [aup_n (by omega)]
                                       repeat rw [aup_rn (by decide)]
                                     · repeat rw [aup_n (by omega)]
                                       rw [aup_s, aup_s]
                                     · repeat rw [aup_n (by omega)]
                                       repeat rw [aup_rn (by decide)]
                                       exact hv3
                                     · repeat rw [aup_n (by omega)]
                                       repeat rw [aup_rn (by decide)]
                                       exact hv4)
                          · first
                              | (exfalso; omega)
                              | (have xc3 := xc.2.2; exact absurd ⟨xc.1, xc.2.1, by omega⟩ mc)
                              | (have mc3 := mc.2.2; exact absurd ⟨mc.1, mc.2.1, by omega⟩ xc)
                              | skip
                                refine aK_i ?_
                                refine aw_zreturn dX7_seat_37 rfl (by omega) ?_
                                first
                                  | (exfalso; omega)
                                  | (refine XR.sameE h ?_ ?_ ?_ ?_ ?_ ?_
                                     · first
                                         | rfl
                                         | omega
                                     · repeat (first | exact xs.rf | refine xs.up ?_ (by decide))
                                     · repeat (first | exact mss.rf | refine mss.up0 ?_ (by decide))
                                     · first
                                         | (simp [aup, hv2, hv3, hv4]; done)
                                         | (simp [aup, hv2, hv3, hv4]; omega)
                                     · simp [aup, hv2, hv3, hv4]
                                     · simp [aup, hv2, hv3, hv4])
                                  | (refine ⟨vI_eq (by first | rfl | omega), _, rfl, XR.yd (upA (cm 1) (64 + 198 * b + 3) a) hR HX HL HN HS HP ?_ ?_ ?_ ?_ ?_ ?_ ?_ ?_ ?_ ?_ ?_ ?_ ?_⟩
                                     · rw [aup_rn (by decide), aup_r]
                                     · rw [upA_n (by omega)]
                                       exact (HY.up0 (j := 7) (v := 0) hR.1.2 (by decide)).hfld (k := b) (j := 5) (v := a) (by omega) (by omega) ehv (by omega)
                                     · intro i hi
                                       repeat rw [upA_n (by omega)]
                                     · intro k k0 k1
                                       repeat rw [upA_n (by omega)]
                                     · obtain ⟨q1, q2, q3, q4, q5, q6, q7⟩ := gh
                                       refine PI.one HP (k := b) (by omega) (by omega) (fun i hi i1 i2 => ?_) ?_ ?_ ?_ ?_ ?_ ?_ ?_ ?_
                                       · repeat rw [upA_n (by omega)]
                                       all_goals (repeat (first | rw [upA_s] | rw [upA_n (by omega)]))
                                       all_goals omega
                                     · repeat (first | exact HF | refine FC.ok (FC.up0 ?_ (by decide)) | refine FC.ok (FC.up1 ?_))
                                     · intro x j hx hz
                                       have hx1 : x ≠ hv := fun e => hx (by rw [e]; exact ohv)
                                       have hx2 : x ≠ 10 := fun e => hx (by rw [e, HY.2.1]; decide)
                                       repeat (first | rw [aup_rn hx1] | rw [aup_rn hx2] | rw [aup_n (fun z => hz ⟨z.1, Or.inl z.2⟩)])
                                     · repeat rw [aup_n (by omega)]
                                     · intro b b0 b1 b9
                                       rw [aup_rn b0]
                                       repeat rw [aup_rn b1]
                                     · intro i hi
                                       rw [aup_n (by omega)]
                                       repeat rw [aup_rn (by decide)]
                                     · repeat rw [aup_n (by omega)]
                                       rw [aup_s, aup_s]
                                     · repeat rw [aup_n (by omega)]
                                       repeat rw [aup_rn (by decide)]
                                       exact hv3
                                     · repeat rw [aup_n (by omega)]
                                       repeat rw [aup_rn (by decide)]
                                       exact hv4)
              · first
                  | (exfalso; omega)
                  | (have xc3 := xc.2.2; exact absurd ⟨xc.1, xc.2.1, by omega⟩ mc)
                  | (have mc3 := mc.2.2; exact absurd ⟨mc.1, mc.2.1, by omega⟩ xc)
                  | skip
                    refine aK_i ?_
                    refine aw_ifne (tgt := 22) dX7_seat_13 (by decide) (fun h => absurd h (by decide)) (fun _ => ?_)
                    refine aw_aload_n dX7_seat_16 rfl ?_
                    refine aw_iconst dX7_seat_17 (by decide) ?_
                    refine c_X7_79 rfl dX7_seat_18 m_ob (Nat.le_of_ble_eq_true rfl) (by omega) (C_m_is (fun hz => ?_) (fun hz => ?_))
                    · first
                        | (exfalso; omega)
                        | (have xc3 := xc.2.2; exact absurd ⟨xc.1, xc.2.1, by omega⟩ mc)
                        | (have mc3 := mc.2.2; exact absurd ⟨mc.1, mc.2.1, by omega⟩ xc)
                        | skip
                          refine aK_i ?_
                          refine aw_zreturn dX7_seat_21 rfl (by omega) ?_
                          first
                            | (exfalso; omega)
                            | (refine XR.sameE h ?_ ?_ ?_ ?_ ?_ ?_
                               · first
                                   | rfl
                                   | omega
                               · repeat (first | exact xs.rf | refine xs.up ?_ (by decide))
                               · repeat (first | exact mss.rf | refine mss.up0 ?_ (by decide))
                               · first
                                   | (simp [aup, hv2, hv3, hv4]; done)
                                   | (simp [aup, hv2, hv3, hv4]; omega)
                               · simp [aup, hv2, hv3, hv4]
                               · simp [aup, hv2, hv3, hv4])
                            | (refine ⟨vI_eq (by first | rfl | omega), _, rfl, XR.yd (upA (cm 1) (64 + 198 * b + 3) a) hR HX HL HN HS HP ?_ ?_ ?_ ?_ ?_ ?_ ?_ ?_ ?_ ?_ ?_ ?_ ?_⟩
                               · rw [aup_rn (by decide), aup_r]
                               · rw [upA_n (by omega)]
                                 exact (HY.up0 (j := 7) (v := 0) hR.1.2 (by decide)).hfld (k := b) (j := 5) (v := a) (by omega) (by omega) ehv (by omega)
                               · intro i hi
                                 repeat rw [upA_n (by omega)]
                               · intro k k0 k1
                                 repeat rw [upA_n (by omega)]
                               · obtain ⟨q1, q2, q3, q4, q5, q6, q7⟩ := gh
                                 refine PI.one HP (k := b) (by omega) (by omega) (fun i hi i1 i2 => ?_) ?_ ?_ ?_ ?_ ?_ ?_ ?_ ?_
                                 · repeat rw [upA_n (by omega)]
                                 all_goals (repeat (first | rw [upA_s] | rw [upA_n (by omega)]))
                                 all_goals omega
                               · repeat (first | exact HF | refine FC.ok (FC.up0 ?_ (by decide)) | refine FC.ok (FC.up1 ?_))
                               · intro x j hx hz
                                 have hx1 : x ≠ hv := fun e => hx (by rw [e]; exact ohv)
                                 have hx2 : x ≠ 10 := fun e => hx (by rw [e, HY.2.1]; decide)
                                 repeat (first | rw [aup_rn hx1] | rw [aup_rn hx2] | rw [aup_n (fun z => hz ⟨z.1, Or.inl z.2⟩)])
                               · repeat rw [aup_n (by omega)]
                               · intro b b0 b1 b9
                                 rw [aup_rn b0]
                                 repeat rw [aup_rn b1]
                               · intro i hi
                                 rw [aup_n (by omega)]
                                 repeat rw [aup_rn (by decide)]
                               · repeat rw [aup_n (by omega)]
                                 rw [aup_s, aup_s]
                               · repeat rw [aup_n (by omega)]
                                 repeat rw [aup_rn (by decide)]
                                 exact hv3
                               · repeat rw [aup_n (by omega)]
                                 repeat rw [aup_rn (by decide)]
                                 exact hv4)
                    · first
                        | (exfalso; omega)
                        | (have xc3 := xc.2.2; exact absurd ⟨xc.1, xc.2.1, by omega⟩ mc)
                        | (have mc3 := mc.2.2; exact absurd ⟨mc.1, mc.2.1, by omega⟩ xc)
                        | skip
                          refine aK_i ?_
                          refine aw_zreturn dX7_seat_21 rfl (by omega) ?_
                          first
                            | (exfalso; omega)
                            | (refine XR.sameE h ?_ ?_ ?_ ?_ ?_ ?_
                               · first
                                   | rfl
                                   | omega
                               · repeat (first | exact xs.rf | refine xs.up ?_ (by decide))
                               · repeat (first | exact mss.rf | refine mss.up0 ?_ (by decide))
                               · first
                                   | (simp [aup, hv2, hv3, hv4]; done)
                                   | (simp [aup, hv2, hv3, hv4]; omega)
                               · simp [aup, hv2, hv3, hv4]
                               · simp [aup, hv2, hv3, hv4])
                            | (refine ⟨vI_eq (by first | rfl | omega), _, rfl, XR.yd (upA (cm 1) (64 + 198 * b + 3) a) hR HX HL HN HS HP ?_ ?_ ?_ ?_ ?_ ?_ ?_ ?_ ?_ ?_ ?_ ?_ ?_⟩
                               · rw [aup_rn (by decide), aup_r]
                               · rw [upA_n (by omega)]
                                 exact (HY.up0 (j := 7) (v := 0) hR.1.2 (by decide)).hfld (k := b) (j := 5) (v := a) (by omega) (by omega) ehv (by omega)
                               · intro i hi
                                 repeat rw [upA_n (by omega)]
                               · intro k k0 k1
                                 repeat rw [upA_n (by omega)]
                               · obtain ⟨q1, q2, q3, q4, q5, q6, q7⟩ := gh
                                 refine PI.one HP (k := b) (by omega) (by omega) (fun i hi i1 i2 => ?_) ?_ ?_ ?_ ?_ ?_ ?_ ?_ ?_
                                 · repeat rw [upA_n (by omega)]
                                 all_goals (repeat (first | rw [upA_s] | rw [upA_n (by omega)]))
                                 all_goals omega
                               · repeat (first | exact HF | refine FC.ok (FC.up0 ?_ (by decide)) | refine FC.ok (FC.up1 ?_))
                               · intro x j hx hz
                                 have hx1 : x ≠ hv := fun e => hx (by rw [e]; exact ohv)
                                 have hx2 : x ≠ 10 := fun e => hx (by rw [e, HY.2.1]; decide)
                                 repeat (first | rw [aup_rn hx1] | rw [aup_rn hx2] | rw [aup_n (fun z => hz ⟨z.1, Or.inl z.2⟩)])
                               · repeat rw [aup_n (by omega)]
                               · intro b b0 b1 b9
                                 rw [aup_rn b0]
                                 repeat rw [aup_rn b1]
                               · intro i hi
                                 rw [aup_n (by omega)]
                                 repeat rw [aup_rn (by decide)]
                               · repeat rw [aup_n (by omega)]
                                 rw [aup_s, aup_s]
                               · repeat rw [aup_n (by omega)]
                                 repeat rw [aup_rn (by decide)]
                                 exact hv3
                               · repeat rw [aup_n (by omega)]
                                 repeat rw [aup_rn (by decide)]
                                 exact hv4)
        · first
            | (exfalso; omega)
            | (have xc3 := xc.2.2; exact absurd ⟨xc.1, xc.2.1, by omega⟩ mc)
            | (have mc3 := mc.2.2; exact absurd ⟨mc.1, mc.2.1, by omega⟩ xc)
            | skip
              refine aK_i ?_
              refine aw_ifeq (tgt := 16) dX7_seat_5 (by decide) (fun _ => ?_) (fun h => absurd h (by decide))
              refine aw_aload_n dX7_seat_16 rfl ?_
              refine aw_iconst dX7_seat_17 (by decide) ?_
              refine c_X7_79 rfl dX7_seat_18 m_ob (Nat.le_of_ble_eq_true rfl) (by omega) (C_m_is (fun hz => ?_) (fun hz => ?_))
              · first
                  | (exfalso; omega)
                  | (have xc3 := xc.2.2; exact absurd ⟨xc.1, xc.2.1, by omega⟩ mc)
                  | (have mc3 := mc.2.2; exact absurd ⟨mc.1, mc.2.1, by omega⟩ xc)
                  | skip
                    refine aK_i ?_
                    refine aw_zreturn dX7_seat_21 rfl (by omega) ?_
                    first
                      | (exfalso; omega)
                      | (refine XR.sameE h ?_ ?_ ?_ ?_ ?_ ?_
                         · first
                             | rfl
                             | omega
                         · repeat (first | exact xs.rf | refine xs.up ?_ (by decide))
                         · repeat (first | exact mss.rf | refine mss.up0 ?_ (by decide))
                         · first
                             | (simp [aup, hv2, hv3, hv4]; done)
                             | (simp [aup, hv2, hv3, hv4]; omega)
                         · simp [aup, hv2, hv3, hv4]
                         · simp [aup, hv2, hv3, hv4])
                      | (refine ⟨vI_eq (by first | rfl | omega), _, rfl, XR.yd (upA (cm 1) (64 + 198 * b + 3) a) hR HX HL HN HS HP ?_ ?_ ?_ ?_ ?_ ?_ ?_ ?_ ?_ ?_ ?_ ?_ ?_⟩
                         · rw [aup_rn (by decide), aup_r]
                         · rw [upA_n (by omega)]
                           exact (HY.up0 (j := 7) (v := 0) hR.1.2 (by decide)).hfld (k := b) (j := 5) (v := a) (by omega) (by omega) ehv (by omega)
                         · intro i hi
                           repeat rw [upA_n (by omega)]
                         · intro k k0 k1
                           repeat rw [upA_n (by omega)]
                         · obtain ⟨q1, q2, q3, q4, q5, q6, q7⟩ := gh
                           refine PI.one HP (k := b) (by omega) (by omega) (fun i hi i1 i2 => ?_) ?_ ?_ ?_ ?_ ?_ ?_ ?_ ?_
                           · repeat rw [upA_n (by omega)]
                           all_goals (repeat (first | rw [upA_s] | rw [upA_n (by omega)]))
                           all_goals omega
                         · repeat (first | exact HF | refine FC.ok (FC.up0 ?_ (by decide)) | refine FC.ok (FC.up1 ?_))
                         · intro x j hx hz
                           have hx1 : x ≠ hv := fun e => hx (by rw [e]; exact ohv)
                           have hx2 : x ≠ 10 := fun e => hx (by rw [e, HY.2.1]; decide)
                           repeat (first | rw [aup_rn hx1] | rw [aup_rn hx2] | rw [aup_n (fun z => hz ⟨z.1, Or.inl z.2⟩)])
                         · repeat rw [aup_n (by omega)]
                         · intro b b0 b1 b9
                           rw [aup_rn b0]
                           repeat rw [aup_rn b1]
                         · intro i hi
                           rw [aup_n (by omega)]
                           repeat rw [aup_rn (by decide)]
                         · repeat rw [aup_n (by omega)]
                           rw [aup_s, aup_s]
                         · repeat rw [aup_n (by omega)]
                           repeat rw [aup_rn (by decide)]
                           exact hv3
                         · repeat rw [aup_n (by omega)]
                           repeat rw [aup_rn (by decide)]
                           exact hv4)
              · first
                  | (exfalso; omega)
                  | (have xc3 := xc.2.2; exact absurd ⟨xc.1, xc.2.1, by omega⟩ mc)
                  | (have mc3 := mc.2.2; exact absurd ⟨mc.1, mc.2.1, by omega⟩ xc)
                  | skip
                    refine aK_i ?_
                    refine aw_zreturn dX7_seat_21 rfl (by omega) ?_
                    first
                      | (exfalso; omega)
                      | (refine XR.sameE h ?_ ?_ ?_ ?_ ?_ ?_
                         · first
                             | rfl
                             | omega
                         · repeat (first | exact xs.rf | refine xs.up ?_ (by decide))
                         · repeat (first | exact mss.rf | refine mss.up0 ?_ (by decide))
                         · first
                             | (simp [aup, hv2, hv3, hv4]; done)
                             | (simp [aup, hv2, hv3, hv4]; omega)
                         · simp [aup, hv2, hv3, hv4]
                         · simp [aup, hv2, hv3, hv4])
                      | (refine ⟨vI_eq (by first | rfl | omega), _, rfl, XR.yd (upA (cm 1) (64 + 198 * b + 3) a) hR HX HL HN HS HP ?_ ?_ ?_ ?_ ?_ ?_ ?_ ?_ ?_ ?_ ?_ ?_ ?_⟩
                         · rw [aup_rn (by decide), aup_r]
                         · rw [upA_n (by omega)]
                           exact (HY.up0 (j := 7) (v := 0) hR.1.2 (by decide)).hfld (k := b) (j := 5) (v := a) (by omega) (by omega) ehv (by omega)
                         · intro i hi
                           repeat rw [upA_n (by omega)]
                         · intro k k0 k1
                           repeat rw [upA_n (by omega)]
                         · obtain ⟨q1, q2, q3, q4, q5, q6, q7⟩ := gh
                           refine PI.one HP (k := b) (by omega) (by omega) (fun i hi i1 i2 => ?_) ?_ ?_ ?_ ?_ ?_ ?_ ?_ ?_
                           · repeat rw [upA_n (by omega)]
                           all_goals (repeat (first | rw [upA_s] | rw [upA_n (by omega)]))
                           all_goals omega
                         · repeat (first | exact HF | refine FC.ok (FC.up0 ?_ (by decide)) | refine FC.ok (FC.up1 ?_))
                         · intro x j hx hz
                           have hx1 : x ≠ hv := fun e => hx (by rw [e]; exact ohv)
                           have hx2 : x ≠ 10 := fun e => hx (by rw [e, HY.2.1]; decide)
                           repeat (first | rw [aup_rn hx1] | rw [aup_rn hx2] | rw [aup_n (fun z => hz ⟨z.1, Or.inl z.2⟩)])
                         · repeat rw [aup_n (by omega)]
                         · intro b b0 b1 b9
                           rw [aup_rn b0]
                           repeat rw [aup_rn b1]
                         · intro i hi
                           rw [aup_n (by omega)]
                           repeat rw [aup_rn (by decide)]
                         · repeat rw [aup_n (by omega)]
                           rw [aup_s, aup_s]
                         · repeat rw [aup_n (by omega)]
                           repeat rw [aup_rn (by decide)]
                           exact hv3
                         · repeat rw [aup_n (by omega)]
                           repeat rw [aup_rn (by decide)]
                           exact hv4)
      · refine aK_i ?_
        refine aw_ifeq (tgt := 37) dX0_seat_30 (by decide) (fun _ => ?_) (fun h => absurd h (by decide))
        refine aw_bipush dX0_seat_37 (by decide) ?_
        refine p_X0_73_0 rfl dX0_seat_39 hR.o0 ?_
        refine aw_aload_n dX0_seat_42 rfl ?_
        refine g_X0_73_0 rfl dX0_seat_43 hR.o0 ?_
        repeat (first | rw [aup_s] | rw [aup_n (by omega)])
        refine aw_ifne (tgt := 58) dX0_seat_46 (by decide) (fun _ => ?_) (fun h => absurd h (by decide))
        refine aw_aload_n dX0_seat_58 rfl ?_
        refine g_X0_73_0 rfl dX0_seat_59 hR.o0 ?_
        repeat (first | rw [aup_s] | rw [aup_n (by omega)])
        refine aw_ifne (tgt := 69) dX0_seat_62 (by decide) (fun _ => ?_) (fun h => absurd h (by decide))
        refine aw_iconst dX0_seat_69 (by decide) ?_
        refine aw_zreturn dX0_seat_70 rfl (Or.inl rfl) ?_
        refine ⟨_, rfl, ?_⟩
        refine AMet.go (L := [some (vR 0), some (vI a), some (vI b)]) mok_X7_seat (Nat.le_of_ble_eq_true rfl) rfl ?_
        refine aw_aload_n dX7_seat_0 rfl ?_
        refine aw_iload_n dX7_seat_1 rfl ?_
        refine c_X7_277 rfl dX7_seat_2 m_ob (Nat.le_of_ble_eq_true rfl) (by omega) (C_m_isQueen (fun hh => ?_) (fun hh => ?_))
        · first
            | (exfalso; omega)
            | (have xc3 := xc.2.2; exact absurd ⟨xc.1, xc.2.1, by omega⟩ mc)
            | (have mc3 := mc.2.2; exact absurd ⟨mc.1, mc.2.1, by omega⟩ xc)
            | skip
              refine aK_i ?_
              refine aw_ifeq (tgt := 16) dX7_seat_5 (by decide) (fun h => absurd h (by decide)) (fun _ => ?_)
              refine aw_aload_n dX7_seat_8 rfl ?_
              refine aw_iload_n dX7_seat_9 rfl ?_
              refine c_X7_274 rfl dX7_seat_10 m_ob (Nat.le_of_ble_eq_true rfl) (by omega) (C_m_isHive (fun hh => ?_) (fun hh => ?_))
              · first
                  | (exfalso; omega)
                  | (have xc3 := xc.2.2; exact absurd ⟨xc.1, xc.2.1, by omega⟩ mc)
                  | (have mc3 := mc.2.2; exact absurd ⟨mc.1, mc.2.1, by omega⟩ xc)
                  | skip
                    refine aK_i ?_
                    refine aw_ifne (tgt := 22) dX7_seat_13 (by decide) (fun _ => ?_) (fun h => absurd h (by decide))
                    refine aw_aload_n dX7_seat_22 rfl ?_
                    refine aw_iload_n dX7_seat_23 rfl ?_
                    refine aw_iload_n dX7_seat_24 rfl ?_
                    refine c_X7_331 rfl dX7_seat_25 m_ob (Nat.le_of_ble_eq_true rfl) (by omega) (C_m_maySeat (by omega) (by omega) (fun mc => ?_) (fun mc => ?_))
                    · first
                        | (exfalso; omega)
                        | (have xc3 := xc.2.2; exact absurd ⟨xc.1, xc.2.1, by omega⟩ mc)
                        | (have mc3 := mc.2.2; exact absurd ⟨mc.1, mc.2.1, by omega⟩ xc)
                        | skip
                          refine aK_i ?_
                          refine aw_ifne (tgt := 38) dX7_seat_28 (by decide) (fun _ => ?_) (fun h => absurd h (by decide))
                          refine gm_7 rfl dX7_seat_38 dX7_seat_39 rfl ?_
                          refine aw_iload_n dX7_seat_42 rfl ?_
                          refine c_X7_217 rfl dX7_seat_43  (Nat.le_of_ble_eq_true rfl) (by omega) (C_m_hiveRow (by omega) ?_)
                          refine aK_i ?_
                          refine aw_iconst dX7_seat_46 (by decide) ?_
                          refine aw_iaddr dX7_seat_47 (by omega) ?_
                          refine aw_iload_n dX7_seat_48 rfl ?_
                          refine aw_iastore dX7_seat_49 m_a1 (by omega) (by omega) ?_
                          refine aw_aload_n dX7_seat_50 rfl ?_
                          refine aw_iconst dX7_seat_51 (by decide) ?_
                          refine c_X7_79 rfl dX7_seat_52 m_ob (Nat.le_of_ble_eq_true rfl) (by omega) (C_m_is (fun hz => ?_) (fun hz => ?_))
                          · first
                              | (exfalso; omega)
                              | (have xc3 := xc.2.2; exact absurd ⟨xc.1, xc.2.1, by omega⟩ mc)
                              | (have mc3 := mc.2.2; exact absurd ⟨mc.1, mc.2.1, by omega⟩ xc)
                              | skip
                                refine aK_i ?_
                                refine aw_zreturn dX7_seat_55 rfl (by omega) ?_
                                first
                                  | (exfalso; omega)
                                  | (refine XR.sameE h ?_ ?_ ?_ ?_ ?_ ?_
                                     · first
                                         | rfl
                                         | omega
                                     · repeat (first | exact xs.rf | refine xs.up ?_ (by decide))
                                     · repeat (first | exact mss.rf | refine mss.up0 ?_ (by decide))
                                     · first
                                         | (simp [aup, hv2, hv3, hv4]; done)
                                         | (simp [aup, hv2, hv3, hv4]; omega)
                                     · simp [aup, hv2, hv3, hv4]
                                     · simp [aup, hv2, hv3, hv4])
                                  | (refine ⟨vI_eq (by first | rfl | omega), _, rfl, XR.yd (upA (cm 1) (64 + 198 * b + 3) a) hR HX HL HN HS HP ?_ ?_ ?_ ?_ ?_ ?_ ?_ ?_ ?_ ?_ ?_ ?_ ?_⟩
                                     · rw [aup_rn (by decide), aup_r]
                                     · rw [upA_n (by omega)]
                                       exact (HY.up0 (j := 7) (v := 0) hR.1.2 (by decide)).hfld (k := b) (j := 5) (v := a) (by omega) (by omega) ehv (by omega)
                                     · intro i hi
                                       repeat rw [upA_n (by omega)]
                                     · intro k k0 k1
                                       repeat rw [upA_n (by omega)]
                                     · obtain ⟨q1, q2, q3, q4, q5, q6, q7⟩ := gh
                                       refine PI.one HP (k := b) (by omega) (by omega) (fun i hi i1 i2 => ?_) ?_ ?_ ?_ ?_ ?_ ?_ ?_ ?_
                                       · repeat rw [upA_n (by omega)]
                                       all_goals (repeat (first | rw [upA_s] | rw [upA_n (by omega)]))
                                       all_goals omega
                                     · repeat (first | exact HF | refine FC.ok (FC.up0 ?_ (by decide)) | refine FC.ok (FC.up1 ?_))
                                     · intro x j hx hz
                                       have hx1 : x ≠ hv := fun e => hx (by rw [e]; exact ohv)
                                       have hx2 : x ≠ 10 := fun e => hx (by rw [e, HY.2.1]; decide)
                                       repeat (first | rw [aup_rn hx1] | rw [aup_rn hx2] | rw [aup_n (fun z => hz ⟨z.1, Or.inl z.2⟩)])
                                     · repeat rw [aup_n (by omega)]
                                     · intro b b0 b1 b9
                                       rw [aup_rn b0]
                                       repeat rw [aup_rn b1]
                                     · intro i hi
                                       rw [aup_n (by omega)]
                                       repeat rw [aup_rn (by decide)]
                                     · repeat rw [aup_n (by omega)]
                                       rw [aup_s, aup_s]
                                     · repeat rw [aup_n (by omega)]
                                       repeat rw [aup_rn (by decide)]
                                       exact hv3
                                     · repeat rw [aup_n (by omega)]
                                       repeat rw [aup_rn (by decide)]
                                       exact hv4)
                          · first
                              | (exfalso; omega)
                              | (have xc3 := xc.2.2; exact absurd ⟨xc.1, xc.2.1, by omega⟩ mc)
                              | (have mc3 := mc.2.2; exact absurd ⟨mc.1, mc.2.1, by omega⟩ xc)
                              | skip
                                refine aK_i ?_
                                refine aw_zreturn dX7_seat_55 rfl (by omega) ?_
                                first
                                  | (exfalso; omega)
                                  | (refine XR.sameE h ?_ ?_ ?_ ?_ ?_ ?_
                                     · first
                                         | rfl
                                         | omega
                                     · repeat (first | exact xs.rf | refine xs.up ?_ (by decide))
                                     · repeat (first | exact mss.rf | refine mss.up0 ?_ (by decide))
                                     · first
                                         | (simp [aup, hv2, hv3, hv4]; done)
                                         | (simp [aup, hv2, hv3, hv4]; omega)
                                     · simp [aup, hv2, hv3, hv4]
                                     · simp [aup, hv2, hv3, hv4])
                                  | (refine ⟨vI_eq (by first | rfl | omega), _, rfl, XR.yd (upA (cm 1) (64 + 198 * b + 3) a) hR HX HL HN HS HP ?_ ?_ ?_ ?_ ?_ ?_ ?_ ?_ ?_ ?_ ?_ ?_ ?_⟩
                                     · rw [aup_rn (by decide), aup_r]
                                     · rw [upA_n (by omega)]
                                       exact (HY.up0 (j := 7) (v := 0) hR.1.2 (by decide)).hfld (k := b) (j := 5) (v := a) (by omega) (by omega) ehv (by omega)
                                     · intro i hi
                                       repeat rw [upA_n (by omega)]
                                     · intro k k0 k1
                                       repeat rw [upA_n (by omega)]
                                     · obtain ⟨q1, q2, q3, q4, q5, q6, q7⟩ := gh
                                       refine PI.one HP (k := b) (by omega) (by omega) (fun i hi i1 i2 => ?_) ?_ ?_ ?_ ?_ ?_ ?_ ?_ ?_
                                       · repeat rw [upA_n (by omega)]
                                       all_goals (repeat (first | rw [upA_s] | rw [upA_n (by omega)]))
                                       all_goals omega
                                     · repeat (first | exact HF | refine FC.ok (FC.up0 ?_ (by decide)) | refine FC.ok (FC.up1 ?_))
                                     · intro x j hx hz
                                       have hx1 : x ≠ hv := fun e => hx (by rw [e]; exact ohv)
                                       have hx2 : x ≠ 10 := fun e => hx (by rw [e, HY.2.1]; decide)
                                       repeat (first | rw [aup_rn hx1] | rw [aup_rn hx2] | rw [aup_n (fun z => hz ⟨z.1, Or.inl z.2⟩)])
                                     · repeat rw [aup_n (by omega)]
                                     · intro b b0 b1 b9
                                       rw [aup_rn b0]
                                       repeat rw [aup_rn b1]
                                     · intro i hi
                                       rw [aup_n (by omega)]
                                       repeat rw [aup_rn (by decide)]
                                     · repeat rw [aup_n (by omega)]
                                       rw [aup_s, aup_s]
                                     · repeat rw [aup_n (by omega)]
                                       repeat rw [aup_rn (by decide)]
                                       exact hv3
                                     · repeat rw [aup_n (by omega)]
                                       repeat rw [aup_rn (by decide)]
                                       exact hv4)
                    · first
                        | (exfalso; omega)
                        | (have xc3 := xc.2.2; exact absurd ⟨xc.1, xc.2.1, by omega⟩ mc)
                        | (have mc3 := mc.2.2; exact absurd ⟨mc.1, mc.2.1, by omega⟩ xc)
                        | skip
                          refine aK_i ?_
                          refine aw_ifne (tgt := 38) dX7_seat_28 (by decide) (fun h => absurd h (by decide)) (fun _ => ?_)
                          refine aw_aload_n dX7_seat_31 rfl ?_
                          refine aw_bipush dX7_seat_32 (by decide) ?_
                          refine c_X7_79 rfl dX7_seat_34 m_ob (Nat.le_of_ble_eq_true rfl) (by omega) (C_m_is (fun hz => ?_) (fun hz => ?_))
                          · first
                              | (exfalso; omega)
                              | (have xc3 := xc.2.2; exact absurd ⟨xc.1, xc.2.1, by omega⟩ mc)
                              | (have mc3 := mc.2.2; exact absurd ⟨mc.1, mc.2.1, by omega⟩ xc)
                              | skip
                                refine aK_i ?_
                                refine aw_zreturn dX7_seat_37 rfl (by omega) ?_
                                first
                                  | (exfalso; omega)
                                  | (refine XR.sameE h ?_ ?_ ?_ ?_ ?_ ?_
                                     · first
                                         | rfl
                                         | omega
                                     · repeat (first | exact xs.rf | refine xs.up ?_ (by decide))
                                     · repeat (first | exact mss.rf | refine mss.up0 ?_ (by decide))
                                     · first
                                         | (simp [aup, hv2, hv3, hv4]; done)
                                         | (simp [aup, hv2, hv3, hv4]; omega)
                                     · simp [aup, hv2, hv3, hv4]
                                     · simp [aup, hv2, hv3, hv4])
                                  | (refine ⟨vI_eq (by first | rfl | omega), _, rfl, XR.yd (upA (cm 1) (64 + 198 * b + 3) a) hR HX HL HN HS HP ?_ ?_ ?_ ?_ ?_ ?_ ?_ ?_ ?_ ?_ ?_ ?_ ?_⟩
                                     · rw [aup_rn (by decide), aup_r]
                                     · rw [upA_n (by omega)]
                                       exact (HY.up0 (j := 7) (v := 0) hR.1.2 (by decide)).hfld (k := b) (j := 5) (v := a) (by omega) (by omega) ehv (by omega)
                                     · intro i hi
                                       repeat rw [upA_n (by omega)]
                                     · intro k k0 k1
                                       repeat rw [upA_n (by omega)]
                                     · obtain ⟨q1, q2, q3, q4, q5, q6, q7⟩ := gh
                                       refine PI.one HP (k := b) (by omega) (by omega) (fun i hi i1 i2 => ?_) ?_ ?_ ?_ ?_ ?_ ?_ ?_ ?_
                                       · repeat rw [upA_n (by omega)]
                                       all_goals (repeat (first | rw [upA_s] | rw [upA_n (by omega)]))
                                       all_goals omega
                                     · repeat (first | exact HF | refine FC.ok (FC.up0 ?_ (by decide)) | refine FC.ok (FC.up1 ?_))
                                     · intro x j hx hz
                                       have hx1 : x ≠ hv := fun e => hx (by rw [e]; exact ohv)
                                       have hx2 : x ≠ 10 := fun e => hx (by rw [e, HY.2.1]; decide)
                                       repeat (first | rw [aup_rn hx1] | rw [aup_rn hx2] | rw [aup_n (fun z => hz ⟨z.1, Or.inl z.2⟩)])
                                     · repeat rw [aup_n (by omega)]
                                     · intro b b0 b1 b9
                                       rw [aup_rn b0]
                                       repeat rw [aup_rn b1]
                                     · intro i hi
                                       rw [aup_n (by omega)]
                                       repeat rw [aup_rn (by decide)]
                                     · repeat rw [aup_n (by omega)]
                                       rw [aup_s, aup_s]
                                     · repeat rw [aup_n (by omega)]
                                       repeat rw [aup_rn (by decide)]
                                       exact hv3
                                     · repeat rw [aup_n (by omega)]
                                       repeat rw [aup_rn (by decide)]
                                       exact hv4)
                          · first
                              | (exfalso; omega)
                              | (have xc3 := xc.2.2; exact absurd ⟨xc.1, xc.2.1, by omega⟩ mc)
                              | (have mc3 := mc.2.2; exact absurd ⟨mc.1, mc.2.1, by omega⟩ xc)
                              | skip
                                refine aK_i ?_
                                refine aw_zreturn dX7_seat_37 rfl (by omega) ?_
                                first
                                  | (exfalso; omega)
                                  | (refine XR.sameE h ?_ ?_ ?_ ?_ ?_ ?_
                                     · first
                                         | rfl
                                         | omega
                                     · repeat (first | exact xs.rf | refine xs.up ?_ (by decide))
                                     · repeat (first | exact mss.rf | refine mss.up0 ?_ (by decide))
                                     · first
                                         | (simp [aup, hv2, hv3, hv4]; done)
                                         | (simp [aup, hv2, hv3, hv4]; omega)
                                     · simp [aup, hv2, hv3, hv4]
                                     · simp [aup, hv2, hv3, hv4])
                                  | (refine ⟨vI_eq (by first | rfl | omega), _, rfl, XR.yd (upA (cm 1) (64 + 198 * b + 3) a) hR HX HL HN HS HP ?_ ?_ ?_ ?_ ?_ ?_ ?_ ?_ ?_ ?_ ?_ ?_ ?_⟩
                                     · rw [aup_rn (by decide), aup_r]
                                     · rw [upA_n (by omega)]
                                       exact (HY.up0 (j := 7) (v := 0) hR.1.2 (by decide)).hfld (k := b) (j := 5) (v := a) (by omega) (by omega) ehv (by omega)
                                     · intro i hi
                                       repeat rw [upA_n (by omega)]
                                     · intro k k0 k1
                                       repeat rw [upA_n (by omega)]
                                     · obtain ⟨q1, q2, q3, q4, q5, q6, q7⟩ := gh
                                       refine PI.one HP (k := b) (by omega) (by omega) (fun i hi i1 i2 => ?_) ?_ ?_ ?_ ?_ ?_ ?_ ?_ ?_
                                       · repeat rw [upA_n (by omega)]
                                       all_goals (repeat (first | rw [upA_s] | rw [upA_n (by omega)]))
                                       all_goals omega
                                     · repeat (first | exact HF | refine FC.ok (FC.up0 ?_ (by decide)) | refine FC.ok (FC.up1 ?_))
                                     · intro x j hx hz
                                       have hx1 : x ≠ hv := fun e => hx (by rw [e]; exact ohv)
                                       have hx2 : x ≠ 10 := fun e => hx (by rw [e, HY.2.1]; decide)
                                       repeat (first | rw [aup_rn hx1] | rw [aup_rn hx2] | rw [aup_n (fun z => hz ⟨z.1, Or.inl z.2⟩)])
                                     · repeat rw [aup_n (by omega)]
                                     · intro b b0 b1 b9
                                       rw [aup_rn b0]
                                       repeat rw [aup_rn b1]
                                     · intro i hi
                                       rw [aup_n (by omega)]
                                       repeat rw [aup_rn (by decide)]
                                     · repeat rw [aup_n (by omega)]
                                       rw [aup_s, aup_s]
                                     · repeat rw [aup_n (by omega)]
                                       repeat rw [aup_rn (by decide)]
                                       exact hv3
                                     · repeat rw [aup_n (by omega)]
                                       repeat rw [aup_rn (by decide)]
                                       exact hv4)
              · first
                  | (exfalso; omega)
                  | (have xc3 := xc.2.2; exact absurd ⟨xc.1, xc.2.1, by omega⟩ mc)
                  | (have mc3 := mc.2.2; exact absurd ⟨mc.1, mc.2.1, by omega⟩ xc)
                  | skip
                    refine aK_i ?_
                    refine aw_ifne (tgt := 22) dX7_seat_13 (by decide) (fun h => absurd h (by decide)) (fun _ => ?_)
                    refine aw_aload_n dX7_seat_16 rfl ?_
                    refine aw_iconst dX7_seat_17 (by decide) ?_
                    refine c_X7_79 rfl dX7_seat_18 m_ob (Nat.le_of_ble_eq_true rfl) (by omega) (C_m_is (fun hz => ?_) (fun hz => ?_))
                    · first
                        | (exfalso; omega)
                        | (have xc3 := xc.2.2; exact absurd ⟨xc.1, xc.2.1, by omega⟩ mc)
                        | (have mc3 := mc.2.2; exact absurd ⟨mc.1, mc.2.1, by omega⟩ xc)
                        | skip
                          refine aK_i ?_
                          refine aw_zreturn dX7_seat_21 rfl (by omega) ?_
                          first
                            | (exfalso; omega)
                            | (refine XR.sameE h ?_ ?_ ?_ ?_ ?_ ?_
                               · first
                                   | rfl
                                   | omega
                               · repeat (first | exact xs.rf | refine xs.up ?_ (by decide))
                               · repeat (first | exact mss.rf | refine mss.up0 ?_ (by decide))
                               · first
                                   | (simp [aup, hv2, hv3, hv4]; done)
                                   | (simp [aup, hv2, hv3, hv4]; omega)
                               · simp [aup, hv2, hv3, hv4]
                               · simp [aup, hv2, hv3, hv4])
                            | (refine ⟨vI_eq (by first | rfl | omega), _, rfl, XR.yd (upA (cm 1) (64 + 198 * b + 3) a) hR HX HL HN HS HP ?_ ?_ ?_ ?_ ?_ ?_ ?_ ?_ ?_ ?_ ?_ ?_ ?_⟩
                               · rw [aup_rn (by decide), aup_r]
                               · rw [upA_n (by omega)]
                                 exact (HY.up0 (j := 7) (v := 0) hR.1.2 (by decide)).hfld (k := b) (j := 5) (v := a) (by omega) (by omega) ehv (by omega)
                               · intro i hi
                                 repeat rw [upA_n (by omega)]
                               · intro k k0 k1
                                 repeat rw [upA_n (by omega)]
                               · obtain ⟨q1, q2, q3, q4, q5, q6, q7⟩ := gh
                                 refine PI.one HP (k := b) (by omega) (by omega) (fun i hi i1 i2 => ?_) ?_ ?_ ?_ ?_ ?_ ?_ ?_ ?_
                                 · repeat rw [upA_n (by omega)]
                                 all_goals (repeat (first | rw [upA_s] | rw [upA_n (by omega)]))
                                 all_goals omega
                               · repeat (first | exact HF | refine FC.ok (FC.up0 ?_ (by decide)) | refine FC.ok (FC.up1 ?_))
                               · intro x j hx hz
                                 have hx1 : x ≠ hv := fun e => hx (by rw [e]; exact ohv)
                                 have hx2 : x ≠ 10 := fun e => hx (by rw [e, HY.2.1]; decide)
                                 repeat (first | rw [aup_rn hx1] | rw [aup_rn hx2] | rw [aup_n (fun z => hz ⟨z.1, Or.inl z.2⟩)])
                               · repeat rw [aup_n (by omega)]
                               · intro b b0 b1 b9
                                 rw [aup_rn b0]
                                 repeat rw [aup_rn b1]
                               · intro i hi
                                 rw [aup_n (by omega)]
                                 repeat rw [aup_rn (by decide)]
                               · repeat rw [aup_n (by omega)]
                                 rw [aup_s, aup_s]
                               · repeat rw [aup_n (by omega)]
                                 repeat rw [aup_rn (by decide)]
                                 exact hv3
                               · repeat rw [aup_n (by omega)]
                                 repeat rw [aup_rn (by decide)]
                                 exact hv4)
                    · first
                        | (exfalso; omega)
                        | (have xc3 := xc.2.2; exact absurd ⟨xc.1, xc.2.1, by omega⟩ mc)
                        | (have mc3 := mc.2.2; exact absurd ⟨mc.1, mc.2.1, by omega⟩ xc)
                        | skip
                          refine aK_i ?_
                          refine aw_zreturn dX7_seat_21 rfl (by omega) ?_
                          first
                            | (exfalso; omega)
                            | (refine XR.sameE h ?_ ?_ ?_ ?_ ?_ ?_
                               · first
                                   | rfl
                                   | omega
                               · repeat (first | exact xs.rf | refine xs.up ?_ (by decide))
                               · repeat (first | exact mss.rf | refine mss.up0 ?_ (by decide))
                               · first
                                   | (simp [aup, hv2, hv3, hv4]; done)
                                   | (simp [aup, hv2, hv3, hv4]; omega)
                               · simp [aup, hv2, hv3, hv4]
                               · simp [aup, hv2, hv3, hv4])
                            | (refine ⟨vI_eq (by first | rfl | omega), _, rfl, XR.yd (upA (cm 1) (64 + 198 * b + 3) a) hR HX HL HN HS HP ?_ ?_ ?_ ?_ ?_ ?_ ?_ ?_ ?_ ?_ ?_ ?_ ?_⟩
                               · rw [aup_rn (by decide), aup_r]
                               · rw [upA_n (by omega)]
                                 exact (HY.up0 (j := 7) (v := 0) hR.1.2 (by decide)).hfld (k := b) (j := 5) (v := a) (by omega) (by omega) ehv (by omega)
                               · intro i hi
                                 repeat rw [upA_n (by omega)]
                               · intro k k0 k1
                                 repeat rw [upA_n (by omega)]
                               · obtain ⟨q1, q2, q3, q4, q5, q6, q7⟩ := gh
                                 refine PI.one HP (k := b) (by omega) (by omega) (fun i hi i1 i2 => ?_) ?_ ?_ ?_ ?_ ?_ ?_ ?_ ?_
                                 · repeat rw [upA_n (by omega)]
                                 all_goals (repeat (first | rw [upA_s] | rw [upA_n (by omega)]))
                                 all_goals omega
                               · repeat (first | exact HF | refine FC.ok (FC.up0 ?_ (by decide)) | refine FC.ok (FC.up1 ?_))
                               · intro x j hx hz
                                 have hx1 : x ≠ hv := fun e => hx (by rw [e]; exact ohv)
                                 have hx2 : x ≠ 10 := fun e => hx (by rw [e, HY.2.1]; decide)
                                 repeat (first | rw [aup_rn hx1] | rw [aup_rn hx2] | rw [aup_n (fun z => hz ⟨z.1, Or.inl z.2⟩)])
                               · repeat rw [aup_n (by omega)]
                               · intro b b0 b1 b9
                                 rw [aup_rn b0]
                                 repeat rw [aup_rn b1]
                               · intro i hi
                                 rw [aup_n (by omega)]
                                 repeat rw [aup_rn (by decide)]
                               · repeat rw [aup_n (by omega)]
                                 rw [aup_s, aup_s]
                               · repeat rw [aup_n (by omega)]
                                 repeat rw [aup_rn (by decide)]
                                 exact hv3
                               · repeat rw [aup_n (by omega)]
                                 repeat rw [aup_rn (by decide)]
                                 exact hv4)
        · first
            | (exfalso; omega)
            | (have xc3 := xc.2.2; exact absurd ⟨xc.1, xc.2.1, by omega⟩ mc)
            | (have mc3 := mc.2.2; exact absurd ⟨mc.1, mc.2.1, by omega⟩ xc)
            | skip
              refine aK_i ?_
              refine aw_ifeq (tgt := 16) dX7_seat_5 (by decide) (fun _ => ?_) (fun h => absurd h (by decide))
              refine aw_aload_n dX7_seat_16 rfl ?_
              refine aw_iconst dX7_seat_17 (by decide) ?_
              refine c_X7_79 rfl dX7_seat_18 m_ob (Nat.le_of_ble_eq_true rfl) (by omega) (C_m_is (fun hz => ?_) (fun hz => ?_))
              · first
                  | (exfalso; omega)
                  | (have xc3 := xc.2.2; exact absurd ⟨xc.1, xc.2.1, by omega⟩ mc)
                  | (have mc3 := mc.2.2; exact absurd ⟨mc.1, mc.2.1, by omega⟩ xc)
                  | skip
                    refine aK_i ?_
                    refine aw_zreturn dX7_seat_21 rfl (by omega) ?_
                    first
                      | (exfalso; omega)
                      | (refine XR.sameE h ?_ ?_ ?_ ?_ ?_ ?_
                         · first
                             | rfl
                             | omega
                         · repeat (first | exact xs.rf | refine xs.up ?_ (by decide))
                         · repeat (first | exact mss.rf | refine mss.up0 ?_ (by decide))
                         · first
                             | (simp [aup, hv2, hv3, hv4]; done)
                             | (simp [aup, hv2, hv3, hv4]; omega)
                         · simp [aup, hv2, hv3, hv4]
                         · simp [aup, hv2, hv3, hv4])
                      | (refine ⟨vI_eq (by first | rfl | omega), _, rfl, XR.yd (upA (cm 1) (64 + 198 * b + 3) a) hR HX HL HN HS HP ?_ ?_ ?_ ?_ ?_ ?_ ?_ ?_ ?_ ?_ ?_ ?_ ?_⟩
                         · rw [aup_rn (by decide), aup_r]
                         · rw [upA_n (by omega)]
                           exact (HY.up0 (j := 7) (v := 0) hR.1.2 (by decide)).hfld (k := b) (j := 5) (v := a) (by omega) (by omega) ehv (by omega)
                         · intro i hi
                           repeat rw [upA_n (by omega)]
                         · intro k k0 k1
                           repeat rw [upA_n (by omega)]
                         · obtain ⟨q1, q2, q3, q4, q5, q6, q7⟩ := gh
                           refine PI.one HP (k := b) (by omega) (by omega) (fun i hi i1 i2 => ?_) ?_ ?_ ?_ ?_ ?_ ?_ ?_ ?_
                           · repeat rw [upA_n (by omega)]
                           all_goals (repeat (first | rw [upA_s] | rw [upA_n (by omega)]))
                           all_goals omega
                         · repeat (first | exact HF | refine FC.ok (FC.up0 ?_ (by decide)) | refine FC.ok (FC.up1 ?_))
                         · intro x j hx hz
                           have hx1 : x ≠ hv := fun e => hx (by rw [e]; exact ohv)
                           have hx2 : x ≠ 10 := fun e => hx (by rw [e, HY.2.1]; decide)
                           repeat (first | rw [aup_rn hx1] | rw [aup_rn hx2] | rw [aup_n (fun z => hz ⟨z.1, Or.inl z.2⟩)])
                         · repeat rw [aup_n (by omega)]
                         · intro b b0 b1 b9
                           rw [aup_rn b0]
                           repeat rw [aup_rn b1]
                         · intro i hi
                           rw [aup_n (by omega)]
                           repeat rw [aup_rn (by decide)]
                         · repeat rw [aup_n (by omega)]
                           rw [aup_s, aup_s]
                         · repeat rw [aup_n (by omega)]
                           repeat rw [aup_rn (by decide)]
                           exact hv3
                         · repeat rw [aup_n (by omega)]
                           repeat rw [aup_rn (by decide)]
                           exact hv4)
              · first
                  | (exfalso; omega)
                  | (have xc3 := xc.2.2; exact absurd ⟨xc.1, xc.2.1, by omega⟩ mc)
                  | (have mc3 := mc.2.2; exact absurd ⟨mc.1, mc.2.1, by omega⟩ xc)
                  | skip
                    refine aK_i ?_
                    refine aw_zreturn dX7_seat_21 rfl (by omega) ?_
                    first
                      | (exfalso; omega)
                      | (refine XR.sameE h ?_ ?_ ?_ ?_ ?_ ?_
                         · first
                             | rfl
                             | omega
                         · repeat (first | exact xs.rf | refine xs.up ?_ (by decide))
                         · repeat (first | exact mss.rf | refine mss.up0 ?_ (by decide))
                         · first
                             | (simp [aup, hv2, hv3, hv4]; done)
                             | (simp [aup, hv2, hv3, hv4]; omega)
                         · simp [aup, hv2, hv3, hv4]
                         · simp [aup, hv2, hv3, hv4])
                      | (refine ⟨vI_eq (by first | rfl | omega), _, rfl, XR.yd (upA (cm 1) (64 + 198 * b + 3) a) hR HX HL HN HS HP ?_ ?_ ?_ ?_ ?_ ?_ ?_ ?_ ?_ ?_ ?_ ?_ ?_⟩
                         · rw [aup_rn (by decide), aup_r]
                         · rw [upA_n (by omega)]
                           exact (HY.up0 (j := 7) (v := 0) hR.1.2 (by decide)).hfld (k := b) (j := 5) (v := a) (by omega) (by omega) ehv (by omega)
                         · intro i hi
                           repeat rw [upA_n (by omega)]
                         · intro k k0 k1
                           repeat rw [upA_n (by omega)]
                         · obtain ⟨q1, q2, q3, q4, q5, q6, q7⟩ := gh
                           refine PI.one HP (k := b) (by omega) (by omega) (fun i hi i1 i2 => ?_) ?_ ?_ ?_ ?_ ?_ ?_ ?_ ?_
                           · repeat rw [upA_n (by omega)]
                           all_goals (repeat (first | rw [upA_s] | rw [upA_n (by omega)]))
                           all_goals omega
                         · repeat (first | exact HF | refine FC.ok (FC.up0 ?_ (by decide)) | refine FC.ok (FC.up1 ?_))
                         · intro x j hx hz
                           have hx1 : x ≠ hv := fun e => hx (by rw [e]; exact ohv)
                           have hx2 : x ≠ 10 := fun e => hx (by rw [e, HY.2.1]; decide)
                           repeat (first | rw [aup_rn hx1] | rw [aup_rn hx2] | rw [aup_n (fun z => hz ⟨z.1, Or.inl z.2⟩)])
                         · repeat rw [aup_n (by omega)]
                         · intro b b0 b1 b9
                           rw [aup_rn b0]
                           repeat rw [aup_rn b1]
                         · intro i hi
                           rw [aup_n (by omega)]
                           repeat rw [aup_rn (by decide)]
                         · repeat rw [aup_n (by omega)]
                           rw [aup_s, aup_s]
                         · repeat rw [aup_n (by omega)]
                           repeat rw [aup_rn (by decide)]
                           exact hv3
                         · repeat rw [aup_n (by omega)]
                           repeat rw [aup_rn (by decide)]
                           exact hv4)
    · refine aK_i ?_
      refine aw_ifne (tgt := 21) dX0_seat_14 (by decide) (fun h => absurd h (by decide)) (fun _ => ?_)
      refine aw_iconst dX0_seat_17 (by decide) ?_
      refine aw_goto (tgt := 39) dX0_seat_18 (by decide) ?_
      refine p_X0_73_0 rfl dX0_seat_39 hR.o0 ?_
      refine aw_aload_n dX0_seat_42 rfl ?_
      refine g_X0_73_0 rfl dX0_seat_43 hR.o0 ?_
      repeat (first | rw [aup_s] | rw [aup_n (by omega)])
      refine aw_ifne (tgt := 58) dX0_seat_46 (by decide) (fun _ => ?_) (fun h => absurd h (by decide))
      refine aw_aload_n dX0_seat_58 rfl ?_
      refine g_X0_73_0 rfl dX0_seat_59 hR.o0 ?_
      repeat (first | rw [aup_s] | rw [aup_n (by omega)])
      refine aw_ifne (tgt := 69) dX0_seat_62 (by decide) (fun _ => ?_) (fun h => absurd h (by decide))
      refine aw_iconst dX0_seat_69 (by decide) ?_
      refine aw_zreturn dX0_seat_70 rfl (Or.inl rfl) ?_
      refine ⟨_, rfl, ?_⟩
      refine AMet.go (L := [some (vR 0), some (vI a), some (vI b)]) mok_X7_seat (Nat.le_of_ble_eq_true rfl) rfl ?_
      refine aw_aload_n dX7_seat_0 rfl ?_
      refine aw_iload_n dX7_seat_1 rfl ?_
      refine c_X7_277 rfl dX7_seat_2 m_ob (Nat.le_of_ble_eq_true rfl) (by omega) (C_m_isQueen (fun hh => ?_) (fun hh => ?_))
      · first
          | (exfalso; omega)
          | (have xc3 := xc.2.2; exact absurd ⟨xc.1, xc.2.1, by omega⟩ mc)
          | (have mc3 := mc.2.2; exact absurd ⟨mc.1, mc.2.1, by omega⟩ xc)
          | skip
            refine aK_i ?_
            refine aw_ifeq (tgt := 16) dX7_seat_5 (by decide) (fun h => absurd h (by decide)) (fun _ => ?_)
            refine aw_aload_n dX7_seat_8 rfl ?_
            refine aw_iload_n dX7_seat_9 rfl ?_
            refine c_X7_274 rfl dX7_seat_10 m_ob (Nat.le_of_ble_eq_true rfl) (by omega) (C_m_isHive (fun hh => ?_) (fun hh => ?_))
            · first
                | (exfalso; omega)
                | (have xc3 := xc.2.2; exact absurd ⟨xc.1, xc.2.1, by omega⟩ mc)
                | (have mc3 := mc.2.2; exact absurd ⟨mc.1, mc.2.1, by omega⟩ xc)
                | skip
                  refine aK_i ?_
                  refine aw_ifne (tgt := 22) dX7_seat_13 (by decide) (fun _ => ?_) (fun h => absurd h (by decide))
                  refine aw_aload_n dX7_seat_22 rfl ?_
                  refine aw_iload_n dX7_seat_23 rfl ?_
                  refine aw_iload_n dX7_seat_24 rfl ?_
                  refine c_X7_331 rfl dX7_seat_25 m_ob (Nat.le_of_ble_eq_true rfl) (by omega) (C_m_maySeat (by omega) (by omega) (fun mc => ?_) (fun mc => ?_))
                  · first
                      | (exfalso; omega)
                      | (have xc3 := xc.2.2; exact absurd ⟨xc.1, xc.2.1, by omega⟩ mc)
                      | (have mc3 := mc.2.2; exact absurd ⟨mc.1, mc.2.1, by omega⟩ xc)
                      | skip
                        refine aK_i ?_
                        refine aw_ifne (tgt := 38) dX7_seat_28 (by decide) (fun _ => ?_) (fun h => absurd h (by decide))
                        refine gm_7 rfl dX7_seat_38 dX7_seat_39 rfl ?_
                        refine aw_iload_n dX7_seat_42 rfl ?_
                        refine c_X7_217 rfl dX7_seat_43  (Nat.le_of_ble_eq_true rfl) (by omega) (C_m_hiveRow (by omega) ?_)
                        refine aK_i ?_
                        refine aw_iconst dX7_seat_46 (by decide) ?_
                        refine aw_iaddr dX7_seat_47 (by omega) ?_
                        refine aw_iload_n dX7_seat_48 rfl ?_
                        refine aw_iastore dX7_seat_49 m_a1 (by omega) (by omega) ?_
                        refine aw_aload_n dX7_seat_50 rfl ?_
                        refine aw_iconst dX7_seat_51 (by decide) ?_
                        refine c_X7_79 rfl dX7_seat_52 m_ob (Nat.le_of_ble_eq_true rfl) (by omega) (C_m_is (fun hz => ?_) (fun hz => ?_))
                        · first
                            | (exfalso; omega)
                            | (have xc3 := xc.2.2; exact absurd ⟨xc.1, xc.2.1, by omega⟩ mc)
                            | (have mc3 := mc.2.2; exact absurd ⟨mc.1, mc.2.1, by omega⟩ xc)
                            | skip
                              refine aK_i ?_
                              refine aw_zreturn dX7_seat_55 rfl (by omega) ?_
                              first
                                | (exfalso; omega)
                                | (refine XR.sameE h ?_ ?_ ?_ ?_ ?_ ?_
                                   · first
                                       | rfl
                                       | omega
                                   · repeat (first | exact xs.rf | refine xs.up ?_ (by decide))
                                   · repeat (first | exact mss.rf | refine mss.up0 ?_ (by decide))
                                   · first
                                       | (simp [aup, hv2, hv3, hv4]; done)
                                       | (simp [aup, hv2, hv3, hv4]; omega)
                                   · simp [aup, hv2, hv3, hv4]
                                   · simp [aup, hv2, hv3, hv4])
                                | (refine ⟨vI_eq (by first | rfl | omega), _, rfl, XR.yd (upA (cm 1) (64 + 198 * b + 3) a) hR HX HL HN HS HP ?_ ?_ ?_ ?_ ?_ ?_ ?_ ?_ ?_ ?_ ?_ ?_ ?_⟩
                                   · rw [aup_rn (by decide), aup_r]
                                   · rw [upA_n (by omega)]
                                     exact (HY.up0 (j := 7) (v := 0) hR.1.2 (by decide)).hfld (k := b) (j := 5) (v := a) (by omega) (by omega) ehv (by omega)
                                   · intro i hi
                                     repeat rw [upA_n (by omega)]
                                   · intro k k0 k1
                                     repeat rw [upA_n (by omega)]
                                   · obtain ⟨q1, q2, q3, q4, q5, q6, q7⟩ := gh
                                     refine PI.one HP (k := b) (by omega) (by omega) (fun i hi i1 i2 => ?_) ?_ ?_ ?_ ?_ ?_ ?_ ?_ ?_
                                     · repeat rw [upA_n (by omega)]
                                     all_goals (repeat (first | rw [upA_s] | rw [upA_n (by omega)]))
                                     all_goals omega
                                   · repeat (first | exact HF | refine FC.ok (FC.up0 ?_ (by decide)) | refine FC.ok (FC.up1 ?_))
                                   · intro x j hx hz
                                     have hx1 : x ≠ hv := fun e => hx (by rw [e]; exact ohv)
                                     have hx2 : x ≠ 10 := fun e => hx (by rw [e, HY.2.1]; decide)
                                     repeat (first | rw [aup_rn hx1] | rw [aup_rn hx2] | rw [aup_n (fun z => hz ⟨z.1, Or.inl z.2⟩)])
                                   · repeat rw [aup_n (by omega)]
                                   · intro b b0 b1 b9
                                     rw [aup_rn b0]
                                     repeat rw [aup_rn b1]
                                   · intro i hi
                                     rw [aup_n (by omega)]
                                     repeat rw [aup_rn (by decide)]
                                   · repeat rw [aup_n (by omega)]
                                     rw [aup_s, aup_s]
                                   · repeat rw [aup_n (by omega)]
                                     repeat rw [aup_rn (by decide)]
                                     exact hv3
                                   · repeat rw [aup_n (by omega)]
                                     repeat rw [aup_rn (by decide)]
                                     exact hv4)
                        · first
                            | (exfalso; omega)
                            | (have xc3 := xc.2.2; exact absurd ⟨xc.1, xc.2.1, by omega⟩ mc)
                            | (have mc3 := mc.2.2; exact absurd ⟨mc.1, mc.2.1, by omega⟩ xc)
                            | skip
                              refine aK_i ?_
                              refine aw_zreturn dX7_seat_55 rfl (by omega) ?_
                              first
                                | (exfalso; omega)
                                | (refine XR.sameE h ?_ ?_ ?_ ?_ ?_ ?_
                                   · first
                                       | rfl
                                       | omega
                                   · repeat (first | exact xs.rf | refine xs.up ?_ (by decide))
                                   · repeat (first | exact mss.rf | refine mss.up0 ?_ (by decide))
                                   · first
                                       | (simp [aup, hv2, hv3, hv4]; done)
                                       | (simp [aup, hv2, hv3, hv4]; omega)
                                   · simp [aup, hv2, hv3, hv4]
                                   · simp [aup, hv2, hv3, hv4])
                                | (refine ⟨vI_eq (by first | rfl | omega), _, rfl, XR.yd (upA (cm 1) (64 + 198 * b + 3) a) hR HX HL HN HS HP ?_ ?_ ?_ ?_ ?_ ?_ ?_ ?_ ?_ ?_ ?_ ?_ ?_⟩
                                   · rw [aup_rn (by decide), aup_r]
                                   · rw [upA_n (by omega)]
                                     exact (HY.up0 (j := 7) (v := 0) hR.1.2 (by decide)).hfld (k := b) (j := 5) (v := a) (by omega) (by omega) ehv (by omega)
                                   · intro i hi
                                     repeat rw [upA_n (by omega)]
                                   · intro k k0 k1
                                     repeat rw [upA_n (by omega)]
                                   · obtain ⟨q1, q2, q3, q4, q5, q6, q7⟩ := gh
                                     refine PI.one HP (k := b) (by omega) (by omega) (fun i hi i1 i2 => ?_) ?_ ?_ ?_ ?_ ?_ ?_ ?_ ?_
                                     · repeat rw [upA_n (by omega)]
                                     all_goals (repeat (first | rw [upA_s] | rw [upA_n (by omega)]))
                                     all_goals omega
                                   · repeat (first | exact HF | refine FC.ok (FC.up0 ?_ (by decide)) | refine FC.ok (FC.up1 ?_))
                                   · intro x j hx hz
                                     have hx1 : x ≠ hv := fun e => hx (by rw [e]; exact ohv)
                                     have hx2 : x ≠ 10 := fun e => hx (by rw [e, HY.2.1]; decide)
                                     repeat (first | rw [aup_rn hx1] | rw [aup_rn hx2] | rw [aup_n (fun z => hz ⟨z.1, Or.inl z.2⟩)])
                                   · repeat rw [aup_n (by omega)]
                                   · intro b b0 b1 b9
                                     rw [aup_rn b0]
                                     repeat rw [aup_rn b1]
                                   · intro i hi
                                     rw [aup_n (by omega)]
                                     repeat rw [aup_rn (by decide)]
                                   · repeat rw [aup_n (by omega)]
                                     rw [aup_s, aup_s]
                                   · repeat rw [aup_n (by omega)]
                                     repeat rw [aup_rn (by decide)]
                                     exact hv3
                                   · repeat rw [aup_n (by omega)]
                                     repeat rw [aup_rn (by decide)]
                                     exact hv4)
                  · first
                      | (exfalso; omega)
                      | (have xc3 := xc.2.2; exact absurd ⟨xc.1, xc.2.1, by omega⟩ mc)
                      | (have mc3 := mc.2.2; exact absurd ⟨mc.1, mc.2.1, by omega⟩ xc)
                      | skip
                        refine aK_i ?_
                        refine aw_ifne (tgt := 38) dX7_seat_28 (by decide) (fun h => absurd h (by decide)) (fun _ => ?_)
                        refine aw_aload_n dX7_seat_31 rfl ?_
                        refine aw_bipush dX7_seat_32 (by decide) ?_
                        refine c_X7_79 rfl dX7_seat_34 m_ob (Nat.le_of_ble_eq_true rfl) (by omega) (C_m_is (fun hz => ?_) (fun hz => ?_))
                        · first
                            | (exfalso; omega)
                            | (have xc3 := xc.2.2; exact absurd ⟨xc.1, xc.2.1, by omega⟩ mc)
                            | (have mc3 := mc.2.2; exact absurd ⟨mc.1, mc.2.1, by omega⟩ xc)
                            | skip
                              refine aK_i ?_
                              refine aw_zreturn dX7_seat_37 rfl (by omega) ?_
                              first
                                | (exfalso; omega)
                                | (refine XR.sameE h ?_ ?_ ?_ ?_ ?_ ?_
                                   · first
                                       | rfl
                                       | omega
                                   · repeat (first | exact xs.rf | refine xs.up ?_ (by decide))
                                   · repeat (first | exact mss.rf | refine mss.up0 ?_ (by decide))
                                   · first
                                       | (simp [aup, hv2, hv3, hv4]; done)
                                       | (simp [aup, hv2, hv3, hv4]; omega)
                                   · simp [aup, hv2, hv3, hv4]
                                   · simp [aup, hv2, hv3, hv4])
                                | (refine ⟨vI_eq (by first | rfl | omega), _, rfl, XR.yd (upA (cm 1) (64 + 198 * b + 3) a) hR HX HL HN HS HP ?_ ?_ ?_ ?_ ?_ ?_ ?_ ?_ ?_ ?_ ?_ ?_ ?_⟩
                                   · rw [aup_rn (by decide), aup_r]
                                   · rw [upA_n (by omega)]
                                     exact (HY.up0 (j := 7) (v := 0) hR.1.2 (by decide)).hfld (k := b) (j := 5) (v := a) (by omega) (by omega) ehv (by omega)
                                   · intro i hi
                                     repeat rw [upA_n (by omega)]
                                   · intro k k0 k1
                                     repeat rw [upA_n (by omega)]
                                   · obtain ⟨q1, q2, q3, q4, q5, q6, q7⟩ := gh
                                     refine PI.one HP (k := b) (by omega) (by omega) (fun i hi i1 i2 => ?_) ?_ ?_ ?_ ?_ ?_ ?_ ?_ ?_
                                     · repeat rw [upA_n (by omega)]
                                     all_goals (repeat (first | rw [upA_s] | rw [upA_n (by omega)]))
                                     all_goals omega
                                   · repeat (first | exact HF | refine FC.ok (FC.up0 ?_ (by decide)) | refine FC.ok (FC.up1 ?_))
                                   · intro x j hx hz
                                     have hx1 : x ≠ hv := fun e => hx (by rw [e]; exact ohv)
                                     have hx2 : x ≠ 10 := fun e => hx (by rw [e, HY.2.1]; decide)
                                     repeat (first | rw [aup_rn hx1] | rw [aup_rn hx2] | rw [aup_n (fun z => hz ⟨z.1, Or.inl z.2⟩)])
                                   · repeat rw [aup_n (by omega)]
                                   · intro b b0 b1 b9
                                     rw [aup_rn b0]
                                     repeat rw [aup_rn b1]
                                   · intro i hi
                                     rw [aup_n (by omega)]
                                     repeat rw [aup_rn (by decide)]
                                   · repeat rw [aup_n (by omega)]
                                     rw [aup_s, aup_s]
                                   · repeat rw [aup_n (by omega)]
                                     repeat rw [aup_rn (by decide)]
                                     exact hv3
                                   · repeat rw [aup_n (by omega)]
                                     repeat rw [aup_rn (by decide)]
                                     exact hv4)
                        · first
                            | (exfalso; omega)
                            | (have xc3 := xc.2.2; exact absurd ⟨xc.1, xc.2.1, by omega⟩ mc)
                            | (have mc3 := mc.2.2; exact absurd ⟨mc.1, mc.2.1, by omega⟩ xc)
                            | skip
                              refine aK_i ?_
                              refine aw_zreturn dX7_seat_37 rfl (by omega) ?_
                              first
                                | (exfalso; omega)
                                | (refine XR.sameE h ?_ ?_ ?_ ?_ ?_ ?_
                                   · first
                                       | rfl
                                       | omega
                                   · repeat (first | exact xs.rf | refine xs.up ?_ (by decide))
                                   · repeat (first | exact mss.rf | refine mss.up0 ?_ (by decide))
                                   · first
                                       | (simp [aup, hv2, hv3, hv4]; done)
                                       | (simp [aup, hv2, hv3, hv4]; omega)
                                   · simp [aup, hv2, hv3, hv4]
                                   · simp [aup, hv2, hv3, hv4])
                                | (refine ⟨vI_eq (by first | rfl | omega), _, rfl, XR.yd (upA (cm 1) (64 + 198 * b + 3) a) hR HX HL HN HS HP ?_ ?_ ?_ ?_ ?_ ?_ ?_ ?_ ?_ ?_ ?_ ?_ ?_⟩
                                   · rw [aup_rn (by decide), aup_r]
                                   · rw [upA_n (by omega)]
                                     exact (HY.up0 (j := 7) (v := 0) hR.1.2 (by decide)).hfld (k := b) (j := 5) (v := a) (by omega) (by omega) ehv (by omega)
                                   · intro i hi
                                     repeat rw [upA_n (by omega)]
                                   · intro k k0 k1
                                     repeat rw [upA_n (by omega)]
                                   · obtain ⟨q1, q2, q3, q4, q5, q6, q7⟩ := gh
                                     refine PI.one HP (k := b) (by omega) (by omega) (fun i hi i1 i2 => ?_) ?_ ?_ ?_ ?_ ?_ ?_ ?_ ?_
                                     · repeat rw [upA_n (by omega)]
                                     all_goals (repeat (first | rw [upA_s] | rw [upA_n (by omega)]))
                                     all_goals omega
                                   · repeat (first | exact HF | refine FC.ok (FC.up0 ?_ (by decide)) | refine FC.ok (FC.up1 ?_))
                                   · intro x j hx hz
                                     have hx1 : x ≠ hv := fun e => hx (by rw [e]; exact ohv)
                                     have hx2 : x ≠ 10 := fun e => hx (by rw [e, HY.2.1]; decide)
                                     repeat (first | rw [aup_rn hx1] | rw [aup_rn hx2] | rw [aup_n (fun z => hz ⟨z.1, Or.inl z.2⟩)])
                                   · repeat rw [aup_n (by omega)]
                                   · intro b b0 b1 b9
                                     rw [aup_rn b0]
                                     repeat rw [aup_rn b1]
                                   · intro i hi
                                     rw [aup_n (by omega)]
                                     repeat rw [aup_rn (by decide)]
                                   · repeat rw [aup_n (by omega)]
                                     rw [aup_s, aup_s]
                                   · repeat rw [aup_n (by omega)]
                                     repeat rw [aup_rn (by decide)]
                                     exact hv3
                                   · repeat rw [aup_n (by omega)]
                                     repeat rw [aup_rn (by decide)]
                                     exact hv4)
            · first
                | (exfalso; omega)
                | (have xc3 := xc.2.2; exact absurd ⟨xc.1, xc.2.1, by omega⟩ mc)
                | (have mc3 := mc.2.2; exact absurd ⟨mc.1, mc.2.1, by omega⟩ xc)
                | skip
                  refine aK_i ?_
                  refine aw_ifne (tgt := 22) dX7_seat_13 (by decide) (fun h => absurd h (by decide)) (fun _ => ?_)
                  refine aw_aload_n dX7_seat_16 rfl ?_
                  refine aw_iconst dX7_seat_17 (by decide) ?_
                  refine c_X7_79 rfl dX7_seat_18 m_ob (Nat.le_of_ble_eq_true rfl) (by omega) (C_m_is (fun hz => ?_) (fun hz => ?_))
                  · first
                      | (exfalso; omega)
                      | (have xc3 := xc.2.2; exact absurd ⟨xc.1, xc.2.1, by omega⟩ mc)
                      | (have mc3 := mc.2.2; exact absurd ⟨mc.1, mc.2.1, by omega⟩ xc)
                      | skip
                        refine aK_i ?_
                        refine aw_zreturn dX7_seat_21 rfl (by omega) ?_
                        first
                          | (exfalso; omega)
                          | (refine XR.sameE h ?_ ?_ ?_ ?_ ?_ ?_
                             · first
                                 | rfl
                                 | omega
                             · repeat (first | exact xs.rf | refine xs.up ?_ (by decide))
                             · repeat (first | exact mss.rf | refine mss.up0 ?_ (by decide))
                             · first
                                 | (simp [aup, hv2, hv3, hv4]; done)
                                 | (simp [aup, hv2, hv3, hv4]; omega)
                             · simp [aup, hv2, hv3, hv4]
                             · simp [aup, hv2, hv3, hv4])
                          | (refine ⟨vI_eq (by first | rfl | omega), _, rfl, XR.yd (upA (cm 1) (64 + 198 * b + 3) a) hR HX HL HN HS HP ?_ ?_ ?_ ?_ ?_ ?_ ?_ ?_ ?_ ?_ ?_ ?_ ?_⟩
                             · rw [aup_rn (by decide), aup_r]
                             · rw [upA_n (by omega)]
                               exact (HY.up0 (j := 7) (v := 0) hR.1.2 (by decide)).hfld (k := b) (j := 5) (v := a) (by omega) (by omega) ehv (by omega)
                             · intro i hi
                               repeat rw [upA_n (by omega)]
                             · intro k k0 k1
                               repeat rw [upA_n (by omega)]
                             · obtain ⟨q1, q2, q3, q4, q5, q6, q7⟩ := gh
                               refine PI.one HP (k := b) (by omega) (by omega) (fun i hi i1 i2 => ?_) ?_ ?_ ?_ ?_ ?_ ?_ ?_ ?_
                               · repeat rw [upA_n (by omega)]
                               all_goals (repeat (first | rw [upA_s] | rw [upA_n (by omega)]))
                               all_goals omega
                             · repeat (first | exact HF | refine FC.ok (FC.up0 ?_ (by decide)) | refine FC.ok (FC.up1 ?_))
                             · intro x j hx hz
                               have hx1 : x ≠ hv := fun e => hx (by rw [e]; exact ohv)
                               have hx2 : x ≠ 10 := fun e => hx (by rw [e, HY.2.1]; decide)
                               repeat (first | rw [aup_rn hx1] | rw [aup_rn hx2] | rw [aup_n (fun z => hz ⟨z.1, Or.inl z.2⟩)])
                             · repeat rw [aup_n (by omega)]
                             · intro b b0 b1 b9
                               rw [aup_rn b0]
                               repeat rw [aup_rn b1]
                             · intro i hi
                               rw [aup_n (by omega)]
                               repeat rw [aup_rn (by decide)]
                             · repeat rw [aup_n (by omega)]
                               rw [aup_s, aup_s]
                             · repeat rw [aup_n (by omega)]
                               repeat rw [aup_rn (by decide)]
                               exact hv3
                             · repeat rw [aup_n (by omega)]
                               repeat rw [aup_rn (by decide)]
                               exact hv4)
                  · first
                      | (exfalso; omega)
                      | (have xc3 := xc.2.2; exact absurd ⟨xc.1, xc.2.1, by omega⟩ mc)
                      | (have mc3 := mc.2.2; exact absurd ⟨mc.1, mc.2.1, by omega⟩ xc)
                      | skip
                        refine aK_i ?_
                        refine aw_zreturn dX7_seat_21 rfl (by omega) ?_
                        first
                          | (exfalso; omega)
                          | (refine XR.sameE h ?_ ?_ ?_ ?_ ?_ ?_
                             · first
                                 | rfl
                                 | omega
                             · repeat (first | exact xs.rf | refine xs.up ?_ (by decide))
                             · repeat (first | exact mss.rf | refine mss.up0 ?_ (by decide))
                             · first
                                 | (simp [aup, hv2, hv3, hv4]; done)
                                 | (simp [aup, hv2, hv3, hv4]; omega)
                             · simp [aup, hv2, hv3, hv4]
                             · simp [aup, hv2, hv3, hv4])
                          | (refine ⟨vI_eq (by first | rfl | omega), _, rfl, XR.yd (upA (cm 1) (64 + 198 * b + 3) a) hR HX HL HN HS HP ?_ ?_ ?_ ?_ ?_ ?_ ?_ ?_ ?_ ?_ ?_ ?_ ?_⟩
                             · rw [aup_rn (by decide), aup_r]
                             · rw [upA_n (by omega)]
                               exact (HY.up0 (j := 7) (v := 0) hR.1.2 (by decide)).hfld (k := b) (j := 5) (v := a) (by omega) (by omega) ehv (by omega)
                             · intro i hi
                               repeat rw [upA_n (by omega)]
                             · intro k k0 k1
                               repeat rw [upA_n (by omega)]
                             · obtain ⟨q1, q2, q3, q4, q5, q6, q7⟩ := gh
                               refine PI.one HP (k := b) (by omega) (by omega) (fun i hi i1 i2 => ?_) ?_ ?_ ?_ ?_ ?_ ?_ ?_ ?_
                               · repeat rw [upA_n (by omega)]
                               all_goals (repeat (first | rw [upA_s] | rw [upA_n (by omega)]))
                               all_goals omega
                             · repeat (first | exact HF | refine FC.ok (FC.up0 ?_ (by decide)) | refine FC.ok (FC.up1 ?_))
                             · intro x j hx hz
                               have hx1 : x ≠ hv := fun e => hx (by rw [e]; exact ohv)
                               have hx2 : x ≠ 10 := fun e => hx (by rw [e, HY.2.1]; decide)
                               repeat (first | rw [aup_rn hx1] | rw [aup_rn hx2] | rw [aup_n (fun z => hz ⟨z.1, Or.inl z.2⟩)])
                             · repeat rw [aup_n (by omega)]
                             · intro b b0 b1 b9
                               rw [aup_rn b0]
                               repeat rw [aup_rn b1]
                             · intro i hi
                               rw [aup_n (by omega)]
                               repeat rw [aup_rn (by decide)]
                             · repeat rw [aup_n (by omega)]
                               rw [aup_s, aup_s]
                             · repeat rw [aup_n (by omega)]
                               repeat rw [aup_rn (by decide)]
                               exact hv3
                             · repeat rw [aup_n (by omega)]
                               repeat rw [aup_rn (by decide)]
                               exact hv4)
      · first
          | (exfalso; omega)
          | (have xc3 := xc.2.2; exact absurd ⟨xc.1, xc.2.1, by omega⟩ mc)
          | (have mc3 := mc.2.2; exact absurd ⟨mc.1, mc.2.1, by omega⟩ xc)
          | skip
            refine aK_i ?_
            refine aw_ifeq (tgt := 16) dX7_seat_5 (by decide) (fun _ => ?_) (fun h => absurd h (by decide))
            refine aw_aload_n dX7_seat_16 rfl ?_
            refine aw_iconst dX7_seat_17 (by decide) ?_
            refine c_X7_79 rfl dX7_seat_18 m_ob (Nat.le_of_ble_eq_true rfl) (by omega) (C_m_is (fun hz => ?_) (fun hz => ?_))
            · first
                | (exfalso; omega)
                | (have xc3 := xc.2.2; exact absurd ⟨xc.1, xc.2.1, by omega⟩ mc)
                | (have mc3 := mc.2.2; exact absurd ⟨mc.1, mc.2.1, by omega⟩ xc)
                | skip
                  refine aK_i ?_
                  refine aw_zreturn dX7_seat_21 rfl (by omega) ?_
                  first
                    | (exfalso; omega)
                    | (refine XR.sameE h ?_ ?_ ?_ ?_ ?_ ?_
                       · first
                           | rfl
                           | omega
                       · repeat (first | exact xs.rf | refine xs.up ?_ (by decide))
                       · repeat (first | exact mss.rf | refine mss.up0 ?_ (by decide))
                       · first
                           | (simp [aup, hv2, hv3, hv4]; done)
                           | (simp [aup, hv2, hv3, hv4]; omega)
                       · simp [aup, hv2, hv3, hv4]
                       · simp [aup, hv2, hv3, hv4])
                    | (refine ⟨vI_eq (by first | rfl | omega), _, rfl, XR.yd (upA (cm 1) (64 + 198 * b + 3) a) hR HX HL HN HS HP ?_ ?_ ?_ ?_ ?_ ?_ ?_ ?_ ?_ ?_ ?_ ?_ ?_⟩
                       · rw [aup_rn (by decide), aup_r]
                       · rw [upA_n (by omega)]
                         exact (HY.up0 (j := 7) (v := 0) hR.1.2 (by decide)).hfld (k := b) (j := 5) (v := a) (by omega) (by omega) ehv (by omega)
                       · intro i hi
                         repeat rw [upA_n (by omega)]
                       · intro k k0 k1
                         repeat rw [upA_n (by omega)]
                       · obtain ⟨q1, q2, q3, q4, q5, q6, q7⟩ := gh
                         refine PI.one HP (k := b) (by omega) (by omega) (fun i hi i1 i2 => ?_) ?_ ?_ ?_ ?_ ?_ ?_ ?_ ?_
                         · repeat rw [upA_n (by omega)]
                         all_goals (repeat (first | rw [upA_s] | rw [upA_n (by omega)]))
                         all_goals omega
                       · repeat (first | exact HF | refine FC.ok (FC.up0 ?_ (by decide)) | refine FC.ok (FC.up1 ?_))
                       · intro x j hx hz
                         have hx1 : x ≠ hv := fun e => hx (by rw [e]; exact ohv)
                         have hx2 : x ≠ 10 := fun e => hx (by rw [e, HY.2.1]; decide)
                         repeat (first | rw [aup_rn hx1] | rw [aup_rn hx2] | rw [aup_n (fun z => hz ⟨z.1, Or.inl z.2⟩)])
                       · repeat rw [aup_n (by omega)]
                       · intro b b0 b1 b9
                         rw [aup_rn b0]
                         repeat rw [aup_rn b1]
                       · intro i hi
                         rw [aup_n (by omega)]
                         repeat rw [aup_rn (by decide)]
                       · repeat rw [aup_n (by omega)]
                         rw [aup_s, aup_s]
                       · repeat rw [aup_n (by omega)]
                         repeat rw [aup_rn (by decide)]
                         exact hv3
                       · repeat rw [aup_n (by omega)]
                         repeat rw [aup_rn (by decide)]
                         exact hv4)
            · first
                | (exfalso; omega)
                | (have xc3 := xc.2.2; exact absurd ⟨xc.1, xc.2.1, by omega⟩ mc)
                | (have mc3 := mc.2.2; exact absurd ⟨mc.1, mc.2.1, by omega⟩ xc)
                | skip
                  refine aK_i ?_
                  refine aw_zreturn dX7_seat_21 rfl (by omega) ?_
                  first
                    | (exfalso; omega)
                    | (refine XR.sameE h ?_ ?_ ?_ ?_ ?_ ?_
                       · first
                           | rfl
                           | omega
                       · repeat (first | exact xs.rf | refine xs.up ?_ (by decide))
                       · repeat (first | exact mss.rf | refine mss.up0 ?_ (by decide))
                       · first
                           | (simp [aup, hv2, hv3, hv4]; done)
                           | (simp [aup, hv2, hv3, hv4]; omega)
                       · simp [aup, hv2, hv3, hv4]
                       · simp [aup, hv2, hv3, hv4])
                    | (refine ⟨vI_eq (by first | rfl | omega), _, rfl, XR.yd (upA (cm 1) (64 + 198 * b + 3) a) hR HX HL HN HS HP ?_ ?_ ?_ ?_ ?_ ?_ ?_ ?_ ?_ ?_ ?_ ?_ ?_⟩
                       · rw [aup_rn (by decide), aup_r]
                       · rw [upA_n (by omega)]
                         exact (HY.up0 (j := 7) (v := 0) hR.1.2 (by decide)).hfld (k := b) (j := 5) (v := a) (by omega) (by omega) ehv (by omega)
                       · intro i hi
                         repeat rw [upA_n (by omega)]
                       · intro k k0 k1
                         repeat rw [upA_n (by omega)]
                       · obtain ⟨q1, q2, q3, q4, q5, q6, q7⟩ := gh
                         refine PI.one HP (k := b) (by omega) (by omega) (fun i hi i1 i2 => ?_) ?_ ?_ ?_ ?_ ?_ ?_ ?_ ?_
                         · repeat rw [upA_n (by omega)]
                         all_goals (repeat (first | rw [upA_s] | rw [upA_n (by omega)]))
                         all_goals omega
                       · repeat (first | exact HF | refine FC.ok (FC.up0 ?_ (by decide)) | refine FC.ok (FC.up1 ?_))
                       · intro x j hx hz
                         have hx1 : x ≠ hv := fun e => hx (by rw [e]; exact ohv)
                         have hx2 : x ≠ 10 := fun e => hx (by rw [e, HY.2.1]; decide)
                         repeat (first | rw [aup_rn hx1] | rw [aup_rn hx2] | rw [aup_n (fun z => hz ⟨z.1, Or.inl z.2⟩)])
                       · repeat rw [aup_n (by omega)]
                       · intro b b0 b1 b9
                         rw [aup_rn b0]
                         repeat rw [aup_rn b1]
                       · intro i hi
                         rw [aup_n (by omega)]
                         repeat rw [aup_rn (by decide)]
                       · repeat rw [aup_n (by omega)]
                         rw [aup_s, aup_s]
                       · repeat rw [aup_n (by omega)]
                         repeat rw [aup_rn (by decide)]
                         exact hv3
                       · repeat rw [aup_n (by omega)]
                         repeat rw [aup_rn (by decide)]
                         exact hv4)
  · refine aK_i ?_
    refine aw_ifeq (tgt := 17) dX0_seat_6 (by decide) (fun _ => ?_) (fun h => absurd h (by decide))
    refine aw_iconst dX0_seat_17 (by decide) ?_
    refine aw_goto (tgt := 39) dX0_seat_18 (by decide) ?_
    refine p_X0_73_0 rfl dX0_seat_39 hR.o0 ?_
    refine aw_aload_n dX0_seat_42 rfl ?_
    refine g_X0_73_0 rfl dX0_seat_43 hR.o0 ?_
    repeat (first | rw [aup_s] | rw [aup_n (by omega)])
    refine aw_ifne (tgt := 58) dX0_seat_46 (by decide) (fun _ => ?_) (fun h => absurd h (by decide))
    refine aw_aload_n dX0_seat_58 rfl ?_
    refine g_X0_73_0 rfl dX0_seat_59 hR.o0 ?_
    repeat (first | rw [aup_s] | rw [aup_n (by omega)])
    refine aw_ifne (tgt := 69) dX0_seat_62 (by decide) (fun _ => ?_) (fun h => absurd h (by decide))
    refine aw_iconst dX0_seat_69 (by decide) ?_
    refine aw_zreturn dX0_seat_70 rfl (Or.inl rfl) ?_
    refine ⟨_, rfl, ?_⟩
    refine AMet.go (L := [some (vR 0), some (vI a), some (vI b)]) mok_X7_seat (Nat.le_of_ble_eq_true rfl) rfl ?_
    refine aw_aload_n dX7_seat_0 rfl ?_
    refine aw_iload_n dX7_seat_1 rfl ?_
    refine c_X7_277 rfl dX7_seat_2 m_ob (Nat.le_of_ble_eq_true rfl) (by omega) (C_m_isQueen (fun hh => ?_) (fun hh => ?_))
    · first
        | (exfalso; omega)
        | (have xc3 := xc.2.2; exact absurd ⟨xc.1, xc.2.1, by omega⟩ mc)
        | (have mc3 := mc.2.2; exact absurd ⟨mc.1, mc.2.1, by omega⟩ xc)
        | skip
          refine aK_i ?_
          refine aw_ifeq (tgt := 16) dX7_seat_5 (by decide) (fun h => absurd h (by decide)) (fun _ => ?_)
          refine aw_aload_n dX7_seat_8 rfl ?_
          refine aw_iload_n dX7_seat_9 rfl ?_
          refine c_X7_274 rfl dX7_seat_10 m_ob (Nat.le_of_ble_eq_true rfl) (by omega) (C_m_isHive (fun hh => ?_) (fun hh => ?_))
          · first
              | (exfalso; omega)
              | (have xc3 := xc.2.2; exact absurd ⟨xc.1, xc.2.1, by omega⟩ mc)
              | (have mc3 := mc.2.2; exact absurd ⟨mc.1, mc.2.1, by omega⟩ xc)
              | skip
                refine aK_i ?_
                refine aw_ifne (tgt := 22) dX7_seat_13 (by decide) (fun _ => ?_) (fun h => absurd h (by decide))
                refine aw_aload_n dX7_seat_22 rfl ?_
                refine aw_iload_n dX7_seat_23 rfl ?_
                refine aw_iload_n dX7_seat_24 rfl ?_
                refine c_X7_331 rfl dX7_seat_25 m_ob (Nat.le_of_ble_eq_true rfl) (by omega) (C_m_maySeat (by omega) (by omega) (fun mc => ?_) (fun mc => ?_))
                · first
                    | (exfalso; omega)
                    | (have xc3 := xc.2.2; exact absurd ⟨xc.1, xc.2.1, by omega⟩ mc)
                    | (have mc3 := mc.2.2; exact absurd ⟨mc.1, mc.2.1, by omega⟩ xc)
                    | skip
                      refine aK_i ?_
                      refine aw_ifne (tgt := 38) dX7_seat_28 (by decide) (fun _ => ?_) (fun h => absurd h (by decide))
                      refine gm_7 rfl dX7_seat_38 dX7_seat_39 rfl ?_
                      refine aw_iload_n dX7_seat_42 rfl ?_
                      refine c_X7_217 rfl dX7_seat_43  (Nat.le_of_ble_eq_true rfl) (by omega) (C_m_hiveRow (by omega) ?_)
                      refine aK_i ?_
                      refine aw_iconst dX7_seat_46 (by decide) ?_
                      refine aw_iaddr dX7_seat_47 (by omega) ?_
                      refine aw_iload_n dX7_seat_48 rfl ?_
                      refine aw_iastore dX7_seat_49 m_a1 (by omega) (by omega) ?_
                      refine aw_aload_n dX7_seat_50 rfl ?_
                      refine aw_iconst dX7_seat_51 (by decide) ?_
                      refine c_X7_79 rfl dX7_seat_52 m_ob (Nat.le_of_ble_eq_true rfl) (by omega) (C_m_is (fun hz => ?_) (fun hz => ?_))
                      · first
                          | (exfalso; omega)
                          | (have xc3 := xc.2.2; exact absurd ⟨xc.1, xc.2.1, by omega⟩ mc)
                          | (have mc3 := mc.2.2; exact absurd ⟨mc.1, mc.2.1, by omega⟩ xc)
                          | skip
                            refine aK_i ?_
                            refine aw_zreturn dX7_seat_55 rfl (by omega) ?_
                            first
                              | (exfalso; omega)
                              | (refine XR.sameE h ?_ ?_ ?_ ?_ ?_ ?_
                                 · first
                                     | rfl
                                     | omega
                                 · repeat (first | exact xs.rf | refine xs.up ?_ (by decide))
                                 · repeat (first | exact mss.rf | refine mss.up0 ?_ (by decide))
                                 · first
                                     | (simp [aup, hv2, hv3, hv4]; done)
                                     | (simp [aup, hv2, hv3, hv4]; omega)
                                 · simp [aup, hv2, hv3, hv4]
                                 · simp [aup, hv2, hv3, hv4])
                              | (refine ⟨vI_eq (by first | rfl | omega), _, rfl, XR.yd (upA (cm 1) (64 + 198 * b + 3) a) hR HX HL HN HS HP ?_ ?_ ?_ ?_ ?_ ?_ ?_ ?_ ?_ ?_ ?_ ?_ ?_⟩
                                 · rw [aup_rn (by decide), aup_r]
                                 · rw [upA_n (by omega)]
                                   exact (HY.up0 (j := 7) (v := 0) hR.1.2 (by decide)).hfld (k := b) (j := 5) (v := a) (by omega) (by omega) ehv (by omega)
                                 · intro i hi
                                   repeat rw [upA_n (by omega)]
                                 · intro k k0 k1
                                   repeat rw [upA_n (by omega)]
                                 · obtain ⟨q1, q2, q3, q4, q5, q6, q7⟩ := gh
                                   refine PI.one HP (k := b) (by omega) (by omega) (fun i hi i1 i2 => ?_) ?_ ?_ ?_ ?_ ?_ ?_ ?_ ?_
                                   · repeat rw [upA_n (by omega)]
                                   all_goals (repeat (first | rw [upA_s] | rw [upA_n (by omega)]))
                                   all_goals omega
                                 · repeat (first | exact HF | refine FC.ok (FC.up0 ?_ (by decide)) | refine FC.ok (FC.up1 ?_))
                                 · intro x j hx hz
                                   have hx1 : x ≠ hv := fun e => hx (by rw [e]; exact ohv)
                                   have hx2 : x ≠ 10 := fun e => hx (by rw [e, HY.2.1]; decide)
                                   repeat (first | rw [aup_rn hx1] | rw [aup_rn hx2] | rw [aup_n (fun z => hz ⟨z.1, Or.inl z.2⟩)])
                                 · repeat rw [aup_n (by omega)]
                                 · intro b b0 b1 b9
                                   rw [aup_rn b0]
                                   repeat rw [aup_rn b1]
                                 · intro i hi
                                   rw [aup_n (by omega)]
                                   repeat rw [aup_rn (by decide)]
                                 · repeat rw [aup_n (by omega)]
                                   rw [aup_s, aup_s]
                                 · repeat rw [aup_n (by omega)]
                                   repeat rw [aup_rn (by decide)]
                                   exact hv3
                                 · repeat rw [aup_n (by omega)]
                                   repeat rw [aup_rn (by decide)]
                                   exact hv4)
                      · first
                          | (exfalso; omega)
                          | (have xc3 := xc.2.2; exact absurd ⟨xc.1, xc.2.1, by omega⟩ mc)
                          | (have mc3 := mc.2.2; exact absurd ⟨mc.1, mc.2.1, by omega⟩ xc)
                          | skip
                            refine aK_i ?_
                            refine aw_zreturn dX7_seat_55 rfl (by omega) ?_
                            first
                              | (exfalso; omega)
                              | (refine XR.sameE h ?_ ?_ ?_ ?_ ?_ ?_
                                 · first
                                     | rfl
                                     | omega
                                 · repeat (first | exact xs.rf | refine xs.up ?_ (by decide))
                                 · repeat (first | exact mss.rf | refine mss.up0 ?_ (by decide))
                                 · first
                                     | (simp [aup, hv2, hv3, hv4]; done)
                                     | (simp [aup, hv2, hv3, hv4]; omega)
                                 · simp [aup, hv2, hv3, hv4]
                                 · simp [aup, hv2, hv3, hv4])
                              | (refine ⟨vI_eq (by first | rfl | omega), _, rfl, XR.yd (upA (cm 1) (64 + 198 * b + 3) a) hR HX HL HN HS HP ?_ ?_ ?_ ?_ ?_ ?_ ?_ ?_ ?_ ?_ ?_ ?_ ?_⟩
                                 · rw [aup_rn (by decide), aup_r]
                                 · rw [upA_n (by omega)]
                                   exact (HY.up0 (j := 7) (v := 0) hR.1.2 (by decide)).hfld (k := b) (j := 5) (v := a) (by omega) (by omega) ehv (by omega)
                                 · intro i hi
                                   repeat rw [upA_n (by omega)]
                                 · intro k k0 k1
                                   repeat rw [upA_n (by omega)]
                                 · obtain ⟨q1, q2, q3, q4, q5, q6, q7⟩ := gh
                                   refine PI.one HP (k := b) (by omega) (by omega) (fun i hi i1 i2 => ?_) ?_ ?_ ?_ ?_ ?_ ?_ ?_ ?_
                                   · repeat rw [upA_n (by omega)]
                                   all_goals (repeat (first | rw [upA_s] | rw [upA_n (by omega)]))
                                   all_goals omega
                                 · repeat (first | exact HF | refine FC.ok (FC.up0 ?_ (by decide)) | refine FC.ok (FC.up1 ?_))
                                 · intro x j hx hz
                                   have hx1 : x ≠ hv := fun e => hx (by rw [e]; exact ohv)
                                   have hx2 : x ≠ 10 := fun e => hx (by rw [e, HY.2.1]; decide)
                                   repeat (first | rw [aup_rn hx1] | rw [aup_rn hx2] | rw [aup_n (fun z => hz ⟨z.1, Or.inl z.2⟩)])
                                 · repeat rw [aup_n (by omega)]
                                 · intro b b0 b1 b9
                                   rw [aup_rn b0]
                                   repeat rw [aup_rn b1]
                                 · intro i hi
                                   rw [aup_n (by omega)]
                                   repeat rw [aup_rn (by decide)]
                                 · repeat rw [aup_n (by omega)]
                                   rw [aup_s, aup_s]
                                 · repeat rw [aup_n (by omega)]
                                   repeat rw [aup_rn (by decide)]
                                   exact hv3
                                 · repeat rw [aup_n (by omega)]
                                   repeat rw [aup_rn (by decide)]
                                   exact hv4)
                · first
                    | (exfalso; omega)
                    | (have xc3 := xc.2.2; exact absurd ⟨xc.1, xc.2.1, by omega⟩ mc)
                    | (have mc3 := mc.2.2; exact absurd ⟨mc.1, mc.2.1, by omega⟩ xc)
                    | skip
                      refine aK_i ?_
                      refine aw_ifne (tgt := 38) dX7_seat_28 (by decide) (fun h => absurd h (by decide)) (fun _ => ?_)
                      refine aw_aload_n dX7_seat_31 rfl ?_
                      refine aw_bipush dX7_seat_32 (by decide) ?_
                      refine c_X7_79 rfl dX7_seat_34 m_ob (Nat.le_of_ble_eq_true rfl) (by omega) (C_m_is (fun hz => ?_) (fun hz => ?_))
                      · first
                          | (exfalso; omega)
                          | (have xc3 := xc.2.2; exact absurd ⟨xc.1, xc.2.1, by omega⟩ mc)
                          | (have mc3 := mc.2.2; exact absurd ⟨mc.1, mc.2.1, by omega⟩ xc)
                          | skip
                            refine aK_i ?_
                            refine aw_zreturn dX7_seat_37 rfl (by omega) ?_
                            first
                              | (exfalso; omega)
                              | (refine XR.sameE h ?_ ?_ ?_ ?_ ?_ ?_
                                 · first
                                     | rfl
                                     | omega
                                 · repeat (first | exact xs.rf | refine xs.up ?_ (by decide))
                                 · repeat (first | exact mss.rf | refine mss.up0 ?_ (by decide))
                                 · first
                                     | (simp [aup, hv2, hv3, hv4]; done)
                                     | (simp [aup, hv2, hv3, hv4]; omega)
                                 · simp [aup, hv2, hv3, hv4]
                                 · simp [aup, hv2, hv3, hv4])
                              | (refine ⟨vI_eq (by first | rfl | omega), _, rfl, XR.yd (upA (cm 1) (64 + 198 * b + 3) a) hR HX HL HN HS HP ?_ ?_ ?_ ?_ ?_ ?_ ?_ ?_ ?_ ?_ ?_ ?_ ?_⟩
                                 · rw [aup_rn (by decide), aup_r]
                                 · rw [upA_n (by omega)]
                                   exact (HY.up0 (j := 7) (v := 0) hR.1.2 (by decide)).hfld (k := b) (j := 5) (v := a) (by omega) (by omega) ehv (by omega)
                                 · intro i hi
                                   repeat rw [upA_n (by omega)]
                                 · intro k k0 k1
                                   repeat rw [upA_n (by omega)]
                                 · obtain ⟨q1, q2, q3, q4, q5, q6, q7⟩ := gh
                                   refine PI.one HP (k := b) (by omega) (by omega) (fun i hi i1 i2 => ?_) ?_ ?_ ?_ ?_ ?_ ?_ ?_ ?_
                                   · repeat rw [upA_n (by omega)]
                                   all_goals (repeat (first | rw [upA_s] | rw [upA_n (by omega)]))
                                   all_goals omega
                                 · repeat (first | exact HF | refine FC.ok (FC.up0 ?_ (by decide)) | refine FC.ok (FC.up1 ?_))
                                 · intro x j hx hz
                                   have hx1 : x ≠ hv := fun e => hx (by rw [e]; exact ohv)
                                   have hx2 : x ≠ 10 := fun e => hx (by rw [e, HY.2.1]; decide)
                                   repeat (first | rw [aup_rn hx1] | rw [aup_rn hx2] | rw [aup_n (fun z => hz ⟨z.1, Or.inl z.2⟩)])
                                 · repeat rw [aup_n (by omega)]
                                 · intro b b0 b1 b9
                                   rw [aup_rn b0]
                                   repeat rw [aup_rn b1]
                                 · intro i hi
                                   rw [aup_n (by omega)]
                                   repeat rw [aup_rn (by decide)]
                                 · repeat rw [aup_n (by omega)]
                                   rw [aup_s, aup_s]
                                 · repeat rw [aup_n (by omega)]
                                   repeat rw [aup_rn (by decide)]
                                   exact hv3
                                 · repeat rw [aup_n (by omega)]
                                   repeat rw [aup_rn (by decide)]
                                   exact hv4)
                      · first
                          | (exfalso; omega)
                          | (have xc3 := xc.2.2; exact absurd ⟨xc.1, xc.2.1, by omega⟩ mc)
                          | (have mc3 := mc.2.2; exact absurd ⟨mc.1, mc.2.1, by omega⟩ xc)
                          | skip
                            refine aK_i ?_
                            refine aw_zreturn dX7_seat_37 rfl (by omega) ?_
                            first
                              | (exfalso; omega)
                              | (refine XR.sameE h ?_ ?_ ?_ ?_ ?_ ?_
                                 · first
                                     | rfl
                                     | omega
                                 · repeat (first | exact xs.rf | refine xs.up ?_ (by decide))
                                 · repeat (first | exact mss.rf | refine mss.up0 ?_ (by decide))
                                 · first
                                     | (simp [aup, hv2, hv3, hv4]; done)
                                     | (simp [aup, hv2, hv3, hv4]; omega)
                                 · simp [aup, hv2, hv3, hv4]
                                 · simp [aup, hv2, hv3, hv4])
                              | (refine ⟨vI_eq (by first | rfl | omega), _, rfl, XR.yd (upA (cm 1) (64 + 198 * b + 3) a) hR HX HL HN HS HP ?_ ?_ ?_ ?_ ?_ ?_ ?_ ?_ ?_ ?_ ?_ ?_ ?_⟩
                                 · rw [aup_rn (by decide), aup_r]
                                 · rw [upA_n (by omega)]
                                   exact (HY.up0 (j := 7) (v := 0) hR.1.2 (by decide)).hfld (k := b) (j := 5) (v := a) (by omega) (by omega) ehv (by omega)
                                 · intro i hi
                                   repeat rw [upA_n (by omega)]
                                 · intro k k0 k1
                                   repeat rw [upA_n (by omega)]
                                 · obtain ⟨q1, q2, q3, q4, q5, q6, q7⟩ := gh
                                   refine PI.one HP (k := b) (by omega) (by omega) (fun i hi i1 i2 => ?_) ?_ ?_ ?_ ?_ ?_ ?_ ?_ ?_
                                   · repeat rw [upA_n (by omega)]
                                   all_goals (repeat (first | rw [upA_s] | rw [upA_n (by omega)]))
                                   all_goals omega
                                 · repeat (first | exact HF | refine FC.ok (FC.up0 ?_ (by decide)) | refine FC.ok (FC.up1 ?_))
                                 · intro x j hx hz
                                   have hx1 : x ≠ hv := fun e => hx (by rw [e]; exact ohv)
                                   have hx2 : x ≠ 10 := fun e => hx (by rw [e, HY.2.1]; decide)
                                   repeat (first | rw [aup_rn hx1] | rw [aup_rn hx2] | rw [aup_n (fun z => hz ⟨z.1, Or.inl z.2⟩)])
                                 · repeat rw [aup_n (by omega)]
                                 · intro b b0 b1 b9
                                   rw [aup_rn b0]
                                   repeat rw [aup_rn b1]
                                 · intro i hi
                                   rw [aup_n (by omega)]
                                   repeat rw [aup_rn (by decide)]
                                 · repeat rw [aup_n (by omega)]
                                   rw [aup_s, aup_s]
                                 · repeat rw [aup_n (by omega)]
                                   repeat rw [aup_rn (by decide)]
                                   exact hv3
                                 · repeat rw [aup_n (by omega)]
                                   repeat rw [aup_rn (by decide)]
                                   exact hv4)
          · first
              | (exfalso; omega)
              | (have xc3 := xc.2.2; exact absurd ⟨xc.1, xc.2.1, by omega⟩ mc)
              | (have mc3 := mc.2.2; exact absurd ⟨mc.1, mc.2.1, by omega⟩ xc)
              | skip
                refine aK_i ?_
                refine aw_ifne (tgt := 22) dX7_seat_13 (by decide) (fun h => absurd h (by decide)) (fun _ => ?_)
                refine aw_aload_n dX7_seat_16 rfl ?_
                refine aw_iconst dX7_seat_17 (by decide) ?_
                refine c_X7_79 rfl dX7_seat_18 m_ob (Nat.le_of_ble_eq_true rfl) (by omega) (C_m_is (fun hz => ?_) (fun hz => ?_))
                · first
                    | (exfalso; omega)
                    | (have xc3 := xc.2.2; exact absurd ⟨xc.1, xc.2.1, by omega⟩ mc)
                    | (have mc3 := mc.2.2; exact absurd ⟨mc.1, mc.2.1, by omega⟩ xc)
                    | skip
                      refine aK_i ?_
                      refine aw_zreturn dX7_seat_21 rfl (by omega) ?_
                      first
                        | (exfalso; omega)
                        | (refine XR.sameE h ?_ ?_ ?_ ?_ ?_ ?_
                           · first
                               | rfl
                               | omega
                           · repeat (first | exact xs.rf | refine xs.up ?_ (by decide))
                           · repeat (first | exact mss.rf | refine mss.up0 ?_ (by decide))
                           · first
                               | (simp [aup, hv2, hv3, hv4]; done)
                               | (simp [aup, hv2, hv3, hv4]; omega)
                           · simp [aup, hv2, hv3, hv4]
                           · simp [aup, hv2, hv3, hv4])
                        | (refine ⟨vI_eq (by first | rfl | omega), _, rfl, XR.yd (upA (cm 1) (64 + 198 * b + 3) a) hR HX HL HN HS HP ?_ ?_ ?_ ?_ ?_ ?_ ?_ ?_ ?_ ?_ ?_ ?_ ?_⟩
                           · rw [aup_rn (by decide), aup_r]
                           · rw [upA_n (by omega)]
                             exact (HY.up0 (j := 7) (v := 0) hR.1.2 (by decide)).hfld (k := b) (j := 5) (v := a) (by omega) (by omega) ehv (by omega)
                           · intro i hi
                             repeat rw [upA_n (by omega)]
                           · intro k k0 k1
                             repeat rw [upA_n (by omega)]
                           · obtain ⟨q1, q2, q3, q4, q5, q6, q7⟩ := gh
                             refine PI.one HP (k := b) (by omega) (by omega) (fun i hi i1 i2 => ?_) ?_ ?_ ?_ ?_ ?_ ?_ ?_ ?_
                             · repeat rw [upA_n (by omega)]
                             all_goals (repeat (first | rw [upA_s] | rw [upA_n (by omega)]))
                             all_goals omega
                           · repeat (first | exact HF | refine FC.ok (FC.up0 ?_ (by decide)) | refine FC.ok (FC.up1 ?_))
                           · intro x j hx hz
                             have hx1 : x ≠ hv := fun e => hx (by rw [e]; exact ohv)
                             have hx2 : x ≠ 10 := fun e => hx (by rw [e, HY.2.1]; decide)
                             repeat (first | rw [aup_rn hx1] | rw [aup_rn hx2] | rw [aup_n (fun z => hz ⟨z.1, Or.inl z.2⟩)])
                           · repeat rw [aup_n (by omega)]
                           · intro b b0 b1 b9
                             rw [aup_rn b0]
                             repeat rw [aup_rn b1]
                           · intro i hi
                             rw [aup_n (by omega)]
                             repeat rw [aup_rn (by decide)]
                           · repeat rw [aup_n (by omega)]
                             rw [aup_s, aup_s]
                           · repeat rw [aup_n (by omega)]
                             repeat rw [aup_rn (by decide)]
                             exact hv3
                           · repeat rw [aup_n (by omega)]
                             repeat rw [aup_rn (by decide)]
                             exact hv4)
                · first
                    | (exfalso; omega)
                    | (have xc3 := xc.2.2; exact absurd ⟨xc.1, xc.2.1, by omega⟩ mc)
                    | (have mc3 := mc.2.2; exact absurd ⟨mc.1, mc.2.1, by omega⟩ xc)
                    | skip
                      refine aK_i ?_
                      refine aw_zreturn dX7_seat_21 rfl (by omega) ?_
                      first
                        | (exfalso; omega)
                        | (refine XR.sameE h ?_ ?_ ?_ ?_ ?_ ?_
                           · first
                               | rfl
                               | omega
                           · repeat (first | exact xs.rf | refine xs.up ?_ (by decide))
                           · repeat (first | exact mss.rf | refine mss.up0 ?_ (by decide))
                           · first
                               | (simp [aup, hv2, hv3, hv4]; done)
                               | (simp [aup, hv2, hv3, hv4]; omega)
                           · simp [aup, hv2, hv3, hv4]
                           · simp [aup, hv2, hv3, hv4])
                        | (refine ⟨vI_eq (by first | rfl | omega), _, rfl, XR.yd (upA (cm 1) (64 + 198 * b + 3) a) hR HX HL HN HS HP ?_ ?_ ?_ ?_ ?_ ?_ ?_ ?_ ?_ ?_ ?_ ?_ ?_⟩
                           · rw [aup_rn (by decide), aup_r]
                           · rw [upA_n (by omega)]
                             exact (HY.up0 (j := 7) (v := 0) hR.1.2 (by decide)).hfld (k := b) (j := 5) (v := a) (by omega) (by omega) ehv (by omega)
                           · intro i hi
                             repeat rw [upA_n (by omega)]
                           · intro k k0 k1
                             repeat rw [upA_n (by omega)]
                           · obtain ⟨q1, q2, q3, q4, q5, q6, q7⟩ := gh
                             refine PI.one HP (k := b) (by omega) (by omega) (fun i hi i1 i2 => ?_) ?_ ?_ ?_ ?_ ?_ ?_ ?_ ?_
                             · repeat rw [upA_n (by omega)]
                             all_goals (repeat (first | rw [upA_s] | rw [upA_n (by omega)]))
                             all_goals omega
                           · repeat (first | exact HF | refine FC.ok (FC.up0 ?_ (by decide)) | refine FC.ok (FC.up1 ?_))
                           · intro x j hx hz
                             have hx1 : x ≠ hv := fun e => hx (by rw [e]; exact ohv)
                             have hx2 : x ≠ 10 := fun e => hx (by rw [e, HY.2.1]; decide)
                             repeat (first | rw [aup_rn hx1] | rw [aup_rn hx2] | rw [aup_n (fun z => hz ⟨z.1, Or.inl z.2⟩)])
                           · repeat rw [aup_n (by omega)]
                           · intro b b0 b1 b9
                             rw [aup_rn b0]
                             repeat rw [aup_rn b1]
                           · intro i hi
                             rw [aup_n (by omega)]
                             repeat rw [aup_rn (by decide)]
                           · repeat rw [aup_n (by omega)]
                             rw [aup_s, aup_s]
                           · repeat rw [aup_n (by omega)]
                             repeat rw [aup_rn (by decide)]
                             exact hv3
                           · repeat rw [aup_n (by omega)]
                             repeat rw [aup_rn (by decide)]
                             exact hv4)
    · first
        | (exfalso; omega)
        | (have xc3 := xc.2.2; exact absurd ⟨xc.1, xc.2.1, by omega⟩ mc)
        | (have mc3 := mc.2.2; exact absurd ⟨mc.1, mc.2.1, by omega⟩ xc)
        | skip
          refine aK_i ?_
          refine aw_ifeq (tgt := 16) dX7_seat_5 (by decide) (fun _ => ?_) (fun h => absurd h (by decide))
          refine aw_aload_n dX7_seat_16 rfl ?_
          refine aw_iconst dX7_seat_17 (by decide) ?_
          refine c_X7_79 rfl dX7_seat_18 m_ob (Nat.le_of_ble_eq_true rfl) (by omega) (C_m_is (fun hz => ?_) (fun hz => ?_))
          · first
              | (exfalso; omega)
              | (have xc3 := xc.2.2; exact absurd ⟨xc.1, xc.2.1, by omega⟩ mc)
              | (have mc3 := mc.2.2; exact absurd ⟨mc.1, mc.2.1, by omega⟩ xc)
              | skip
                refine aK_i ?_
                refine aw_zreturn dX7_seat_21 rfl (by omega) ?_
                first
                  | (exfalso; omega)
                  | (refine XR.sameE h ?_ ?_ ?_ ?_ ?_ ?_
                     · first
                         | rfl
                         | omega
                     · repeat (first | exact xs.rf | refine xs.up ?_ (by decide))
                     · repeat (first | exact mss.rf | refine mss.up0 ?_ (by decide))
                     · first
                         | (simp [aup, hv2, hv3, hv4]; done)
                         | (simp [aup, hv2, hv3, hv4]; omega)
                     · simp [aup, hv2, hv3, hv4]
                     · simp [aup, hv2, hv3, hv4])
                  | (refine ⟨vI_eq (by first | rfl | omega), _, rfl, XR.yd (upA (cm 1) (64 + 198 * b + 3) a) hR HX HL HN HS HP ?_ ?_ ?_ ?_ ?_ ?_ ?_ ?_ ?_ ?_ ?_ ?_ ?_⟩
                     · rw [aup_rn (by decide), aup_r]
                     · rw [upA_n (by omega)]
                       exact (HY.up0 (j := 7) (v := 0) hR.1.2 (by decide)).hfld (k := b) (j := 5) (v := a) (by omega) (by omega) ehv (by omega)
                     · intro i hi
                       repeat rw [upA_n (by omega)]
                     · intro k k0 k1
                       repeat rw [upA_n (by omega)]
                     · obtain ⟨q1, q2, q3, q4, q5, q6, q7⟩ := gh
                       refine PI.one HP (k := b) (by omega) (by omega) (fun i hi i1 i2 => ?_) ?_ ?_ ?_ ?_ ?_ ?_ ?_ ?_
                       · repeat rw [upA_n (by omega)]
                       all_goals (repeat (first | rw [upA_s] | rw [upA_n (by omega)]))
                       all_goals omega
                     · repeat (first | exact HF | refine FC.ok (FC.up0 ?_ (by decide)) | refine FC.ok (FC.up1 ?_))
                     · intro x j hx hz
                       have hx1 : x ≠ hv := fun e => hx (by rw [e]; exact ohv)
                       have hx2 : x ≠ 10 := fun e => hx (by rw [e, HY.2.1]; decide)
                       repeat (first | rw [aup_rn hx1] | rw [aup_rn hx2] | rw [aup_n (fun z => hz ⟨z.1, Or.inl z.2⟩)])
                     · repeat rw [aup_n (by omega)]
                     · intro b b0 b1 b9
                       rw [aup_rn b0]
                       repeat rw [aup_rn b1]
                     · intro i hi
                       rw [aup_n (by omega)]
                       repeat rw [aup_rn (by decide)]
                     · repeat rw [aup_n (by omega)]
                       rw [aup_s, aup_s]
                     · repeat rw [aup_n (by omega)]
                       repeat rw [aup_rn (by decide)]
                       exact hv3
                     · repeat rw [aup_n (by omega)]
                       repeat rw [aup_rn (by decide)]
                       exact hv4)
          · first
              | (exfalso; omega)
              | (have xc3 := xc.2.2; exact absurd ⟨xc.1, xc.2.1, by omega⟩ mc)
              | (have mc3 := mc.2.2; exact absurd ⟨mc.1, mc.2.1, by omega⟩ xc)
              | skip
                refine aK_i ?_
                refine aw_zreturn dX7_seat_21 rfl (by omega) ?_
                first
                  | (exfalso; omega)
                  | (refine XR.sameE h ?_ ?_ ?_ ?_ ?_ ?_
                     · first
                         | rfl
                         | omega
                     · repeat (first | exact xs.rf | refine xs.up ?_ (by decide))
                     · repeat (first | exact mss.rf | refine mss.up0 ?_ (by decide))
                     · first
                         | (simp [aup, hv2, hv3, hv4]; done)
                         | (simp [aup, hv2, hv3, hv4]; omega)
                     · simp [aup, hv2, hv3, hv4]
                     · simp [aup, hv2, hv3, hv4])
                  | (refine ⟨vI_eq (by first | rfl | omega), _, rfl, XR.yd (upA (cm 1) (64 + 198 * b + 3) a) hR HX HL HN HS HP ?_ ?_ ?_ ?_ ?_ ?_ ?_ ?_ ?_ ?_ ?_ ?_ ?_⟩
                     · rw [aup_rn (by decide), aup_r]
                     · rw [upA_n (by omega)]
                       exact (HY.up0 (j := 7) (v := 0) hR.1.2 (by decide)).hfld (k := b) (j := 5) (v := a) (by omega) (by omega) ehv (by omega)
                     · intro i hi
                       repeat rw [upA_n (by omega)]
                     · intro k k0 k1
                       repeat rw [upA_n (by omega)]
                     · obtain ⟨q1, q2, q3, q4, q5, q6, q7⟩ := gh
                       refine PI.one HP (k := b) (by omega) (by omega) (fun i hi i1 i2 => ?_) ?_ ?_ ?_ ?_ ?_ ?_ ?_ ?_
                       · repeat rw [upA_n (by omega)]
                       all_goals (repeat (first | rw [upA_s] | rw [upA_n (by omega)]))
                       all_goals omega
                     · repeat (first | exact HF | refine FC.ok (FC.up0 ?_ (by decide)) | refine FC.ok (FC.up1 ?_))
                     · intro x j hx hz
                       have hx1 : x ≠ hv := fun e => hx (by rw [e]; exact ohv)
                       have hx2 : x ≠ 10 := fun e => hx (by rw [e, HY.2.1]; decide)
                       repeat (first | rw [aup_rn hx1] | rw [aup_rn hx2] | rw [aup_n (fun z => hz ⟨z.1, Or.inl z.2⟩)])
                     · repeat rw [aup_n (by omega)]
                     · intro b b0 b1 b9
                       rw [aup_rn b0]
                       repeat rw [aup_rn b1]
                     · intro i hi
                       rw [aup_n (by omega)]
                       repeat rw [aup_rn (by decide)]
                     · repeat rw [aup_n (by omega)]
                       rw [aup_s, aup_s]
                     · repeat rw [aup_n (by omega)]
                       repeat rw [aup_rn (by decide)]
                       exact hv3
                     · repeat rw [aup_n (by omega)]
                       repeat rw [aup_rn (by decide)]
                       exact hv4)
theorem OP_swarm {sz : Int} {im : Int → aIm} {ct cm : Int → Int → Int} (h : XR (sz, im, ct) cm) {a : Int} (r0 : -2147483648 ≤ a ∧ a < 2147483648)  : AMet md_X0_swarm 5 0 0 [vR 0, vI a] (sz, im, ct) (XQ md_X7_swarm 4 [vR 0, vI a] cm) := by
  obtain ⟨own, N, hR, HY, HL, HN, HS, HP, HF, HX, hv2, hv3, hv4⟩ := id h
  dsimp only at hR HY HL HS HX hv2 hv3 hv4
  have hp0 := HP.1
  have hp3 := HP.2.1
  have hpq := HP.2.2.2.1.1
  have hps := HP.2.2.2.2.2
  refine AMet.go (L := [some (vR 0), some (vI a)]) mok_X0_swarm (Nat.le_of_ble_eq_true rfl) rfl ?_
  refine aw_aload_n dX0_swarm_0 rfl ?_
  refine aw_aload_n dX0_swarm_1 rfl ?_
  refine aw_iload_n dX0_swarm_2 rfl ?_
  refine c_X0_168 rfl dX0_swarm_3 hR.o0 (Nat.le_of_ble_eq_true rfl) (by omega) (C_x_isHive hR HY (fun xh => ?_) (fun xh => ?_))
  · refine aK_i ?_
    refine aw_ifne (tgt := 13) dX0_swarm_6 (by decide) (fun _ => ?_) (fun h => absurd h (by decide))
    refine aw_aload_n dX0_swarm_13 rfl ?_
    refine c_X0_158 rfl dX0_swarm_14 hR.o0 (Nat.le_of_ble_eq_true rfl) (by omega) (C_x_yard2 hR ?_)
    refine aK_i ?_
    refine g_X0_367_5 rfl dX0_swarm_17 HY.1 ?_
    repeat (first | rw [aup_s] | rw [aup_n (by omega)])
    try rw [HY.2.2.2.2.2.2.1.1]
    refine aw_iflt (tgt := 27) dX0_swarm_20 (by decide) (fun h20 => ?_) (fun h20 => ?_)
    · obtain ⟨hv, ehv, ⟨g1, g2, ⟨g3, g4, g5, g6, g7⟩, g8, g9, -⟩, nhv0, nhv10, nhv9, nv0, nvhv, nv10, ohv⟩ := HY.hv hR (k := a) (by omega) (by omega)
      have gn := g1.2.2.2
      have gh := HP.2.2.1 a (by omega) (by omega)
      have gq := gh.2.2.2.2.1
      have gp := HP.pd.2.1 a (by omega) (by omega)
      refine aw_aload_n dX0_swarm_27 rfl ?_
      refine aw_iload_n dX0_swarm_28 rfl ?_
      refine c_X0_172 rfl dX0_swarm_29 hR.o0 (Nat.le_of_ble_eq_true rfl) (by omega) (C_x_xat2 (a := hv) hR HY (by omega) (by repeat (first | exact ehv | rw [aup_rn nvhv] | rw [aup_rn nv10] | rw [aup_rn nv0])) ?_)
      refine aK_i ?_
      refine c_X0_363 rfl dX0_swarm_32 g1.1 (Nat.le_of_ble_eq_true rfl) (by omega) (C_x_isCrowded g1 g2 gh.2.1 (fun xc => ?_) (fun xc => ?_))
      · rw [g5, g3] at xc
        refine aK_i ?_
        refine aw_ifeq (tgt := 42) dX0_swarm_35 (by decide) (fun h => absurd h (by decide)) (fun _ => ?_)
        refine aw_iconst dX0_swarm_38 (by decide) ?_
        refine aw_goto (tgt := 44) dX0_swarm_39 (by decide) ?_
        refine p_X0_73_0 rfl dX0_swarm_44 hR.o0 ?_
        refine aw_aload_n dX0_swarm_47 rfl ?_
        refine g_X0_73_0 rfl dX0_swarm_48 hR.o0 ?_
        repeat (first | rw [aup_s] | rw [aup_n (by omega)])
        refine aw_ifle (tgt := 56) dX0_swarm_51 (by decide) (fun _ => ?_) (fun h => absurd h (by decide))
        refine aw_aload_n dX0_swarm_56 rfl ?_
        refine c_X0_158 rfl dX0_swarm_57 hR.o0 (Nat.le_of_ble_eq_true rfl) (by omega) (C_x_yard2 hR ?_)
        refine aK_i ?_
        refine aw_aload_n dX0_swarm_60 rfl ?_
        refine aw_iload_n dX0_swarm_61 rfl ?_
        refine c_X0_172 rfl dX0_swarm_62 hR.o0 (Nat.le_of_ble_eq_true rfl) (by omega) (C_x_xat2 (a := hv) hR HY (by omega) (by repeat (first | exact ehv | rw [aup_rn nvhv] | rw [aup_rn nv10] | rw [aup_rn nv0])) ?_)
        refine aK_i ?_
        refine g_X0_280_9 rfl dX0_swarm_65 g1.1 ?_
        repeat (first | rw [aup_s] | rw [aup_n (by omega)])
        try rw [g5]
        skip
        refine p_X0_367_5 rfl dX0_swarm_68 HY.1 ?_
        refine aw_aload_n dX0_swarm_71 rfl ?_
        refine c_X0_158 rfl dX0_swarm_72 hR.o0 (Nat.le_of_ble_eq_true rfl) (by omega) (C_x_yard2 hR ?_)
        refine aK_i ?_
        refine aw_aload_n dX0_swarm_75 rfl ?_
        refine aw_iload_n dX0_swarm_76 rfl ?_
        refine c_X0_172 rfl dX0_swarm_77 hR.o0 (Nat.le_of_ble_eq_true rfl) (by omega) (C_x_xat2 (a := hv) hR HY (by omega) (by repeat (first | exact ehv | rw [aup_rn nvhv] | rw [aup_rn nv10] | rw [aup_rn nv0])) ?_)
        refine aK_i ?_
        refine g_X0_264_9 rfl dX0_swarm_80 g1.1 ?_
        repeat (first | rw [aup_s] | rw [aup_n (by omega)])
        try rw [g3]
        refine aw_iconst dX0_swarm_83 (by decide) ?_
        refine aw_idivr dX0_swarm_84 (by omega) (by omega) ?_
        refine p_X0_370_5 rfl dX0_swarm_85 HY.1 ?_
        refine aw_aload_n dX0_swarm_88 rfl ?_
        refine aw_iload_n dX0_swarm_89 rfl ?_
        refine c_X0_172 rfl dX0_swarm_90 hR.o0 (Nat.le_of_ble_eq_true rfl) (by omega) (C_x_xat2 (a := hv) hR HY (by omega) (by repeat (first | exact ehv | rw [aup_rn nvhv] | rw [aup_rn nv10] | rw [aup_rn nv0])) ?_)
        refine aK_i ?_
        refine aw_dup dX0_swarm_93 rfl ?_
        refine g_X0_264_9 rfl dX0_swarm_94 g1.1 ?_
        repeat (first | rw [aup_s] | rw [aup_n (by omega)])
        try rw [g3]
        refine aw_aload_n dX0_swarm_97 rfl ?_
        refine c_X0_158 rfl dX0_swarm_98 hR.o0 (Nat.le_of_ble_eq_true rfl) (by omega) (C_x_yard2 hR ?_)
        refine aK_i ?_
        refine g_X0_370_5 rfl dX0_swarm_101 HY.1 ?_
        repeat (first | rw [aup_s] | rw [aup_n (by omega)])
        refine aw_isubr dX0_swarm_104 (by omega) ?_
        refine p_X0_264_9 rfl dX0_swarm_105 g1.1 ?_
        refine aw_aload_n dX0_swarm_108 rfl ?_
        refine aw_iload_n dX0_swarm_109 rfl ?_
        refine c_X0_172 rfl dX0_swarm_110 hR.o0 (Nat.le_of_ble_eq_true rfl) (by omega) (C_x_xat2 (a := hv) hR HY (by omega) (by repeat (first | exact ehv | rw [aup_rn nvhv] | rw [aup_rn nv10] | rw [aup_rn nv0])) ?_)
        refine aK_i ?_
        refine aw_iconst dX0_swarm_113 (by decide) ?_
        refine p_X0_280_9 rfl dX0_swarm_114 g1.1 ?_
        refine aw_aload_n dX0_swarm_117 rfl ?_
        refine c_X0_158 rfl dX0_swarm_118 hR.o0 (Nat.le_of_ble_eq_true rfl) (by omega) (C_x_yard2 hR ?_)
        refine aK_i ?_
        refine g_X0_370_5 rfl dX0_swarm_121 HY.1 ?_
        repeat (first | rw [aup_s] | rw [aup_n (by omega)])
        refine aw_ireturn dX0_swarm_124 rfl ?_
        refine ⟨_, rfl, ?_⟩
        refine AMet.go (L := [some (vR 0), some (vI a), none]) mok_X7_swarm (Nat.le_of_ble_eq_true rfl) rfl ?_
        refine aw_aload_n dX7_swarm_0 rfl ?_
        refine aw_iload_n dX7_swarm_1 rfl ?_
        refine c_X7_274 rfl dX7_swarm_2 m_ob (Nat.le_of_ble_eq_true rfl) (by omega) (C_m_isHive (fun hh => ?_) (fun hh => ?_))
        · first
            | (exfalso; omega)
            | skip
              refine aK_i ?_
              refine aw_ifne (tgt := 14) dX7_swarm_5 (by decide) (fun _ => ?_) (fun h => absurd h (by decide))
              refine gm_7 rfl dX7_swarm_14 dX7_swarm_15 rfl ?_
              refine aw_bipush dX7_swarm_18 (by decide) ?_
              refine aw_iaload dX7_swarm_20 m_a1 (by omega) (by omega) ?_
              refine aw_iconst dX7_swarm_21 (by decide) ?_
              refine aw_icmpeq (tgt := 31) dX7_swarm_22 (by decide) (fun h22 => ?_) (fun h22 => ?_)
              · first
                  | (exfalso; omega)
                  | skip
                    refine aw_aload_n dX7_swarm_31 rfl ?_
                    have gh0 := HP.2.2.1 a (by omega) (by omega)
                    refine aw_iload_n dX7_swarm_32 rfl ?_
                    refine c_X7_334 rfl dX7_swarm_33 m_ob (Nat.le_of_ble_eq_true rfl) (by omega) (C_m_isCrowded (by omega) gh0.1 gh0.2.1 (fun mc => ?_) (fun mc => ?_))
                    · first
                        | (exfalso; omega)
                        | skip
                          unfold crw at mc
                          refine aK_i ?_
                          skip
                          refine aw_ifne (tgt := 46) dX7_swarm_36 (by decide) (fun _ => ?_) (fun h => absurd h (by decide))
                          refine aw_iload_n dX7_swarm_46 rfl ?_
                          refine c_X7_217 rfl dX7_swarm_47  (Nat.le_of_ble_eq_true rfl) (by omega) (C_m_hiveRow (by omega) ?_)
                          refine aK_i ?_
                          refine aw_istore2 dX7_swarm_50 (by decide) rfl ?_
                          refine gm_7 rfl dX7_swarm_51 dX7_swarm_52 rfl ?_
                          refine aw_bipush dX7_swarm_55 (by decide) ?_
                          refine gm_7 rfl dX7_swarm_57 dX7_swarm_58 rfl ?_
                          refine aw_iload_n dX7_swarm_61 rfl ?_
                          refine aw_iconst dX7_swarm_62 (by decide) ?_
                          refine aw_iaddr dX7_swarm_63 (by omega) ?_
                          refine aw_iaload dX7_swarm_64 m_a1 (by omega) (by omega) ?_
                          skip
                          refine aw_iconst dX7_swarm_65 (by decide) ?_
                          refine aw_idivr dX7_swarm_66 (by omega) (by omega) ?_
                          refine aw_iastore dX7_swarm_67 m_a1 (by omega) (by omega) ?_
                          refine gm_7 rfl dX7_swarm_68 dX7_swarm_69 rfl ?_
                          refine aw_bipush dX7_swarm_72 (by decide) ?_
                          refine gm_7 rfl dX7_swarm_74 dX7_swarm_75 rfl ?_
                          refine aw_iload_n dX7_swarm_78 rfl ?_
                          refine aw_iconst dX7_swarm_79 (by decide) ?_
                          refine aw_iaddr dX7_swarm_80 (by omega) ?_
                          refine aw_iaload dX7_swarm_81 m_a1 (by omega) (by omega) ?_
                          repeat (first | rw [aup_s] | rw [aup_n (by omega)])
                          refine aw_iastore dX7_swarm_82 m_a1 (by omega) (by omega) ?_
                          refine gm_7 rfl dX7_swarm_83 dX7_swarm_84 rfl ?_
                          refine aw_iload_n dX7_swarm_87 rfl ?_
                          refine aw_iconst dX7_swarm_88 (by decide) ?_
                          refine aw_iaddr dX7_swarm_89 (by omega) ?_
                          refine aw_dup2 dX7_swarm_90 rfl rfl ?_
                          refine aw_iaload dX7_swarm_91 m_a1 (by omega) (by omega) ?_
                          repeat (first | rw [aup_s] | rw [aup_n (by omega)])
                          refine gm_7 rfl dX7_swarm_92 dX7_swarm_93 rfl ?_
                          refine aw_bipush dX7_swarm_96 (by decide) ?_
                          refine aw_iaload dX7_swarm_98 m_a1 (by omega) (by omega) ?_
                          repeat (first | rw [aup_s] | rw [aup_n (by omega)])
                          refine aw_isubr dX7_swarm_99 (by omega) ?_
                          refine aw_iastore dX7_swarm_100 m_a1 (by omega) (by omega) ?_
                          refine gm_7 rfl dX7_swarm_101 dX7_swarm_102 rfl ?_
                          refine aw_iload_n dX7_swarm_105 rfl ?_
                          refine aw_iconst dX7_swarm_106 (by decide) ?_
                          refine aw_iaddr dX7_swarm_107 (by omega) ?_
                          refine aw_iconst dX7_swarm_108 (by decide) ?_
                          refine aw_iastore dX7_swarm_109 m_a1 (by omega) (by omega) ?_
                          refine aw_aload_n dX7_swarm_110 rfl ?_
                          refine gm_7 rfl dX7_swarm_111 dX7_swarm_112 rfl ?_
                          refine aw_bipush dX7_swarm_115 (by decide) ?_
                          refine aw_iaload dX7_swarm_117 m_a1 (by omega) (by omega) ?_
                          repeat (first | rw [aup_s] | rw [aup_n (by omega)])
                          refine c_X7_76 rfl dX7_swarm_118 m_ob (Nat.le_of_ble_eq_true rfl) (by omega) (C_m_gives ?_)
                          refine aK_i ?_
                          refine aw_ireturn dX7_swarm_121 rfl ?_
                          first
                            | (exfalso; omega)
                            | (refine XR.sameE h ?_ ?_ ?_ ?_ ?_ ?_
                               · first
                                   | rfl
                                   | omega
                               · repeat (first | exact xs.rf | refine xs.up ?_ (by decide))
                               · repeat (first | exact mss.rf | refine mss.up0 ?_ (by decide))
                               · first
                                   | (simp [aup, hv2, hv3, hv4]; done)
                                   | (simp [aup, hv2, hv3, hv4]; omega)
                               · simp [aup, hv2, hv3, hv4]
                               · simp [aup, hv2, hv3, hv4])
                            | (refine ⟨vI_eq (by first | rfl | omega), _, rfl, XR.yd (upA (upA (upA (upA (cm 1) 11 (cm 1 (64 + 198 * a + 1) / 2)) 12 (cm 1 (64 + 198 * a + 3))) (64 + 198 * a + 1) (cm 1 (64 + 198 * a + 1) - cm 1 (64 + 198 * a + 1) / 2)) (64 + 198 * a + 3) (-1)) hR HX HL HN HS HP ?_ ?_ ?_ ?_ ?_ ?_ ?_ ?_ ?_ ?_ ?_ ?_ ?_⟩
                               · rw [aup_rn (by decide), aup_r, aup_r, aup_r, aup_r]
                               · rw [show (upA (upA (upA (upA (cm 1) 11 (cm 1 (64 + 198 * a + 1) / 2)) 12 (cm 1 (64 + 198 * a + 3))) (64 + 198 * a + 1) (cm 1 (64 + 198 * a + 1) - cm 1 (64 + 198 * a + 1) / 2)) (64 + 198 * a + 3) (-1)) 3 = cm 1 3 by repeat rw [upA_n (by omega)]]
                                 refine YR.hfld (k := a) (j := 5) (v := -1) (YR.hfld (k := a) (j := 3) ((HY.up0 (j := 7) (v := 0) hR.1.2 (by decide)).swq (b := cm 1 (64 + 198 * a + 1) / 2) (q := cm 1 (64 + 198 * a + 3)) (fun x j hz => ?_) ?_ (fun _ => ?_)) (by omega) ?_ ?_ (by omega)) (by omega) ?_ ?_ (by omega)
                                 · rw [aup_n (fun z => hz ⟨z.1, Or.inl z.2⟩), aup_n (fun z => hz ⟨z.1, Or.inr z.2⟩)]
                                 · rw [aup_n (by omega), aup_s]
                                 · rw [aup_s]
                                 · repeat rw [upA_n (by omega)]
                                   omega
                                 · rw [aup_rn nv10, aup_rn nv10, aup_rn nv0]; exact ehv
                                 · repeat rw [upA_n (by omega)]
                                   omega
                                 · rw [aup_rn nvhv, aup_rn nv10, aup_rn nv10, aup_rn nv0]; exact ehv
                               · intro i hi
                                 repeat rw [upA_n (by omega)]
                               · intro k k0 k1
                                 repeat rw [upA_n (by omega)]
                               · obtain ⟨q1, q2, q3, q4, q5, q6, q7⟩ := gh
                                 refine PI.one HP (k := a) (by omega) (by omega) (fun i hi i1 i2 => ?_) ?_ ?_ ?_ ?_ ?_ ?_ ?_ ?_
                                 · repeat rw [upA_n (by omega)]
                                 all_goals (repeat (first | rw [upA_s] | rw [upA_n (by omega)]))
                                 all_goals omega
                               · repeat (first | exact HF | refine FC.ok (FC.up0 ?_ (by decide)) | refine FC.ok (FC.up1 ?_))
                               · intro x j hx hz
                                 have hx1 : x ≠ hv := fun e => hx (by rw [e]; exact ohv)
                                 have hx2 : x ≠ 10 := fun e => hx (by rw [e, HY.2.1]; decide)
                                 repeat (first | rw [aup_rn hx1] | rw [aup_rn hx2] | rw [aup_n (fun z => hz ⟨z.1, Or.inl z.2⟩)])
                               · repeat rw [aup_n (by omega)]
                               · intro b b0 b1 b9
                                 rw [aup_rn b0]
                                 repeat rw [aup_rn b1]
                               · intro i hi
                                 rw [aup_n (by omega)]
                                 repeat rw [aup_rn (by decide)]
                               · repeat rw [aup_n (by omega)]
                                 rw [aup_s, aup_s]
                               · repeat rw [aup_n (by omega)]
                                 repeat rw [aup_rn (by decide)]
                                 exact hv3
                               · repeat rw [aup_n (by omega)]
                                 repeat rw [aup_rn (by decide)]
                                 exact hv4)
                    · first
                        | (exfalso; omega)
                        | skip
                          unfold crw at mc
                          refine aK_i ?_
                          skip
                          refine aw_ifne (tgt := 46) dX7_swarm_36 (by decide) (fun h => absurd h (by decide)) (fun _ => ?_)
                          refine aw_aload_n dX7_swarm_39 rfl ?_
                          refine aw_bipush dX7_swarm_40 (by decide) ?_
                          refine c_X7_72 rfl dX7_swarm_42 m_ob (Nat.le_of_ble_eq_true rfl) (by omega) (C_m_refuse ?_)
                          refine aK_i ?_
                          refine aw_ireturn dX7_swarm_45 rfl ?_
                          first
                            | (exfalso; omega)
                            | (refine XR.sameE h ?_ ?_ ?_ ?_ ?_ ?_
                               · first
                                   | rfl
                                   | omega
                               · repeat (first | exact xs.rf | refine xs.up ?_ (by decide))
                               · repeat (first | exact mss.rf | refine mss.up0 ?_ (by decide))
                               · first
                                   | (simp [aup, hv2, hv3, hv4]; done)
                                   | (simp [aup, hv2, hv3, hv4]; omega)
                               · simp [aup, hv2, hv3, hv4]
                               · simp [aup, hv2, hv3, hv4])
                            | (refine ⟨vI_eq (by first | rfl | omega), _, rfl, XR.yd (upA (upA (upA (upA (cm 1) 11 (cm 1 (64 + 198 * a + 1) / 2)) 12 (cm 1 (64 + 198 * a + 3))) (64 + 198 * a + 1) (cm 1 (64 + 198 * a + 1) - cm 1 (64 + 198 * a + 1) / 2)) (64 + 198 * a + 3) (-1)) hR HX HL HN HS HP ?_ ?_ ?_ ?_ ?_ ?_ ?_ ?_ ?_ ?_ ?_ ?_ ?_⟩
                               · rw [aup_rn (by decide), aup_r, aup_r, aup_r, aup_r]
                               · rw [show (upA (upA (upA (upA (cm 1) 11 (cm 1 (64 + 198 * a + 1) / 2)) 12 (cm 1 (64 + 198 * a + 3))) (64 + 198 * a + 1) (cm 1 (64 + 198 * a + 1) - cm 1 (64 + 198 * a + 1) / 2)) (64 + 198 * a + 3) (-1)) 3 = cm 1 3 by repeat rw [upA_n (by omega)]]
                                 refine YR.hfld (k := a) (j := 5) (v := -1) (YR.hfld (k := a) (j := 3) ((HY.up0 (j := 7) (v := 0) hR.1.2 (by decide)).swq (b := cm 1 (64 + 198 * a + 1) / 2) (q := cm 1 (64 + 198 * a + 3)) (fun x j hz => ?_) ?_ (fun _ => ?_)) (by omega) ?_ ?_ (by omega)) (by omega) ?_ ?_ (by omega)
                                 · rw [aup_n (fun z => hz ⟨z.1, Or.inl z.2⟩), aup_n (fun z => hz ⟨z.1, Or.inr z.2⟩)]
                                 · rw [aup_n (by omega), aup_s]
                                 · rw [aup_s]
                                 · repeat rw [upA_n (by omega)]
                                   omega
                                 · rw [aup_rn nv10, aup_rn nv10, aup_rn nv0]; exact ehv
                                 · repeat rw [upA_n (by omega)]
                                   omega
                                 · rw [aup_rn nvhv, aup_rn nv10, aup_rn nv10, aup_rn nv0]; exact ehv
                               · intro i hi
                                 repeat rw [upA_n (by omega)]
                               · intro k k0 k1
                                 repeat rw [upA_n (by omega)]
                               · obtain ⟨q1, q2, q3, q4, q5, q6, q7⟩ := gh
                                 refine PI.one HP (k := a) (by omega) (by omega) (fun i hi i1 i2 => ?_) ?_ ?_ ?_ ?_ ?_ ?_ ?_ ?_
                                 · repeat rw [upA_n (by omega)]
                                 all_goals (repeat (first | rw [upA_s] | rw [upA_n (by omega)]))
                                 all_goals omega
                               · repeat (first | exact HF | refine FC.ok (FC.up0 ?_ (by decide)) | refine FC.ok (FC.up1 ?_))
                               · intro x j hx hz
                                 have hx1 : x ≠ hv := fun e => hx (by rw [e]; exact ohv)
                                 have hx2 : x ≠ 10 := fun e => hx (by rw [e, HY.2.1]; decide)
                                 repeat (first | rw [aup_rn hx1] | rw [aup_rn hx2] | rw [aup_n (fun z => hz ⟨z.1, Or.inl z.2⟩)])
                               · repeat rw [aup_n (by omega)]
                               · intro b b0 b1 b9
                                 rw [aup_rn b0]
                                 repeat rw [aup_rn b1]
                               · intro i hi
                                 rw [aup_n (by omega)]
                                 repeat rw [aup_rn (by decide)]
                               · repeat rw [aup_n (by omega)]
                                 rw [aup_s, aup_s]
                               · repeat rw [aup_n (by omega)]
                                 repeat rw [aup_rn (by decide)]
                                 exact hv3
                               · repeat rw [aup_n (by omega)]
                                 repeat rw [aup_rn (by decide)]
                                 exact hv4)
              · first
                  | (exfalso; omega)
                  | skip
                    refine aw_aload_n dX7_swarm_25 rfl ?_
                    refine aw_iconst dX7_swarm_26 (by decide) ?_
                    refine c_X7_72 rfl dX7_swarm_27 m_ob (Nat.le_of_ble_eq_true rfl) (by omega) (C_m_refuse ?_)
                    refine aK_i ?_
                    refine aw_ireturn dX7_swarm_30 rfl ?_
                    first
                      | (exfalso; omega)
                      | (refine XR.sameE h ?_ ?_ ?_ ?_ ?_ ?_
                         · first
                             | rfl
                             | omega
                         · repeat (first | exact xs.rf | refine xs.up ?_ (by decide))
                         · repeat (first | exact mss.rf | refine mss.up0 ?_ (by decide))
                         · first
                             | (simp [aup, hv2, hv3, hv4]; done)
                             | (simp [aup, hv2, hv3, hv4]; omega)
                         · simp [aup, hv2, hv3, hv4]
                         · simp [aup, hv2, hv3, hv4])
                      | (refine ⟨vI_eq (by first | rfl | omega), _, rfl, XR.yd (upA (upA (upA (upA (cm 1) 11 (cm 1 (64 + 198 * a + 1) / 2)) 12 (cm 1 (64 + 198 * a + 3))) (64 + 198 * a + 1) (cm 1 (64 + 198 * a + 1) - cm 1 (64 + 198 * a + 1) / 2)) (64 + 198 * a + 3) (-1)) hR HX HL HN HS HP ?_ ?_ ?_ ?_ ?_ ?_ ?_ ?_ ?_ ?_ ?_ ?_ ?_⟩
                         · rw [aup_rn (by decide), aup_r, aup_r, aup_r, aup_r]
                         · rw [show (upA (upA (upA (upA (cm 1) 11 (cm 1 (64 + 198 * a + 1) / 2)) 12 (cm 1 (64 + 198 * a + 3))) (64 + 198 * a + 1) (cm 1 (64 + 198 * a + 1) - cm 1 (64 + 198 * a + 1) / 2)) (64 + 198 * a + 3) (-1)) 3 = cm 1 3 by repeat rw [upA_n (by omega)]]
                           refine YR.hfld (k := a) (j := 5) (v := -1) (YR.hfld (k := a) (j := 3) ((HY.up0 (j := 7) (v := 0) hR.1.2 (by decide)).swq (b := cm 1 (64 + 198 * a + 1) / 2) (q := cm 1 (64 + 198 * a + 3)) (fun x j hz => ?_) ?_ (fun _ => ?_)) (by omega) ?_ ?_ (by omega)) (by omega) ?_ ?_ (by omega)
                           · rw [aup_n (fun z => hz ⟨z.1, Or.inl z.2⟩), aup_n (fun z => hz ⟨z.1, Or.inr z.2⟩)]
                           · rw [aup_n (by omega), aup_s]
                           · rw [aup_s]
                           · repeat rw [upA_n (by omega)]
                             omega
                           · rw [aup_rn nv10, aup_rn nv10, aup_rn nv0]; exact ehv
                           · repeat rw [upA_n (by omega)]
                             omega
                           · rw [aup_rn nvhv, aup_rn nv10, aup_rn nv10, aup_rn nv0]; exact ehv
                         · intro i hi
                           repeat rw [upA_n (by omega)]
                         · intro k k0 k1
                           repeat rw [upA_n (by omega)]
                         · obtain ⟨q1, q2, q3, q4, q5, q6, q7⟩ := gh
                           refine PI.one HP (k := a) (by omega) (by omega) (fun i hi i1 i2 => ?_) ?_ ?_ ?_ ?_ ?_ ?_ ?_ ?_
                           · repeat rw [upA_n (by omega)]
                           all_goals (repeat (first | rw [upA_s] | rw [upA_n (by omega)]))
                           all_goals omega
                         · repeat (first | exact HF | refine FC.ok (FC.up0 ?_ (by decide)) | refine FC.ok (FC.up1 ?_))
                         · intro x j hx hz
                           have hx1 : x ≠ hv := fun e => hx (by rw [e]; exact ohv)
                           have hx2 : x ≠ 10 := fun e => hx (by rw [e, HY.2.1]; decide)
                           repeat (first | rw [aup_rn hx1] | rw [aup_rn hx2] | rw [aup_n (fun z => hz ⟨z.1, Or.inl z.2⟩)])
                         · repeat rw [aup_n (by omega)]
                         · intro b b0 b1 b9
                           rw [aup_rn b0]
                           repeat rw [aup_rn b1]
                         · intro i hi
                           rw [aup_n (by omega)]
                           repeat rw [aup_rn (by decide)]
                         · repeat rw [aup_n (by omega)]
                           rw [aup_s, aup_s]
                         · repeat rw [aup_n (by omega)]
                           repeat rw [aup_rn (by decide)]
                           exact hv3
                         · repeat rw [aup_n (by omega)]
                           repeat rw [aup_rn (by decide)]
                           exact hv4)
        · first
            | (exfalso; omega)
            | skip
              refine aK_i ?_
              refine aw_ifne (tgt := 14) dX7_swarm_5 (by decide) (fun h => absurd h (by decide)) (fun _ => ?_)
              refine aw_aload_n dX7_swarm_8 rfl ?_
              refine aw_iconst dX7_swarm_9 (by decide) ?_
              refine c_X7_72 rfl dX7_swarm_10 m_ob (Nat.le_of_ble_eq_true rfl) (by omega) (C_m_refuse ?_)
              refine aK_i ?_
              refine aw_ireturn dX7_swarm_13 rfl ?_
              first
                | (exfalso; omega)
                | (refine XR.sameE h ?_ ?_ ?_ ?_ ?_ ?_
                   · first
                       | rfl
                       | omega
                   · repeat (first | exact xs.rf | refine xs.up ?_ (by decide))
                   · repeat (first | exact mss.rf | refine mss.up0 ?_ (by decide))
                   · first
                       | (simp [aup, hv2, hv3, hv4]; done)
                       | (simp [aup, hv2, hv3, hv4]; omega)
                   · simp [aup, hv2, hv3, hv4]
                   · simp [aup, hv2, hv3, hv4])
                | (refine ⟨vI_eq (by first | rfl | omega), _, rfl, XR.yd (upA (upA (upA (upA (cm 1) 11 (cm 1 (64 + 198 * a + 1) / 2)) 12 (cm 1 (64 + 198 * a + 3))) (64 + 198 * a + 1) (cm 1 (64 + 198 * a + 1) - cm 1 (64 + 198 * a + 1) / 2)) (64 + 198 * a + 3) (-1)) hR HX HL HN HS HP ?_ ?_ ?_ ?_ ?_ ?_ ?_ ?_ ?_ ?_ ?_ ?_ ?_⟩
                   · rw [aup_rn (by decide), aup_r, aup_r, aup_r, aup_r]
                   · rw [show (upA (upA (upA (upA (cm 1) 11 (cm 1 (64 + 198 * a + 1) / 2)) 12 (cm 1 (64 + 198 * a + 3))) (64 + 198 * a + 1) (cm 1 (64 + 198 * a + 1) - cm 1 (64 + 198 * a + 1) / 2)) (64 + 198 * a + 3) (-1)) 3 = cm 1 3 by repeat rw [upA_n (by omega)]]
                     refine YR.hfld (k := a) (j := 5) (v := -1) (YR.hfld (k := a) (j := 3) ((HY.up0 (j := 7) (v := 0) hR.1.2 (by decide)).swq (b := cm 1 (64 + 198 * a + 1) / 2) (q := cm 1 (64 + 198 * a + 3)) (fun x j hz => ?_) ?_ (fun _ => ?_)) (by omega) ?_ ?_ (by omega)) (by omega) ?_ ?_ (by omega)
                     · rw [aup_n (fun z => hz ⟨z.1, Or.inl z.2⟩), aup_n (fun z => hz ⟨z.1, Or.inr z.2⟩)]
                     · rw [aup_n (by omega), aup_s]
                     · rw [aup_s]
                     · repeat rw [upA_n (by omega)]
                       omega
                     · rw [aup_rn nv10, aup_rn nv10, aup_rn nv0]; exact ehv
                     · repeat rw [upA_n (by omega)]
                       omega
                     · rw [aup_rn nvhv, aup_rn nv10, aup_rn nv10, aup_rn nv0]; exact ehv
                   · intro i hi
                     repeat rw [upA_n (by omega)]
                   · intro k k0 k1
                     repeat rw [upA_n (by omega)]
                   · obtain ⟨q1, q2, q3, q4, q5, q6, q7⟩ := gh
                     refine PI.one HP (k := a) (by omega) (by omega) (fun i hi i1 i2 => ?_) ?_ ?_ ?_ ?_ ?_ ?_ ?_ ?_
                     · repeat rw [upA_n (by omega)]
                     all_goals (repeat (first | rw [upA_s] | rw [upA_n (by omega)]))
                     all_goals omega
                   · repeat (first | exact HF | refine FC.ok (FC.up0 ?_ (by decide)) | refine FC.ok (FC.up1 ?_))
                   · intro x j hx hz
                     have hx1 : x ≠ hv := fun e => hx (by rw [e]; exact ohv)
                     have hx2 : x ≠ 10 := fun e => hx (by rw [e, HY.2.1]; decide)
                     repeat (first | rw [aup_rn hx1] | rw [aup_rn hx2] | rw [aup_n (fun z => hz ⟨z.1, Or.inl z.2⟩)])
                   · repeat rw [aup_n (by omega)]
                   · intro b b0 b1 b9
                     rw [aup_rn b0]
                     repeat rw [aup_rn b1]
                   · intro i hi
                     rw [aup_n (by omega)]
                     repeat rw [aup_rn (by decide)]
                   · repeat rw [aup_n (by omega)]
                     rw [aup_s, aup_s]
                   · repeat rw [aup_n (by omega)]
                     repeat rw [aup_rn (by decide)]
                     exact hv3
                   · repeat rw [aup_n (by omega)]
                     repeat rw [aup_rn (by decide)]
                     exact hv4)
      · rw [g5, g3] at xc
        refine aK_i ?_
        refine aw_ifeq (tgt := 42) dX0_swarm_35 (by decide) (fun _ => ?_) (fun h => absurd h (by decide))
        refine aw_bipush dX0_swarm_42 (by decide) ?_
        refine p_X0_73_0 rfl dX0_swarm_44 hR.o0 ?_
        refine aw_aload_n dX0_swarm_47 rfl ?_
        refine g_X0_73_0 rfl dX0_swarm_48 hR.o0 ?_
        repeat (first | rw [aup_s] | rw [aup_n (by omega)])
        refine aw_ifle (tgt := 56) dX0_swarm_51 (by decide) (fun h => absurd h (by decide)) (fun _ => ?_)
        refine aw_iconst dX0_swarm_54 (by decide) ?_
        refine aw_ireturn dX0_swarm_55 rfl ?_
        refine ⟨_, rfl, ?_⟩
        refine AMet.go (L := [some (vR 0), some (vI a), none]) mok_X7_swarm (Nat.le_of_ble_eq_true rfl) rfl ?_
        refine aw_aload_n dX7_swarm_0 rfl ?_
        refine aw_iload_n dX7_swarm_1 rfl ?_
        refine c_X7_274 rfl dX7_swarm_2 m_ob (Nat.le_of_ble_eq_true rfl) (by omega) (C_m_isHive (fun hh => ?_) (fun hh => ?_))
        · first
            | (exfalso; omega)
            | skip
              refine aK_i ?_
              refine aw_ifne (tgt := 14) dX7_swarm_5 (by decide) (fun _ => ?_) (fun h => absurd h (by decide))
              refine gm_7 rfl dX7_swarm_14 dX7_swarm_15 rfl ?_
              refine aw_bipush dX7_swarm_18 (by decide) ?_
              refine aw_iaload dX7_swarm_20 m_a1 (by omega) (by omega) ?_
              refine aw_iconst dX7_swarm_21 (by decide) ?_
              refine aw_icmpeq (tgt := 31) dX7_swarm_22 (by decide) (fun h22 => ?_) (fun h22 => ?_)
              · first
                  | (exfalso; omega)
                  | skip
                    refine aw_aload_n dX7_swarm_31 rfl ?_
                    have gh0 := HP.2.2.1 a (by omega) (by omega)
                    refine aw_iload_n dX7_swarm_32 rfl ?_
                    refine c_X7_334 rfl dX7_swarm_33 m_ob (Nat.le_of_ble_eq_true rfl) (by omega) (C_m_isCrowded (by omega) gh0.1 gh0.2.1 (fun mc => ?_) (fun mc => ?_))
                    · first
                        | (exfalso; omega)
                        | skip
                          unfold crw at mc
                          refine aK_i ?_
                          skip
                          refine aw_ifne (tgt := 46) dX7_swarm_36 (by decide) (fun _ => ?_) (fun h => absurd h (by decide))
                          refine aw_iload_n dX7_swarm_46 rfl ?_
                          refine c_X7_217 rfl dX7_swarm_47  (Nat.le_of_ble_eq_true rfl) (by omega) (C_m_hiveRow (by omega) ?_)
                          refine aK_i ?_
                          refine aw_istore2 dX7_swarm_50 (by decide) rfl ?_
                          refine gm_7 rfl dX7_swarm_51 dX7_swarm_52 rfl ?_
                          refine aw_bipush dX7_swarm_55 (by decide) ?_
                          refine gm_7 rfl dX7_swarm_57 dX7_swarm_58 rfl ?_
                          refine aw_iload_n dX7_swarm_61 rfl ?_
                          refine aw_iconst dX7_swarm_62 (by decide) ?_
                          refine aw_iaddr dX7_swarm_63 (by omega) ?_
                          refine aw_iaload dX7_swarm_64 m_a1 (by omega) (by omega) ?_
                          skip
                          refine aw_iconst dX7_swarm_65 (by decide) ?_
                          refine aw_idivr dX7_swarm_66 (by omega) (by omega) ?_
                          refine aw_iastore dX7_swarm_67 m_a1 (by omega) (by omega) ?_
                          refine gm_7 rfl dX7_swarm_68 dX7_swarm_69 rfl ?_
                          refine aw_bipush dX7_swarm_72 (by decide) ?_
                          refine gm_7 rfl dX7_swarm_74 dX7_swarm_75 rfl ?_
                          refine aw_iload_n dX7_swarm_78 rfl ?_
                          refine aw_iconst dX7_swarm_79 (by decide) ?_
                          refine aw_iaddr dX7_swarm_80 (by omega) ?_
                          refine aw_iaload dX7_swarm_81 m_a1 (by omega) (by omega) ?_
                          repeat (first | rw [aup_s] | rw [aup_n (by omega)])
                          refine aw_iastore dX7_swarm_82 m_a1 (by omega) (by omega) ?_
                          refine gm_7 rfl dX7_swarm_83 dX7_swarm_84 rfl ?_
                          refine aw_iload_n dX7_swarm_87 rfl ?_
                          refine aw_iconst dX7_swarm_88 (by decide) ?_
                          refine aw_iaddr dX7_swarm_89 (by omega) ?_
                          refine aw_dup2 dX7_swarm_90 rfl rfl ?_
                          refine aw_iaload dX7_swarm_91 m_a1 (by omega) (by omega) ?_
                          repeat (first | rw [aup_s] | rw [aup_n (by omega)])
                          refine gm_7 rfl dX7_swarm_92 dX7_swarm_93 rfl ?_
                          refine aw_bipush dX7_swarm_96 (by decide) ?_
                          refine aw_iaload dX7_swarm_98 m_a1 (by omega) (by omega) ?_
                          repeat (first | rw [aup_s] | rw [aup_n (by omega)])
                          refine aw_isubr dX7_swarm_99 (by omega) ?_
                          refine aw_iastore dX7_swarm_100 m_a1 (by omega) (by omega) ?_
                          refine gm_7 rfl dX7_swarm_101 dX7_swarm_102 rfl ?_
                          refine aw_iload_n dX7_swarm_105 rfl ?_
                          refine aw_iconst dX7_swarm_106 (by decide) ?_
                          refine aw_iaddr dX7_swarm_107 (by omega) ?_
                          refine aw_iconst dX7_swarm_108 (by decide) ?_
                          refine aw_iastore dX7_swarm_109 m_a1 (by omega) (by omega) ?_
                          refine aw_aload_n dX7_swarm_110 rfl ?_
                          refine gm_7 rfl dX7_swarm_111 dX7_swarm_112 rfl ?_
                          refine aw_bipush dX7_swarm_115 (by decide) ?_
                          refine aw_iaload dX7_swarm_117 m_a1 (by omega) (by omega) ?_
                          repeat (first | rw [aup_s] | rw [aup_n (by omega)])
                          refine c_X7_76 rfl dX7_swarm_118 m_ob (Nat.le_of_ble_eq_true rfl) (by omega) (C_m_gives ?_)
                          refine aK_i ?_
                          refine aw_ireturn dX7_swarm_121 rfl ?_
                          first
                            | (exfalso; omega)
                            | (refine XR.sameE h ?_ ?_ ?_ ?_ ?_ ?_
                               · first
                                   | rfl
                                   | omega
                               · repeat (first | exact xs.rf | refine xs.up ?_ (by decide))
                               · repeat (first | exact mss.rf | refine mss.up0 ?_ (by decide))
                               · first
                                   | (simp [aup, hv2, hv3, hv4]; done)
                                   | (simp [aup, hv2, hv3, hv4]; omega)
                               · simp [aup, hv2, hv3, hv4]
                               · simp [aup, hv2, hv3, hv4])
                            | (refine ⟨vI_eq (by first | rfl | omega), _, rfl, XR.yd (upA (upA (upA (upA (cm 1) 11 (cm 1 (64 + 198 * a + 1) / 2)) 12 (cm 1 (64 + 198 * a + 3))) (64 + 198 * a + 1) (cm 1 (64 + 198 * a + 1) - cm 1 (64 + 198 * a + 1) / 2)) (64 + 198 * a + 3) (-1)) hR HX HL HN HS HP ?_ ?_ ?_ ?_ ?_ ?_ ?_ ?_ ?_ ?_ ?_ ?_ ?_⟩
                               · rw [aup_rn (by decide), aup_r, aup_r, aup_r, aup_r]
                               · rw [show (upA (upA (upA (upA (cm 1) 11 (cm 1 (64 + 198 * a + 1) / 2)) 12 (cm 1 (64 + 198 * a + 3))) (64 + 198 * a + 1) (cm 1 (64 + 198 * a + 1) - cm 1 (64 + 198 * a + 1) / 2)) (64 + 198 * a + 3) (-1)) 3 = cm 1 3 by repeat rw [upA_n (by omega)]]
                                 refine YR.hfld (k := a) (j := 5) (v := -1) (YR.hfld (k := a) (j := 3) ((HY.up0 (j := 7) (v := 0) hR.1.2 (by decide)).swq (b := cm 1 (64 + 198 * a + 1) / 2) (q := cm 1 (64 + 198 * a + 3)) (fun x j hz => ?_) ?_ (fun _ => ?_)) (by omega) ?_ ?_ (by omega)) (by omega) ?_ ?_ (by omega)
                                 · rw [aup_n (fun z => hz ⟨z.1, Or.inl z.2⟩), aup_n (fun z => hz ⟨z.1, Or.inr z.2⟩)]
                                 · rw [aup_n (by omega), aup_s]
                                 · rw [aup_s]
                                 · repeat rw [upA_n (by omega)]
                                   omega
                                 · rw [aup_rn nv10, aup_rn nv10, aup_rn nv0]; exact ehv
                                 · repeat rw [upA_n (by omega)]
                                   omega
                                 · rw [aup_rn nvhv, aup_rn nv10, aup_rn nv10, aup_rn nv0]; exact ehv
                               · intro i hi
                                 repeat rw [upA_n (by omega)]
                               · intro k k0 k1
                                 repeat rw [upA_n (by omega)]
                               · obtain ⟨q1, q2, q3, q4, q5, q6, q7⟩ := gh
                                 refine PI.one HP (k := a) (by omega) (by omega) (fun i hi i1 i2 => ?_) ?_ ?_ ?_ ?_ ?_ ?_ ?_ ?_
                                 · repeat rw [upA_n (by omega)]
                                 all_goals (repeat (first | rw [upA_s] | rw [upA_n (by omega)]))
                                 all_goals omega
                               · repeat (first | exact HF | refine FC.ok (FC.up0 ?_ (by decide)) | refine FC.ok (FC.up1 ?_))
                               · intro x j hx hz
                                 have hx1 : x ≠ hv := fun e => hx (by rw [e]; exact ohv)
                                 have hx2 : x ≠ 10 := fun e => hx (by rw [e, HY.2.1]; decide)
                                 repeat (first | rw [aup_rn hx1] | rw [aup_rn hx2] | rw [aup_n (fun z => hz ⟨z.1, Or.inl z.2⟩)])
                               · repeat rw [aup_n (by omega)]
                               · intro b b0 b1 b9
                                 rw [aup_rn b0]
                                 repeat rw [aup_rn b1]
                               · intro i hi
                                 rw [aup_n (by omega)]
                                 repeat rw [aup_rn (by decide)]
                               · repeat rw [aup_n (by omega)]
                                 rw [aup_s, aup_s]
                               · repeat rw [aup_n (by omega)]
                                 repeat rw [aup_rn (by decide)]
                                 exact hv3
                               · repeat rw [aup_n (by omega)]
                                 repeat rw [aup_rn (by decide)]
                                 exact hv4)
                    · first
                        | (exfalso; omega)
                        | skip
                          unfold crw at mc
                          refine aK_i ?_
                          skip
                          refine aw_ifne (tgt := 46) dX7_swarm_36 (by decide) (fun h => absurd h (by decide)) (fun _ => ?_)
                          refine aw_aload_n dX7_swarm_39 rfl ?_
                          refine aw_bipush dX7_swarm_40 (by decide) ?_
                          refine c_X7_72 rfl dX7_swarm_42 m_ob (Nat.le_of_ble_eq_true rfl) (by omega) (C_m_refuse ?_)
                          refine aK_i ?_
                          refine aw_ireturn dX7_swarm_45 rfl ?_
                          first
                            | (exfalso; omega)
                            | (refine XR.sameE h ?_ ?_ ?_ ?_ ?_ ?_
                               · first
                                   | rfl
                                   | omega
                               · repeat (first | exact xs.rf | refine xs.up ?_ (by decide))
                               · repeat (first | exact mss.rf | refine mss.up0 ?_ (by decide))
                               · first
                                   | (simp [aup, hv2, hv3, hv4]; done)
                                   | (simp [aup, hv2, hv3, hv4]; omega)
                               · simp [aup, hv2, hv3, hv4]
                               · simp [aup, hv2, hv3, hv4])
                            | (refine ⟨vI_eq (by first | rfl | omega), _, rfl, XR.yd (upA (upA (upA (upA (cm 1) 11 (cm 1 (64 + 198 * a + 1) / 2)) 12 (cm 1 (64 + 198 * a + 3))) (64 + 198 * a + 1) (cm 1 (64 + 198 * a + 1) - cm 1 (64 + 198 * a + 1) / 2)) (64 + 198 * a + 3) (-1)) hR HX HL HN HS HP ?_ ?_ ?_ ?_ ?_ ?_ ?_ ?_ ?_ ?_ ?_ ?_ ?_⟩
                               · rw [aup_rn (by decide), aup_r, aup_r, aup_r, aup_r]
                               · rw [show (upA (upA (upA (upA (cm 1) 11 (cm 1 (64 + 198 * a + 1) / 2)) 12 (cm 1 (64 + 198 * a + 3))) (64 + 198 * a + 1) (cm 1 (64 + 198 * a + 1) - cm 1 (64 + 198 * a + 1) / 2)) (64 + 198 * a + 3) (-1)) 3 = cm 1 3 by repeat rw [upA_n (by omega)]]
                                 refine YR.hfld (k := a) (j := 5) (v := -1) (YR.hfld (k := a) (j := 3) ((HY.up0 (j := 7) (v := 0) hR.1.2 (by decide)).swq (b := cm 1 (64 + 198 * a + 1) / 2) (q := cm 1 (64 + 198 * a + 3)) (fun x j hz => ?_) ?_ (fun _ => ?_)) (by omega) ?_ ?_ (by omega)) (by omega) ?_ ?_ (by omega)
                                 · rw [aup_n (fun z => hz ⟨z.1, Or.inl z.2⟩), aup_n (fun z => hz ⟨z.1, Or.inr z.2⟩)]
                                 · rw [aup_n (by omega), aup_s]
                                 · rw [aup_s]
                                 · repeat rw [upA_n (by omega)]
                                   omega
                                 · rw [aup_rn nv10, aup_rn nv10, aup_rn nv0]; exact ehv
                                 · repeat rw [upA_n (by omega)]
                                   omega
                                 · rw [aup_rn nvhv, aup_rn nv10, aup_rn nv10, aup_rn nv0]; exact ehv
                               · intro i hi
                                 repeat rw [upA_n (by omega)]
                               · intro k k0 k1
                                 repeat rw [upA_n (by omega)]
                               · obtain ⟨q1, q2, q3, q4, q5, q6, q7⟩ := gh
                                 refine PI.one HP (k := a) (by omega) (by omega) (fun i hi i1 i2 => ?_) ?_ ?_ ?_ ?_ ?_ ?_ ?_ ?_
                                 · repeat rw [upA_n (by omega)]
                                 all_goals (repeat (first | rw [upA_s] | rw [upA_n (by omega)]))
                                 all_goals omega
                               · repeat (first | exact HF | refine FC.ok (FC.up0 ?_ (by decide)) | refine FC.ok (FC.up1 ?_))
                               · intro x j hx hz
                                 have hx1 : x ≠ hv := fun e => hx (by rw [e]; exact ohv)
                                 have hx2 : x ≠ 10 := fun e => hx (by rw [e, HY.2.1]; decide)
                                 repeat (first | rw [aup_rn hx1] | rw [aup_rn hx2] | rw [aup_n (fun z => hz ⟨z.1, Or.inl z.2⟩)])
                               · repeat rw [aup_n (by omega)]
                               · intro b b0 b1 b9
                                 rw [aup_rn b0]
                                 repeat rw [aup_rn b1]
                               · intro i hi
                                 rw [aup_n (by omega)]
                                 repeat rw [aup_rn (by decide)]
                               · repeat rw [aup_n (by omega)]
                                 rw [aup_s, aup_s]
                               · repeat rw [aup_n (by omega)]
                                 repeat rw [aup_rn (by decide)]
                                 exact hv3
                               · repeat rw [aup_n (by omega)]
                                 repeat rw [aup_rn (by decide)]
                                 exact hv4)
              · first
                  | (exfalso; omega)
                  | skip
                    refine aw_aload_n dX7_swarm_25 rfl ?_
                    refine aw_iconst dX7_swarm_26 (by decide) ?_
                    refine c_X7_72 rfl dX7_swarm_27 m_ob (Nat.le_of_ble_eq_true rfl) (by omega) (C_m_refuse ?_)
                    refine aK_i ?_
                    refine aw_ireturn dX7_swarm_30 rfl ?_
                    first
                      | (exfalso; omega)
                      | (refine XR.sameE h ?_ ?_ ?_ ?_ ?_ ?_
                         · first
                             | rfl
                             | omega
                         · repeat (first | exact xs.rf | refine xs.up ?_ (by decide))
                         · repeat (first | exact mss.rf | refine mss.up0 ?_ (by decide))
                         · first
                             | (simp [aup, hv2, hv3, hv4]; done)
                             | (simp [aup, hv2, hv3, hv4]; omega)
                         · simp [aup, hv2, hv3, hv4]
                         · simp [aup, hv2, hv3, hv4])
                      | (refine ⟨vI_eq (by first | rfl | omega), _, rfl, XR.yd (upA (upA (upA (upA (cm 1) 11 (cm 1 (64 + 198 * a + 1) / 2)) 12 (cm 1 (64 + 198 * a + 3))) (64 + 198 * a + 1) (cm 1 (64 + 198 * a + 1) - cm 1 (64 + 198 * a + 1) / 2)) (64 + 198 * a + 3) (-1)) hR HX HL HN HS HP ?_ ?_ ?_ ?_ ?_ ?_ ?_ ?_ ?_ ?_ ?_ ?_ ?_⟩
                         · rw [aup_rn (by decide), aup_r, aup_r, aup_r, aup_r]
                         · rw [show (upA (upA (upA (upA (cm 1) 11 (cm 1 (64 + 198 * a + 1) / 2)) 12 (cm 1 (64 + 198 * a + 3))) (64 + 198 * a + 1) (cm 1 (64 + 198 * a + 1) - cm 1 (64 + 198 * a + 1) / 2)) (64 + 198 * a + 3) (-1)) 3 = cm 1 3 by repeat rw [upA_n (by omega)]]
                           refine YR.hfld (k := a) (j := 5) (v := -1) (YR.hfld (k := a) (j := 3) ((HY.up0 (j := 7) (v := 0) hR.1.2 (by decide)).swq (b := cm 1 (64 + 198 * a + 1) / 2) (q := cm 1 (64 + 198 * a + 3)) (fun x j hz => ?_) ?_ (fun _ => ?_)) (by omega) ?_ ?_ (by omega)) (by omega) ?_ ?_ (by omega)
                           · rw [aup_n (fun z => hz ⟨z.1, Or.inl z.2⟩), aup_n (fun z => hz ⟨z.1, Or.inr z.2⟩)]
                           · rw [aup_n (by omega), aup_s]
                           · rw [aup_s]
                           · repeat rw [upA_n (by omega)]
                             omega
                           · rw [aup_rn nv10, aup_rn nv10, aup_rn nv0]; exact ehv
                           · repeat rw [upA_n (by omega)]
                             omega
                           · rw [aup_rn nvhv, aup_rn nv10, aup_rn nv10, aup_rn nv0]; exact ehv
                         · intro i hi
                           repeat rw [upA_n (by omega)]
                         · intro k k0 k1
                           repeat rw [upA_n (by omega)]
                         · obtain ⟨q1, q2, q3, q4, q5, q6, q7⟩ := gh
                           refine PI.one HP (k := a) (by omega) (by omega) (fun i hi i1 i2 => ?_) ?_ ?_ ?_ ?_ ?_ ?_ ?_ ?_
                           · repeat rw [upA_n (by omega)]
                           all_goals (repeat (first | rw [upA_s] | rw [upA_n (by omega)]))
                           all_goals omega
                         · repeat (first | exact HF | refine FC.ok (FC.up0 ?_ (by decide)) | refine FC.ok (FC.up1 ?_))
                         · intro x j hx hz
                           have hx1 : x ≠ hv := fun e => hx (by rw [e]; exact ohv)
                           have hx2 : x ≠ 10 := fun e => hx (by rw [e, HY.2.1]; decide)
                           repeat (first | rw [aup_rn hx1] | rw [aup_rn hx2] | rw [aup_n (fun z => hz ⟨z.1, Or.inl z.2⟩)])
                         · repeat rw [aup_n (by omega)]
                         · intro b b0 b1 b9
                           rw [aup_rn b0]
                           repeat rw [aup_rn b1]
                         · intro i hi
                           rw [aup_n (by omega)]
                           repeat rw [aup_rn (by decide)]
                         · repeat rw [aup_n (by omega)]
                           rw [aup_s, aup_s]
                         · repeat rw [aup_n (by omega)]
                           repeat rw [aup_rn (by decide)]
                           exact hv3
                         · repeat rw [aup_n (by omega)]
                           repeat rw [aup_rn (by decide)]
                           exact hv4)
        · first
            | (exfalso; omega)
            | skip
              refine aK_i ?_
              refine aw_ifne (tgt := 14) dX7_swarm_5 (by decide) (fun h => absurd h (by decide)) (fun _ => ?_)
              refine aw_aload_n dX7_swarm_8 rfl ?_
              refine aw_iconst dX7_swarm_9 (by decide) ?_
              refine c_X7_72 rfl dX7_swarm_10 m_ob (Nat.le_of_ble_eq_true rfl) (by omega) (C_m_refuse ?_)
              refine aK_i ?_
              refine aw_ireturn dX7_swarm_13 rfl ?_
              first
                | (exfalso; omega)
                | (refine XR.sameE h ?_ ?_ ?_ ?_ ?_ ?_
                   · first
                       | rfl
                       | omega
                   · repeat (first | exact xs.rf | refine xs.up ?_ (by decide))
                   · repeat (first | exact mss.rf | refine mss.up0 ?_ (by decide))
                   · first
                       | (simp [aup, hv2, hv3, hv4]; done)
                       | (simp [aup, hv2, hv3, hv4]; omega)
                   · simp [aup, hv2, hv3, hv4]
                   · simp [aup, hv2, hv3, hv4])
                | (refine ⟨vI_eq (by first | rfl | omega), _, rfl, XR.yd (upA (upA (upA (upA (cm 1) 11 (cm 1 (64 + 198 * a + 1) / 2)) 12 (cm 1 (64 + 198 * a + 3))) (64 + 198 * a + 1) (cm 1 (64 + 198 * a + 1) - cm 1 (64 + 198 * a + 1) / 2)) (64 + 198 * a + 3) (-1)) hR HX HL HN HS HP ?_ ?_ ?_ ?_ ?_ ?_ ?_ ?_ ?_ ?_ ?_ ?_ ?_⟩
                   · rw [aup_rn (by decide), aup_r, aup_r, aup_r, aup_r]
                   · rw [show (upA (upA (upA (upA (cm 1) 11 (cm 1 (64 + 198 * a + 1) / 2)) 12 (cm 1 (64 + 198 * a + 3))) (64 + 198 * a + 1) (cm 1 (64 + 198 * a + 1) - cm 1 (64 + 198 * a + 1) / 2)) (64 + 198 * a + 3) (-1)) 3 = cm 1 3 by repeat rw [upA_n (by omega)]]
                     refine YR.hfld (k := a) (j := 5) (v := -1) (YR.hfld (k := a) (j := 3) ((HY.up0 (j := 7) (v := 0) hR.1.2 (by decide)).swq (b := cm 1 (64 + 198 * a + 1) / 2) (q := cm 1 (64 + 198 * a + 3)) (fun x j hz => ?_) ?_ (fun _ => ?_)) (by omega) ?_ ?_ (by omega)) (by omega) ?_ ?_ (by omega)
                     · rw [aup_n (fun z => hz ⟨z.1, Or.inl z.2⟩), aup_n (fun z => hz ⟨z.1, Or.inr z.2⟩)]
                     · rw [aup_n (by omega), aup_s]
                     · rw [aup_s]
                     · repeat rw [upA_n (by omega)]
                       omega
                     · rw [aup_rn nv10, aup_rn nv10, aup_rn nv0]; exact ehv
                     · repeat rw [upA_n (by omega)]
                       omega
                     · rw [aup_rn nvhv, aup_rn nv10, aup_rn nv10, aup_rn nv0]; exact ehv
                   · intro i hi
                     repeat rw [upA_n (by omega)]
                   · intro k k0 k1
                     repeat rw [upA_n (by omega)]
                   · obtain ⟨q1, q2, q3, q4, q5, q6, q7⟩ := gh
                     refine PI.one HP (k := a) (by omega) (by omega) (fun i hi i1 i2 => ?_) ?_ ?_ ?_ ?_ ?_ ?_ ?_ ?_
                     · repeat rw [upA_n (by omega)]
                     all_goals (repeat (first | rw [upA_s] | rw [upA_n (by omega)]))
                     all_goals omega
                   · repeat (first | exact HF | refine FC.ok (FC.up0 ?_ (by decide)) | refine FC.ok (FC.up1 ?_))
                   · intro x j hx hz
                     have hx1 : x ≠ hv := fun e => hx (by rw [e]; exact ohv)
                     have hx2 : x ≠ 10 := fun e => hx (by rw [e, HY.2.1]; decide)
                     repeat (first | rw [aup_rn hx1] | rw [aup_rn hx2] | rw [aup_n (fun z => hz ⟨z.1, Or.inl z.2⟩)])
                   · repeat rw [aup_n (by omega)]
                   · intro b b0 b1 b9
                     rw [aup_rn b0]
                     repeat rw [aup_rn b1]
                   · intro i hi
                     rw [aup_n (by omega)]
                     repeat rw [aup_rn (by decide)]
                   · repeat rw [aup_n (by omega)]
                     rw [aup_s, aup_s]
                   · repeat rw [aup_n (by omega)]
                     repeat rw [aup_rn (by decide)]
                     exact hv3
                   · repeat rw [aup_n (by omega)]
                     repeat rw [aup_rn (by decide)]
                     exact hv4)
    · refine aw_iconst dX0_swarm_23 (by decide) ?_
      refine aw_goto (tgt := 44) dX0_swarm_24 (by decide) ?_
      refine p_X0_73_0 rfl dX0_swarm_44 hR.o0 ?_
      refine aw_aload_n dX0_swarm_47 rfl ?_
      refine g_X0_73_0 rfl dX0_swarm_48 hR.o0 ?_
      repeat (first | rw [aup_s] | rw [aup_n (by omega)])
      refine aw_ifle (tgt := 56) dX0_swarm_51 (by decide) (fun h => absurd h (by decide)) (fun _ => ?_)
      refine aw_iconst dX0_swarm_54 (by decide) ?_
      refine aw_ireturn dX0_swarm_55 rfl ?_
      refine ⟨_, rfl, ?_⟩
      refine AMet.go (L := [some (vR 0), some (vI a), none]) mok_X7_swarm (Nat.le_of_ble_eq_true rfl) rfl ?_
      refine aw_aload_n dX7_swarm_0 rfl ?_
      refine aw_iload_n dX7_swarm_1 rfl ?_
      refine c_X7_274 rfl dX7_swarm_2 m_ob (Nat.le_of_ble_eq_true rfl) (by omega) (C_m_isHive (fun hh => ?_) (fun hh => ?_))
      · first
          | (exfalso; omega)
          | skip
            refine aK_i ?_
            refine aw_ifne (tgt := 14) dX7_swarm_5 (by decide) (fun _ => ?_) (fun h => absurd h (by decide))
            refine gm_7 rfl dX7_swarm_14 dX7_swarm_15 rfl ?_
            refine aw_bipush dX7_swarm_18 (by decide) ?_
            refine aw_iaload dX7_swarm_20 m_a1 (by omega) (by omega) ?_
            refine aw_iconst dX7_swarm_21 (by decide) ?_
            refine aw_icmpeq (tgt := 31) dX7_swarm_22 (by decide) (fun h22 => ?_) (fun h22 => ?_)
            · first
                | (exfalso; omega)
                | skip
                  refine aw_aload_n dX7_swarm_31 rfl ?_
                  have gh0 := HP.2.2.1 a (by omega) (by omega)
                  refine aw_iload_n dX7_swarm_32 rfl ?_
                  refine c_X7_334 rfl dX7_swarm_33 m_ob (Nat.le_of_ble_eq_true rfl) (by omega) (C_m_isCrowded (by omega) gh0.1 gh0.2.1 (fun mc => ?_) (fun mc => ?_))
                  · first
                      | (exfalso; omega)
                      | skip
                        unfold crw at mc
                        refine aK_i ?_
                        skip
                        refine aw_ifne (tgt := 46) dX7_swarm_36 (by decide) (fun _ => ?_) (fun h => absurd h (by decide))
                        refine aw_iload_n dX7_swarm_46 rfl ?_
                        refine c_X7_217 rfl dX7_swarm_47  (Nat.le_of_ble_eq_true rfl) (by omega) (C_m_hiveRow (by omega) ?_)
                        refine aK_i ?_
                        refine aw_istore2 dX7_swarm_50 (by decide) rfl ?_
                        refine gm_7 rfl dX7_swarm_51 dX7_swarm_52 rfl ?_
                        refine aw_bipush dX7_swarm_55 (by decide) ?_
                        refine gm_7 rfl dX7_swarm_57 dX7_swarm_58 rfl ?_
                        refine aw_iload_n dX7_swarm_61 rfl ?_
                        refine aw_iconst dX7_swarm_62 (by decide) ?_
                        refine aw_iaddr dX7_swarm_63 (by omega) ?_
                        refine aw_iaload dX7_swarm_64 m_a1 (by omega) (by omega) ?_
                        skip
                        refine aw_iconst dX7_swarm_65 (by decide) ?_
                        refine aw_idivr dX7_swarm_66 (by omega) (by omega) ?_
                        refine aw_iastore dX7_swarm_67 m_a1 (by omega) (by omega) ?_
                        refine gm_7 rfl dX7_swarm_68 dX7_swarm_69 rfl ?_
                        refine aw_bipush dX7_swarm_72 (by decide) ?_
                        refine gm_7 rfl dX7_swarm_74 dX7_swarm_75 rfl ?_
                        refine aw_iload_n dX7_swarm_78 rfl ?_
                        refine aw_iconst dX7_swarm_79 (by decide) ?_
                        refine aw_iaddr dX7_swarm_80 (by omega) ?_
                        refine aw_iaload dX7_swarm_81 m_a1 (by omega) (by omega) ?_
                        repeat (first | rw [aup_s] | rw [aup_n (by omega)])
                        refine aw_iastore dX7_swarm_82 m_a1 (by omega) (by omega) ?_
                        refine gm_7 rfl dX7_swarm_83 dX7_swarm_84 rfl ?_
                        refine aw_iload_n dX7_swarm_87 rfl ?_
                        refine aw_iconst dX7_swarm_88 (by decide) ?_
                        refine aw_iaddr dX7_swarm_89 (by omega) ?_
                        refine aw_dup2 dX7_swarm_90 rfl rfl ?_
                        refine aw_iaload dX7_swarm_91 m_a1 (by omega) (by omega) ?_
                        repeat (first | rw [aup_s] | rw [aup_n (by omega)])
                        refine gm_7 rfl dX7_swarm_92 dX7_swarm_93 rfl ?_
                        refine aw_bipush dX7_swarm_96 (by decide) ?_
                        refine aw_iaload dX7_swarm_98 m_a1 (by omega) (by omega) ?_
                        repeat (first | rw [aup_s] | rw [aup_n (by omega)])
                        refine aw_isubr dX7_swarm_99 (by omega) ?_
                        refine aw_iastore dX7_swarm_100 m_a1 (by omega) (by omega) ?_
                        refine gm_7 rfl dX7_swarm_101 dX7_swarm_102 rfl ?_
                        refine aw_iload_n dX7_swarm_105 rfl ?_
                        refine aw_iconst dX7_swarm_106 (by decide) ?_
                        refine aw_iaddr dX7_swarm_107 (by omega) ?_
                        refine aw_iconst dX7_swarm_108 (by decide) ?_
                        refine aw_iastore dX7_swarm_109 m_a1 (by omega) (by omega) ?_
                        refine aw_aload_n dX7_swarm_110 rfl ?_
                        refine gm_7 rfl dX7_swarm_111 dX7_swarm_112 rfl ?_
                        refine aw_bipush dX7_swarm_115 (by decide) ?_
                        refine aw_iaload dX7_swarm_117 m_a1 (by omega) (by omega) ?_
                        repeat (first | rw [aup_s] | rw [aup_n (by omega)])
                        refine c_X7_76 rfl dX7_swarm_118 m_ob (Nat.le_of_ble_eq_true rfl) (by omega) (C_m_gives ?_)
                        refine aK_i ?_
                        refine aw_ireturn dX7_swarm_121 rfl ?_
                        first
                          | (exfalso; omega)
                          | (refine XR.sameE h ?_ ?_ ?_ ?_ ?_ ?_
                             · first
                                 | rfl
                                 | omega
                             · repeat (first | exact xs.rf | refine xs.up ?_ (by decide))
                             · repeat (first | exact mss.rf | refine mss.up0 ?_ (by decide))
                             · first
                                 | (simp [aup, hv2, hv3, hv4]; done)
                                 | (simp [aup, hv2, hv3, hv4]; omega)
                             · simp [aup, hv2, hv3, hv4]
                             · simp [aup, hv2, hv3, hv4])
                          | (refine ⟨vI_eq (by first | rfl | omega), _, rfl, XR.yd (upA (upA (upA (upA (cm 1) 11 (cm 1 (64 + 198 * a + 1) / 2)) 12 (cm 1 (64 + 198 * a + 3))) (64 + 198 * a + 1) (cm 1 (64 + 198 * a + 1) - cm 1 (64 + 198 * a + 1) / 2)) (64 + 198 * a + 3) (-1)) hR HX HL HN HS HP ?_ ?_ ?_ ?_ ?_ ?_ ?_ ?_ ?_ ?_ ?_ ?_ ?_⟩
                             · rw [aup_rn (by decide), aup_r, aup_r, aup_r, aup_r]
                             · rw [show (upA (upA (upA (upA (cm 1) 11 (cm 1 (64 + 198 * a + 1) / 2)) 12 (cm 1 (64 + 198 * a + 3))) (64 + 198 * a + 1) (cm 1 (64 + 198 * a + 1) - cm 1 (64 + 198 * a + 1) / 2)) (64 + 198 * a + 3) (-1)) 3 = cm 1 3 by repeat rw [upA_n (by omega)]]
                               refine YR.hfld (k := a) (j := 5) (v := -1) (YR.hfld (k := a) (j := 3) ((HY.up0 (j := 7) (v := 0) hR.1.2 (by decide)).swq (b := cm 1 (64 + 198 * a + 1) / 2) (q := cm 1 (64 + 198 * a + 3)) (fun x j hz => ?_) ?_ (fun _ => ?_)) (by omega) ?_ ?_ (by omega)) (by omega) ?_ ?_ (by omega)
                               · rw [aup_n (fun z => hz ⟨z.1, Or.inl z.2⟩), aup_n (fun z => hz ⟨z.1, Or.inr z.2⟩)]
                               · rw [aup_n (by omega), aup_s]
                               · rw [aup_s]
                               · repeat rw [upA_n (by omega)]
                                 omega
                               · rw [aup_rn nv10, aup_rn nv10, aup_rn nv0]; exact ehv
                               · repeat rw [upA_n (by omega)]
                                 omega
                               · rw [aup_rn nvhv, aup_rn nv10, aup_rn nv10, aup_rn nv0]; exact ehv
                             · intro i hi
                               repeat rw [upA_n (by omega)]
                             · intro k k0 k1
                               repeat rw [upA_n (by omega)]
                             · obtain ⟨q1, q2, q3, q4, q5, q6, q7⟩ := gh
                               refine PI.one HP (k := a) (by omega) (by omega) (fun i hi i1 i2 => ?_) ?_ ?_ ?_ ?_ ?_ ?_ ?_ ?_
                               · repeat rw [upA_n (by omega)]
                               all_goals (repeat (first | rw [upA_s] | rw [upA_n (by omega)]))
                               all_goals omega
                             · repeat (first | exact HF | refine FC.ok (FC.up0 ?_ (by decide)) | refine FC.ok (FC.up1 ?_))
                             · intro x j hx hz
                               have hx1 : x ≠ hv := fun e => hx (by rw [e]; exact ohv)
                               have hx2 : x ≠ 10 := fun e => hx (by rw [e, HY.2.1]; decide)
                               repeat (first | rw [aup_rn hx1] | rw [aup_rn hx2] | rw [aup_n (fun z => hz ⟨z.1, Or.inl z.2⟩)])
                             · repeat rw [aup_n (by omega)]
                             · intro b b0 b1 b9
                               rw [aup_rn b0]
                               repeat rw [aup_rn b1]
                             · intro i hi
                               rw [aup_n (by omega)]
                               repeat rw [aup_rn (by decide)]
                             · repeat rw [aup_n (by omega)]
                               rw [aup_s, aup_s]
                             · repeat rw [aup_n (by omega)]
                               repeat rw [aup_rn (by decide)]
                               exact hv3
                             · repeat rw [aup_n (by omega)]
                               repeat rw [aup_rn (by decide)]
                               exact hv4)
                  · first
                      | (exfalso; omega)
                      | skip
                        unfold crw at mc
                        refine aK_i ?_
                        skip
                        refine aw_ifne (tgt := 46) dX7_swarm_36 (by decide) (fun h => absurd h (by decide)) (fun _ => ?_)
                        refine aw_aload_n dX7_swarm_39 rfl ?_
                        refine aw_bipush dX7_swarm_40 (by decide) ?_
                        refine c_X7_72 rfl dX7_swarm_42 m_ob (Nat.le_of_ble_eq_true rfl) (by omega) (C_m_refuse ?_)
                        refine aK_i ?_
                        refine aw_ireturn dX7_swarm_45 rfl ?_
                        first
                          | (exfalso; omega)
                          | (refine XR.sameE h ?_ ?_ ?_ ?_ ?_ ?_
                             · first
                                 | rfl
                                 | omega
                             · repeat (first | exact xs.rf | refine xs.up ?_ (by decide))
                             · repeat (first | exact mss.rf | refine mss.up0 ?_ (by decide))
                             · first
                                 | (simp [aup, hv2, hv3, hv4]; done)
                                 | (simp [aup, hv2, hv3, hv4]; omega)
                             · simp [aup, hv2, hv3, hv4]
                             · simp [aup, hv2, hv3, hv4])
                          | (refine ⟨vI_eq (by first | rfl | omega), _, rfl, XR.yd (upA (upA (upA (upA (cm 1) 11 (cm 1 (64 + 198 * a + 1) / 2)) 12 (cm 1 (64 + 198 * a + 3))) (64 + 198 * a + 1) (cm 1 (64 + 198 * a + 1) - cm 1 (64 + 198 * a + 1) / 2)) (64 + 198 * a + 3) (-1)) hR HX HL HN HS HP ?_ ?_ ?_ ?_ ?_ ?_ ?_ ?_ ?_ ?_ ?_ ?_ ?_⟩
                             · rw [aup_rn (by decide), aup_r, aup_r, aup_r, aup_r]
                             · rw [show (upA (upA (upA (upA (cm 1) 11 (cm 1 (64 + 198 * a + 1) / 2)) 12 (cm 1 (64 + 198 * a + 3))) (64 + 198 * a + 1) (cm 1 (64 + 198 * a + 1) - cm 1 (64 + 198 * a + 1) / 2)) (64 + 198 * a + 3) (-1)) 3 = cm 1 3 by repeat rw [upA_n (by omega)]]
                               refine YR.hfld (k := a) (j := 5) (v := -1) (YR.hfld (k := a) (j := 3) ((HY.up0 (j := 7) (v := 0) hR.1.2 (by decide)).swq (b := cm 1 (64 + 198 * a + 1) / 2) (q := cm 1 (64 + 198 * a + 3)) (fun x j hz => ?_) ?_ (fun _ => ?_)) (by omega) ?_ ?_ (by omega)) (by omega) ?_ ?_ (by omega)
                               · rw [aup_n (fun z => hz ⟨z.1, Or.inl z.2⟩), aup_n (fun z => hz ⟨z.1, Or.inr z.2⟩)]
                               · rw [aup_n (by omega), aup_s]
                               · rw [aup_s]
                               · repeat rw [upA_n (by omega)]
                                 omega
                               · rw [aup_rn nv10, aup_rn nv10, aup_rn nv0]; exact ehv
                               · repeat rw [upA_n (by omega)]
                                 omega
                               · rw [aup_rn nvhv, aup_rn nv10, aup_rn nv10, aup_rn nv0]; exact ehv
                             · intro i hi
                               repeat rw [upA_n (by omega)]
                             · intro k k0 k1
                               repeat rw [upA_n (by omega)]
                             · obtain ⟨q1, q2, q3, q4, q5, q6, q7⟩ := gh
                               refine PI.one HP (k := a) (by omega) (by omega) (fun i hi i1 i2 => ?_) ?_ ?_ ?_ ?_ ?_ ?_ ?_ ?_
                               · repeat rw [upA_n (by omega)]
                               all_goals (repeat (first | rw [upA_s] | rw [upA_n (by omega)]))
                               all_goals omega
                             · repeat (first | exact HF | refine FC.ok (FC.up0 ?_ (by decide)) | refine FC.ok (FC.up1 ?_))
                             · intro x j hx hz
                               have hx1 : x ≠ hv := fun e => hx (by rw [e]; exact ohv)
                               have hx2 : x ≠ 10 := fun e => hx (by rw [e, HY.2.1]; decide)
                               repeat (first | rw [aup_rn hx1] | rw [aup_rn hx2] | rw [aup_n (fun z => hz ⟨z.1, Or.inl z.2⟩)])
                             · repeat rw [aup_n (by omega)]
                             · intro b b0 b1 b9
                               rw [aup_rn b0]
                               repeat rw [aup_rn b1]
                             · intro i hi
                               rw [aup_n (by omega)]
                               repeat rw [aup_rn (by decide)]
                             · repeat rw [aup_n (by omega)]
                               rw [aup_s, aup_s]
                             · repeat rw [aup_n (by omega)]
                               repeat rw [aup_rn (by decide)]
                               exact hv3
                             · repeat rw [aup_n (by omega)]
                               repeat rw [aup_rn (by decide)]
                               exact hv4)
            · first
                | (exfalso; omega)
                | skip
                  refine aw_aload_n dX7_swarm_25 rfl ?_
                  refine aw_iconst dX7_swarm_26 (by decide) ?_
                  refine c_X7_72 rfl dX7_swarm_27 m_ob (Nat.le_of_ble_eq_true rfl) (by omega) (C_m_refuse ?_)
                  refine aK_i ?_
                  refine aw_ireturn dX7_swarm_30 rfl ?_
                  first
                    | (exfalso; omega)
                    | (refine XR.sameE h ?_ ?_ ?_ ?_ ?_ ?_
                       · first
                           | rfl
                           | omega
                       · repeat (first | exact xs.rf | refine xs.up ?_ (by decide))
                       · repeat (first | exact mss.rf | refine mss.up0 ?_ (by decide))
                       · first
                           | (simp [aup, hv2, hv3, hv4]; done)
                           | (simp [aup, hv2, hv3, hv4]; omega)
                       · simp [aup, hv2, hv3, hv4]
                       · simp [aup, hv2, hv3, hv4])
                    | (refine ⟨vI_eq (by first | rfl | omega), _, rfl, XR.yd (upA (upA (upA (upA (cm 1) 11 (cm 1 (64 + 198 * a + 1) / 2)) 12 (cm 1 (64 + 198 * a + 3))) (64 + 198 * a + 1) (cm 1 (64 + 198 * a + 1) - cm 1 (64 + 198 * a + 1) / 2)) (64 + 198 * a + 3) (-1)) hR HX HL HN HS HP ?_ ?_ ?_ ?_ ?_ ?_ ?_ ?_ ?_ ?_ ?_ ?_ ?_⟩
                       · rw [aup_rn (by decide), aup_r, aup_r, aup_r, aup_r]
                       · rw [show (upA (upA (upA (upA (cm 1) 11 (cm 1 (64 + 198 * a + 1) / 2)) 12 (cm 1 (64 + 198 * a + 3))) (64 + 198 * a + 1) (cm 1 (64 + 198 * a + 1) - cm 1 (64 + 198 * a + 1) / 2)) (64 + 198 * a + 3) (-1)) 3 = cm 1 3 by repeat rw [upA_n (by omega)]]
                         refine YR.hfld (k := a) (j := 5) (v := -1) (YR.hfld (k := a) (j := 3) ((HY.up0 (j := 7) (v := 0) hR.1.2 (by decide)).swq (b := cm 1 (64 + 198 * a + 1) / 2) (q := cm 1 (64 + 198 * a + 3)) (fun x j hz => ?_) ?_ (fun _ => ?_)) (by omega) ?_ ?_ (by omega)) (by omega) ?_ ?_ (by omega)
                         · rw [aup_n (fun z => hz ⟨z.1, Or.inl z.2⟩), aup_n (fun z => hz ⟨z.1, Or.inr z.2⟩)]
                         · rw [aup_n (by omega), aup_s]
                         · rw [aup_s]
                         · repeat rw [upA_n (by omega)]
                           omega
                         · rw [aup_rn nv10, aup_rn nv10, aup_rn nv0]; exact ehv
                         · repeat rw [upA_n (by omega)]
                           omega
                         · rw [aup_rn nvhv, aup_rn nv10, aup_rn nv10, aup_rn nv0]; exact ehv
                       · intro i hi
                         repeat rw [upA_n (by omega)]
                       · intro k k0 k1
                         repeat rw [upA_n (by omega)]
                       · obtain ⟨q1, q2, q3, q4, q5, q6, q7⟩ := gh
                         refine PI.one HP (k := a) (by omega) (by omega) (fun i hi i1 i2 => ?_) ?_ ?_ ?_ ?_ ?_ ?_ ?_ ?_
                         · repeat rw [upA_n (by omega)]
                         all_goals (repeat (first | rw [upA_s] | rw [upA_n (by omega)]))
                         all_goals omega
                       · repeat (first | exact HF | refine FC.ok (FC.up0 ?_ (by decide)) | refine FC.ok (FC.up1 ?_))
                       · intro x j hx hz
                         have hx1 : x ≠ hv := fun e => hx (by rw [e]; exact ohv)
                         have hx2 : x ≠ 10 := fun e => hx (by rw [e, HY.2.1]; decide)
                         repeat (first | rw [aup_rn hx1] | rw [aup_rn hx2] | rw [aup_n (fun z => hz ⟨z.1, Or.inl z.2⟩)])
                       · repeat rw [aup_n (by omega)]
                       · intro b b0 b1 b9
                         rw [aup_rn b0]
                         repeat rw [aup_rn b1]
                       · intro i hi
                         rw [aup_n (by omega)]
                         repeat rw [aup_rn (by decide)]
                       · repeat rw [aup_n (by omega)]
                         rw [aup_s, aup_s]
                       · repeat rw [aup_n (by omega)]
                         repeat rw [aup_rn (by decide)]
                         exact hv3
                       · repeat rw [aup_n (by omega)]
                         repeat rw [aup_rn (by decide)]
                         exact hv4)
      · first
          | (exfalso; omega)
          | skip
            refine aK_i ?_
            refine aw_ifne (tgt := 14) dX7_swarm_5 (by decide) (fun h => absurd h (by decide)) (fun _ => ?_)
            refine aw_aload_n dX7_swarm_8 rfl ?_
            refine aw_iconst dX7_swarm_9 (by decide) ?_
            refine c_X7_72 rfl dX7_swarm_10 m_ob (Nat.le_of_ble_eq_true rfl) (by omega) (C_m_refuse ?_)
            refine aK_i ?_
            refine aw_ireturn dX7_swarm_13 rfl ?_
            first
              | (exfalso; omega)
              | (refine XR.sameE h ?_ ?_ ?_ ?_ ?_ ?_
                 · first
                     | rfl
                     | omega
                 · repeat (first | exact xs.rf | refine xs.up ?_ (by decide))
                 · repeat (first | exact mss.rf | refine mss.up0 ?_ (by decide))
                 · first
                     | (simp [aup, hv2, hv3, hv4]; done)
                     | (simp [aup, hv2, hv3, hv4]; omega)
                 · simp [aup, hv2, hv3, hv4]
                 · simp [aup, hv2, hv3, hv4])
              | (refine ⟨vI_eq (by first | rfl | omega), _, rfl, XR.yd (upA (upA (upA (upA (cm 1) 11 (cm 1 (64 + 198 * a + 1) / 2)) 12 (cm 1 (64 + 198 * a + 3))) (64 + 198 * a + 1) (cm 1 (64 + 198 * a + 1) - cm 1 (64 + 198 * a + 1) / 2)) (64 + 198 * a + 3) (-1)) hR HX HL HN HS HP ?_ ?_ ?_ ?_ ?_ ?_ ?_ ?_ ?_ ?_ ?_ ?_ ?_⟩
                 · rw [aup_rn (by decide), aup_r, aup_r, aup_r, aup_r]
                 · rw [show (upA (upA (upA (upA (cm 1) 11 (cm 1 (64 + 198 * a + 1) / 2)) 12 (cm 1 (64 + 198 * a + 3))) (64 + 198 * a + 1) (cm 1 (64 + 198 * a + 1) - cm 1 (64 + 198 * a + 1) / 2)) (64 + 198 * a + 3) (-1)) 3 = cm 1 3 by repeat rw [upA_n (by omega)]]
                   refine YR.hfld (k := a) (j := 5) (v := -1) (YR.hfld (k := a) (j := 3) ((HY.up0 (j := 7) (v := 0) hR.1.2 (by decide)).swq (b := cm 1 (64 + 198 * a + 1) / 2) (q := cm 1 (64 + 198 * a + 3)) (fun x j hz => ?_) ?_ (fun _ => ?_)) (by omega) ?_ ?_ (by omega)) (by omega) ?_ ?_ (by omega)
                   · rw [aup_n (fun z => hz ⟨z.1, Or.inl z.2⟩), aup_n (fun z => hz ⟨z.1, Or.inr z.2⟩)]
                   · rw [aup_n (by omega), aup_s]
                   · rw [aup_s]
                   · repeat rw [upA_n (by omega)]
                     omega
                   · rw [aup_rn nv10, aup_rn nv10, aup_rn nv0]; exact ehv
                   · repeat rw [upA_n (by omega)]
                     omega
                   · rw [aup_rn nvhv, aup_rn nv10, aup_rn nv10, aup_rn nv0]; exact ehv
                 · intro i hi
                   repeat rw [upA_n (by omega)]
                 · intro k k0 k1
                   repeat rw [upA_n (by omega)]
                 · obtain ⟨q1, q2, q3, q4, q5, q6, q7⟩ := gh
                   refine PI.one HP (k := a) (by omega) (by omega) (fun i hi i1 i2 => ?_) ?_ ?_ ?_ ?_ ?_ ?_ ?_ ?_
                   · repeat rw [upA_n (by omega)]
                   all_goals (repeat (first | rw [upA_s] | rw [upA_n (by omega)]))
                   all_goals omega
                 · repeat (first | exact HF | refine FC.ok (FC.up0 ?_ (by decide)) | refine FC.ok (FC.up1 ?_))
                 · intro x j hx hz
                   have hx1 : x ≠ hv := fun e => hx (by rw [e]; exact ohv)
                   have hx2 : x ≠ 10 := fun e => hx (by rw [e, HY.2.1]; decide)
                   repeat (first | rw [aup_rn hx1] | rw [aup_rn hx2] | rw [aup_n (fun z => hz ⟨z.1, Or.inl z.2⟩)])
                 · repeat rw [aup_n (by omega)]
                 · intro b b0 b1 b9
                   rw [aup_rn b0]
                   repeat rw [aup_rn b1]
                 · intro i hi
                   rw [aup_n (by omega)]
                   repeat rw [aup_rn (by decide)]
                 · repeat rw [aup_n (by omega)]
                   rw [aup_s, aup_s]
                 · repeat rw [aup_n (by omega)]
                   repeat rw [aup_rn (by decide)]
                   exact hv3
                 · repeat rw [aup_n (by omega)]
                   repeat rw [aup_rn (by decide)]
                   exact hv4)
  · refine aK_i ?_
    refine aw_ifne (tgt := 13) dX0_swarm_6 (by decide) (fun h => absurd h (by decide)) (fun _ => ?_)
    refine aw_iconst dX0_swarm_9 (by decide) ?_
    refine aw_goto (tgt := 44) dX0_swarm_10 (by decide) ?_
    refine p_X0_73_0 rfl dX0_swarm_44 hR.o0 ?_
    refine aw_aload_n dX0_swarm_47 rfl ?_
    refine g_X0_73_0 rfl dX0_swarm_48 hR.o0 ?_
    repeat (first | rw [aup_s] | rw [aup_n (by omega)])
    refine aw_ifle (tgt := 56) dX0_swarm_51 (by decide) (fun h => absurd h (by decide)) (fun _ => ?_)
    refine aw_iconst dX0_swarm_54 (by decide) ?_
    refine aw_ireturn dX0_swarm_55 rfl ?_
    refine ⟨_, rfl, ?_⟩
    refine AMet.go (L := [some (vR 0), some (vI a), none]) mok_X7_swarm (Nat.le_of_ble_eq_true rfl) rfl ?_
    refine aw_aload_n dX7_swarm_0 rfl ?_
    refine aw_iload_n dX7_swarm_1 rfl ?_
    refine c_X7_274 rfl dX7_swarm_2 m_ob (Nat.le_of_ble_eq_true rfl) (by omega) (C_m_isHive (fun hh => ?_) (fun hh => ?_))
    · first
        | (exfalso; omega)
        | skip
          refine aK_i ?_
          refine aw_ifne (tgt := 14) dX7_swarm_5 (by decide) (fun _ => ?_) (fun h => absurd h (by decide))
          refine gm_7 rfl dX7_swarm_14 dX7_swarm_15 rfl ?_
          refine aw_bipush dX7_swarm_18 (by decide) ?_
          refine aw_iaload dX7_swarm_20 m_a1 (by omega) (by omega) ?_
          refine aw_iconst dX7_swarm_21 (by decide) ?_
          refine aw_icmpeq (tgt := 31) dX7_swarm_22 (by decide) (fun h22 => ?_) (fun h22 => ?_)
          · first
              | (exfalso; omega)
              | skip
                refine aw_aload_n dX7_swarm_31 rfl ?_
                have gh0 := HP.2.2.1 a (by omega) (by omega)
                refine aw_iload_n dX7_swarm_32 rfl ?_
                refine c_X7_334 rfl dX7_swarm_33 m_ob (Nat.le_of_ble_eq_true rfl) (by omega) (C_m_isCrowded (by omega) gh0.1 gh0.2.1 (fun mc => ?_) (fun mc => ?_))
                · first
                    | (exfalso; omega)
                    | skip
                      unfold crw at mc
                      refine aK_i ?_
                      skip
                      refine aw_ifne (tgt := 46) dX7_swarm_36 (by decide) (fun _ => ?_) (fun h => absurd h (by decide))
                      refine aw_iload_n dX7_swarm_46 rfl ?_
                      refine c_X7_217 rfl dX7_swarm_47  (Nat.le_of_ble_eq_true rfl) (by omega) (C_m_hiveRow (by omega) ?_)
                      refine aK_i ?_
                      refine aw_istore2 dX7_swarm_50 (by decide) rfl ?_
                      refine gm_7 rfl dX7_swarm_51 dX7_swarm_52 rfl ?_
                      refine aw_bipush dX7_swarm_55 (by decide) ?_
                      refine gm_7 rfl dX7_swarm_57 dX7_swarm_58 rfl ?_
                      refine aw_iload_n dX7_swarm_61 rfl ?_
                      refine aw_iconst dX7_swarm_62 (by decide) ?_
                      refine aw_iaddr dX7_swarm_63 (by omega) ?_
                      refine aw_iaload dX7_swarm_64 m_a1 (by omega) (by omega) ?_
                      skip
                      refine aw_iconst dX7_swarm_65 (by decide) ?_
                      refine aw_idivr dX7_swarm_66 (by omega) (by omega) ?_
                      refine aw_iastore dX7_swarm_67 m_a1 (by omega) (by omega) ?_
                      refine gm_7 rfl dX7_swarm_68 dX7_swarm_69 rfl ?_
                      refine aw_bipush dX7_swarm_72 (by decide) ?_
                      refine gm_7 rfl dX7_swarm_74 dX7_swarm_75 rfl ?_
                      refine aw_iload_n dX7_swarm_78 rfl ?_
                      refine aw_iconst dX7_swarm_79 (by decide) ?_
                      refine aw_iaddr dX7_swarm_80 (by omega) ?_
                      refine aw_iaload dX7_swarm_81 m_a1 (by omega) (by omega) ?_
                      repeat (first | rw [aup_s] | rw [aup_n (by omega)])
                      refine aw_iastore dX7_swarm_82 m_a1 (by omega) (by omega) ?_
                      refine gm_7 rfl dX7_swarm_83 dX7_swarm_84 rfl ?_
                      refine aw_iload_n dX7_swarm_87 rfl ?_
                      refine aw_iconst dX7_swarm_88 (by decide) ?_
                      refine aw_iaddr dX7_swarm_89 (by omega) ?_
                      refine aw_dup2 dX7_swarm_90 rfl rfl ?_
                      refine aw_iaload dX7_swarm_91 m_a1 (by omega) (by omega) ?_
                      repeat (first | rw [aup_s] | rw [aup_n (by omega)])
                      refine gm_7 rfl dX7_swarm_92 dX7_swarm_93 rfl ?_
                      refine aw_bipush dX7_swarm_96 (by decide) ?_
                      refine aw_iaload dX7_swarm_98 m_a1 (by omega) (by omega) ?_
                      repeat (first | rw [aup_s] | rw [aup_n (by omega)])
                      refine aw_isubr dX7_swarm_99 (by omega) ?_
                      refine aw_iastore dX7_swarm_100 m_a1 (by omega) (by omega) ?_
                      refine gm_7 rfl dX7_swarm_101 dX7_swarm_102 rfl ?_
                      refine aw_iload_n dX7_swarm_105 rfl ?_
                      refine aw_iconst dX7_swarm_106 (by decide) ?_
                      refine aw_iaddr dX7_swarm_107 (by omega) ?_
                      refine aw_iconst dX7_swarm_108 (by decide) ?_
                      refine aw_iastore dX7_swarm_109 m_a1 (by omega) (by omega) ?_
                      refine aw_aload_n dX7_swarm_110 rfl ?_
                      refine gm_7 rfl dX7_swarm_111 dX7_swarm_112 rfl ?_
                      refine aw_bipush dX7_swarm_115 (by decide) ?_
                      refine aw_iaload dX7_swarm_117 m_a1 (by omega) (by omega) ?_
                      repeat (first | rw [aup_s] | rw [aup_n (by omega)])
                      refine c_X7_76 rfl dX7_swarm_118 m_ob (Nat.le_of_ble_eq_true rfl) (by omega) (C_m_gives ?_)
                      refine aK_i ?_
                      refine aw_ireturn dX7_swarm_121 rfl ?_
                      first
                        | (exfalso; omega)
                        | (refine XR.sameE h ?_ ?_ ?_ ?_ ?_ ?_
                           · first
                               | rfl
                               | omega
                           · repeat (first | exact xs.rf | refine xs.up ?_ (by decide))
                           · repeat (first | exact mss.rf | refine mss.up0 ?_ (by decide))
                           · first
                               | (simp [aup, hv2, hv3, hv4]; done)
                               | (simp [aup, hv2, hv3, hv4]; omega)
                           · simp [aup, hv2, hv3, hv4]
                           · simp [aup, hv2, hv3, hv4])
                        | (refine ⟨vI_eq (by first | rfl | omega), _, rfl, XR.yd (upA (upA (upA (upA (cm 1) 11 (cm 1 (64 + 198 * a + 1) / 2)) 12 (cm 1 (64 + 198 * a + 3))) (64 + 198 * a + 1) (cm 1 (64 + 198 * a + 1) - cm 1 (64 + 198 * a + 1) / 2)) (64 + 198 * a + 3) (-1)) hR HX HL HN HS HP ?_ ?_ ?_ ?_ ?_ ?_ ?_ ?_ ?_ ?_ ?_ ?_ ?_⟩
                           · rw [aup_rn (by decide), aup_r, aup_r, aup_r, aup_r]
                           · rw [show (upA (upA (upA (upA (cm 1) 11 (cm 1 (64 + 198 * a + 1) / 2)) 12 (cm 1 (64 + 198 * a + 3))) (64 + 198 * a + 1) (cm 1 (64 + 198 * a + 1) - cm 1 (64 + 198 * a + 1) / 2)) (64 + 198 * a + 3) (-1)) 3 = cm 1 3 by repeat rw [upA_n (by omega)]]
                             refine YR.hfld (k := a) (j := 5) (v := -1) (YR.hfld (k := a) (j := 3) ((HY.up0 (j := 7) (v := 0) hR.1.2 (by decide)).swq (b := cm 1 (64 + 198 * a + 1) / 2) (q := cm 1 (64 + 198 * a + 3)) (fun x j hz => ?_) ?_ (fun _ => ?_)) (by omega) ?_ ?_ (by omega)) (by omega) ?_ ?_ (by omega)
                             · rw [aup_n (fun z => hz ⟨z.1, Or.inl z.2⟩), aup_n (fun z => hz ⟨z.1, Or.inr z.2⟩)]
                             · rw [aup_n (by omega), aup_s]
                             · rw [aup_s]
                             · repeat rw [upA_n (by omega)]
                               omega
                             · rw [aup_rn nv10, aup_rn nv10, aup_rn nv0]; exact ehv
                             · repeat rw [upA_n (by omega)]
                               omega
                             · rw [aup_rn nvhv, aup_rn nv10, aup_rn nv10, aup_rn nv0]; exact ehv
                           · intro i hi
                             repeat rw [upA_n (by omega)]
                           · intro k k0 k1
                             repeat rw [upA_n (by omega)]
                           · obtain ⟨q1, q2, q3, q4, q5, q6, q7⟩ := gh
                             refine PI.one HP (k := a) (by omega) (by omega) (fun i hi i1 i2 => ?_) ?_ ?_ ?_ ?_ ?_ ?_ ?_ ?_
                             · repeat rw [upA_n (by omega)]
                             all_goals (repeat (first | rw [upA_s] | rw [upA_n (by omega)]))
                             all_goals omega
                           · repeat (first | exact HF | refine FC.ok (FC.up0 ?_ (by decide)) | refine FC.ok (FC.up1 ?_))
                           · intro x j hx hz
                             have hx1 : x ≠ hv := fun e => hx (by rw [e]; exact ohv)
                             have hx2 : x ≠ 10 := fun e => hx (by rw [e, HY.2.1]; decide)
                             repeat (first | rw [aup_rn hx1] | rw [aup_rn hx2] | rw [aup_n (fun z => hz ⟨z.1, Or.inl z.2⟩)])
                           · repeat rw [aup_n (by omega)]
                           · intro b b0 b1 b9
                             rw [aup_rn b0]
                             repeat rw [aup_rn b1]
                           · intro i hi
                             rw [aup_n (by omega)]
                             repeat rw [aup_rn (by decide)]
                           · repeat rw [aup_n (by omega)]
                             rw [aup_s, aup_s]
                           · repeat rw [aup_n (by omega)]
                             repeat rw [aup_rn (by decide)]
                             exact hv3
                           · repeat rw [aup_n (by omega)]
                             repeat rw [aup_rn (by decide)]
                             exact hv4)
                · first
                    | (exfalso; omega)
                    | skip
                      unfold crw at mc
                      refine aK_i ?_
                      skip
                      refine aw_ifne (tgt := 46) dX7_swarm_36 (by decide) (fun h => absurd h (by decide)) (fun _ => ?_)
                      refine aw_aload_n dX7_swarm_39 rfl ?_
                      refine aw_bipush dX7_swarm_40 (by decide) ?_
                      refine c_X7_72 rfl dX7_swarm_42 m_ob (Nat.le_of_ble_eq_true rfl) (by omega) (C_m_refuse ?_)
                      refine aK_i ?_
                      refine aw_ireturn dX7_swarm_45 rfl ?_
                      first
                        | (exfalso; omega)
                        | (refine XR.sameE h ?_ ?_ ?_ ?_ ?_ ?_
                           · first
                               | rfl
                               | omega
                           · repeat (first | exact xs.rf | refine xs.up ?_ (by decide))
                           · repeat (first | exact mss.rf | refine mss.up0 ?_ (by decide))
                           · first
                               | (simp [aup, hv2, hv3, hv4]; done)
                               | (simp [aup, hv2, hv3, hv4]; omega)
                           · simp [aup, hv2, hv3, hv4]
                           · simp [aup, hv2, hv3, hv4])
                        | (refine ⟨vI_eq (by first | rfl | omega), _, rfl, XR.yd (upA (upA (upA (upA (cm 1) 11 (cm 1 (64 + 198 * a + 1) / 2)) 12 (cm 1 (64 + 198 * a + 3))) (64 + 198 * a + 1) (cm 1 (64 + 198 * a + 1) - cm 1 (64 + 198 * a + 1) / 2)) (64 + 198 * a + 3) (-1)) hR HX HL HN HS HP ?_ ?_ ?_ ?_ ?_ ?_ ?_ ?_ ?_ ?_ ?_ ?_ ?_⟩
                           · rw [aup_rn (by decide), aup_r, aup_r, aup_r, aup_r]
                           · rw [show (upA (upA (upA (upA (cm 1) 11 (cm 1 (64 + 198 * a + 1) / 2)) 12 (cm 1 (64 + 198 * a + 3))) (64 + 198 * a + 1) (cm 1 (64 + 198 * a + 1) - cm 1 (64 + 198 * a + 1) / 2)) (64 + 198 * a + 3) (-1)) 3 = cm 1 3 by repeat rw [upA_n (by omega)]]
                             refine YR.hfld (k := a) (j := 5) (v := -1) (YR.hfld (k := a) (j := 3) ((HY.up0 (j := 7) (v := 0) hR.1.2 (by decide)).swq (b := cm 1 (64 + 198 * a + 1) / 2) (q := cm 1 (64 + 198 * a + 3)) (fun x j hz => ?_) ?_ (fun _ => ?_)) (by omega) ?_ ?_ (by omega)) (by omega) ?_ ?_ (by omega)
                             · rw [aup_n (fun z => hz ⟨z.1, Or.inl z.2⟩), aup_n (fun z => hz ⟨z.1, Or.inr z.2⟩)]
                             · rw [aup_n (by omega), aup_s]
                             · rw [aup_s]
                             · repeat rw [upA_n (by omega)]
                               omega
                             · rw [aup_rn nv10, aup_rn nv10, aup_rn nv0]; exact ehv
                             · repeat rw [upA_n (by omega)]
                               omega
                             · rw [aup_rn nvhv, aup_rn nv10, aup_rn nv10, aup_rn nv0]; exact ehv
                           · intro i hi
                             repeat rw [upA_n (by omega)]
                           · intro k k0 k1
                             repeat rw [upA_n (by omega)]
                           · obtain ⟨q1, q2, q3, q4, q5, q6, q7⟩ := gh
                             refine PI.one HP (k := a) (by omega) (by omega) (fun i hi i1 i2 => ?_) ?_ ?_ ?_ ?_ ?_ ?_ ?_ ?_
                             · repeat rw [upA_n (by omega)]
                             all_goals (repeat (first | rw [upA_s] | rw [upA_n (by omega)]))
                             all_goals omega
                           · repeat (first | exact HF | refine FC.ok (FC.up0 ?_ (by decide)) | refine FC.ok (FC.up1 ?_))
                           · intro x j hx hz
                             have hx1 : x ≠ hv := fun e => hx (by rw [e]; exact ohv)
                             have hx2 : x ≠ 10 := fun e => hx (by rw [e, HY.2.1]; decide)
                             repeat (first | rw [aup_rn hx1] | rw [aup_rn hx2] | rw [aup_n (fun z => hz ⟨z.1, Or.inl z.2⟩)])
                           · repeat rw [aup_n (by omega)]
                           · intro b b0 b1 b9
                             rw [aup_rn b0]
                             repeat rw [aup_rn b1]
                           · intro i hi
                             rw [aup_n (by omega)]
                             repeat rw [aup_rn (by decide)]
                           · repeat rw [aup_n (by omega)]
                             rw [aup_s, aup_s]
                           · repeat rw [aup_n (by omega)]
                             repeat rw [aup_rn (by decide)]
                             exact hv3
                           · repeat rw [aup_n (by omega)]
                             repeat rw [aup_rn (by decide)]
                             exact hv4)
          · first
              | (exfalso; omega)
              | skip
                refine aw_aload_n dX7_swarm_25 rfl ?_
                refine aw_iconst dX7_swarm_26 (by decide) ?_
                refine c_X7_72 rfl dX7_swarm_27 m_ob (Nat.le_of_ble_eq_true rfl) (by omega) (C_m_refuse ?_)
                refine aK_i ?_
                refine aw_ireturn dX7_swarm_30 rfl ?_
                first
                  | (exfalso; omega)
                  | (refine XR.sameE h ?_ ?_ ?_ ?_ ?_ ?_
                     · first
                         | rfl
                         | omega
                     · repeat (first | exact xs.rf | refine xs.up ?_ (by decide))
                     · repeat (first | exact mss.rf | refine mss.up0 ?_ (by decide))
                     · first
                         | (simp [aup, hv2, hv3, hv4]; done)
                         | (simp [aup, hv2, hv3, hv4]; omega)
                     · simp [aup, hv2, hv3, hv4]
                     · simp [aup, hv2, hv3, hv4])
                  | (refine ⟨vI_eq (by first | rfl | omega), _, rfl, XR.yd (upA (upA (upA (upA (cm 1) 11 (cm 1 (64 + 198 * a + 1) / 2)) 12 (cm 1 (64 + 198 * a + 3))) (64 + 198 * a + 1) (cm 1 (64 + 198 * a + 1) - cm 1 (64 + 198 * a + 1) / 2)) (64 + 198 * a + 3) (-1)) hR HX HL HN HS HP ?_ ?_ ?_ ?_ ?_ ?_ ?_ ?_ ?_ ?_ ?_ ?_ ?_⟩
                     · rw [aup_rn (by decide), aup_r, aup_r, aup_r, aup_r]
                     · rw [show (upA (upA (upA (upA (cm 1) 11 (cm 1 (64 + 198 * a + 1) / 2)) 12 (cm 1 (64 + 198 * a + 3))) (64 + 198 * a + 1) (cm 1 (64 + 198 * a + 1) - cm 1 (64 + 198 * a + 1) / 2)) (64 + 198 * a + 3) (-1)) 3 = cm 1 3 by repeat rw [upA_n (by omega)]]
                       refine YR.hfld (k := a) (j := 5) (v := -1) (YR.hfld (k := a) (j := 3) ((HY.up0 (j := 7) (v := 0) hR.1.2 (by decide)).swq (b := cm 1 (64 + 198 * a + 1) / 2) (q := cm 1 (64 + 198 * a + 3)) (fun x j hz => ?_) ?_ (fun _ => ?_)) (by omega) ?_ ?_ (by omega)) (by omega) ?_ ?_ (by omega)
                       · rw [aup_n (fun z => hz ⟨z.1, Or.inl z.2⟩), aup_n (fun z => hz ⟨z.1, Or.inr z.2⟩)]
                       · rw [aup_n (by omega), aup_s]
                       · rw [aup_s]
                       · repeat rw [upA_n (by omega)]
                         omega
                       · rw [aup_rn nv10, aup_rn nv10, aup_rn nv0]; exact ehv
                       · repeat rw [upA_n (by omega)]
                         omega
                       · rw [aup_rn nvhv, aup_rn nv10, aup_rn nv10, aup_rn nv0]; exact ehv
                     · intro i hi
                       repeat rw [upA_n (by omega)]
                     · intro k k0 k1
                       repeat rw [upA_n (by omega)]
                     · obtain ⟨q1, q2, q3, q4, q5, q6, q7⟩ := gh
                       refine PI.one HP (k := a) (by omega) (by omega) (fun i hi i1 i2 => ?_) ?_ ?_ ?_ ?_ ?_ ?_ ?_ ?_
                       · repeat rw [upA_n (by omega)]
                       all_goals (repeat (first | rw [upA_s] | rw [upA_n (by omega)]))
                       all_goals omega
                     · repeat (first | exact HF | refine FC.ok (FC.up0 ?_ (by decide)) | refine FC.ok (FC.up1 ?_))
                     · intro x j hx hz
                       have hx1 : x ≠ hv := fun e => hx (by rw [e]; exact ohv)
                       have hx2 : x ≠ 10 := fun e => hx (by rw [e, HY.2.1]; decide)
                       repeat (first | rw [aup_rn hx1] | rw [aup_rn hx2] | rw [aup_n (fun z => hz ⟨z.1, Or.inl z.2⟩)])
                     · repeat rw [aup_n (by omega)]
                     · intro b b0 b1 b9
                       rw [aup_rn b0]
                       repeat rw [aup_rn b1]
                     · intro i hi
                       rw [aup_n (by omega)]
                       repeat rw [aup_rn (by decide)]
                     · repeat rw [aup_n (by omega)]
                       rw [aup_s, aup_s]
                     · repeat rw [aup_n (by omega)]
                       repeat rw [aup_rn (by decide)]
                       exact hv3
                     · repeat rw [aup_n (by omega)]
                       repeat rw [aup_rn (by decide)]
                       exact hv4)
    · first
        | (exfalso; omega)
        | skip
          refine aK_i ?_
          refine aw_ifne (tgt := 14) dX7_swarm_5 (by decide) (fun h => absurd h (by decide)) (fun _ => ?_)
          refine aw_aload_n dX7_swarm_8 rfl ?_
          refine aw_iconst dX7_swarm_9 (by decide) ?_
          refine c_X7_72 rfl dX7_swarm_10 m_ob (Nat.le_of_ble_eq_true rfl) (by omega) (C_m_refuse ?_)
          refine aK_i ?_
          refine aw_ireturn dX7_swarm_13 rfl ?_
          first
            | (exfalso; omega)
            | (refine XR.sameE h ?_ ?_ ?_ ?_ ?_ ?_
               · first
                   | rfl
                   | omega
               · repeat (first | exact xs.rf | refine xs.up ?_ (by decide))
               · repeat (first | exact mss.rf | refine mss.up0 ?_ (by decide))
               · first
                   | (simp [aup, hv2, hv3, hv4]; done)
                   | (simp [aup, hv2, hv3, hv4]; omega)
               · simp [aup, hv2, hv3, hv4]
               · simp [aup, hv2, hv3, hv4])
            | (refine ⟨vI_eq (by first | rfl | omega), _, rfl, XR.yd (upA (upA (upA (upA (cm 1) 11 (cm 1 (64 + 198 * a + 1) / 2)) 12 (cm 1 (64 + 198 * a + 3))) (64 + 198 * a + 1) (cm 1 (64 + 198 * a + 1) - cm 1 (64 + 198 * a + 1) / 2)) (64 + 198 * a + 3) (-1)) hR HX HL HN HS HP ?_ ?_ ?_ ?_ ?_ ?_ ?_ ?_ ?_ ?_ ?_ ?_ ?_⟩
               · rw [aup_rn (by decide), aup_r, aup_r, aup_r, aup_r]
               · rw [show (upA (upA (upA (upA (cm 1) 11 (cm 1 (64 + 198 * a + 1) / 2)) 12 (cm 1 (64 + 198 * a + 3))) (64 + 198 * a + 1) (cm 1 (64 + 198 * a + 1) - cm 1 (64 + 198 * a + 1) / 2)) (64 + 198 * a + 3) (-1)) 3 = cm 1 3 by repeat rw [upA_n (by omega)]]
                 refine YR.hfld (k := a) (j := 5) (v := -1) (YR.hfld (k := a) (j := 3) ((HY.up0 (j := 7) (v := 0) hR.1.2 (by decide)).swq (b := cm 1 (64 + 198 * a + 1) / 2) (q := cm 1 (64 + 198 * a + 3)) (fun x j hz => ?_) ?_ (fun _ => ?_)) (by omega) ?_ ?_ (by omega)) (by omega) ?_ ?_ (by omega)
                 · rw [aup_n (fun z => hz ⟨z.1, Or.inl z.2⟩), aup_n (fun z => hz ⟨z.1, Or.inr z.2⟩)]
                 · rw [aup_n (by omega), aup_s]
                 · rw [aup_s]
                 · repeat rw [upA_n (by omega)]
                   omega
                 · rw [aup_rn nv10, aup_rn nv10, aup_rn nv0]; exact ehv
                 · repeat rw [upA_n (by omega)]
                   omega
                 · rw [aup_rn nvhv, aup_rn nv10, aup_rn nv10, aup_rn nv0]; exact ehv
               · intro i hi
                 repeat rw [upA_n (by omega)]
               · intro k k0 k1
                 repeat rw [upA_n (by omega)]
               · obtain ⟨q1, q2, q3, q4, q5, q6, q7⟩ := gh
                 refine PI.one HP (k := a) (by omega) (by omega) (fun i hi i1 i2 => ?_) ?_ ?_ ?_ ?_ ?_ ?_ ?_ ?_
                 · repeat rw [upA_n (by omega)]
                 all_goals (repeat (first | rw [upA_s] | rw [upA_n (by omega)]))
                 all_goals omega
               · repeat (first | exact HF | refine FC.ok (FC.up0 ?_ (by decide)) | refine FC.ok (FC.up1 ?_))
               · intro x j hx hz
                 have hx1 : x ≠ hv := fun e => hx (by rw [e]; exact ohv)
                 have hx2 : x ≠ 10 := fun e => hx (by rw [e, HY.2.1]; decide)
                 repeat (first | rw [aup_rn hx1] | rw [aup_rn hx2] | rw [aup_n (fun z => hz ⟨z.1, Or.inl z.2⟩)])
               · repeat rw [aup_n (by omega)]
               · intro b b0 b1 b9
                 rw [aup_rn b0]
                 repeat rw [aup_rn b1]
               · intro i hi
                 rw [aup_n (by omega)]
                 repeat rw [aup_rn (by decide)]
               · repeat rw [aup_n (by omega)]
                 rw [aup_s, aup_s]
               · repeat rw [aup_n (by omega)]
                 repeat rw [aup_rn (by decide)]
                 exact hv3
               · repeat rw [aup_n (by omega)]
                 repeat rw [aup_rn (by decide)]
                 exact hv4)
