set_option maxRecDepth 100000
/-! operations, 27: odds, the end -/
theorem OP_odds {sz : Int} {im : Int → aIm} {ct cm : Int → Int → Int} (h : XR (sz, im, ct) cm) {a b c e : Int} (r0 : -2147483648 ≤ a ∧ a < 2147483648) (r1 : -2147483648 ≤ b ∧ b < 2147483648) (r2 : -2147483648 ≤ c ∧ c < 2147483648) (r3 : -2147483648 ≤ e ∧ e < 2147483648)  : AMet md_X0_odds 29 305 4575 [vR 0, vI a, vI b, vI c, vI e] (sz, im, ct) (XQ md_X7_odds 11 [vR 0, vI a, vI b, vI c, vI e] cm) := by
  obtain ⟨own, N, hR, HY, HL, HN, HS, HP, HF, HX, hv2, hv3, hv4⟩ := id h
  dsimp only at hR HY HL HS HX hv2 hv3 hv4
  have hp0 := HP.1
  have hp3 := HP.2.1
  have hpq := HP.2.2.2.1.1
  have hps := HP.2.2.2.2.2
  have hse : -1 ≤ ct 9 1 ∧ ((ct 9 1 = -1 ∧ cm 1 10 = -1) ∨ (0 ≤ ct 9 1 ∧ 0 ≤ cm 1 10)) := by
    rcases HS with z | z
    · omega
    · have z1 := z.1.1
      have z2 := z.2.2.1
      omega
  have hsz0 : 30 ≤ sz := by have := hR.a29.2.1; omega
  have hsw : sEq (cm 1) (cpR 0 6150 860 (cm 1)) := fun i i0 i1 => by unfold cpR; exact if_neg (by omega)
  have hsv : ∀ i, 0 ≤ i → i < 860 → (cpR 0 6150 860 (cm 1)) (6150 + i) = (cpR 0 6150 860 (cm 1)) i := fun i i0 i1 => by
    unfold cpR
    rw [if_pos (by omega), if_neg (by omega)]
    congr 1; omega
  have TX0 : TG own own sz sz im im ct (aup ct 0 7 0) (fun t => t = -2) := ⟨Int.le_refl _, fun _ _ => rfl, fun x hx hf => aup_rn (fun z => hf (by rw [z]; exact hR.1.2)), fun _ _ _ => rfl⟩
  refine AMet.go (L := [some (vR 0), some (vI a), some (vI b), some (vI c), some (vI e), none, none]) mok_X0_odds (Nat.le_of_ble_eq_true rfl) rfl ?_
  refine aw_aload_n dX0_odds_0 rfl ?_
  refine aw_aload_n dX0_odds_1 rfl ?_
  refine aw_iload_n dX0_odds_2 rfl ?_
  refine c_X0_168 rfl dX0_odds_3 hR.o0 (Nat.le_of_ble_eq_true rfl) (by omega) (C_x_isHive hR HY (fun xh => ?_) (fun xh => ?_))
  · refine aK_i ?_
    refine aw_ifeq (tgt := 52) dX0_odds_6 (by decide) (fun h => absurd h (by decide)) (fun _ => ?_)
    refine aw_iload_n dX0_odds_9 rfl ?_
    refine aw_i2l dX0_odds_10 ?_
    refine aw_lconst0 dX0_odds_11 ?_
    refine aw_ldc2 (x := 9999) dX0_odds_12 q1100 (by decide) ?_
    refine c_X0_164 rfl dX0_odds_15  (Nat.le_of_ble_eq_true rfl) (by omega) (C_x_isIn (fun hi => ?_) (fun hi => ?_))
    · refine aK_i ?_
      refine aw_ifeq (tgt := 52) dX0_odds_18 (by decide) (fun h => absurd h (by decide)) (fun _ => ?_)
      refine aw_iload dX0_odds_21 rfl ?_
      refine aw_i2l dX0_odds_23 ?_
      refine aw_lconst1 dX0_odds_24 ?_
      refine aw_ldc2 (x := 5) dX0_odds_25 q1413 (by decide) ?_
      refine c_X0_164 rfl dX0_odds_28  (Nat.le_of_ble_eq_true rfl) (by omega) (C_x_isIn (fun hi => ?_) (fun hi => ?_))
      · refine aK_i ?_
        refine aw_ifeq (tgt := 52) dX0_odds_31 (by decide) (fun h => absurd h (by decide)) (fun _ => ?_)
        refine aw_iload_n dX0_odds_34 rfl ?_
        refine aw_i2l dX0_odds_35 ?_
        refine aw_lconst0 dX0_odds_36 ?_
        refine aw_sipush dX0_odds_37 (by decide) ?_
        refine aw_iload dX0_odds_40 rfl ?_
        refine aw_isubr dX0_odds_42 (by omega) ?_
        refine aw_iconst dX0_odds_43 (by decide) ?_
        refine aw_iaddr dX0_odds_44 (by omega) ?_
        refine aw_i2l dX0_odds_45 ?_
        refine c_X0_164 rfl dX0_odds_46  (Nat.le_of_ble_eq_true rfl) (by omega) (C_x_isIn (fun hi => ?_) (fun hi => ?_))
        · refine aK_i ?_
          refine aw_ifne (tgt := 56) dX0_odds_49 (by decide) (fun _ => ?_) (fun h => absurd h (by decide))
          refine aw_aload_n dX0_odds_56 rfl ?_
          refine g_X0_55_0 rfl dX0_odds_57 hR.o0 ?_
          rw [hR.e9]
          refine g_X0_218_4 rfl dX0_odds_60 hR.o9 ?_
          refine aw_ifnonnull (tgt := 71) dX0_odds_63 (by decide) (by omega) (fun h63 => ?_) (fun h63 => ?_)
          · refine aw_iconst dX0_odds_71 (by decide) ?_
            refine p_X0_73_0 rfl dX0_odds_72 hR.o0 ?_
            refine aw_aload_n dX0_odds_75 rfl ?_
            refine g_X0_73_0 rfl dX0_odds_76 hR.o0 ?_
            repeat (first | rw [aup_s] | rw [aup_n (by omega)])
            refine aw_ifle (tgt := 84) dX0_odds_79 (by decide) (fun _ => ?_) (fun h => absurd h (by decide))
            refine aw_iconst dX0_odds_84 (by decide) ?_
            refine aw_istore5 dX0_odds_85 (by decide) rfl ?_
            refine aw_iconst dX0_odds_87 (by decide) ?_
            refine aw_istore6 dX0_odds_88 (by decide) rfl ?_
            obtain ⟨-, -, ⟨s5, dd5, N5, hX5⟩, -⟩ := id HX
            have HP1 := HP.sEq hsw
            have e0 := hsw 0 (by decide) (by decide)
            have HY1 := ((HY.up0 (j := 7) (v := 0) hR.1.2 (by decide)).sEq hsw rfl)
            have HL1 := (LR.tg TX0 (by decide) HL).sEq hsw
            have HS1 := (SE.tg TX0 (by decide) HS).sEq hsw hp0
            have hB1 := HS1.blk (by omega)
            rw [show ct 9 1 = aup ct 0 7 0 9 1 from (aup_n (by omega)).symm] at HS1
            rw [show ct 10 0 = aup ct 0 7 0 10 0 from (aup_n (by omega)).symm] at HL1
            refine AW.widen (kc' := 61 * e.toNat + 0) (ks' := 915 * e.toNat + 0) (by omega) (by omega) ?_
            refine L_x_odds (s := (cpR 0 6150 860 (cm 1))) (N := N) (by omega) (hR.up0 (j := 7) (v := 0)) HY1 HL1 HS1 (by rw [aup_n (by omega)]; omega) HP1 (by omega) (by omega) (by omega) (fun own2 sz2 im2 ct2 T2 hA2 => ?_) e.toNat 0 own sz im (aup ct 0 7 0) (by omega) (by decide) TG.rf ⟨s5, dd5, N5, hX5.up0 (j := 7) (v := 0) hR.1.2 (by decide)⟩
            have ob := oddF_bd (s := (cpR 0 6150 860 (cm 1))) (a := a) (b := b) (sd := c) (k := e.toNat)
            have hm2 : ∀ t, t < 0 → ¬ tgY 4 t := fun t ht => tgY_m (by decide) ht
            have h02 : ∀ x, x < sz → own x = -2 → own2 x = -2 := fun x hx h => by rw [T2.2.2.2 x hx (by rw [h]; exact hm2 _ (by decide)), h]
            have hR2 : RT own2 sz2 im2 ct2 := RT.tg T2 h02 (fun t _ _ => by rw [T2.2.2.1 1 hR.2.2.1.1.2.1 (by rw [hR.2.2.1.2.1]; exact hm2 _ (by decide))]) (hR.up0 (j := 7) (v := 0))
            refine aw_aload_n dX0_odds_165 rfl ?_
            refine aw_iload dX0_odds_166 rfl ?_
            refine aw_i2l dX0_odds_168 ?_
            refine aw_iload dX0_odds_169 rfl ?_
            refine aw_i2l dX0_odds_171 ?_
            refine c_X0_378 rfl dX0_odds_172 hR2.o0 (Nat.le_of_ble_eq_true rfl) (by omega) (C_x_fraction hR2 (by omega) (by omega) (fun v9 => ?_))
            refine aK_i ?_
            refine aw_pop dX0_odds_175 rfl ?_
            refine aw_iconst dX0_odds_176 (by decide) ?_
            refine aw_zreturn dX0_odds_177 rfl (Or.inr rfl) ?_
            refine ⟨_, rfl, ?_⟩
            refine AMet.go (L := [some (vR 0), some (vI a), some (vI b), some (vI c), some (vI e), none, none, none]) mok_X7_odds (Nat.le_of_ble_eq_true rfl) rfl ?_
            refine aw_aload_n dX7_odds_0 rfl ?_
            refine aw_iload_n dX7_odds_1 rfl ?_
            refine c_X7_274 rfl dX7_odds_2 m_ob (Nat.le_of_ble_eq_true rfl) (by omega) (C_m_isHive (fun hh => ?_) (fun hh => ?_))
            · first
                | (exfalso; omega)
                | skip
                  refine aK_i ?_
                  refine aw_ifeq (tgt := 57) dX7_odds_5 (by decide) (fun h => absurd h (by decide)) (fun _ => ?_)
                  refine aw_iload_n dX7_odds_8 rfl ?_
                  refine aw_i2l dX7_odds_9 ?_
                  refine aw_lconst0 dX7_odds_10 ?_
                  refine aw_ldc2 (x := 9999) dX7_odds_11 q1843 (by decide) ?_
                  refine c_X7_306 rfl dX7_odds_14  (Nat.le_of_ble_eq_true rfl) (by omega) (C_m_isFrom (fun hfr => ?_) (fun hfr => ?_))
                  · first
                      | (exfalso; omega)
                      | skip
                        refine aK_i ?_
                        refine aw_ifeq (tgt := 57) dX7_odds_17 (by decide) (fun h => absurd h (by decide)) (fun _ => ?_)
                        refine aw_iload_n dX7_odds_20 rfl ?_
                        refine aw_i2l dX7_odds_21 ?_
                        refine aw_lconst0 dX7_odds_22 ?_
                        refine aw_ldc2 (x := 9999) dX7_odds_23 q1843 (by decide) ?_
                        refine c_X7_306 rfl dX7_odds_26  (Nat.le_of_ble_eq_true rfl) (by omega) (C_m_isFrom (fun hfr => ?_) (fun hfr => ?_))
                        · first
                            | (exfalso; omega)
                            | skip
                              refine aK_i ?_
                              refine aw_ifeq (tgt := 57) dX7_odds_29 (by decide) (fun h => absurd h (by decide)) (fun _ => ?_)
                              refine aw_iload dX7_odds_32 rfl ?_
                              refine aw_i2l dX7_odds_34 ?_
                              refine aw_lconst1 dX7_odds_35 ?_
                              refine aw_ldc2 (x := 5) dX7_odds_36 q2064 (by decide) ?_
                              refine c_X7_306 rfl dX7_odds_39  (Nat.le_of_ble_eq_true rfl) (by omega) (C_m_isFrom (fun hfr => ?_) (fun hfr => ?_))
                              · first
                                  | (exfalso; omega)
                                  | skip
                                    refine aK_i ?_
                                    refine aw_ifeq (tgt := 57) dX7_odds_42 (by decide) (fun h => absurd h (by decide)) (fun _ => ?_)
                                    refine aw_iload_n dX7_odds_45 rfl ?_
                                    refine aw_iload dX7_odds_46 rfl ?_
                                    refine aw_iaddr dX7_odds_48 (by omega) ?_
                                    refine aw_iconst dX7_odds_49 (by decide) ?_
                                    refine aw_isubr dX7_odds_50 (by omega) ?_
                                    refine aw_sipush dX7_odds_51 (by decide) ?_
                                    refine aw_icmple (tgt := 63) dX7_odds_54 (by decide) (fun h54 => ?_) (fun h54 => ?_)
                                    · first
                                        | (exfalso; omega)
                                        | skip
                                          refine gm_7 rfl dX7_odds_63 dX7_odds_64 rfl ?_
                                          refine aw_bipush dX7_odds_67 (by decide) ?_
                                          refine aw_iaload dX7_odds_69 m_a1 (by omega) (by omega) ?_
                                          refine aw_iconst dX7_odds_70 (by decide) ?_
                                          refine aw_icmpne (tgt := 81) dX7_odds_71 (by decide) (fun h71 => ?_) (fun h71 => ?_)
                                          · first
                                              | (exfalso; omega)
                                              | skip
                                                refine aw_iconst dX7_odds_81 (by decide) ?_
                                                refine aw_istore5 dX7_odds_82 (by decide) rfl ?_
                                                refine L_m_od84 (ct := cm) (fun cm2 f1 f3 => ?_) 860 0 cm (by decide) (cpR_0 (f := 0) (t := 6150) (s := cm 1)).symm (fun _ _ => rfl)
                                                refine aw_iconst dX7_odds_116 (by decide) ?_
                                                refine aw_istore5 dX7_odds_117 (by decide) rfl ?_
                                                refine aw_iconst dX7_odds_119 (by decide) ?_
                                                refine aw_istore6 dX7_odds_120 (by decide) rfl ?_
                                                refine L_m_odds (s := (cpR 0 6150 860 (cm 1))) (by omega) hB1.1 HP1 hsv (by omega) (by omega) (by omega) (fun cm3 e9 hM => ?_) e.toNat 0 cm2 none (by omega) (by decide) ⟨HF.eq (by rw [f3 0 (by decide)]) (f3 9 (by decide)), f1, fun b b0 b1 _ _ _ => f3 b b1, fun i _ _ _ _ _ _ => by rw [f3 0 (by decide)]⟩
                                                refine aw_aload_n dX7_odds_201 rfl ?_
                                                refine aw_iload dX7_odds_202 rfl ?_
                                                refine aw_i2l dX7_odds_204 ?_
                                                refine aw_iload dX7_odds_205 rfl ?_
                                                refine aw_i2l dX7_odds_207 ?_
                                                refine c_X7_354 rfl dX7_odds_208 m_ob (Nat.le_of_ble_eq_true rfl) (by omega) (C_m_tellsBy (by omega) (by omega) ?_)
                                                refine aK_i ?_
                                                refine aw_zreturn dX7_odds_211 rfl (by omega) ?_
                                                obtain ⟨hM1, hM2, hM3, hM4⟩ := id hM
                                                obtain ⟨-, -, -, ⟨-, -, -, -, ks5, ks6⟩, -, ks7⟩ := id HX
                                                have cr : ∀ x j, x < sz → ¬ (x = 0 ∧ (j = 7 ∨ j = 8 ∨ j = 9 ∨ j = 15)) → ¬ tgY 4 (own x) → aup (aup ct2 0 8 (oddF (cpR 0 6150 860 (cm 1)) a b c e.toNat / gq (oddF (cpR 0 6150 860 (cm 1)) a b c e.toNat) e)) 0 9 (e / gq (oddF (cpR 0 6150 860 (cm 1)) a b c e.toNat) e) x j = ct x j := fun x j hx hn ht => by
                                                  rw [aup_n (by omega), aup_n (by omega), T2.2.2.1 x hx ht, aup_n (by omega)]
                                                have TX : TG own own2 sz sz2 im im2 ct (aup (aup ct2 0 8 (oddF (cpR 0 6150 860 (cm 1)) a b c e.toNat / gq (oddF (cpR 0 6150 860 (cm 1)) a b c e.toNat) e)) 0 9 (e / gq (oddF (cpR 0 6150 860 (cm 1)) a b c e.toNat) e)) (fun t => t = -2 ∨ tgY 4 t) := ⟨T2.1, T2.2.1, fun x hx hf => funext fun j => cr x j hx (fun z => hf (Or.inl (by rw [z.1]; exact hR.1.2))) (fun z => hf (Or.inr z)), fun x hx hf => T2.2.2.2 x hx (fun z => hf (Or.inr z))⟩
                                                have n1 : ∀ t, 10 ≤ t → t < 40 → ¬ (t = -2 ∨ tgY 4 t) := fun t t0 t1 z => by rcases z with z | ⟨z1, z2⟩ <;> omega
                                                have n2 : ∀ t, 0 ≤ t → t < 10 → ¬ (t = -2 ∨ tgY 4 t) := fun t t0 t1 z => by rcases z with z | ⟨z1, z2⟩ <;> omega
                                                have e8 : ∀ v w, aup (aup (aup cm3 0 3 v) 0 4 w) 0 2 0 1 = (cpR 0 6150 860 (cm 1)) := fun v w => by rw [aup_rn (by decide), aup_rn (by decide), aup_rn (by decide)]; exact hM2
                                                refine ⟨rfl, _, rfl, XR.gen hR HN HS HX hp0 TX (fun z => by rcases z with z | ⟨z1, z2⟩ <;> omega) (fun t t0 t1 z => by rcases z with z | ⟨z1, z2⟩ <;> omega) n1 h02 (fun x j hx h2 h3 h4 => cr x j hx h3 (by rw [h2]; exact hm2 _ (by decide))) ?_ ?_ ?_ ?_ ?_ ?_ (fun b b0 b1 b9 b11 b12 b13 => ?_) (fun i hi => ?_) ⟨?_, ?_⟩ (fun j j0 j1 => ?_) ?_ ?_ ?_⟩
                                                · rw [e8]; exact (YR.tg TX (fun t t0 t1 => n2 t (by omega) (by omega)) HY).sEq hsw rfl
                                                · rw [e8, cr 10 0 HY.1.2.1 (by omega) (by rw [HY.2.1]; exact fun z => by have z1 := z.1; omega)]; exact (LR.tg TX (fun z => by rcases z with z | ⟨z1, z2⟩ <;> omega) HL).sEq hsw
                                                · rw [e8]; exact ⟨fun i hi => by unfold cpR; exact if_neg (by omega), fun k k0 k1 => by unfold cpR; exact if_neg (by omega)⟩
                                                · rw [e8]; exact HP.sEq hsw
                                                · exact hM1.eq (by rw [aup_n (by omega), aup_n (by omega), aup_n (by omega)]) (by rw [aup_rn (by decide), aup_rn (by decide), aup_rn (by decide)])
                                                · obtain ⟨s4, dd4, N4, h4⟩ := hA2
                                                  exact ⟨s4, dd4, N4, (h4.up0 hR2.1.2 (by decide)).up0 hR2.1.2 (by decide)⟩
                                                · rw [aup_rn b0, aup_rn b0, aup_rn b0, hM3 b b0 b1 b9 b11 b12]
                                                · rw [aup_n (by omega), aup_n (by omega), aup_n (by omega), hM4 i (by omega) (by omega) (by omega) (by omega) (by omega) (by omega)]
                                                · rw [aup_n (by omega), aup_n (by omega), T2.2.2.1 0 hR.o0.2.1 (by rw [hR.1.2]; exact hm2 _ (by decide)), aup_n (by omega), aup_n (by omega), aup_n (by omega), aup_n (by omega), hM4 34 (by decide) (by decide) (by decide) (by decide) (by decide) (by decide)]; exact ks5
                                                · rw [aup_n (by omega), aup_n (by omega), aup_n (by omega), hM4 34 (by decide) (by decide) (by decide) (by decide) (by decide) (by decide)]; exact ks6
                                                · rw [cr 29 j hR.a29.2.1 (by omega) (by rw [hR.2.2.2.2.2.2.2.2.2]; exact hm2 _ (by decide)), aup_rn (by decide), aup_rn (by decide), aup_rn (by decide), hM3 13 (by decide) (by decide) (by decide) (by decide) (by decide)]; exact ks7 j j0 j1
                                                · rw [aup_n (by omega), aup_n (by omega), T2.2.2.1 0 hR.o0.2.1 (by rw [hR.1.2]; exact hm2 _ (by decide)), aup_s, aup_s]
                                                · rw [aup_n (by omega), aup_s, aup_n (by omega), aup_n (by omega), aup_s]
                                                · rw [aup_s, aup_n (by omega), aup_s]
                                          · first
                                              | (exfalso; omega)
                                              | skip
                                                refine aw_aload_n dX7_odds_74 rfl ?_
                                                refine aw_bipush dX7_odds_75 (by decide) ?_
                                                refine c_X7_79 rfl dX7_odds_77 m_ob (Nat.le_of_ble_eq_true rfl) (by omega) (C_m_is (fun hz => ?_) (fun hz => ?_))
                                                · first
                                                    | (exfalso; omega)
                                                    | skip
                                                      refine aK_i ?_
                                                      refine aw_zreturn dX7_odds_80 rfl (by omega) ?_
                                                      first
                                                        | (exfalso; omega)
                                                        | (refine XR.sameE h ?_ ?_ ?_ ?_ ?_ ?_
                                                           · first
                                                               | rfl
                                                               | omega
                                                           · repeat (first | exact xs.rf | refine xs.up ?_ (by decide))
                                                           · repeat (first | exact mss.rf | refine mss.up0 ?_ (by decide))
                                                           · first
                                                               | (simp [aup, hv2, hv3, hv4]; done)
                                                               | (simp [aup, hv2, hv3, hv4]; omega)
                                                           · simp [aup, hv2, hv3, hv4]
                                                           · simp [aup, hv2, hv3, hv4])
                                                · first
                                                    | (exfalso; omega)
                                                    | skip
                                                      refine aK_i ?_
                                                      refine aw_zreturn dX7_odds_80 rfl (by omega) ?_
                                                      first
                                                        | (exfalso; omega)
                                                        | (refine XR.sameE h ?_ ?_ ?_ ?_ ?_ ?_
                                                           · first
                                                               | rfl
                                                               | omega
                                                           · repeat (first | exact xs.rf | refine xs.up ?_ (by decide))
                                                           · repeat (first | exact mss.rf | refine mss.up0 ?_ (by decide))
                                                           · first
                                                               | (simp [aup, hv2, hv3, hv4]; done)
                                                               | (simp [aup, hv2, hv3, hv4]; omega)
                                                           · simp [aup, hv2, hv3, hv4]
                                                           · simp [aup, hv2, hv3, hv4])
                                    · first
                                        | (exfalso; omega)
                                        | skip
                                          refine aw_aload_n dX7_odds_57 rfl ?_
                                          refine aw_iconst dX7_odds_58 (by decide) ?_
                                          refine c_X7_79 rfl dX7_odds_59 m_ob (Nat.le_of_ble_eq_true rfl) (by omega) (C_m_is (fun hz => ?_) (fun hz => ?_))
                                          · first
                                              | (exfalso; omega)
                                              | skip
                                                refine aK_i ?_
                                                refine aw_zreturn dX7_odds_62 rfl (by omega) ?_
                                                first
                                                  | (exfalso; omega)
                                                  | (refine XR.sameE h ?_ ?_ ?_ ?_ ?_ ?_
                                                     · first
                                                         | rfl
                                                         | omega
                                                     · repeat (first | exact xs.rf | refine xs.up ?_ (by decide))
                                                     · repeat (first | exact mss.rf | refine mss.up0 ?_ (by decide))
                                                     · first
                                                         | (simp [aup, hv2, hv3, hv4]; done)
                                                         | (simp [aup, hv2, hv3, hv4]; omega)
                                                     · simp [aup, hv2, hv3, hv4]
                                                     · simp [aup, hv2, hv3, hv4])
                                          · first
                                              | (exfalso; omega)
                                              | skip
                                                refine aK_i ?_
                                                refine aw_zreturn dX7_odds_62 rfl (by omega) ?_
                                                first
                                                  | (exfalso; omega)
                                                  | (refine XR.sameE h ?_ ?_ ?_ ?_ ?_ ?_
                                                     · first
                                                         | rfl
                                                         | omega
                                                     · repeat (first | exact xs.rf | refine xs.up ?_ (by decide))
                                                     · repeat (first | exact mss.rf | refine mss.up0 ?_ (by decide))
                                                     · first
                                                         | (simp [aup, hv2, hv3, hv4]; done)
                                                         | (simp [aup, hv2, hv3, hv4]; omega)
                                                     · simp [aup, hv2, hv3, hv4]
                                                     · simp [aup, hv2, hv3, hv4])
                              · first
                                  | (exfalso; omega)
                                  | skip
                                    refine aK_i ?_
                                    refine aw_ifeq (tgt := 57) dX7_odds_42 (by decide) (fun _ => ?_) (fun h => absurd h (by decide))
                                    refine aw_aload_n dX7_odds_57 rfl ?_
                                    refine aw_iconst dX7_odds_58 (by decide) ?_
                                    refine c_X7_79 rfl dX7_odds_59 m_ob (Nat.le_of_ble_eq_true rfl) (by omega) (C_m_is (fun hz => ?_) (fun hz => ?_))
                                    · first
                                        | (exfalso; omega)
                                        | skip
                                          refine aK_i ?_
                                          refine aw_zreturn dX7_odds_62 rfl (by omega) ?_
                                          first
                                            | (exfalso; omega)
                                            | (refine XR.sameE h ?_ ?_ ?_ ?_ ?_ ?_
                                               · first
                                                   | rfl
                                                   | omega
                                               · repeat (first | exact xs.rf | refine xs.up ?_ (by decide))
                                               · repeat (first | exact mss.rf | refine mss.up0 ?_ (by decide))
                                               · first
                                                   | (simp [aup, hv2, hv3, hv4]; done)
                                                   | (simp [aup, hv2, hv3, hv4]; omega)
                                               · simp [aup, hv2, hv3, hv4]
                                               · simp [aup, hv2, hv3, hv4])
                                    · first
                                        | (exfalso; omega)
                                        | skip
                                          refine aK_i ?_
                                          refine aw_zreturn dX7_odds_62 rfl (by omega) ?_
                                          first
                                            | (exfalso; omega)
                                            | (refine XR.sameE h ?_ ?_ ?_ ?_ ?_ ?_
                                               · first
                                                   | rfl
                                                   | omega
                                               · repeat (first | exact xs.rf | refine xs.up ?_ (by decide))
                                               · repeat (first | exact mss.rf | refine mss.up0 ?_ (by decide))
                                               · first
                                                   | (simp [aup, hv2, hv3, hv4]; done)
                                                   | (simp [aup, hv2, hv3, hv4]; omega)
                                               · simp [aup, hv2, hv3, hv4]
                                               · simp [aup, hv2, hv3, hv4])
                        · first
                            | (exfalso; omega)
                            | skip
                              refine aK_i ?_
                              refine aw_ifeq (tgt := 57) dX7_odds_29 (by decide) (fun _ => ?_) (fun h => absurd h (by decide))
                              refine aw_aload_n dX7_odds_57 rfl ?_
                              refine aw_iconst dX7_odds_58 (by decide) ?_
                              refine c_X7_79 rfl dX7_odds_59 m_ob (Nat.le_of_ble_eq_true rfl) (by omega) (C_m_is (fun hz => ?_) (fun hz => ?_))
                              · first
                                  | (exfalso; omega)
                                  | skip
                                    refine aK_i ?_
                                    refine aw_zreturn dX7_odds_62 rfl (by omega) ?_
                                    first
                                      | (exfalso; omega)
                                      | (refine XR.sameE h ?_ ?_ ?_ ?_ ?_ ?_
                                         · first
                                             | rfl
                                             | omega
                                         · repeat (first | exact xs.rf | refine xs.up ?_ (by decide))
                                         · repeat (first | exact mss.rf | refine mss.up0 ?_ (by decide))
                                         · first
                                             | (simp [aup, hv2, hv3, hv4]; done)
                                             | (simp [aup, hv2, hv3, hv4]; omega)
                                         · simp [aup, hv2, hv3, hv4]
                                         · simp [aup, hv2, hv3, hv4])
                              · first
                                  | (exfalso; omega)
                                  | skip
                                    refine aK_i ?_
                                    refine aw_zreturn dX7_odds_62 rfl (by omega) ?_
                                    first
                                      | (exfalso; omega)
                                      | (refine XR.sameE h ?_ ?_ ?_ ?_ ?_ ?_
                                         · first
                                             | rfl
                                             | omega
                                         · repeat (first | exact xs.rf | refine xs.up ?_ (by decide))
                                         · repeat (first | exact mss.rf | refine mss.up0 ?_ (by decide))
                                         · first
                                             | (simp [aup, hv2, hv3, hv4]; done)
                                             | (simp [aup, hv2, hv3, hv4]; omega)
                                         · simp [aup, hv2, hv3, hv4]
                                         · simp [aup, hv2, hv3, hv4])
                  · first
                      | (exfalso; omega)
                      | skip
                        refine aK_i ?_
                        refine aw_ifeq (tgt := 57) dX7_odds_17 (by decide) (fun _ => ?_) (fun h => absurd h (by decide))
                        refine aw_aload_n dX7_odds_57 rfl ?_
                        refine aw_iconst dX7_odds_58 (by decide) ?_
                        refine c_X7_79 rfl dX7_odds_59 m_ob (Nat.le_of_ble_eq_true rfl) (by omega) (C_m_is (fun hz => ?_) (fun hz => ?_))
                        · first
                            | (exfalso; omega)
                            | skip
                              refine aK_i ?_
                              refine aw_zreturn dX7_odds_62 rfl (by omega) ?_
                              first
                                | (exfalso; omega)
                                | (refine XR.sameE h ?_ ?_ ?_ ?_ ?_ ?_
                                   · first
                                       | rfl
                                       | omega
                                   · repeat (first | exact xs.rf | refine xs.up ?_ (by decide))
                                   · repeat (first | exact mss.rf | refine mss.up0 ?_ (by decide))
                                   · first
                                       | (simp [aup, hv2, hv3, hv4]; done)
                                       | (simp [aup, hv2, hv3, hv4]; omega)
                                   · simp [aup, hv2, hv3, hv4]
                                   · simp [aup, hv2, hv3, hv4])
                        · first
                            | (exfalso; omega)
                            | skip
                              refine aK_i ?_
                              refine aw_zreturn dX7_odds_62 rfl (by omega) ?_
                              first
                                | (exfalso; omega)
                                | (refine XR.sameE h ?_ ?_ ?_ ?_ ?_ ?_
                                   · first
                                       | rfl
                                       | omega
                                   · repeat (first | exact xs.rf | refine xs.up ?_ (by decide))
                                   · repeat (first | exact mss.rf | refine mss.up0 ?_ (by decide))
                                   · first
                                       | (simp [aup, hv2, hv3, hv4]; done)
                                       | (simp [aup, hv2, hv3, hv4]; omega)
                                   · simp [aup, hv2, hv3, hv4]
                                   · simp [aup, hv2, hv3, hv4])
            · first
                | (exfalso; omega)
                | skip
                  refine aK_i ?_
                  refine aw_ifeq (tgt := 57) dX7_odds_5 (by decide) (fun _ => ?_) (fun h => absurd h (by decide))
                  refine aw_aload_n dX7_odds_57 rfl ?_
                  refine aw_iconst dX7_odds_58 (by decide) ?_
                  refine c_X7_79 rfl dX7_odds_59 m_ob (Nat.le_of_ble_eq_true rfl) (by omega) (C_m_is (fun hz => ?_) (fun hz => ?_))
                  · first
                      | (exfalso; omega)
                      | skip
                        refine aK_i ?_
                        refine aw_zreturn dX7_odds_62 rfl (by omega) ?_
                        first
                          | (exfalso; omega)
                          | (refine XR.sameE h ?_ ?_ ?_ ?_ ?_ ?_
                             · first
                                 | rfl
                                 | omega
                             · repeat (first | exact xs.rf | refine xs.up ?_ (by decide))
                             · repeat (first | exact mss.rf | refine mss.up0 ?_ (by decide))
                             · first
                                 | (simp [aup, hv2, hv3, hv4]; done)
                                 | (simp [aup, hv2, hv3, hv4]; omega)
                             · simp [aup, hv2, hv3, hv4]
                             · simp [aup, hv2, hv3, hv4])
                  · first
                      | (exfalso; omega)
                      | skip
                        refine aK_i ?_
                        refine aw_zreturn dX7_odds_62 rfl (by omega) ?_
                        first
                          | (exfalso; omega)
                          | (refine XR.sameE h ?_ ?_ ?_ ?_ ?_ ?_
                             · first
                                 | rfl
                                 | omega
                             · repeat (first | exact xs.rf | refine xs.up ?_ (by decide))
                             · repeat (first | exact mss.rf | refine mss.up0 ?_ (by decide))
                             · first
                                 | (simp [aup, hv2, hv3, hv4]; done)
                                 | (simp [aup, hv2, hv3, hv4]; omega)
                             · simp [aup, hv2, hv3, hv4]
                             · simp [aup, hv2, hv3, hv4])
          · refine aw_bipush dX0_odds_66 (by decide) ?_
            refine aw_goto (tgt := 72) dX0_odds_68 (by decide) ?_
            refine p_X0_73_0 rfl dX0_odds_72 hR.o0 ?_
            refine aw_aload_n dX0_odds_75 rfl ?_
            refine g_X0_73_0 rfl dX0_odds_76 hR.o0 ?_
            repeat (first | rw [aup_s] | rw [aup_n (by omega)])
            refine aw_ifle (tgt := 84) dX0_odds_79 (by decide) (fun h => absurd h (by decide)) (fun _ => ?_)
            refine aw_iconst dX0_odds_82 (by decide) ?_
            refine aw_zreturn dX0_odds_83 rfl (Or.inl rfl) ?_
            refine ⟨_, rfl, ?_⟩
            refine AMet.go (L := [some (vR 0), some (vI a), some (vI b), some (vI c), some (vI e), none, none, none]) mok_X7_odds (Nat.le_of_ble_eq_true rfl) rfl ?_
            refine aw_aload_n dX7_odds_0 rfl ?_
            refine aw_iload_n dX7_odds_1 rfl ?_
            refine c_X7_274 rfl dX7_odds_2 m_ob (Nat.le_of_ble_eq_true rfl) (by omega) (C_m_isHive (fun hh => ?_) (fun hh => ?_))
            · first
                | (exfalso; omega)
                | skip
                  refine aK_i ?_
                  refine aw_ifeq (tgt := 57) dX7_odds_5 (by decide) (fun h => absurd h (by decide)) (fun _ => ?_)
                  refine aw_iload_n dX7_odds_8 rfl ?_
                  refine aw_i2l dX7_odds_9 ?_
                  refine aw_lconst0 dX7_odds_10 ?_
                  refine aw_ldc2 (x := 9999) dX7_odds_11 q1843 (by decide) ?_
                  refine c_X7_306 rfl dX7_odds_14  (Nat.le_of_ble_eq_true rfl) (by omega) (C_m_isFrom (fun hfr => ?_) (fun hfr => ?_))
                  · first
                      | (exfalso; omega)
                      | skip
                        refine aK_i ?_
                        refine aw_ifeq (tgt := 57) dX7_odds_17 (by decide) (fun h => absurd h (by decide)) (fun _ => ?_)
                        refine aw_iload_n dX7_odds_20 rfl ?_
                        refine aw_i2l dX7_odds_21 ?_
                        refine aw_lconst0 dX7_odds_22 ?_
                        refine aw_ldc2 (x := 9999) dX7_odds_23 q1843 (by decide) ?_
                        refine c_X7_306 rfl dX7_odds_26  (Nat.le_of_ble_eq_true rfl) (by omega) (C_m_isFrom (fun hfr => ?_) (fun hfr => ?_))
                        · first
                            | (exfalso; omega)
                            | skip
                              refine aK_i ?_
                              refine aw_ifeq (tgt := 57) dX7_odds_29 (by decide) (fun h => absurd h (by decide)) (fun _ => ?_)
                              refine aw_iload dX7_odds_32 rfl ?_
                              refine aw_i2l dX7_odds_34 ?_
                              refine aw_lconst1 dX7_odds_35 ?_
                              refine aw_ldc2 (x := 5) dX7_odds_36 q2064 (by decide) ?_
                              refine c_X7_306 rfl dX7_odds_39  (Nat.le_of_ble_eq_true rfl) (by omega) (C_m_isFrom (fun hfr => ?_) (fun hfr => ?_))
                              · first
                                  | (exfalso; omega)
                                  | skip
                                    refine aK_i ?_
                                    refine aw_ifeq (tgt := 57) dX7_odds_42 (by decide) (fun h => absurd h (by decide)) (fun _ => ?_)
                                    refine aw_iload_n dX7_odds_45 rfl ?_
                                    refine aw_iload dX7_odds_46 rfl ?_
                                    refine aw_iaddr dX7_odds_48 (by omega) ?_
                                    refine aw_iconst dX7_odds_49 (by decide) ?_
                                    refine aw_isubr dX7_odds_50 (by omega) ?_
                                    refine aw_sipush dX7_odds_51 (by decide) ?_
                                    refine aw_icmple (tgt := 63) dX7_odds_54 (by decide) (fun h54 => ?_) (fun h54 => ?_)
                                    · first
                                        | (exfalso; omega)
                                        | skip
                                          refine gm_7 rfl dX7_odds_63 dX7_odds_64 rfl ?_
                                          refine aw_bipush dX7_odds_67 (by decide) ?_
                                          refine aw_iaload dX7_odds_69 m_a1 (by omega) (by omega) ?_
                                          refine aw_iconst dX7_odds_70 (by decide) ?_
                                          refine aw_icmpne (tgt := 81) dX7_odds_71 (by decide) (fun h71 => ?_) (fun h71 => ?_)
                                          · first
                                              | (exfalso; omega)
                                              | skip
                                                refine aw_iconst dX7_odds_81 (by decide) ?_
                                                refine aw_istore5 dX7_odds_82 (by decide) rfl ?_
                                                refine L_m_od84 (ct := cm) (fun cm2 f1 f3 => ?_) 860 0 cm (by decide) (cpR_0 (f := 0) (t := 6150) (s := cm 1)).symm (fun _ _ => rfl)
                                                refine aw_iconst dX7_odds_116 (by decide) ?_
                                                refine aw_istore5 dX7_odds_117 (by decide) rfl ?_
                                                refine aw_iconst dX7_odds_119 (by decide) ?_
                                                refine aw_istore6 dX7_odds_120 (by decide) rfl ?_
                                                refine L_m_odds (s := (cpR 0 6150 860 (cm 1))) (by omega) hB1.1 HP1 hsv (by omega) (by omega) (by omega) (fun cm3 e9 hM => ?_) e.toNat 0 cm2 none (by omega) (by decide) ⟨HF.eq (by rw [f3 0 (by decide)]) (f3 9 (by decide)), f1, fun b b0 b1 _ _ _ => f3 b b1, fun i _ _ _ _ _ _ => by rw [f3 0 (by decide)]⟩
                                                refine aw_aload_n dX7_odds_201 rfl ?_
                                                refine aw_iload dX7_odds_202 rfl ?_
                                                refine aw_i2l dX7_odds_204 ?_
                                                refine aw_iload dX7_odds_205 rfl ?_
                                                refine aw_i2l dX7_odds_207 ?_
                                                refine c_X7_354 rfl dX7_odds_208 m_ob (Nat.le_of_ble_eq_true rfl) (by omega) (C_m_tellsBy (by omega) (by omega) ?_)
                                                refine aK_i ?_
                                                refine aw_zreturn dX7_odds_211 rfl (by omega) ?_
                                                obtain ⟨hM1, hM2, hM3, hM4⟩ := id hM
                                                obtain ⟨-, -, -, ⟨-, -, -, -, ks5, ks6⟩, -, ks7⟩ := id HX
                                                have cr : ∀ x j, x < sz → ¬ (x = 0 ∧ (j = 7 ∨ j = 8 ∨ j = 9 ∨ j = 15)) → ¬ tgY 4 (own x) → aup (aup ct2 0 8 (oddF (cpR 0 6150 860 (cm 1)) a b c e.toNat / gq (oddF (cpR 0 6150 860 (cm 1)) a b c e.toNat) e)) 0 9 (e / gq (oddF (cpR 0 6150 860 (cm 1)) a b c e.toNat) e) x j = ct x j := fun x j hx hn ht => by
                                                  rw [aup_n (by omega), aup_n (by omega), T2.2.2.1 x hx ht, aup_n (by omega)]
                                                have TX : TG own own2 sz sz2 im im2 ct (aup (aup ct2 0 8 (oddF (cpR 0 6150 860 (cm 1)) a b c e.toNat / gq (oddF (cpR 0 6150 860 (cm 1)) a b c e.toNat) e)) 0 9 (e / gq (oddF (cpR 0 6150 860 (cm 1)) a b c e.toNat) e)) (fun t => t = -2 ∨ tgY 4 t) := ⟨T2.1, T2.2.1, fun x hx hf => funext fun j => cr x j hx (fun z => hf (Or.inl (by rw [z.1]; exact hR.1.2))) (fun z => hf (Or.inr z)), fun x hx hf => T2.2.2.2 x hx (fun z => hf (Or.inr z))⟩
                                                have n1 : ∀ t, 10 ≤ t → t < 40 → ¬ (t = -2 ∨ tgY 4 t) := fun t t0 t1 z => by rcases z with z | ⟨z1, z2⟩ <;> omega
                                                have n2 : ∀ t, 0 ≤ t → t < 10 → ¬ (t = -2 ∨ tgY 4 t) := fun t t0 t1 z => by rcases z with z | ⟨z1, z2⟩ <;> omega
                                                have e8 : ∀ v w, aup (aup (aup cm3 0 3 v) 0 4 w) 0 2 0 1 = (cpR 0 6150 860 (cm 1)) := fun v w => by rw [aup_rn (by decide), aup_rn (by decide), aup_rn (by decide)]; exact hM2
                                                refine ⟨rfl, _, rfl, XR.gen hR HN HS HX hp0 TX (fun z => by rcases z with z | ⟨z1, z2⟩ <;> omega) (fun t t0 t1 z => by rcases z with z | ⟨z1, z2⟩ <;> omega) n1 h02 (fun x j hx h2 h3 h4 => cr x j hx h3 (by rw [h2]; exact hm2 _ (by decide))) ?_ ?_ ?_ ?_ ?_ ?_ (fun b b0 b1 b9 b11 b12 b13 => ?_) (fun i hi => ?_) ⟨?_, ?_⟩ (fun j j0 j1 => ?_) ?_ ?_ ?_⟩
                                                · rw [e8]; exact (YR.tg TX (fun t t0 t1 => n2 t (by omega) (by omega)) HY).sEq hsw rfl
                                                · rw [e8, cr 10 0 HY.1.2.1 (by omega) (by rw [HY.2.1]; exact fun z => by have z1 := z.1; omega)]; exact (LR.tg TX (fun z => by rcases z with z | ⟨z1, z2⟩ <;> omega) HL).sEq hsw
                                                · rw [e8]; exact ⟨fun i hi => by unfold cpR; exact if_neg (by omega), fun k k0 k1 => by unfold cpR; exact if_neg (by omega)⟩
                                                · rw [e8]; exact HP.sEq hsw
                                                · exact hM1.eq (by rw [aup_n (by omega), aup_n (by omega), aup_n (by omega)]) (by rw [aup_rn (by decide), aup_rn (by decide), aup_rn (by decide)])
                                                · obtain ⟨s4, dd4, N4, h4⟩ := hA2
                                                  exact ⟨s4, dd4, N4, (h4.up0 hR2.1.2 (by decide)).up0 hR2.1.2 (by decide)⟩
                                                · rw [aup_rn b0, aup_rn b0, aup_rn b0, hM3 b b0 b1 b9 b11 b12]
                                                · rw [aup_n (by omega), aup_n (by omega), aup_n (by omega), hM4 i (by omega) (by omega) (by omega) (by omega) (by omega) (by omega)]
                                                · rw [aup_n (by omega), aup_n (by omega), T2.2.2.1 0 hR.o0.2.1 (by rw [hR.1.2]; exact hm2 _ (by decide)), aup_n (by omega), aup_n (by omega), aup_n (by omega), aup_n (by omega), hM4 34 (by decide) (by decide) (by decide) (by decide) (by decide) (by decide)]; exact ks5
                                                · rw [aup_n (by omega), aup_n (by omega), aup_n (by omega), hM4 34 (by decide) (by decide) (by decide) (by decide) (by decide) (by decide)]; exact ks6
                                                · rw [cr 29 j hR.a29.2.1 (by omega) (by rw [hR.2.2.2.2.2.2.2.2.2]; exact hm2 _ (by decide)), aup_rn (by decide), aup_rn (by decide), aup_rn (by decide), hM3 13 (by decide) (by decide) (by decide) (by decide) (by decide)]; exact ks7 j j0 j1
                                                · rw [aup_n (by omega), aup_n (by omega), T2.2.2.1 0 hR.o0.2.1 (by rw [hR.1.2]; exact hm2 _ (by decide)), aup_s, aup_s]
                                                · rw [aup_n (by omega), aup_s, aup_n (by omega), aup_n (by omega), aup_s]
                                                · rw [aup_s, aup_n (by omega), aup_s]
                                          · first
                                              | (exfalso; omega)
                                              | skip
                                                refine aw_aload_n dX7_odds_74 rfl ?_
                                                refine aw_bipush dX7_odds_75 (by decide) ?_
                                                refine c_X7_79 rfl dX7_odds_77 m_ob (Nat.le_of_ble_eq_true rfl) (by omega) (C_m_is (fun hz => ?_) (fun hz => ?_))
                                                · first
                                                    | (exfalso; omega)
                                                    | skip
                                                      refine aK_i ?_
                                                      refine aw_zreturn dX7_odds_80 rfl (by omega) ?_
                                                      first
                                                        | (exfalso; omega)
                                                        | (refine XR.sameE h ?_ ?_ ?_ ?_ ?_ ?_
                                                           · first
                                                               | rfl
                                                               | omega
                                                           · repeat (first | exact xs.rf | refine xs.up ?_ (by decide))
                                                           · repeat (first | exact mss.rf | refine mss.up0 ?_ (by decide))
                                                           · first
                                                               | (simp [aup, hv2, hv3, hv4]; done)
                                                               | (simp [aup, hv2, hv3, hv4]; omega)
                                                           · simp [aup, hv2, hv3, hv4]
                                                           · simp [aup, hv2, hv3, hv4])
                                                · first
                                                    | (exfalso; omega)
                                                    | skip
                                                      refine aK_i ?_
                                                      refine aw_zreturn dX7_odds_80 rfl (by omega) ?_
                                                      first
                                                        | (exfalso; omega)
                                                        | (refine XR.sameE h ?_ ?_ ?_ ?_ ?_ ?_
                                                           · first
                                                               | rfl
                                                               | omega
                                                           · repeat (first | exact xs.rf | refine xs.up ?_ (by decide))
                                                           · repeat (first | exact mss.rf | refine mss.up0 ?_ (by decide))
                                                           · first
                                                               | (simp [aup, hv2, hv3, hv4]; done)
                                                               | (simp [aup, hv2, hv3, hv4]; omega)
                                                           · simp [aup, hv2, hv3, hv4]
                                                           · simp [aup, hv2, hv3, hv4])
                                    · first
                                        | (exfalso; omega)
                                        | skip
                                          refine aw_aload_n dX7_odds_57 rfl ?_
                                          refine aw_iconst dX7_odds_58 (by decide) ?_
                                          refine c_X7_79 rfl dX7_odds_59 m_ob (Nat.le_of_ble_eq_true rfl) (by omega) (C_m_is (fun hz => ?_) (fun hz => ?_))
                                          · first
                                              | (exfalso; omega)
                                              | skip
                                                refine aK_i ?_
                                                refine aw_zreturn dX7_odds_62 rfl (by omega) ?_
                                                first
                                                  | (exfalso; omega)
                                                  | (refine XR.sameE h ?_ ?_ ?_ ?_ ?_ ?_
                                                     · first
                                                         | rfl
                                                         | omega
                                                     · repeat (first | exact xs.rf | refine xs.up ?_ (by decide))
                                                     · repeat (first | exact mss.rf | refine mss.up0 ?_ (by decide))
                                                     · first
                                                         | (simp [aup, hv2, hv3, hv4]; done)
                                                         | (simp [aup, hv2, hv3, hv4]; omega)
                                                     · simp [aup, hv2, hv3, hv4]
                                                     · simp [aup, hv2, hv3, hv4])
                                          · first
                                              | (exfalso; omega)
                                              | skip
                                                refine aK_i ?_
                                                refine aw_zreturn dX7_odds_62 rfl (by omega) ?_
                                                first
                                                  | (exfalso; omega)
                                                  | (refine XR.sameE h ?_ ?_ ?_ ?_ ?_ ?_
                                                     · first
                                                         | rfl
                                                         | omega
                                                     · repeat (first | exact xs.rf | refine xs.up ?_ (by decide))
                                                     · repeat (first | exact mss.rf | refine mss.up0 ?_ (by decide))
                                                     · first
                                                         | (simp [aup, hv2, hv3, hv4]; done)
                                                         | (simp [aup, hv2, hv3, hv4]; omega)
                                                     · simp [aup, hv2, hv3, hv4]
                                                     · simp [aup, hv2, hv3, hv4])
                              · first
                                  | (exfalso; omega)
                                  | skip
                                    refine aK_i ?_
                                    refine aw_ifeq (tgt := 57) dX7_odds_42 (by decide) (fun _ => ?_) (fun h => absurd h (by decide))
                                    refine aw_aload_n dX7_odds_57 rfl ?_
                                    refine aw_iconst dX7_odds_58 (by decide) ?_
                                    refine c_X7_79 rfl dX7_odds_59 m_ob (Nat.le_of_ble_eq_true rfl) (by omega) (C_m_is (fun hz => ?_) (fun hz => ?_))
                                    · first
                                        | (exfalso; omega)
                                        | skip
                                          refine aK_i ?_
                                          refine aw_zreturn dX7_odds_62 rfl (by omega) ?_
                                          first
                                            | (exfalso; omega)
                                            | (refine XR.sameE h ?_ ?_ ?_ ?_ ?_ ?_
                                               · first
                                                   | rfl
                                                   | omega
                                               · repeat (first | exact xs.rf | refine xs.up ?_ (by decide))
                                               · repeat (first | exact mss.rf | refine mss.up0 ?_ (by decide))
                                               · first
                                                   | (simp [aup, hv2, hv3, hv4]; done)
                                                   | (simp [aup, hv2, hv3, hv4]; omega)
                                               · simp [aup, hv2, hv3, hv4]
                                               · simp [aup, hv2, hv3, hv4])
                                    · first
                                        | (exfalso; omega)
                                        | skip
                                          refine aK_i ?_
                                          refine aw_zreturn dX7_odds_62 rfl (by omega) ?_
                                          first
                                            | (exfalso; omega)
                                            | (refine XR.sameE h ?_ ?_ ?_ ?_ ?_ ?_
                                               · first
                                                   | rfl
                                                   | omega
                                               · repeat (first | exact xs.rf | refine xs.up ?_ (by decide))
                                               · repeat (first | exact mss.rf | refine mss.up0 ?_ (by decide))
                                               · first
                                                   | (simp [aup, hv2, hv3, hv4]; done)
                                                   | (simp [aup, hv2, hv3, hv4]; omega)
                                               · simp [aup, hv2, hv3, hv4]
                                               · simp [aup, hv2, hv3, hv4])
                        · first
                            | (exfalso; omega)
                            | skip
                              refine aK_i ?_
                              refine aw_ifeq (tgt := 57) dX7_odds_29 (by decide) (fun _ => ?_) (fun h => absurd h (by decide))
                              refine aw_aload_n dX7_odds_57 rfl ?_
                              refine aw_iconst dX7_odds_58 (by decide) ?_
                              refine c_X7_79 rfl dX7_odds_59 m_ob (Nat.le_of_ble_eq_true rfl) (by omega) (C_m_is (fun hz => ?_) (fun hz => ?_))
                              · first
                                  | (exfalso; omega)
                                  | skip
                                    refine aK_i ?_
                                    refine aw_zreturn dX7_odds_62 rfl (by omega) ?_
                                    first
                                      | (exfalso; omega)
                                      | (refine XR.sameE h ?_ ?_ ?_ ?_ ?_ ?_
                                         · first
                                             | rfl
                                             | omega
                                         · repeat (first | exact xs.rf | refine xs.up ?_ (by decide))
                                         · repeat (first | exact mss.rf | refine mss.up0 ?_ (by decide))
                                         · first
                                             | (simp [aup, hv2, hv3, hv4]; done)
                                             | (simp [aup, hv2, hv3, hv4]; omega)
                                         · simp [aup, hv2, hv3, hv4]
                                         · simp [aup, hv2, hv3, hv4])
                              · first
                                  | (exfalso; omega)
                                  | skip
                                    refine aK_i ?_
                                    refine aw_zreturn dX7_odds_62 rfl (by omega) ?_
                                    first
                                      | (exfalso; omega)
                                      | (refine XR.sameE h ?_ ?_ ?_ ?_ ?_ ?_
                                         · first
                                             | rfl
                                             | omega
                                         · repeat (first | exact xs.rf | refine xs.up ?_ (by decide))
                                         · repeat (first | exact mss.rf | refine mss.up0 ?_ (by decide))
                                         · first
                                             | (simp [aup, hv2, hv3, hv4]; done)
                                             | (simp [aup, hv2, hv3, hv4]; omega)
                                         · simp [aup, hv2, hv3, hv4]
                                         · simp [aup, hv2, hv3, hv4])
                  · first
                      | (exfalso; omega)
                      | skip
                        refine aK_i ?_
                        refine aw_ifeq (tgt := 57) dX7_odds_17 (by decide) (fun _ => ?_) (fun h => absurd h (by decide))
                        refine aw_aload_n dX7_odds_57 rfl ?_
                        refine aw_iconst dX7_odds_58 (by decide) ?_
                        refine c_X7_79 rfl dX7_odds_59 m_ob (Nat.le_of_ble_eq_true rfl) (by omega) (C_m_is (fun hz => ?_) (fun hz => ?_))
                        · first
                            | (exfalso; omega)
                            | skip
                              refine aK_i ?_
                              refine aw_zreturn dX7_odds_62 rfl (by omega) ?_
                              first
                                | (exfalso; omega)
                                | (refine XR.sameE h ?_ ?_ ?_ ?_ ?_ ?_
                                   · first
                                       | rfl
                                       | omega
                                   · repeat (first | exact xs.rf | refine xs.up ?_ (by decide))
                                   · repeat (first | exact mss.rf | refine mss.up0 ?_ (by decide))
                                   · first
                                       | (simp [aup, hv2, hv3, hv4]; done)
                                       | (simp [aup, hv2, hv3, hv4]; omega)
                                   · simp [aup, hv2, hv3, hv4]
                                   · simp [aup, hv2, hv3, hv4])
                        · first
                            | (exfalso; omega)
                            | skip
                              refine aK_i ?_
                              refine aw_zreturn dX7_odds_62 rfl (by omega) ?_
                              first
                                | (exfalso; omega)
                                | (refine XR.sameE h ?_ ?_ ?_ ?_ ?_ ?_
                                   · first
                                       | rfl
                                       | omega
                                   · repeat (first | exact xs.rf | refine xs.up ?_ (by decide))
                                   · repeat (first | exact mss.rf | refine mss.up0 ?_ (by decide))
                                   · first
                                       | (simp [aup, hv2, hv3, hv4]; done)
                                       | (simp [aup, hv2, hv3, hv4]; omega)
                                   · simp [aup, hv2, hv3, hv4]
                                   · simp [aup, hv2, hv3, hv4])
            · first
                | (exfalso; omega)
                | skip
                  refine aK_i ?_
                  refine aw_ifeq (tgt := 57) dX7_odds_5 (by decide) (fun _ => ?_) (fun h => absurd h (by decide))
                  refine aw_aload_n dX7_odds_57 rfl ?_
                  refine aw_iconst dX7_odds_58 (by decide) ?_
                  refine c_X7_79 rfl dX7_odds_59 m_ob (Nat.le_of_ble_eq_true rfl) (by omega) (C_m_is (fun hz => ?_) (fun hz => ?_))
                  · first
                      | (exfalso; omega)
                      | skip
                        refine aK_i ?_
                        refine aw_zreturn dX7_odds_62 rfl (by omega) ?_
                        first
                          | (exfalso; omega)
                          | (refine XR.sameE h ?_ ?_ ?_ ?_ ?_ ?_
                             · first
                                 | rfl
                                 | omega
                             · repeat (first | exact xs.rf | refine xs.up ?_ (by decide))
                             · repeat (first | exact mss.rf | refine mss.up0 ?_ (by decide))
                             · first
                                 | (simp [aup, hv2, hv3, hv4]; done)
                                 | (simp [aup, hv2, hv3, hv4]; omega)
                             · simp [aup, hv2, hv3, hv4]
                             · simp [aup, hv2, hv3, hv4])
                  · first
                      | (exfalso; omega)
                      | skip
                        refine aK_i ?_
                        refine aw_zreturn dX7_odds_62 rfl (by omega) ?_
                        first
                          | (exfalso; omega)
                          | (refine XR.sameE h ?_ ?_ ?_ ?_ ?_ ?_
                             · first
                                 | rfl
                                 | omega
                             · repeat (first | exact xs.rf | refine xs.up ?_ (by decide))
                             · repeat (first | exact mss.rf | refine mss.up0 ?_ (by decide))
                             · first
                                 | (simp [aup, hv2, hv3, hv4]; done)
                                 | (simp [aup, hv2, hv3, hv4]; omega)
                             · simp [aup, hv2, hv3, hv4]
                             · simp [aup, hv2, hv3, hv4])
        · refine aK_i ?_
          refine aw_ifne (tgt := 56) dX0_odds_49 (by decide) (fun h => absurd h (by decide)) (fun _ => ?_)
          refine aw_iconst dX0_odds_52 (by decide) ?_
          refine aw_goto (tgt := 72) dX0_odds_53 (by decide) ?_
          refine p_X0_73_0 rfl dX0_odds_72 hR.o0 ?_
          refine aw_aload_n dX0_odds_75 rfl ?_
          refine g_X0_73_0 rfl dX0_odds_76 hR.o0 ?_
          repeat (first | rw [aup_s] | rw [aup_n (by omega)])
          refine aw_ifle (tgt := 84) dX0_odds_79 (by decide) (fun h => absurd h (by decide)) (fun _ => ?_)
          refine aw_iconst dX0_odds_82 (by decide) ?_
          refine aw_zreturn dX0_odds_83 rfl (Or.inl rfl) ?_
          refine ⟨_, rfl, ?_⟩
          refine AMet.go (L := [some (vR 0), some (vI a), some (vI b), some (vI c), some (vI e), none, none, none]) mok_X7_odds (Nat.le_of_ble_eq_true rfl) rfl ?_
          refine aw_aload_n dX7_odds_0 rfl ?_
          refine aw_iload_n dX7_odds_1 rfl ?_
          refine c_X7_274 rfl dX7_odds_2 m_ob (Nat.le_of_ble_eq_true rfl) (by omega) (C_m_isHive (fun hh => ?_) (fun hh => ?_))
          · first
              | (exfalso; omega)
              | skip
                refine aK_i ?_
                refine aw_ifeq (tgt := 57) dX7_odds_5 (by decide) (fun h => absurd h (by decide)) (fun _ => ?_)
                refine aw_iload_n dX7_odds_8 rfl ?_
                refine aw_i2l dX7_odds_9 ?_
                refine aw_lconst0 dX7_odds_10 ?_
                refine aw_ldc2 (x := 9999) dX7_odds_11 q1843 (by decide) ?_
                refine c_X7_306 rfl dX7_odds_14  (Nat.le_of_ble_eq_true rfl) (by omega) (C_m_isFrom (fun hfr => ?_) (fun hfr => ?_))
                · first
                    | (exfalso; omega)
                    | skip
                      refine aK_i ?_
                      refine aw_ifeq (tgt := 57) dX7_odds_17 (by decide) (fun h => absurd h (by decide)) (fun _ => ?_)
                      refine aw_iload_n dX7_odds_20 rfl ?_
                      refine aw_i2l dX7_odds_21 ?_
                      refine aw_lconst0 dX7_odds_22 ?_
                      refine aw_ldc2 (x := 9999) dX7_odds_23 q1843 (by decide) ?_
                      refine c_X7_306 rfl dX7_odds_26  (Nat.le_of_ble_eq_true rfl) (by omega) (C_m_isFrom (fun hfr => ?_) (fun hfr => ?_))
                      · first
                          | (exfalso; omega)
                          | skip
                            refine aK_i ?_
                            refine aw_ifeq (tgt := 57) dX7_odds_29 (by decide) (fun h => absurd h (by decide)) (fun _ => ?_)
                            refine aw_iload dX7_odds_32 rfl ?_
                            refine aw_i2l dX7_odds_34 ?_
                            refine aw_lconst1 dX7_odds_35 ?_
                            refine aw_ldc2 (x := 5) dX7_odds_36 q2064 (by decide) ?_
                            refine c_X7_306 rfl dX7_odds_39  (Nat.le_of_ble_eq_true rfl) (by omega) (C_m_isFrom (fun hfr => ?_) (fun hfr => ?_))
                            · first
                                | (exfalso; omega)
                                | skip
                                  refine aK_i ?_
                                  refine aw_ifeq (tgt := 57) dX7_odds_42 (by decide) (fun h => absurd h (by decide)) (fun _ => ?_)
                                  refine aw_iload_n dX7_odds_45 rfl ?_
                                  refine aw_iload dX7_odds_46 rfl ?_
                                  refine aw_iaddr dX7_odds_48 (by omega) ?_
                                  refine aw_iconst dX7_odds_49 (by decide) ?_
                                  refine aw_isubr dX7_odds_50 (by omega) ?_
                                  refine aw_sipush dX7_odds_51 (by decide) ?_
                                  refine aw_icmple (tgt := 63) dX7_odds_54 (by decide) (fun h54 => ?_) (fun h54 => ?_)
                                  · first
                                      | (exfalso; omega)
                                      | skip
                                        refine gm_7 rfl dX7_odds_63 dX7_odds_64 rfl ?_
                                        refine aw_bipush dX7_odds_67 (by decide) ?_
                                        refine aw_iaload dX7_odds_69 m_a1 (by omega) (by omega) ?_
                                        refine aw_iconst dX7_odds_70 (by decide) ?_
                                        refine aw_icmpne (tgt := 81) dX7_odds_71 (by decide) (fun h71 => ?_) (fun h71 => ?_)
                                        · first
                                            | (exfalso; omega)
                                            | skip
                                              refine aw_iconst dX7_odds_81 (by decide) ?_
                                              refine aw_istore5 dX7_odds_82 (by decide) rfl ?_
                                              refine L_m_od84 (ct := cm) (fun cm2 f1 f3 => ?_) 860 0 cm (by decide) (cpR_0 (f := 0) (t := 6150) (s := cm 1)).symm (fun _ _ => rfl)
                                              refine aw_iconst dX7_odds_116 (by decide) ?_
                                              refine aw_istore5 dX7_odds_117 (by decide) rfl ?_
                                              refine aw_iconst dX7_odds_119 (by decide) ?_
                                              refine aw_istore6 dX7_odds_120 (by decide) rfl ?_
                                              refine L_m_odds (s := (cpR 0 6150 860 (cm 1))) (by omega) hB1.1 HP1 hsv (by omega) (by omega) (by omega) (fun cm3 e9 hM => ?_) e.toNat 0 cm2 none (by omega) (by decide) ⟨HF.eq (by rw [f3 0 (by decide)]) (f3 9 (by decide)), f1, fun b b0 b1 _ _ _ => f3 b b1, fun i _ _ _ _ _ _ => by rw [f3 0 (by decide)]⟩
                                              refine aw_aload_n dX7_odds_201 rfl ?_
                                              refine aw_iload dX7_odds_202 rfl ?_
                                              refine aw_i2l dX7_odds_204 ?_
                                              refine aw_iload dX7_odds_205 rfl ?_
                                              refine aw_i2l dX7_odds_207 ?_
                                              refine c_X7_354 rfl dX7_odds_208 m_ob (Nat.le_of_ble_eq_true rfl) (by omega) (C_m_tellsBy (by omega) (by omega) ?_)
                                              refine aK_i ?_
                                              refine aw_zreturn dX7_odds_211 rfl (by omega) ?_
                                              obtain ⟨hM1, hM2, hM3, hM4⟩ := id hM
                                              obtain ⟨-, -, -, ⟨-, -, -, -, ks5, ks6⟩, -, ks7⟩ := id HX
                                              have cr : ∀ x j, x < sz → ¬ (x = 0 ∧ (j = 7 ∨ j = 8 ∨ j = 9 ∨ j = 15)) → ¬ tgY 4 (own x) → aup (aup ct2 0 8 (oddF (cpR 0 6150 860 (cm 1)) a b c e.toNat / gq (oddF (cpR 0 6150 860 (cm 1)) a b c e.toNat) e)) 0 9 (e / gq (oddF (cpR 0 6150 860 (cm 1)) a b c e.toNat) e) x j = ct x j := fun x j hx hn ht => by
                                                rw [aup_n (by omega), aup_n (by omega), T2.2.2.1 x hx ht, aup_n (by omega)]
                                              have TX : TG own own2 sz sz2 im im2 ct (aup (aup ct2 0 8 (oddF (cpR 0 6150 860 (cm 1)) a b c e.toNat / gq (oddF (cpR 0 6150 860 (cm 1)) a b c e.toNat) e)) 0 9 (e / gq (oddF (cpR 0 6150 860 (cm 1)) a b c e.toNat) e)) (fun t => t = -2 ∨ tgY 4 t) := ⟨T2.1, T2.2.1, fun x hx hf => funext fun j => cr x j hx (fun z => hf (Or.inl (by rw [z.1]; exact hR.1.2))) (fun z => hf (Or.inr z)), fun x hx hf => T2.2.2.2 x hx (fun z => hf (Or.inr z))⟩
                                              have n1 : ∀ t, 10 ≤ t → t < 40 → ¬ (t = -2 ∨ tgY 4 t) := fun t t0 t1 z => by rcases z with z | ⟨z1, z2⟩ <;> omega
                                              have n2 : ∀ t, 0 ≤ t → t < 10 → ¬ (t = -2 ∨ tgY 4 t) := fun t t0 t1 z => by rcases z with z | ⟨z1, z2⟩ <;> omega
                                              have e8 : ∀ v w, aup (aup (aup cm3 0 3 v) 0 4 w) 0 2 0 1 = (cpR 0 6150 860 (cm 1)) := fun v w => by rw [aup_rn (by decide), aup_rn (by decide), aup_rn (by decide)]; exact hM2
                                              refine ⟨rfl, _, rfl, XR.gen hR HN HS HX hp0 TX (fun z => by rcases z with z | ⟨z1, z2⟩ <;> omega) (fun t t0 t1 z => by rcases z with z | ⟨z1, z2⟩ <;> omega) n1 h02 (fun x j hx h2 h3 h4 => cr x j hx h3 (by rw [h2]; exact hm2 _ (by decide))) ?_ ?_ ?_ ?_ ?_ ?_ (fun b b0 b1 b9 b11 b12 b13 => ?_) (fun i hi => ?_) ⟨?_, ?_⟩ (fun j j0 j1 => ?_) ?_ ?_ ?_⟩
                                              · rw [e8]; exact (YR.tg TX (fun t t0 t1 => n2 t (by omega) (by omega)) HY).sEq hsw rfl
                                              · rw [e8, cr 10 0 HY.1.2.1 (by omega) (by rw [HY.2.1]; exact fun z => by have z1 := z.1; omega)]; exact (LR.tg TX (fun z => by rcases z with z | ⟨z1, z2⟩ <;> omega) HL).sEq hsw
                                              · rw [e8]; exact ⟨fun i hi => by unfold cpR; exact if_neg (by omega), fun k k0 k1 => by unfold cpR; exact if_neg (by omega)⟩
                                              · rw [e8]; exact HP.sEq hsw
                                              · exact hM1.eq (by rw [aup_n (by omega), aup_n (by omega), aup_n (by omega)]) (by rw [aup_rn (by decide), aup_rn (by decide), aup_rn (by decide)])
                                              · obtain ⟨s4, dd4, N4, h4⟩ := hA2
                                                exact ⟨s4, dd4, N4, (h4.up0 hR2.1.2 (by decide)).up0 hR2.1.2 (by decide)⟩
                                              · rw [aup_rn b0, aup_rn b0, aup_rn b0, hM3 b b0 b1 b9 b11 b12]
                                              · rw [aup_n (by omega), aup_n (by omega), aup_n (by omega), hM4 i (by omega) (by omega) (by omega) (by omega) (by omega) (by omega)]
                                              · rw [aup_n (by omega), aup_n (by omega), T2.2.2.1 0 hR.o0.2.1 (by rw [hR.1.2]; exact hm2 _ (by decide)), aup_n (by omega), aup_n (by omega), aup_n (by omega), aup_n (by omega), hM4 34 (by decide) (by decide) (by decide) (by decide) (by decide) (by decide)]; exact ks5
                                              · rw [aup_n (by omega), aup_n (by omega), aup_n (by omega), hM4 34 (by decide) (by decide) (by decide) (by decide) (by decide) (by decide)]; exact ks6
                                              · rw [cr 29 j hR.a29.2.1 (by omega) (by rw [hR.2.2.2.2.2.2.2.2.2]; exact hm2 _ (by decide)), aup_rn (by decide), aup_rn (by decide), aup_rn (by decide), hM3 13 (by decide) (by decide) (by decide) (by decide) (by decide)]; exact ks7 j j0 j1
                                              · rw [aup_n (by omega), aup_n (by omega), T2.2.2.1 0 hR.o0.2.1 (by rw [hR.1.2]; exact hm2 _ (by decide)), aup_s, aup_s]
                                              · rw [aup_n (by omega), aup_s, aup_n (by omega), aup_n (by omega), aup_s]
                                              · rw [aup_s, aup_n (by omega), aup_s]
                                        · first
                                            | (exfalso; omega)
                                            | skip
                                              refine aw_aload_n dX7_odds_74 rfl ?_
                                              refine aw_bipush dX7_odds_75 (by decide) ?_
                                              refine c_X7_79 rfl dX7_odds_77 m_ob (Nat.le_of_ble_eq_true rfl) (by omega) (C_m_is (fun hz => ?_) (fun hz => ?_))
                                              · first
                                                  | (exfalso; omega)
                                                  | skip
                                                    refine aK_i ?_
                                                    refine aw_zreturn dX7_odds_80 rfl (by omega) ?_
                                                    first
                                                      | (exfalso; omega)
                                                      | (refine XR.sameE h ?_ ?_ ?_ ?_ ?_ ?_
                                                         · first
                                                             | rfl
                                                             | omega
                                                         · repeat (first | exact xs.rf | refine xs.up ?_ (by decide))
                                                         · repeat (first | exact mss.rf | refine mss.up0 ?_ (by decide))
                                                         · first
                                                             | (simp [aup, hv2, hv3, hv4]; done)
                                                             | (simp [aup, hv2, hv3, hv4]; omega)
                                                         · simp [aup, hv2, hv3, hv4]
                                                         · simp [aup, hv2, hv3, hv4])
                                              · first
                                                  | (exfalso; omega)
                                                  | skip
                                                    refine aK_i ?_
                                                    refine aw_zreturn dX7_odds_80 rfl (by omega) ?_
                                                    first
                                                      | (exfalso; omega)
                                                      | (refine XR.sameE h ?_ ?_ ?_ ?_ ?_ ?_
                                                         · first
                                                             | rfl
                                                             | omega
                                                         · repeat (first | exact xs.rf | refine xs.up ?_ (by decide))
                                                         · repeat (first | exact mss.rf | refine mss.up0 ?_ (by decide))
                                                         · first
                                                             | (simp [aup, hv2, hv3, hv4]; done)
                                                             | (simp [aup, hv2, hv3, hv4]; omega)
                                                         · simp [aup, hv2, hv3, hv4]
                                                         · simp [aup, hv2, hv3, hv4])
                                  · first
                                      | (exfalso; omega)
                                      | skip
                                        refine aw_aload_n dX7_odds_57 rfl ?_
                                        refine aw_iconst dX7_odds_58 (by decide) ?_
                                        refine c_X7_79 rfl dX7_odds_59 m_ob (Nat.le_of_ble_eq_true rfl) (by omega) (C_m_is (fun hz => ?_) (fun hz => ?_))
                                        · first
                                            | (exfalso; omega)
                                            | skip
                                              refine aK_i ?_
                                              refine aw_zreturn dX7_odds_62 rfl (by omega) ?_
                                              first
                                                | (exfalso; omega)
                                                | (refine XR.sameE h ?_ ?_ ?_ ?_ ?_ ?_
                                                   · first
                                                       | rfl
                                                       | omega
                                                   · repeat (first | exact xs.rf | refine xs.up ?_ (by decide))
                                                   · repeat (first | exact mss.rf | refine mss.up0 ?_ (by decide))
                                                   · first
                                                       | (simp [aup, hv2, hv3, hv4]; done)
                                                       | (simp [aup, hv2, hv3, hv4]; omega)
                                                   · simp [aup, hv2, hv3, hv4]
                                                   · simp [aup, hv2, hv3, hv4])
                                        · first
                                            | (exfalso; omega)
                                            | skip
                                              refine aK_i ?_
                                              refine aw_zreturn dX7_odds_62 rfl (by omega) ?_
                                              first
                                                | (exfalso; omega)
                                                | (refine XR.sameE h ?_ ?_ ?_ ?_ ?_ ?_
                                                   · first
                                                       | rfl
                                                       | omega
                                                   · repeat (first | exact xs.rf | refine xs.up ?_ (by decide))
                                                   · repeat (first | exact mss.rf | refine mss.up0 ?_ (by decide))
                                                   · first
                                                       | (simp [aup, hv2, hv3, hv4]; done)
                                                       | (simp [aup, hv2, hv3, hv4]; omega)
                                                   · simp [aup, hv2, hv3, hv4]
                                                   · simp [aup, hv2, hv3, hv4])
                            · first
                                | (exfalso; omega)
                                | skip
                                  refine aK_i ?_
                                  refine aw_ifeq (tgt := 57) dX7_odds_42 (by decide) (fun _ => ?_) (fun h => absurd h (by decide))
                                  refine aw_aload_n dX7_odds_57 rfl ?_
                                  refine aw_iconst dX7_odds_58 (by decide) ?_
                                  refine c_X7_79 rfl dX7_odds_59 m_ob (Nat.le_of_ble_eq_true rfl) (by omega) (C_m_is (fun hz => ?_) (fun hz => ?_))
                                  · first
                                      | (exfalso; omega)
                                      | skip
                                        refine aK_i ?_
                                        refine aw_zreturn dX7_odds_62 rfl (by omega) ?_
                                        first
                                          | (exfalso; omega)
                                          | (refine XR.sameE h ?_ ?_ ?_ ?_ ?_ ?_
                                             · first
                                                 | rfl
                                                 | omega
                                             · repeat (first | exact xs.rf | refine xs.up ?_ (by decide))
                                             · repeat (first | exact mss.rf | refine mss.up0 ?_ (by decide))
                                             · first
                                                 | (simp [aup, hv2, hv3, hv4]; done)
                                                 | (simp [aup, hv2, hv3, hv4]; omega)
                                             · simp [aup, hv2, hv3, hv4]
                                             · simp [aup, hv2, hv3, hv4])
                                  · first
                                      | (exfalso; omega)
                                      | skip
                                        refine aK_i ?_
                                        refine aw_zreturn dX7_odds_62 rfl (by omega) ?_
                                        first
                                          | (exfalso; omega)
                                          | (refine XR.sameE h ?_ ?_ ?_ ?_ ?_ ?_
                                             · first
                                                 | rfl
                                                 | omega
                                             · repeat (first | exact xs.rf | refine xs.up ?_ (by decide))
                                             · repeat (first | exact mss.rf | refine mss.up0 ?_ (by decide))
                                             · first
                                                 | (simp [aup, hv2, hv3, hv4]; done)
                                                 | (simp [aup, hv2, hv3, hv4]; omega)
                                             · simp [aup, hv2, hv3, hv4]
                                             · simp [aup, hv2, hv3, hv4])
                      · first
                          | (exfalso; omega)
                          | skip
                            refine aK_i ?_
                            refine aw_ifeq (tgt := 57) dX7_odds_29 (by decide) (fun _ => ?_) (fun h => absurd h (by decide))
                            refine aw_aload_n dX7_odds_57 rfl ?_
                            refine aw_iconst dX7_odds_58 (by decide) ?_
                            refine c_X7_79 rfl dX7_odds_59 m_ob (Nat.le_of_ble_eq_true rfl) (by omega) (C_m_is (fun hz => ?_) (fun hz => ?_))
                            · first
                                | (exfalso; omega)
                                | skip
                                  refine aK_i ?_
                                  refine aw_zreturn dX7_odds_62 rfl (by omega) ?_
                                  first
                                    | (exfalso; omega)
                                    | (refine XR.sameE h ?_ ?_ ?_ ?_ ?_ ?_
                                       · first
                                           | rfl
                                           | omega
                                       · repeat (first | exact xs.rf | refine xs.up ?_ (by decide))
                                       · repeat (first | exact mss.rf | refine mss.up0 ?_ (by decide))
                                       · first
                                           | (simp [aup, hv2, hv3, hv4]; done)
                                           | (simp [aup, hv2, hv3, hv4]; omega)
                                       · simp [aup, hv2, hv3, hv4]
                                       · simp [aup, hv2, hv3, hv4])
                            · first
                                | (exfalso; omega)
                                | skip
                                  refine aK_i ?_
                                  refine aw_zreturn dX7_odds_62 rfl (by omega) ?_
                                  first
                                    | (exfalso; omega)
                                    | (refine XR.sameE h ?_ ?_ ?_ ?_ ?_ ?_
                                       · first
                                           | rfl
                                           | omega
                                       · repeat (first | exact xs.rf | refine xs.up ?_ (by decide))
                                       · repeat (first | exact mss.rf | refine mss.up0 ?_ (by decide))
                                       · first
                                           | (simp [aup, hv2, hv3, hv4]; done)
                                           | (simp [aup, hv2, hv3, hv4]; omega)
                                       · simp [aup, hv2, hv3, hv4]
                                       · simp [aup, hv2, hv3, hv4])
                · first
                    | (exfalso; omega)
                    | skip
                      refine aK_i ?_
                      refine aw_ifeq (tgt := 57) dX7_odds_17 (by decide) (fun _ => ?_) (fun h => absurd h (by decide))
                      refine aw_aload_n dX7_odds_57 rfl ?_
                      refine aw_iconst dX7_odds_58 (by decide) ?_
                      refine c_X7_79 rfl dX7_odds_59 m_ob (Nat.le_of_ble_eq_true rfl) (by omega) (C_m_is (fun hz => ?_) (fun hz => ?_))
                      · first
                          | (exfalso; omega)
                          | skip
                            refine aK_i ?_
                            refine aw_zreturn dX7_odds_62 rfl (by omega) ?_
                            first
                              | (exfalso; omega)
                              | (refine XR.sameE h ?_ ?_ ?_ ?_ ?_ ?_
                                 · first
                                     | rfl
                                     | omega
                                 · repeat (first | exact xs.rf | refine xs.up ?_ (by decide))
                                 · repeat (first | exact mss.rf | refine mss.up0 ?_ (by decide))
                                 · first
                                     | (simp [aup, hv2, hv3, hv4]; done)
                                     | (simp [aup, hv2, hv3, hv4]; omega)
                                 · simp [aup, hv2, hv3, hv4]
                                 · simp [aup, hv2, hv3, hv4])
                      · first
                          | (exfalso; omega)
                          | skip
                            refine aK_i ?_
                            refine aw_zreturn dX7_odds_62 rfl (by omega) ?_
                            first
                              | (exfalso; omega)
                              | (refine XR.sameE h ?_ ?_ ?_ ?_ ?_ ?_
                                 · first
                                     | rfl
                                     | omega
                                 · repeat (first | exact xs.rf | refine xs.up ?_ (by decide))
                                 · repeat (first | exact mss.rf | refine mss.up0 ?_ (by decide))
                                 · first
                                     | (simp [aup, hv2, hv3, hv4]; done)
                                     | (simp [aup, hv2, hv3, hv4]; omega)
                                 · simp [aup, hv2, hv3, hv4]
                                 · simp [aup, hv2, hv3, hv4])
          · first
              | (exfalso; omega)
              | skip
                refine aK_i ?_
                refine aw_ifeq (tgt := 57) dX7_odds_5 (by decide) (fun _ => ?_) (fun h => absurd h (by decide))
                refine aw_aload_n dX7_odds_57 rfl ?_
                refine aw_iconst dX7_odds_58 (by decide) ?_
                refine c_X7_79 rfl dX7_odds_59 m_ob (Nat.le_of_ble_eq_true rfl) (by omega) (C_m_is (fun hz => ?_) (fun hz => ?_))
                · first
                    | (exfalso; omega)
                    | skip
                      refine aK_i ?_
                      refine aw_zreturn dX7_odds_62 rfl (by omega) ?_
                      first
                        | (exfalso; omega)
                        | (refine XR.sameE h ?_ ?_ ?_ ?_ ?_ ?_
                           · first
                               | rfl
                               | omega
                           · repeat (first | exact xs.rf | refine xs.up ?_ (by decide))
                           · repeat (first | exact mss.rf | refine mss.up0 ?_ (by decide))
                           · first
                               | (simp [aup, hv2, hv3, hv4]; done)
                               | (simp [aup, hv2, hv3, hv4]; omega)
                           · simp [aup, hv2, hv3, hv4]
                           · simp [aup, hv2, hv3, hv4])
                · first
                    | (exfalso; omega)
                    | skip
                      refine aK_i ?_
                      refine aw_zreturn dX7_odds_62 rfl (by omega) ?_
                      first
                        | (exfalso; omega)
                        | (refine XR.sameE h ?_ ?_ ?_ ?_ ?_ ?_
                           · first
                               | rfl
                               | omega
                           · repeat (first | exact xs.rf | refine xs.up ?_ (by decide))
                           · repeat (first | exact mss.rf | refine mss.up0 ?_ (by decide))
                           · first
                               | (simp [aup, hv2, hv3, hv4]; done)
                               | (simp [aup, hv2, hv3, hv4]; omega)
                           · simp [aup, hv2, hv3, hv4]
                           · simp [aup, hv2, hv3, hv4])
      · refine aK_i ?_
        refine aw_ifeq (tgt := 52) dX0_odds_31 (by decide) (fun _ => ?_) (fun h => absurd h (by decide))
        refine aw_iconst dX0_odds_52 (by decide) ?_
        refine aw_goto (tgt := 72) dX0_odds_53 (by decide) ?_
        refine p_X0_73_0 rfl dX0_odds_72 hR.o0 ?_
        refine aw_aload_n dX0_odds_75 rfl ?_
        refine g_X0_73_0 rfl dX0_odds_76 hR.o0 ?_
        repeat (first | rw [aup_s] | rw [aup_n (by omega)])
        refine aw_ifle (tgt := 84) dX0_odds_79 (by decide) (fun h => absurd h (by decide)) (fun _ => ?_)
        refine aw_iconst dX0_odds_82 (by decide) ?_
        refine aw_zreturn dX0_odds_83 rfl (Or.inl rfl) ?_
        refine ⟨_, rfl, ?_⟩
        refine AMet.go (L := [some (vR 0), some (vI a), some (vI b), some (vI c), some (vI e), none, none, none]) mok_X7_odds (Nat.le_of_ble_eq_true rfl) rfl ?_
        refine aw_aload_n dX7_odds_0 rfl ?_
        refine aw_iload_n dX7_odds_1 rfl ?_
        refine c_X7_274 rfl dX7_odds_2 m_ob (Nat.le_of_ble_eq_true rfl) (by omega) (C_m_isHive (fun hh => ?_) (fun hh => ?_))
        · first
            | (exfalso; omega)
            | skip
              refine aK_i ?_
              refine aw_ifeq (tgt := 57) dX7_odds_5 (by decide) (fun h => absurd h (by decide)) (fun _ => ?_)
              refine aw_iload_n dX7_odds_8 rfl ?_
              refine aw_i2l dX7_odds_9 ?_
              refine aw_lconst0 dX7_odds_10 ?_
              refine aw_ldc2 (x := 9999) dX7_odds_11 q1843 (by decide) ?_
              refine c_X7_306 rfl dX7_odds_14  (Nat.le_of_ble_eq_true rfl) (by omega) (C_m_isFrom (fun hfr => ?_) (fun hfr => ?_))
              · first
                  | (exfalso; omega)
                  | skip
                    refine aK_i ?_
                    refine aw_ifeq (tgt := 57) dX7_odds_17 (by decide) (fun h => absurd h (by decide)) (fun _ => ?_)
                    refine aw_iload_n dX7_odds_20 rfl ?_
                    refine aw_i2l dX7_odds_21 ?_
                    refine aw_lconst0 dX7_odds_22 ?_
                    refine aw_ldc2 (x := 9999) dX7_odds_23 q1843 (by decide) ?_
                    refine c_X7_306 rfl dX7_odds_26  (Nat.le_of_ble_eq_true rfl) (by omega) (C_m_isFrom (fun hfr => ?_) (fun hfr => ?_))
                    · first
                        | (exfalso; omega)
                        | skip
                          refine aK_i ?_
                          refine aw_ifeq (tgt := 57) dX7_odds_29 (by decide) (fun h => absurd h (by decide)) (fun _ => ?_)
                          refine aw_iload dX7_odds_32 rfl ?_
                          refine aw_i2l dX7_odds_34 ?_
                          refine aw_lconst1 dX7_odds_35 ?_
                          refine aw_ldc2 (x := 5) dX7_odds_36 q2064 (by decide) ?_
                          refine c_X7_306 rfl dX7_odds_39  (Nat.le_of_ble_eq_true rfl) (by omega) (C_m_isFrom (fun hfr => ?_) (fun hfr => ?_))
                          · first
                              | (exfalso; omega)
                              | skip
                                refine aK_i ?_
                                refine aw_ifeq (tgt := 57) dX7_odds_42 (by decide) (fun h => absurd h (by decide)) (fun _ => ?_)
                                refine aw_iload_n dX7_odds_45 rfl ?_
                                refine aw_iload dX7_odds_46 rfl ?_
                                refine aw_iaddr dX7_odds_48 (by omega) ?_
                                refine aw_iconst dX7_odds_49 (by decide) ?_
                                refine aw_isubr dX7_odds_50 (by omega) ?_
                                refine aw_sipush dX7_odds_51 (by decide) ?_
                                refine aw_icmple (tgt := 63) dX7_odds_54 (by decide) (fun h54 => ?_) (fun h54 => ?_)
                                · first
                                    | (exfalso; omega)
                                    | skip
                                      refine gm_7 rfl dX7_odds_63 dX7_odds_64 rfl ?_
                                      refine aw_bipush dX7_odds_67 (by decide) ?_
                                      refine aw_iaload dX7_odds_69 m_a1 (by omega) (by omega) ?_
                                      refine aw_iconst dX7_odds_70 (by decide) ?_
                                      refine aw_icmpne (tgt := 81) dX7_odds_71 (by decide) (fun h71 => ?_) (fun h71 => ?_)
                                      · first
                                          | (exfalso; omega)
                                          | skip
                                            refine aw_iconst dX7_odds_81 (by decide) ?_
                                            refine aw_istore5 dX7_odds_82 (by decide) rfl ?_
                                            refine L_m_od84 (ct := cm) (fun cm2 f1 f3 => ?_) 860 0 cm (by decide) (cpR_0 (f := 0) (t := 6150) (s := cm 1)).symm (fun _ _ => rfl)
                                            refine aw_iconst dX7_odds_116 (by decide) ?_
                                            refine aw_istore5 dX7_odds_117 (by decide) rfl ?_
                                            refine aw_iconst dX7_odds_119 (by decide) ?_
                                            refine aw_istore6 dX7_odds_120 (by decide) rfl ?_
                                            refine L_m_odds (s := (cpR 0 6150 860 (cm 1))) (by omega) hB1.1 HP1 hsv (by omega) (by omega) (by omega) (fun cm3 e9 hM => ?_) e.toNat 0 cm2 none (by omega) (by decide) ⟨HF.eq (by rw [f3 0 (by decide)]) (f3 9 (by decide)), f1, fun b b0 b1 _ _ _ => f3 b b1, fun i _ _ _ _ _ _ => by rw [f3 0 (by decide)]⟩
                                            refine aw_aload_n dX7_odds_201 rfl ?_
                                            refine aw_iload dX7_odds_202 rfl ?_
                                            refine aw_i2l dX7_odds_204 ?_
                                            refine aw_iload dX7_odds_205 rfl ?_
                                            refine aw_i2l dX7_odds_207 ?_
                                            refine c_X7_354 rfl dX7_odds_208 m_ob (Nat.le_of_ble_eq_true rfl) (by omega) (C_m_tellsBy (by omega) (by omega) ?_)
                                            refine aK_i ?_
                                            refine aw_zreturn dX7_odds_211 rfl (by omega) ?_
                                            obtain ⟨hM1, hM2, hM3, hM4⟩ := id hM
                                            obtain ⟨-, -, -, ⟨-, -, -, -, ks5, ks6⟩, -, ks7⟩ := id HX
                                            have cr : ∀ x j, x < sz → ¬ (x = 0 ∧ (j = 7 ∨ j = 8 ∨ j = 9 ∨ j = 15)) → ¬ tgY 4 (own x) → aup (aup ct2 0 8 (oddF (cpR 0 6150 860 (cm 1)) a b c e.toNat / gq (oddF (cpR 0 6150 860 (cm 1)) a b c e.toNat) e)) 0 9 (e / gq (oddF (cpR 0 6150 860 (cm 1)) a b c e.toNat) e) x j = ct x j := fun x j hx hn ht => by
                                              rw [aup_n (by omega), aup_n (by omega), T2.2.2.1 x hx ht, aup_n (by omega)]
                                            have TX : TG own own2 sz sz2 im im2 ct (aup (aup ct2 0 8 (oddF (cpR 0 6150 860 (cm 1)) a b c e.toNat / gq (oddF (cpR 0 6150 860 (cm 1)) a b c e.toNat) e)) 0 9 (e / gq (oddF (cpR 0 6150 860 (cm 1)) a b c e.toNat) e)) (fun t => t = -2 ∨ tgY 4 t) := ⟨T2.1, T2.2.1, fun x hx hf => funext fun j => cr x j hx (fun z => hf (Or.inl (by rw [z.1]; exact hR.1.2))) (fun z => hf (Or.inr z)), fun x hx hf => T2.2.2.2 x hx (fun z => hf (Or.inr z))⟩
                                            have n1 : ∀ t, 10 ≤ t → t < 40 → ¬ (t = -2 ∨ tgY 4 t) := fun t t0 t1 z => by rcases z with z | ⟨z1, z2⟩ <;> omega
                                            have n2 : ∀ t, 0 ≤ t → t < 10 → ¬ (t = -2 ∨ tgY 4 t) := fun t t0 t1 z => by rcases z with z | ⟨z1, z2⟩ <;> omega
                                            have e8 : ∀ v w, aup (aup (aup cm3 0 3 v) 0 4 w) 0 2 0 1 = (cpR 0 6150 860 (cm 1)) := fun v w => by rw [aup_rn (by decide), aup_rn (by decide), aup_rn (by decide)]; exact hM2
                                            refine ⟨rfl, _, rfl, XR.gen hR HN HS HX hp0 TX (fun z => by rcases z with z | ⟨z1, z2⟩ <;> omega) (fun t t0 t1 z => by rcases z with z | ⟨z1, z2⟩ <;> omega) n1 h02 (fun x j hx h2 h3 h4 => cr x j hx h3 (by rw [h2]; exact hm2 _ (by decide))) ?_ ?_ ?_ ?_ ?_ ?_ (fun b b0 b1 b9 b11 b12 b13 => ?_) (fun i hi => ?_) ⟨?_, ?_⟩ (fun j j0 j1 => ?_) ?_ ?_ ?_⟩
                                            · rw [e8]; exact (YR.tg TX (fun t t0 t1 => n2 t (by omega) (by omega)) HY).sEq hsw rfl
                                            · rw [e8, cr 10 0 HY.1.2.1 (by omega) (by rw [HY.2.1]; exact fun z => by have z1 := z.1; omega)]; exact (LR.tg TX (fun z => by rcases z with z | ⟨z1, z2⟩ <;> omega) HL).sEq hsw
                                            · rw [e8]; exact ⟨fun i hi => by unfold cpR; exact if_neg (by omega), fun k k0 k1 => by unfold cpR; exact if_neg (by omega)⟩
                                            · rw [e8]; exact HP.sEq hsw
                                            · exact hM1.eq (by rw [aup_n (by omega), aup_n (by omega), aup_n (by omega)]) (by rw [aup_rn (by decide), aup_rn (by decide), aup_rn (by decide)])
                                            · obtain ⟨s4, dd4, N4, h4⟩ := hA2
                                              exact ⟨s4, dd4, N4, (h4.up0 hR2.1.2 (by decide)).up0 hR2.1.2 (by decide)⟩
                                            · rw [aup_rn b0, aup_rn b0, aup_rn b0, hM3 b b0 b1 b9 b11 b12]
                                            · rw [aup_n (by omega), aup_n (by omega), aup_n (by omega), hM4 i (by omega) (by omega) (by omega) (by omega) (by omega) (by omega)]
                                            · rw [aup_n (by omega), aup_n (by omega), T2.2.2.1 0 hR.o0.2.1 (by rw [hR.1.2]; exact hm2 _ (by decide)), aup_n (by omega), aup_n (by omega), aup_n (by omega), aup_n (by omega), hM4 34 (by decide) (by decide) (by decide) (by decide) (by decide) (by decide)]; exact ks5
                                            · rw [aup_n (by omega), aup_n (by omega), aup_n (by omega), hM4 34 (by decide) (by decide) (by decide) (by decide) (by decide) (by decide)]; exact ks6
                                            · rw [cr 29 j hR.a29.2.1 (by omega) (by rw [hR.2.2.2.2.2.2.2.2.2]; exact hm2 _ (by decide)), aup_rn (by decide), aup_rn (by decide), aup_rn (by decide), hM3 13 (by decide) (by decide) (by decide) (by decide) (by decide)]; exact ks7 j j0 j1
                                            · rw [aup_n (by omega), aup_n (by omega), T2.2.2.1 0 hR.o0.2.1 (by rw [hR.1.2]; exact hm2 _ (by decide)), aup_s, aup_s]
                                            · rw [aup_n (by omega), aup_s, aup_n (by omega), aup_n (by omega), aup_s]
                                            · rw [aup_s, aup_n (by omega), aup_s]
                                      · first
                                          | (exfalso; omega)
                                          | skip
                                            refine aw_aload_n dX7_odds_74 rfl ?_
                                            refine aw_bipush dX7_odds_75 (by decide) ?_
                                            refine c_X7_79 rfl dX7_odds_77 m_ob (Nat.le_of_ble_eq_true rfl) (by omega) (C_m_is (fun hz => ?_) (fun hz => ?_))
                                            · first
                                                | (exfalso; omega)
                                                | skip
                                                  refine aK_i ?_
                                                  refine aw_zreturn dX7_odds_80 rfl (by omega) ?_
                                                  first
                                                    | (exfalso; omega)
                                                    | (refine XR.sameE h ?_ ?_ ?_ ?_ ?_ ?_
                                                       · first
                                                           | rfl
                                                           | omega
                                                       · repeat (first | exact xs.rf | refine xs.up ?_ (by decide))
                                                       · repeat (first | exact mss.rf | refine mss.up0 ?_ (by decide))
                                                       · first
                                                           | (simp [aup, hv2, hv3, hv4]; done)
                                                           | (simp [aup, hv2, hv3, hv4]; omega)
                                                       · simp [aup, hv2, hv3, hv4]
                                                       · simp [aup, hv2, hv3, hv4])
                                            · first
                                                | (exfalso; omega)
                                                | skip
                                                  refine aK_i ?_
                                                  refine aw_zreturn dX7_odds_80 rfl (by omega) ?_
                                                  first
                                                    | (exfalso; omega)
                                                    | (refine XR.sameE h ?_ ?_ ?_ ?_ ?_ ?_
                                                       · first
                                                           | rfl
                                                           | omega
                                                       · repeat (first | exact xs.rf | refine xs.up ?_ (by decide))
                                                       · repeat (first | exact mss.rf | refine mss.up0 ?_ (by decide))
                                                       · first
                                                           | (simp [aup, hv2, hv3, hv4]; done)
                                                           | (simp [aup, hv2, hv3, hv4]; omega)
                                                       · simp [aup, hv2, hv3, hv4]
                                                       · simp [aup, hv2, hv3, hv4])
                                · first
                                    | (exfalso; omega)
                                    | skip
                                      refine aw_aload_n dX7_odds_57 rfl ?_
                                      refine aw_iconst dX7_odds_58 (by decide) ?_
                                      refine c_X7_79 rfl dX7_odds_59 m_ob (Nat.le_of_ble_eq_true rfl) (by omega) (C_m_is (fun hz => ?_) (fun hz => ?_))
                                      · first
                                          | (exfalso; omega)
                                          | skip
                                            refine aK_i ?_
                                            refine aw_zreturn dX7_odds_62 rfl (by omega) ?_
                                            first
                                              | (exfalso; omega)
                                              | (refine XR.sameE h ?_ ?_ ?_ ?_ ?_ ?_
                                                 · first
                                                     | rfl
                                                     | omega
                                                 · repeat (first | exact xs.rf | refine xs.up ?_ (by decide))
                                                 · repeat (first | exact mss.rf | refine mss.up0 ?_ (by decide))
                                                 · first
                                                     | (simp [aup, hv2, hv3, hv4]; done)
                                                     | (simp [aup, hv2, hv3, hv4]; omega)
                                                 · simp [aup, hv2, hv3, hv4]
                                                 · simp [aup, hv2, hv3, hv4])
                                      · first
                                          | (exfalso; omega)
                                          | skip
                                            refine aK_i ?_
                                            refine aw_zreturn dX7_odds_62 rfl (by omega) ?_
                                            first
                                              | (exfalso; omega)
                                              | (refine XR.sameE h ?_ ?_ ?_ ?_ ?_ ?_
                                                 · first
                                                     | rfl
                                                     | omega
                                                 · repeat (first | exact xs.rf | refine xs.up ?_ (by decide))
                                                 · repeat (first | exact mss.rf | refine mss.up0 ?_ (by decide))
                                                 · first
                                                     | (simp [aup, hv2, hv3, hv4]; done)
                                                     | (simp [aup, hv2, hv3, hv4]; omega)
                                                 · simp [aup, hv2, hv3, hv4]
                                                 · simp [aup, hv2, hv3, hv4])
                          · first
                              | (exfalso; omega)
                              | skip
                                refine aK_i ?_
                                refine aw_ifeq (tgt := 57) dX7_odds_42 (by decide) (fun _ => ?_) (fun h => absurd h (by decide))
                                refine aw_aload_n dX7_odds_57 rfl ?_
                                refine aw_iconst dX7_odds_58 (by decide) ?_
                                refine c_X7_79 rfl dX7_odds_59 m_ob (Nat.le_of_ble_eq_true rfl) (by omega) (C_m_is (fun hz => ?_) (fun hz => ?_))
                                · first
                                    | (exfalso; omega)
                                    | skip
                                      refine aK_i ?_
                                      refine aw_zreturn dX7_odds_62 rfl (by omega) ?_
                                      first
                                        | (exfalso; omega)
                                        | (refine XR.sameE h ?_ ?_ ?_ ?_ ?_ ?_
                                           · first
                                               | rfl
                                               | omega
                                           · repeat (first | exact xs.rf | refine xs.up ?_ (by decide))
                                           · repeat (first | exact mss.rf | refine mss.up0 ?_ (by decide))
                                           · first
                                               | (simp [aup, hv2, hv3, hv4]; done)
                                               | (simp [aup, hv2, hv3, hv4]; omega)
                                           · simp [aup, hv2, hv3, hv4]
                                           · simp [aup, hv2, hv3, hv4])
                                · first
                                    | (exfalso; omega)
                                    | skip
                                      refine aK_i ?_
                                      refine aw_zreturn dX7_odds_62 rfl (by omega) ?_
                                      first
                                        | (exfalso; omega)
                                        | (refine XR.sameE h ?_ ?_ ?_ ?_ ?_ ?_
                                           · first
                                               | rfl
                                               | omega
                                           · repeat (first | exact xs.rf | refine xs.up ?_ (by decide))
                                           · repeat (first | exact mss.rf | refine mss.up0 ?_ (by decide))
                                           · first
                                               | (simp [aup, hv2, hv3, hv4]; done)
                                               | (simp [aup, hv2, hv3, hv4]; omega)
                                           · simp [aup, hv2, hv3, hv4]
                                           · simp [aup, hv2, hv3, hv4])
                    · first
                        | (exfalso; omega)
                        | skip
                          refine aK_i ?_
                          refine aw_ifeq (tgt := 57) dX7_odds_29 (by decide) (fun _ => ?_) (fun h => absurd h (by decide))
                          refine aw_aload_n dX7_odds_57 rfl ?_
                          refine aw_iconst dX7_odds_58 (by decide) ?_
                          refine c_X7_79 rfl dX7_odds_59 m_ob (Nat.le_of_ble_eq_true rfl) (by omega) (C_m_is (fun hz => ?_) (fun hz => ?_))
                          · first
                              | (exfalso; omega)
                              | skip
                                refine aK_i ?_
                                refine aw_zreturn dX7_odds_62 rfl (by omega) ?_
                                first
                                  | (exfalso; omega)
                                  | (refine XR.sameE h ?_ ?_ ?_ ?_ ?_ ?_
                                     · first
                                         | rfl
                                         | omega
                                     · repeat (first | exact xs.rf | refine xs.up ?_ (by decide))
                                     · repeat (first | exact mss.rf | refine mss.up0 ?_ (by decide))
                                     · first
                                         | (simp [aup, hv2, hv3, hv4]; done)
                                         | (simp [aup, hv2, hv3, hv4]; omega)
                                     · simp [aup, hv2, hv3, hv4]
                                     · simp [aup, hv2, hv3, hv4])
                          · first
                              | (exfalso; omega)
                              | skip
                                refine aK_i ?_
                                refine aw_zreturn dX7_odds_62 rfl (by omega) ?_
                                first
                                  | (exfalso; omega)
                                  | (refine XR.sameE h ?_ ?_ ?_ ?_ ?_ ?_
                                     · first
                                         | rfl
                                         | omega
                                     · repeat (first | exact xs.rf | refine xs.up ?_ (by decide))
                                     · repeat (first | exact mss.rf | refine mss.up0 ?_ (by decide))
                                     · first
                                         | (simp [aup, hv2, hv3, hv4]; done)
                                         | (simp [aup, hv2, hv3, hv4]; omega)
                                     · simp [aup, hv2, hv3, hv4]
                                     · simp [aup, hv2, hv3, hv4])
              · first
                  | (exfalso; omega)
                  | skip
                    refine aK_i ?_
                    refine aw_ifeq (tgt := 57) dX7_odds_17 (by decide) (fun _ => ?_) (fun h => absurd h (by decide))
                    refine aw_aload_n dX7_odds_57 rfl ?_
                    refine aw_iconst dX7_odds_58 (by decide) ?_
                    refine c_X7_79 rfl dX7_odds_59 m_ob (Nat.le_of_ble_eq_true rfl) (by omega) (C_m_is (fun hz => ?_) (fun hz => ?_))
                    · first
                        | (exfalso; omega)
                        | skip
                          refine aK_i ?_
                          refine aw_zreturn dX7_odds_62 rfl (by omega) ?_
                          first
                            | (exfalso; omega)
                            | (refine XR.sameE h ?_ ?_ ?_ ?_ ?_ ?_
                               · first
                                   | rfl
                                   | omega
                               · repeat (first | exact xs.rf | refine xs.up ?_ (by decide))
                               · repeat (first | exact mss.rf | refine mss.up0 ?_ (by decide))
                               · first
                                   | (simp [aup, hv2, hv3, hv4]; done)
                                   | (simp [aup, hv2, hv3, hv4]; omega)
                               · simp [aup, hv2, hv3, hv4]
                               · simp [aup, hv2, hv3, hv4])
                    · first
                        | (exfalso; omega)
                        | skip
                          refine aK_i ?_
                          refine aw_zreturn dX7_odds_62 rfl (by omega) ?_
                          first
                            | (exfalso; omega)
                            | (refine XR.sameE h ?_ ?_ ?_ ?_ ?_ ?_
                               · first
                                   | rfl
                                   | omega
                               · repeat (first | exact xs.rf | refine xs.up ?_ (by decide))
                               · repeat (first | exact mss.rf | refine mss.up0 ?_ (by decide))
                               · first
                                   | (simp [aup, hv2, hv3, hv4]; done)
                                   | (simp [aup, hv2, hv3, hv4]; omega)
                               · simp [aup, hv2, hv3, hv4]
                               · simp [aup, hv2, hv3, hv4])
        · first
            | (exfalso; omega)
            | skip
              refine aK_i ?_
              refine aw_ifeq (tgt := 57) dX7_odds_5 (by decide) (fun _ => ?_) (fun h => absurd h (by decide))
              refine aw_aload_n dX7_odds_57 rfl ?_
              refine aw_iconst dX7_odds_58 (by decide) ?_
              refine c_X7_79 rfl dX7_odds_59 m_ob (Nat.le_of_ble_eq_true rfl) (by omega) (C_m_is (fun hz => ?_) (fun hz => ?_))
              · first
                  | (exfalso; omega)
                  | skip
                    refine aK_i ?_
                    refine aw_zreturn dX7_odds_62 rfl (by omega) ?_
                    first
                      | (exfalso; omega)
                      | (refine XR.sameE h ?_ ?_ ?_ ?_ ?_ ?_
                         · first
                             | rfl
                             | omega
                         · repeat (first | exact xs.rf | refine xs.up ?_ (by decide))
                         · repeat (first | exact mss.rf | refine mss.up0 ?_ (by decide))
                         · first
                             | (simp [aup, hv2, hv3, hv4]; done)
                             | (simp [aup, hv2, hv3, hv4]; omega)
                         · simp [aup, hv2, hv3, hv4]
                         · simp [aup, hv2, hv3, hv4])
              · first
                  | (exfalso; omega)
                  | skip
                    refine aK_i ?_
                    refine aw_zreturn dX7_odds_62 rfl (by omega) ?_
                    first
                      | (exfalso; omega)
                      | (refine XR.sameE h ?_ ?_ ?_ ?_ ?_ ?_
                         · first
                             | rfl
                             | omega
                         · repeat (first | exact xs.rf | refine xs.up ?_ (by decide))
                         · repeat (first | exact mss.rf | refine mss.up0 ?_ (by decide))
                         · first
                             | (simp [aup, hv2, hv3, hv4]; done)
                             | (simp [aup, hv2, hv3, hv4]; omega)
                         · simp [aup, hv2, hv3, hv4]
                         · simp [aup, hv2, hv3, hv4])
    · refine aK_i ?_
      refine aw_ifeq (tgt := 52) dX0_odds_18 (by decide) (fun _ => ?_) (fun h => absurd h (by decide))
      refine aw_iconst dX0_odds_52 (by decide) ?_
      refine aw_goto (tgt := 72) dX0_odds_53 (by decide) ?_
      refine p_X0_73_0 rfl dX0_odds_72 hR.o0 ?_
      refine aw_aload_n dX0_odds_75 rfl ?_
      refine g_X0_73_0 rfl dX0_odds_76 hR.o0 ?_
      repeat (first | rw [aup_s] | rw [aup_n (by omega)])
      refine aw_ifle (tgt := 84) dX0_odds_79 (by decide) (fun h => absurd h (by decide)) (fun _ => ?_)
      refine aw_iconst dX0_odds_82 (by decide) ?_
      refine aw_zreturn dX0_odds_83 rfl (Or.inl rfl) ?_
      refine ⟨_, rfl, ?_⟩
      refine AMet.go (L := [some (vR 0), some (vI a), some (vI b), some (vI c), some (vI e), none, none, none]) mok_X7_odds (Nat.le_of_ble_eq_true rfl) rfl ?_
      refine aw_aload_n dX7_odds_0 rfl ?_
      refine aw_iload_n dX7_odds_1 rfl ?_
      refine c_X7_274 rfl dX7_odds_2 m_ob (Nat.le_of_ble_eq_true rfl) (by omega) (C_m_isHive (fun hh => ?_) (fun hh => ?_))
      · first
          | (exfalso; omega)
          | skip
            refine aK_i ?_
            refine aw_ifeq (tgt := 57) dX7_odds_5 (by decide) (fun h => absurd h (by decide)) (fun _ => ?_)
            refine aw_iload_n dX7_odds_8 rfl ?_
            refine aw_i2l dX7_odds_9 ?_
            refine aw_lconst0 dX7_odds_10 ?_
            refine aw_ldc2 (x := 9999) dX7_odds_11 q1843 (by decide) ?_
            refine c_X7_306 rfl dX7_odds_14  (Nat.le_of_ble_eq_true rfl) (by omega) (C_m_isFrom (fun hfr => ?_) (fun hfr => ?_))
            · first
                | (exfalso; omega)
                | skip
                  refine aK_i ?_
                  refine aw_ifeq (tgt := 57) dX7_odds_17 (by decide) (fun h => absurd h (by decide)) (fun _ => ?_)
                  refine aw_iload_n dX7_odds_20 rfl ?_
                  refine aw_i2l dX7_odds_21 ?_
                  refine aw_lconst0 dX7_odds_22 ?_
                  refine aw_ldc2 (x := 9999) dX7_odds_23 q1843 (by decide) ?_
                  refine c_X7_306 rfl dX7_odds_26  (Nat.le_of_ble_eq_true rfl) (by omega) (C_m_isFrom (fun hfr => ?_) (fun hfr => ?_))
                  · first
                      | (exfalso; omega)
                      | skip
                        refine aK_i ?_
                        refine aw_ifeq (tgt := 57) dX7_odds_29 (by decide) (fun h => absurd h (by decide)) (fun _ => ?_)
                        refine aw_iload dX7_odds_32 rfl ?_
                        refine aw_i2l dX7_odds_34 ?_
                        refine aw_lconst1 dX7_odds_35 ?_
                        refine aw_ldc2 (x := 5) dX7_odds_36 q2064 (by decide) ?_
                        refine c_X7_306 rfl dX7_odds_39  (Nat.le_of_ble_eq_true rfl) (by omega) (C_m_isFrom (fun hfr => ?_) (fun hfr => ?_))
                        · first
                            | (exfalso; omega)
                            | skip
                              refine aK_i ?_
                              refine aw_ifeq (tgt := 57) dX7_odds_42 (by decide) (fun h => absurd h (by decide)) (fun _ => ?_)
                              refine aw_iload_n dX7_odds_45 rfl ?_
                              refine aw_iload dX7_odds_46 rfl ?_
                              refine aw_iaddr dX7_odds_48 (by omega) ?_
                              refine aw_iconst dX7_odds_49 (by decide) ?_
                              refine aw_isubr dX7_odds_50 (by omega) ?_
                              refine aw_sipush dX7_odds_51 (by decide) ?_
                              refine aw_icmple (tgt := 63) dX7_odds_54 (by decide) (fun h54 => ?_) (fun h54 => ?_)
                              · first
                                  | (exfalso; omega)
                                  | skip
                                    refine gm_7 rfl dX7_odds_63 dX7_odds_64 rfl ?_
                                    refine aw_bipush dX7_odds_67 (by decide) ?_
                                    refine aw_iaload dX7_odds_69 m_a1 (by omega) (by omega) ?_
                                    refine aw_iconst dX7_odds_70 (by decide) ?_
                                    refine aw_icmpne (tgt := 81) dX7_odds_71 (by decide) (fun h71 => ?_) (fun h71 => ?_)
                                    · first
                                        | (exfalso; omega)
                                        | skip
                                          refine aw_iconst dX7_odds_81 (by decide) ?_
                                          refine aw_istore5 dX7_odds_82 (by decide) rfl ?_
                                          refine L_m_od84 (ct := cm) (fun cm2 f1 f3 => ?_) 860 0 cm (by decide) (cpR_0 (f := 0) (t := 6150) (s := cm 1)).symm (fun _ _ => rfl)
                                          refine aw_iconst dX7_odds_116 (by decide) ?_
                                          refine aw_istore5 dX7_odds_117 (by decide) rfl ?_
                                          refine aw_iconst dX7_odds_119 (by decide) ?_
                                          refine aw_istore6 dX7_odds_120 (by decide) rfl ?_
                                          refine L_m_odds (s := (cpR 0 6150 860 (cm 1))) (by omega) hB1.1 HP1 hsv (by omega) (by omega) (by omega) (fun cm3 e9 hM => ?_) e.toNat 0 cm2 none (by omega) (by decide) ⟨HF.eq (by rw [f3 0 (by decide)]) (f3 9 (by decide)), f1, fun b b0 b1 _ _ _ => f3 b b1, fun i _ _ _ _ _ _ => by rw [f3 0 (by decide)]⟩
                                          refine aw_aload_n dX7_odds_201 rfl ?_
                                          refine aw_iload dX7_odds_202 rfl ?_
                                          refine aw_i2l dX7_odds_204 ?_
                                          refine aw_iload dX7_odds_205 rfl ?_
                                          refine aw_i2l dX7_odds_207 ?_
                                          refine c_X7_354 rfl dX7_odds_208 m_ob (Nat.le_of_ble_eq_true rfl) (by omega) (C_m_tellsBy (by omega) (by omega) ?_)
                                          refine aK_i ?_
                                          refine aw_zreturn dX7_odds_211 rfl (by omega) ?_
                                          obtain ⟨hM1, hM2, hM3, hM4⟩ := id hM
                                          obtain ⟨-, -, -, ⟨-, -, -, -, ks5, ks6⟩, -, ks7⟩ := id HX
                                          have cr : ∀ x j, x < sz → ¬ (x = 0 ∧ (j = 7 ∨ j = 8 ∨ j = 9 ∨ j = 15)) → ¬ tgY 4 (own x) → aup (aup ct2 0 8 (oddF (cpR 0 6150 860 (cm 1)) a b c e.toNat / gq (oddF (cpR 0 6150 860 (cm 1)) a b c e.toNat) e)) 0 9 (e / gq (oddF (cpR 0 6150 860 (cm 1)) a b c e.toNat) e) x j = ct x j := fun x j hx hn ht => by
                                            rw [aup_n (by omega), aup_n (by omega), T2.2.2.1 x hx ht, aup_n (by omega)]
                                          have TX : TG own own2 sz sz2 im im2 ct (aup (aup ct2 0 8 (oddF (cpR 0 6150 860 (cm 1)) a b c e.toNat / gq (oddF (cpR 0 6150 860 (cm 1)) a b c e.toNat) e)) 0 9 (e / gq (oddF (cpR 0 6150 860 (cm 1)) a b c e.toNat) e)) (fun t => t = -2 ∨ tgY 4 t) := ⟨T2.1, T2.2.1, fun x hx hf => funext fun j => cr x j hx (fun z => hf (Or.inl (by rw [z.1]; exact hR.1.2))) (fun z => hf (Or.inr z)), fun x hx hf => T2.2.2.2 x hx (fun z => hf (Or.inr z))⟩
                                          have n1 : ∀ t, 10 ≤ t → t < 40 → ¬ (t = -2 ∨ tgY 4 t) := fun t t0 t1 z => by rcases z with z | ⟨z1, z2⟩ <;> omega
                                          have n2 : ∀ t, 0 ≤ t → t < 10 → ¬ (t = -2 ∨ tgY 4 t) := fun t t0 t1 z => by rcases z with z | ⟨z1, z2⟩ <;> omega
                                          have e8 : ∀ v w, aup (aup (aup cm3 0 3 v) 0 4 w) 0 2 0 1 = (cpR 0 6150 860 (cm 1)) := fun v w => by rw [aup_rn (by decide), aup_rn (by decide), aup_rn (by decide)]; exact hM2
                                          refine ⟨rfl, _, rfl, XR.gen hR HN HS HX hp0 TX (fun z => by rcases z with z | ⟨z1, z2⟩ <;> omega) (fun t t0 t1 z => by rcases z with z | ⟨z1, z2⟩ <;> omega) n1 h02 (fun x j hx h2 h3 h4 => cr x j hx h3 (by rw [h2]; exact hm2 _ (by decide))) ?_ ?_ ?_ ?_ ?_ ?_ (fun b b0 b1 b9 b11 b12 b13 => ?_) (fun i hi => ?_) ⟨?_, ?_⟩ (fun j j0 j1 => ?_) ?_ ?_ ?_⟩
                                          · rw [e8]; exact (YR.tg TX (fun t t0 t1 => n2 t (by omega) (by omega)) HY).sEq hsw rfl
                                          · rw [e8, cr 10 0 HY.1.2.1 (by omega) (by rw [HY.2.1]; exact fun z => by have z1 := z.1; omega)]; exact (LR.tg TX (fun z => by rcases z with z | ⟨z1, z2⟩ <;> omega) HL).sEq hsw
                                          · rw [e8]; exact ⟨fun i hi => by unfold cpR; exact if_neg (by omega), fun k k0 k1 => by unfold cpR; exact if_neg (by omega)⟩
                                          · rw [e8]; exact HP.sEq hsw
                                          · exact hM1.eq (by rw [aup_n (by omega), aup_n (by omega), aup_n (by omega)]) (by rw [aup_rn (by decide), aup_rn (by decide), aup_rn (by decide)])
                                          · obtain ⟨s4, dd4, N4, h4⟩ := hA2
                                            exact ⟨s4, dd4, N4, (h4.up0 hR2.1.2 (by decide)).up0 hR2.1.2 (by decide)⟩
                                          · rw [aup_rn b0, aup_rn b0, aup_rn b0, hM3 b b0 b1 b9 b11 b12]
                                          · rw [aup_n (by omega), aup_n (by omega), aup_n (by omega), hM4 i (by omega) (by omega) (by omega) (by omega) (by omega) (by omega)]
                                          · rw [aup_n (by omega), aup_n (by omega), T2.2.2.1 0 hR.o0.2.1 (by rw [hR.1.2]; exact hm2 _ (by decide)), aup_n (by omega), aup_n (by omega), aup_n (by omega), aup_n (by omega), hM4 34 (by decide) (by decide) (by decide) (by decide) (by decide) (by decide)]; exact ks5
                                          · rw [aup_n (by omega), aup_n (by omega), aup_n (by omega), hM4 34 (by decide) (by decide) (by decide) (by decide) (by decide) (by decide)]; exact ks6
                                          · rw [cr 29 j hR.a29.2.1 (by omega) (by rw [hR.2.2.2.2.2.2.2.2.2]; exact hm2 _ (by decide)), aup_rn (by decide), aup_rn (by decide), aup_rn (by decide), hM3 13 (by decide) (by decide) (by decide) (by decide) (by decide)]; exact ks7 j j0 j1
                                          · rw [aup_n (by omega), aup_n (by omega), T2.2.2.1 0 hR.o0.2.1 (by rw [hR.1.2]; exact hm2 _ (by decide)), aup_s, aup_s]
                                          · rw [aup_n (by omega), aup_s, aup_n (by omega), aup_n (by omega), aup_s]
                                          · rw [aup_s, aup_n (by omega), aup_s]
                                    · first
                                        | (exfalso; omega)
                                        | skip
                                          refine aw_aload_n dX7_odds_74 rfl ?_
                                          refine aw_bipush dX7_odds_75 (by decide) ?_
                                          refine c_X7_79 rfl dX7_odds_77 m_ob (Nat.le_of_ble_eq_true rfl) (by omega) (C_m_is (fun hz => ?_) (fun hz => ?_))
                                          · first
                                              | (exfalso; omega)
                                              | skip
                                                refine aK_i ?_
                                                refine aw_zreturn dX7_odds_80 rfl (by omega) ?_
                                                first
                                                  | (exfalso; omega)
                                                  | (refine XR.sameE h ?_ ?_ ?_ ?_ ?_ ?_
                                                     · first
                                                         | rfl
                                                         | omega
                                                     · repeat (first | exact xs.rf | refine xs.up ?_ (by decide))
                                                     · repeat (first | exact mss.rf | refine mss.up0 ?_ (by decide))
                                                     · first
                                                         | (simp [aup, hv2, hv3, hv4]; done)
                                                         | (simp [aup, hv2, hv3, hv4]; omega)
                                                     · simp [aup, hv2, hv3, hv4]
                                                     · simp [aup, hv2, hv3, hv4])
                                          · first
                                              | (exfalso; omega)
                                              | skip
                                                refine aK_i ?_
                                                refine aw_zreturn dX7_odds_80 rfl (by omega) ?_
                                                first
                                                  | (exfalso; omega)
                                                  | (refine XR.sameE h ?_ ?_ ?_ ?_ ?_ ?_
                                                     · first
                                                         | rfl
                                                         | omega
                                                     · repeat (first | exact xs.rf | refine xs.up ?_ (by decide))
                                                     · repeat (first | exact mss.rf | refine mss.up0 ?_ (by decide))
                                                     · first
                                                         | (simp [aup, hv2, hv3, hv4]; done)
                                                         | (simp [aup, hv2, hv3, hv4]; omega)
                                                     · simp [aup, hv2, hv3, hv4]
                                                     · simp [aup, hv2, hv3, hv4])
                              · first
                                  | (exfalso; omega)
                                  | skip
                                    refine aw_aload_n dX7_odds_57 rfl ?_
                                    refine aw_iconst dX7_odds_58 (by decide) ?_
                                    refine c_X7_79 rfl dX7_odds_59 m_ob (Nat.le_of_ble_eq_true rfl) (by omega) (C_m_is (fun hz => ?_) (fun hz => ?_))
                                    · first
                                        | (exfalso; omega)
                                        | skip
                                          refine aK_i ?_
                                          refine aw_zreturn dX7_odds_62 rfl (by omega) ?_
                                          first
                                            | (exfalso; omega)
                                            | (refine XR.sameE h ?_ ?_ ?_ ?_ ?_ ?_
                                               · first
                                                   | rfl
                                                   | omega
                                               · repeat (first | exact xs.rf | refine xs.up ?_ (by decide))
                                               · repeat (first | exact mss.rf | refine mss.up0 ?_ (by decide))
                                               · first
                                                   | (simp [aup, hv2, hv3, hv4]; done)
                                                   | (simp [aup, hv2, hv3, hv4]; omega)
                                               · simp [aup, hv2, hv3, hv4]
                                               · simp [aup, hv2, hv3, hv4])
                                    · first
                                        | (exfalso; omega)
                                        | skip
                                          refine aK_i ?_
                                          refine aw_zreturn dX7_odds_62 rfl (by omega) ?_
                                          first
                                            | (exfalso; omega)
                                            | (refine XR.sameE h ?_ ?_ ?_ ?_ ?_ ?_
                                               · first
                                                   | rfl
                                                   | omega
                                               · repeat (first | exact xs.rf | refine xs.up ?_ (by decide))
                                               · repeat (first | exact mss.rf | refine mss.up0 ?_ (by decide))
                                               · first
                                                   | (simp [aup, hv2, hv3, hv4]; done)
                                                   | (simp [aup, hv2, hv3, hv4]; omega)
                                               · simp [aup, hv2, hv3, hv4]
                                               · simp [aup, hv2, hv3, hv4])
                        · first
                            | (exfalso; omega)
                            | skip
                              refine aK_i ?_
                              refine aw_ifeq (tgt := 57) dX7_odds_42 (by decide) (fun _ => ?_) (fun h => absurd h (by decide))
                              refine aw_aload_n dX7_odds_57 rfl ?_
                              refine aw_iconst dX7_odds_58 (by decide) ?_
                              refine c_X7_79 rfl dX7_odds_59 m_ob (Nat.le_of_ble_eq_true rfl) (by omega) (C_m_is (fun hz => ?_) (fun hz => ?_))
                              · first
                                  | (exfalso; omega)
                                  | skip
                                    refine aK_i ?_
                                    refine aw_zreturn dX7_odds_62 rfl (by omega) ?_
                                    first
                                      | (exfalso; omega)
                                      | (refine XR.sameE h ?_ ?_ ?_ ?_ ?_ ?_
                                         · first
                                             | rfl
                                             | omega
                                         · repeat (first | exact xs.rf | refine xs.up ?_ (by decide))
                                         · repeat (first | exact mss.rf | refine mss.up0 ?_ (by decide))
                                         · first
                                             | (simp [aup, hv2, hv3, hv4]; done)
                                             | (simp [aup, hv2, hv3, hv4]; omega)
                                         · simp [aup, hv2, hv3, hv4]
                                         · simp [aup, hv2, hv3, hv4])
                              · first
                                  | (exfalso; omega)
                                  | skip
                                    refine aK_i ?_
                                    refine aw_zreturn dX7_odds_62 rfl (by omega) ?_
                                    first
                                      | (exfalso; omega)
                                      | (refine XR.sameE h ?_ ?_ ?_ ?_ ?_ ?_
                                         · first
                                             | rfl
                                             | omega
                                         · repeat (first | exact xs.rf | refine xs.up ?_ (by decide))
                                         · repeat (first | exact mss.rf | refine mss.up0 ?_ (by decide))
                                         · first
                                             | (simp [aup, hv2, hv3, hv4]; done)
                                             | (simp [aup, hv2, hv3, hv4]; omega)
                                         · simp [aup, hv2, hv3, hv4]
                                         · simp [aup, hv2, hv3, hv4])
                  · first
                      | (exfalso; omega)
                      | skip
                        refine aK_i ?_
                        refine aw_ifeq (tgt := 57) dX7_odds_29 (by decide) (fun _ => ?_) (fun h => absurd h (by decide))
                        refine aw_aload_n dX7_odds_57 rfl ?_
                        refine aw_iconst dX7_odds_58 (by decide) ?_
                        refine c_X7_79 rfl dX7_odds_59 m_ob (Nat.le_of_ble_eq_true rfl) (by omega) (C_m_is (fun hz => ?_) (fun hz => ?_))
                        · first
                            | (exfalso; omega)
                            | skip
                              refine aK_i ?_
                              refine aw_zreturn dX7_odds_62 rfl (by omega) ?_
                              first
                                | (exfalso; omega)
                                | (refine XR.sameE h ?_ ?_ ?_ ?_ ?_ ?_
                                   · first
                                       | rfl
                                       | omega
                                   · repeat (first | exact xs.rf | refine xs.up ?_ (by decide))
                                   · repeat (first | exact mss.rf | refine mss.up0 ?_ (by decide))
                                   · first
                                       | (simp [aup, hv2, hv3, hv4]; done)
                                       | (simp [aup, hv2, hv3, hv4]; omega)
                                   · simp [aup, hv2, hv3, hv4]
                                   · simp [aup, hv2, hv3, hv4])
                        · first
                            | (exfalso; omega)
                            | skip
                              refine aK_i ?_
                              refine aw_zreturn dX7_odds_62 rfl (by omega) ?_
                              first
                                | (exfalso; omega)
                                | (refine XR.sameE h ?_ ?_ ?_ ?_ ?_ ?_
                                   · first
                                       | rfl
                                       | omega
                                   · repeat (first | exact xs.rf | refine xs.up ?_ (by decide))
                                   · repeat (first | exact mss.rf | refine mss.up0 ?_ (by decide))
                                   · first
                                       | (simp [aup, hv2, hv3, hv4]; done)
                                       | (simp [aup, hv2, hv3, hv4]; omega)
                                   · simp [aup, hv2, hv3, hv4]
                                   · simp [aup, hv2, hv3, hv4])
            · first
                | (exfalso; omega)
                | skip
                  refine aK_i ?_
                  refine aw_ifeq (tgt := 57) dX7_odds_17 (by decide) (fun _ => ?_) (fun h => absurd h (by decide))
                  refine aw_aload_n dX7_odds_57 rfl ?_
                  refine aw_iconst dX7_odds_58 (by decide) ?_
                  refine c_X7_79 rfl dX7_odds_59 m_ob (Nat.le_of_ble_eq_true rfl) (by omega) (C_m_is (fun hz => ?_) (fun hz => ?_))
                  · first
                      | (exfalso; omega)
                      | skip
                        refine aK_i ?_
                        refine aw_zreturn dX7_odds_62 rfl (by omega) ?_
                        first
                          | (exfalso; omega)
                          | (refine XR.sameE h ?_ ?_ ?_ ?_ ?_ ?_
                             · first
                                 | rfl
                                 | omega
                             · repeat (first | exact xs.rf | refine xs.up ?_ (by decide))
                             · repeat (first | exact mss.rf | refine mss.up0 ?_ (by decide))
                             · first
                                 | (simp [aup, hv2, hv3, hv4]; done)
                                 | (simp [aup, hv2, hv3, hv4]; omega)
                             · simp [aup, hv2, hv3, hv4]
                             · simp [aup, hv2, hv3, hv4])
                  · first
                      | (exfalso; omega)
                      | skip
                        refine aK_i ?_
                        refine aw_zreturn dX7_odds_62 rfl (by omega) ?_
                        first
                          | (exfalso; omega)
                          | (refine XR.sameE h ?_ ?_ ?_ ?_ ?_ ?_
                             · first
                                 | rfl
                                 | omega
                             · repeat (first | exact xs.rf | refine xs.up ?_ (by decide))
                             · repeat (first | exact mss.rf | refine mss.up0 ?_ (by decide))
                             · first
                                 | (simp [aup, hv2, hv3, hv4]; done)
                                 | (simp [aup, hv2, hv3, hv4]; omega)
                             · simp [aup, hv2, hv3, hv4]
                             · simp [aup, hv2, hv3, hv4])
      · first
          | (exfalso; omega)
          | skip
            refine aK_i ?_
            refine aw_ifeq (tgt := 57) dX7_odds_5 (by decide) (fun _ => ?_) (fun h => absurd h (by decide))
            refine aw_aload_n dX7_odds_57 rfl ?_
            refine aw_iconst dX7_odds_58 (by decide) ?_
            refine c_X7_79 rfl dX7_odds_59 m_ob (Nat.le_of_ble_eq_true rfl) (by omega) (C_m_is (fun hz => ?_) (fun hz => ?_))
            · first
                | (exfalso; omega)
                | skip
                  refine aK_i ?_
                  refine aw_zreturn dX7_odds_62 rfl (by omega) ?_
                  first
                    | (exfalso; omega)
                    | (refine XR.sameE h ?_ ?_ ?_ ?_ ?_ ?_
                       · first
                           | rfl
                           | omega
                       · repeat (first | exact xs.rf | refine xs.up ?_ (by decide))
                       · repeat (first | exact mss.rf | refine mss.up0 ?_ (by decide))
                       · first
                           | (simp [aup, hv2, hv3, hv4]; done)
                           | (simp [aup, hv2, hv3, hv4]; omega)
                       · simp [aup, hv2, hv3, hv4]
                       · simp [aup, hv2, hv3, hv4])
            · first
                | (exfalso; omega)
                | skip
                  refine aK_i ?_
                  refine aw_zreturn dX7_odds_62 rfl (by omega) ?_
                  first
                    | (exfalso; omega)
                    | (refine XR.sameE h ?_ ?_ ?_ ?_ ?_ ?_
                       · first
                           | rfl
                           | omega
                       · repeat (first | exact xs.rf | refine xs.up ?_ (by decide))
                       · repeat (first | exact mss.rf | refine mss.up0 ?_ (by decide))
                       · first
                           | (simp [aup, hv2, hv3, hv4]; done)
                           | (simp [aup, hv2, hv3, hv4]; omega)
                       · simp [aup, hv2, hv3, hv4]
                       · simp [aup, hv2, hv3, hv4])
  · refine aK_i ?_
    refine aw_ifeq (tgt := 52) dX0_odds_6 (by decide) (fun _ => ?_) (fun h => absurd h (by decide))
    refine aw_iconst dX0_odds_52 (by decide) ?_
    refine aw_goto (tgt := 72) dX0_odds_53 (by decide) ?_
    refine p_X0_73_0 rfl dX0_odds_72 hR.o0 ?_
    refine aw_aload_n dX0_odds_75 rfl ?_
    refine g_X0_73_0 rfl dX0_odds_76 hR.o0 ?_
    repeat (first | rw [aup_s] | rw [aup_n (by omega)])
    refine aw_ifle (tgt := 84) dX0_odds_79 (by decide) (fun h => absurd h (by decide)) (fun _ => ?_)
    refine aw_iconst dX0_odds_82 (by decide) ?_
    refine aw_zreturn dX0_odds_83 rfl (Or.inl rfl) ?_
    refine ⟨_, rfl, ?_⟩
    refine AMet.go (L := [some (vR 0), some (vI a), some (vI b), some (vI c), some (vI e), none, none, none]) mok_X7_odds (Nat.le_of_ble_eq_true rfl) rfl ?_
    refine aw_aload_n dX7_odds_0 rfl ?_
    refine aw_iload_n dX7_odds_1 rfl ?_
    refine c_X7_274 rfl dX7_odds_2 m_ob (Nat.le_of_ble_eq_true rfl) (by omega) (C_m_isHive (fun hh => ?_) (fun hh => ?_))
    · first
        | (exfalso; omega)
        | skip
          refine aK_i ?_
          refine aw_ifeq (tgt := 57) dX7_odds_5 (by decide) (fun h => absurd h (by decide)) (fun _ => ?_)
          refine aw_iload_n dX7_odds_8 rfl ?_
          refine aw_i2l dX7_odds_9 ?_
          refine aw_lconst0 dX7_odds_10 ?_
          refine aw_ldc2 (x := 9999) dX7_odds_11 q1843 (by decide) ?_
          refine c_X7_306 rfl dX7_odds_14  (Nat.le_of_ble_eq_true rfl) (by omega) (C_m_isFrom (fun hfr => ?_) (fun hfr => ?_))
          · first
              | (exfalso; omega)
              | skip
                refine aK_i ?_
                refine aw_ifeq (tgt := 57) dX7_odds_17 (by decide) (fun h => absurd h (by decide)) (fun _ => ?_)
                refine aw_iload_n dX7_odds_20 rfl ?_
                refine aw_i2l dX7_odds_21 ?_
                refine aw_lconst0 dX7_odds_22 ?_
                refine aw_ldc2 (x := 9999) dX7_odds_23 q1843 (by decide) ?_
                refine c_X7_306 rfl dX7_odds_26  (Nat.le_of_ble_eq_true rfl) (by omega) (C_m_isFrom (fun hfr => ?_) (fun hfr => ?_))
                · first
                    | (exfalso; omega)
                    | skip
                      refine aK_i ?_
                      refine aw_ifeq (tgt := 57) dX7_odds_29 (by decide) (fun h => absurd h (by decide)) (fun _ => ?_)
                      refine aw_iload dX7_odds_32 rfl ?_
                      refine aw_i2l dX7_odds_34 ?_
                      refine aw_lconst1 dX7_odds_35 ?_
                      refine aw_ldc2 (x := 5) dX7_odds_36 q2064 (by decide) ?_
                      refine c_X7_306 rfl dX7_odds_39  (Nat.le_of_ble_eq_true rfl) (by omega) (C_m_isFrom (fun hfr => ?_) (fun hfr => ?_))
                      · first
                          | (exfalso; omega)
                          | skip
                            refine aK_i ?_
                            refine aw_ifeq (tgt := 57) dX7_odds_42 (by decide) (fun h => absurd h (by decide)) (fun _ => ?_)
                            refine aw_iload_n dX7_odds_45 rfl ?_
                            refine aw_iload dX7_odds_46 rfl ?_
                            refine aw_iaddr dX7_odds_48 (by omega) ?_
                            refine aw_iconst dX7_odds_49 (by decide) ?_
                            refine aw_isubr dX7_odds_50 (by omega) ?_
                            refine aw_sipush dX7_odds_51 (by decide) ?_
                            refine aw_icmple (tgt := 63) dX7_odds_54 (by decide) (fun h54 => ?_) (fun h54 => ?_)
                            · first
                                | (exfalso; omega)
                                | skip
                                  refine gm_7 rfl dX7_odds_63 dX7_odds_64 rfl ?_
                                  refine aw_bipush dX7_odds_67 (by decide) ?_
                                  refine aw_iaload dX7_odds_69 m_a1 (by omega) (by omega) ?_
                                  refine aw_iconst dX7_odds_70 (by decide) ?_
                                  refine aw_icmpne (tgt := 81) dX7_odds_71 (by decide) (fun h71 => ?_) (fun h71 => ?_)
                                  · first
                                      | (exfalso; omega)
                                      | skip
                                        refine aw_iconst dX7_odds_81 (by decide) ?_
                                        refine aw_istore5 dX7_odds_82 (by decide) rfl ?_
                                        refine L_m_od84 (ct := cm) (fun cm2 f1 f3 => ?_) 860 0 cm (by decide) (cpR_0 (f := 0) (t := 6150) (s := cm 1)).symm (fun _ _ => rfl)
                                        refine aw_iconst dX7_odds_116 (by decide) ?_
                                        refine aw_istore5 dX7_odds_117 (by decide) rfl ?_
                                        refine aw_iconst dX7_odds_119 (by decide) ?_
                                        refine aw_istore6 dX7_odds_120 (by decide) rfl ?_
                                        refine L_m_odds (s := (cpR 0 6150 860 (cm 1))) (by omega) hB1.1 HP1 hsv (by omega) (by omega) (by omega) (fun cm3 e9 hM => ?_) e.toNat 0 cm2 none (by omega) (by decide) ⟨HF.eq (by rw [f3 0 (by decide)]) (f3 9 (by decide)), f1, fun b b0 b1 _ _ _ => f3 b b1, fun i _ _ _ _ _ _ => by rw [f3 0 (by decide)]⟩
                                        refine aw_aload_n dX7_odds_201 rfl ?_
                                        refine aw_iload dX7_odds_202 rfl ?_
                                        refine aw_i2l dX7_odds_204 ?_
                                        refine aw_iload dX7_odds_205 rfl ?_
                                        refine aw_i2l dX7_odds_207 ?_
                                        refine c_X7_354 rfl dX7_odds_208 m_ob (Nat.le_of_ble_eq_true rfl) (by omega) (C_m_tellsBy (by omega) (by omega) ?_)
                                        refine aK_i ?_
                                        refine aw_zreturn dX7_odds_211 rfl (by omega) ?_
                                        obtain ⟨hM1, hM2, hM3, hM4⟩ := id hM
                                        obtain ⟨-, -, -, ⟨-, -, -, -, ks5, ks6⟩, -, ks7⟩ := id HX
                                        have cr : ∀ x j, x < sz → ¬ (x = 0 ∧ (j = 7 ∨ j = 8 ∨ j = 9 ∨ j = 15)) → ¬ tgY 4 (own x) → aup (aup ct2 0 8 (oddF (cpR 0 6150 860 (cm 1)) a b c e.toNat / gq (oddF (cpR 0 6150 860 (cm 1)) a b c e.toNat) e)) 0 9 (e / gq (oddF (cpR 0 6150 860 (cm 1)) a b c e.toNat) e) x j = ct x j := fun x j hx hn ht => by
                                          rw [aup_n (by omega), aup_n (by omega), T2.2.2.1 x hx ht, aup_n (by omega)]
                                        have TX : TG own own2 sz sz2 im im2 ct (aup (aup ct2 0 8 (oddF (cpR 0 6150 860 (cm 1)) a b c e.toNat / gq (oddF (cpR 0 6150 860 (cm 1)) a b c e.toNat) e)) 0 9 (e / gq (oddF (cpR 0 6150 860 (cm 1)) a b c e.toNat) e)) (fun t => t = -2 ∨ tgY 4 t) := ⟨T2.1, T2.2.1, fun x hx hf => funext fun j => cr x j hx (fun z => hf (Or.inl (by rw [z.1]; exact hR.1.2))) (fun z => hf (Or.inr z)), fun x hx hf => T2.2.2.2 x hx (fun z => hf (Or.inr z))⟩
                                        have n1 : ∀ t, 10 ≤ t → t < 40 → ¬ (t = -2 ∨ tgY 4 t) := fun t t0 t1 z => by rcases z with z | ⟨z1, z2⟩ <;> omega
                                        have n2 : ∀ t, 0 ≤ t → t < 10 → ¬ (t = -2 ∨ tgY 4 t) := fun t t0 t1 z => by rcases z with z | ⟨z1, z2⟩ <;> omega
                                        have e8 : ∀ v w, aup (aup (aup cm3 0 3 v) 0 4 w) 0 2 0 1 = (cpR 0 6150 860 (cm 1)) := fun v w => by rw [aup_rn (by decide), aup_rn (by decide), aup_rn (by decide)]; exact hM2
                                        refine ⟨rfl, _, rfl, XR.gen hR HN HS HX hp0 TX (fun z => by rcases z with z | ⟨z1, z2⟩ <;> omega) (fun t t0 t1 z => by rcases z with z | ⟨z1, z2⟩ <;> omega) n1 h02 (fun x j hx h2 h3 h4 => cr x j hx h3 (by rw [h2]; exact hm2 _ (by decide))) ?_ ?_ ?_ ?_ ?_ ?_ (fun b b0 b1 b9 b11 b12 b13 => ?_) (fun i hi => ?_) ⟨?_, ?_⟩ (fun j j0 j1 => ?_) ?_ ?_ ?_⟩
                                        · rw [e8]; exact (YR.tg TX (fun t t0 t1 => n2 t (by omega) (by omega)) HY).sEq hsw rfl
                                        · rw [e8, cr 10 0 HY.1.2.1 (by omega) (by rw [HY.2.1]; exact fun z => by have z1 := z.1; omega)]; exact (LR.tg TX (fun z => by rcases z with z | ⟨z1, z2⟩ <;> omega) HL).sEq hsw
                                        · rw [e8]; exact ⟨fun i hi => by unfold cpR; exact if_neg (by omega), fun k k0 k1 => by unfold cpR; exact if_neg (by omega)⟩
                                        · rw [e8]; exact HP.sEq hsw
                                        · exact hM1.eq (by rw [aup_n (by omega), aup_n (by omega), aup_n (by omega)]) (by rw [aup_rn (by decide), aup_rn (by decide), aup_rn (by decide)])
                                        · obtain ⟨s4, dd4, N4, h4⟩ := hA2
                                          exact ⟨s4, dd4, N4, (h4.up0 hR2.1.2 (by decide)).up0 hR2.1.2 (by decide)⟩
                                        · rw [aup_rn b0, aup_rn b0, aup_rn b0, hM3 b b0 b1 b9 b11 b12]
                                        · rw [aup_n (by omega), aup_n (by omega), aup_n (by omega), hM4 i (by omega) (by omega) (by omega) (by omega) (by omega) (by omega)]
                                        · rw [aup_n (by omega), aup_n (by omega), T2.2.2.1 0 hR.o0.2.1 (by rw [hR.1.2]; exact hm2 _ (by decide)), aup_n (by omega), aup_n (by omega), aup_n (by omega), aup_n (by omega), hM4 34 (by decide) (by decide) (by decide) (by decide) (by decide) (by decide)]; exact ks5
                                        · rw [aup_n (by omega), aup_n (by omega), aup_n (by omega), hM4 34 (by decide) (by decide) (by decide) (by decide) (by decide) (by decide)]; exact ks6
                                        · rw [cr 29 j hR.a29.2.1 (by omega) (by rw [hR.2.2.2.2.2.2.2.2.2]; exact hm2 _ (by decide)), aup_rn (by decide), aup_rn (by decide), aup_rn (by decide), hM3 13 (by decide) (by decide) (by decide) (by decide) (by decide)]; exact ks7 j j0 j1
                                        · rw [aup_n (by omega), aup_n (by omega), T2.2.2.1 0 hR.o0.2.1 (by rw [hR.1.2]; exact hm2 _ (by decide)), aup_s, aup_s]
                                        · rw [aup_n (by omega), aup_s, aup_n (by omega), aup_n (by omega), aup_s]
                                        · rw [aup_s, aup_n (by omega), aup_s]
                                  · first
                                      | (exfalso; omega)
                                      | skip
                                        refine aw_aload_n dX7_odds_74 rfl ?_
                                        refine aw_bipush dX7_odds_75 (by decide) ?_
                                        refine c_X7_79 rfl dX7_odds_77 m_ob (Nat.le_of_ble_eq_true rfl) (by omega) (C_m_is (fun hz => ?_) (fun hz => ?_))
                                        · first
                                            | (exfalso; omega)
                                            | skip
                                              refine aK_i ?_
                                              refine aw_zreturn dX7_odds_80 rfl (by omega) ?_
                                              first
                                                | (exfalso; omega)
                                                | (refine XR.sameE h ?_ ?_ ?_ ?_ ?_ ?_
                                                   · first
                                                       | rfl
                                                       | omega
                                                   · repeat (first | exact xs.rf | refine xs.up ?_ (by decide))
                                                   · repeat (first | exact mss.rf | refine mss.up0 ?_ (by decide))
                                                   · first
                                                       | (simp [aup, hv2, hv3, hv4]; done)
                                                       | (simp [aup, hv2, hv3, hv4]; omega)
                                                   · simp [aup, hv2, hv3, hv4]
                                                   · simp [aup, hv2, hv3, hv4])
                                        · first
                                            | (exfalso; omega)
                                            | skip
                                              refine aK_i ?_
                                              refine aw_zreturn dX7_odds_80 rfl (by omega) ?_
                                              first
                                                | (exfalso; omega)
                                                | (refine XR.sameE h ?_ ?_ ?_ ?_ ?_ ?_
                                                   · first
                                                       | rfl
                                                       | omega
                                                   · repeat (first | exact xs.rf | refine xs.up ?_ (by decide))
                                                   · repeat (first | exact mss.rf | refine mss.up0 ?_ (by decide))
                                                   · first
                                                       | (simp [aup, hv2, hv3, hv4]; done)
                                                       | (simp [aup, hv2, hv3, hv4]; omega)
                                                   · simp [aup, hv2, hv3, hv4]
                                                   · simp [aup, hv2, hv3, hv4])
                            · first
                                | (exfalso; omega)
                                | skip
                                  refine aw_aload_n dX7_odds_57 rfl ?_
                                  refine aw_iconst dX7_odds_58 (by decide) ?_
                                  refine c_X7_79 rfl dX7_odds_59 m_ob (Nat.le_of_ble_eq_true rfl) (by omega) (C_m_is (fun hz => ?_) (fun hz => ?_))
                                  · first
                                      | (exfalso; omega)
                                      | skip
                                        refine aK_i ?_
                                        refine aw_zreturn dX7_odds_62 rfl (by omega) ?_
                                        first
                                          | (exfalso; omega)
                                          | (refine XR.sameE h ?_ ?_ ?_ ?_ ?_ ?_
                                             · first
                                                 | rfl
                                                 | omega
                                             · repeat (first | exact xs.rf | refine xs.up ?_ (by decide))
                                             · repeat (first | exact mss.rf | refine mss.up0 ?_ (by decide))
                                             · first
                                                 | (simp [aup, hv2, hv3, hv4]; done)
                                                 | (simp [aup, hv2, hv3, hv4]; omega)
                                             · simp [aup, hv2, hv3, hv4]
                                             · simp [aup, hv2, hv3, hv4])
                                  · first
                                      | (exfalso; omega)
                                      | skip
                                        refine aK_i ?_
                                        refine aw_zreturn dX7_odds_62 rfl (by omega) ?_
                                        first
                                          | (exfalso; omega)
                                          | (refine XR.sameE h ?_ ?_ ?_ ?_ ?_ ?_
                                             · first
                                                 | rfl
                                                 | omega
                                             · repeat (first | exact xs.rf | refine xs.up ?_ (by decide))
                                             · repeat (first | exact mss.rf | refine mss.up0 ?_ (by decide))
                                             · first
                                                 | (simp [aup, hv2, hv3, hv4]; done)
                                                 | (simp [aup, hv2, hv3, hv4]; omega)
                                             · simp [aup, hv2, hv3, hv4]
                                             · simp [aup, hv2, hv3, hv4])
                      · first
                          | (exfalso; omega)
                          | skip
                            refine aK_i ?_
                            refine aw_ifeq (tgt := 57) dX7_odds_42 (by decide) (fun _ => ?_) (fun h => absurd h (by decide))
                            refine aw_aload_n dX7_odds_57 rfl ?_
                            refine aw_iconst dX7_odds_58 (by decide) ?_
                            refine c_X7_79 rfl dX7_odds_59 m_ob (Nat.le_of_ble_eq_true rfl) (by omega) (C_m_is (fun hz => ?_) (fun hz => ?_))
                            · first
                                | (exfalso; omega)
                                | skip
                                  refine aK_i ?_
                                  refine aw_zreturn dX7_odds_62 rfl (by omega) ?_
                                  first
                                    | (exfalso; omega)
                                    | (refine XR.sameE h ?_ ?_ ?_ ?_ ?_ ?_
                                       · first
                                           | rfl
                                           | omega
                                       · repeat (first | exact xs.rf | refine xs.up ?_ (by decide))
                                       · repeat (first | exact mss.rf | refine mss.up0 ?_ (by decide))
                                       · first
                                           | (simp [aup, hv2, hv3, hv4]; done)
                                           | (simp [aup, hv2, hv3, hv4]; omega)
                                       · simp [aup, hv2, hv3, hv4]
                                       · simp [aup, hv2, hv3, hv4])
                            · first
                                | (exfalso; omega)
                                | skip
                                  refine aK_i ?_
                                  refine aw_zreturn dX7_odds_62 rfl (by omega) ?_
                                  first
                                    | (exfalso; omega)
                                    | (refine XR.sameE h ?_ ?_ ?_ ?_ ?_ ?_
                                       · first
                                           | rfl
                                           | omega
                                       · repeat (first | exact xs.rf | refine xs.up ?_ (by decide))
                                       · repeat (first | exact mss.rf | refine mss.up0 ?_ (by decide))
                                       · first
                                           | (simp [aup, hv2, hv3, hv4]; done)
                                           | (simp [aup, hv2, hv3, hv4]; omega)
                                       · simp [aup, hv2, hv3, hv4]
                                       · simp [aup, hv2, hv3, hv4])
                · first
                    | (exfalso; omega)
                    | skip
                      refine aK_i ?_
                      refine aw_ifeq (tgt := 57) dX7_odds_29 (by decide) (fun _ => ?_) (fun h => absurd h (by decide))
                      refine aw_aload_n dX7_odds_57 rfl ?_
                      refine aw_iconst dX7_odds_58 (by decide) ?_
                      refine c_X7_79 rfl dX7_odds_59 m_ob (Nat.le_of_ble_eq_true rfl) (by omega) (C_m_is (fun hz => ?_) (fun hz => ?_))
                      · first
                          | (exfalso; omega)
                          | skip
                            refine aK_i ?_
                            refine aw_zreturn dX7_odds_62 rfl (by omega) ?_
                            first
                              | (exfalso; omega)
                              | (refine XR.sameE h ?_ ?_ ?_ ?_ ?_ ?_
                                 · first
                                     | rfl
                                     | omega
                                 · repeat (first | exact xs.rf | refine xs.up ?_ (by decide))
                                 · repeat (first | exact mss.rf | refine mss.up0 ?_ (by decide))
                                 · first
                                     | (simp [aup, hv2, hv3, hv4]; done)
                                     | (simp [aup, hv2, hv3, hv4]; omega)
                                 · simp [aup, hv2, hv3, hv4]
                                 · simp [aup, hv2, hv3, hv4])
                      · first
                          | (exfalso; omega)
                          | skip
                            refine aK_i ?_
                            refine aw_zreturn dX7_odds_62 rfl (by omega) ?_
                            first
                              | (exfalso; omega)
                              | (refine XR.sameE h ?_ ?_ ?_ ?_ ?_ ?_
                                 · first
                                     | rfl
                                     | omega
                                 · repeat (first | exact xs.rf | refine xs.up ?_ (by decide))
                                 · repeat (first | exact mss.rf | refine mss.up0 ?_ (by decide))
                                 · first
                                     | (simp [aup, hv2, hv3, hv4]; done)
                                     | (simp [aup, hv2, hv3, hv4]; omega)
                                 · simp [aup, hv2, hv3, hv4]
                                 · simp [aup, hv2, hv3, hv4])
          · first
              | (exfalso; omega)
              | skip
                refine aK_i ?_
                refine aw_ifeq (tgt := 57) dX7_odds_17 (by decide) (fun _ => ?_) (fun h => absurd h (by decide))
                refine aw_aload_n dX7_odds_57 rfl ?_
                refine aw_iconst dX7_odds_58 (by decide) ?_
                refine c_X7_79 rfl dX7_odds_59 m_ob (Nat.le_of_ble_eq_true rfl) (by omega) (C_m_is (fun hz => ?_) (fun hz => ?_))
                · first
                    | (exfalso; omega)
                    | skip
                      refine aK_i ?_
                      refine aw_zreturn dX7_odds_62 rfl (by omega) ?_
                      first
                        | (exfalso; omega)
                        | (refine XR.sameE h ?_ ?_ ?_ ?_ ?_ ?_
                           · first
                               | rfl
                               | omega
                           · repeat (first | exact xs.rf | refine xs.up ?_ (by decide))
                           · repeat (first | exact mss.rf | refine mss.up0 ?_ (by decide))
                           · first
                               | (simp [aup, hv2, hv3, hv4]; done)
                               | (simp [aup, hv2, hv3, hv4]; omega)
                           · simp [aup, hv2, hv3, hv4]
                           · simp [aup, hv2, hv3, hv4])
                · first
                    | (exfalso; omega)
                    | skip
                      refine aK_i ?_
                      refine aw_zreturn dX7_odds_62 rfl (by omega) ?_
                      first
                        | (exfalso; omega)
                        | (refine XR.sameE h ?_ ?_ ?_ ?_ ?_ ?_
                           · first
                               | rfl
                               | omega
                           · repeat (first | exact xs.rf | refine xs.up ?_ (by decide))
                           · repeat (first | exact mss.rf | refine mss.up0 ?_ (by decide))
                           · first
                               | (simp [aup, hv2, hv3, hv4]; done)
                               | (simp [aup, hv2, hv3, hv4]; omega)
                           · simp [aup, hv2, hv3, hv4]
                           · simp [aup, hv2, hv3, hv4])
    · first
        | (exfalso; omega)
        | skip
          refine aK_i ?_
          refine aw_ifeq (tgt := 57) dX7_odds_5 (by decide) (fun _ => ?_) (fun h => absurd h (by decide))
          refine aw_aload_n dX7_odds_57 rfl ?_
          refine aw_iconst dX7_odds_58 (by decide) ?_
          refine c_X7_79 rfl dX7_odds_59 m_ob (Nat.le_of_ble_eq_true rfl) (by omega) (C_m_is (fun hz => ?_) (fun hz => ?_))
          · first
              | (exfalso; omega)
              | skip
                refine aK_i ?_
                refine aw_zreturn dX7_odds_62 rfl (by omega) ?_
                first
                  | (exfalso; omega)
                  | (refine XR.sameE h ?_ ?_ ?_ ?_ ?_ ?_
                     · first
                         | rfl
                         | omega
                     · repeat (first | exact xs.rf | refine xs.up ?_ (by decide))
                     · repeat (first | exact mss.rf | refine mss.up0 ?_ (by decide))
                     · first
                         | (simp [aup, hv2, hv3, hv4]; done)
                         | (simp [aup, hv2, hv3, hv4]; omega)
                     · simp [aup, hv2, hv3, hv4]
                     · simp [aup, hv2, hv3, hv4])
          · first
              | (exfalso; omega)
              | skip
                refine aK_i ?_
                refine aw_zreturn dX7_odds_62 rfl (by omega) ?_
                first
                  | (exfalso; omega)
                  | (refine XR.sameE h ?_ ?_ ?_ ?_ ?_ ?_
                     · first
                         | rfl
                         | omega
                     · repeat (first | exact xs.rf | refine xs.up ?_ (by decide))
                     · repeat (first | exact mss.rf | refine mss.up0 ?_ (by decide))
                     · first
                         | (simp [aup, hv2, hv3, hv4]; done)
                         | (simp [aup, hv2, hv3, hv4]; omega)
                     · simp [aup, hv2, hv3, hv4]
                     · simp [aup, hv2, hv3, hv4])
