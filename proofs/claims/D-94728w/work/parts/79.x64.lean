set_option maxRecDepth 100000
/-! operations, 28: tray -/
theorem XR.newrow {own N : Int → Int} {sz : Int} {im : Int → aIm} {ct cm cm2 : Int → Int → Int} {a b n : Int} (hR : RT own sz im ct) (HY : YR own 0 sz im ct 10 (cm 1) (cm 1 3) N) (HL : LR own sz im ct (ct 10 0) (cm 1) N) (HN : NRl N (cm 2) (cm 1)) (HS : SE own sz im ct (cm 1) (ct 9 1)) (HP : PI (cm 1)) (HF : Fok cm) (HX : XO own sz im ct cm) (hv3 : ct 0 8 = cm 0 3) (hv4 : ct 0 9 = cm 0 4) (ha : 0 ≤ a ∧ a < 4) (hb : 0 ≤ b ∧ b ≤ 3) (hn : 0 ≤ n ∧ n ≤ 60)
    (fm : ∀ x i, x ≠ 3 → x ≠ 4 → x ≠ 5 → ¬ (x = 0 ∧ i = 2) → cm2 x i = cm x i) (f3 : ∀ i, cm2 3 i = if i = a then b else cm 3 i) (f4 : ∀ i, cm2 4 i = if i = a then n else cm 4 i) (f5 : ∀ i, cm2 5 i = if 60 * a ≤ i ∧ i < 60 * a + n then 0 else cm 5 i) (f2 : cm2 0 2 = 0) : XR (sz + 1, upA im sz (50 + b.toNat, n.toNat, fun _ => 0), aup (upA (aup ct 0 7 0) sz (fun _ => 0)) (2 + a) 0 sz) cm2 := by
  have hsz0 : 30 ≤ sz := by have := hR.a29.2.1; omega
  obtain ⟨ct3, h3⟩ : ∃ f, f = aup (upA (aup ct 0 7 0) sz (fun _ => 0)) (2 + a) 0 sz := ⟨_, rfl⟩
  rw [← h3]
  have zo : ∀ x, x < sz → (fun x => if x < sz then own x else -10 - a) x = own x := fun x hx => if_pos hx
  have zc : ∀ x j, x < sz → x ≠ 2 + a → ¬ (x = 0 ∧ j = 7) → ct3 x j = ct x j := fun x j hx h1 h2 => by rw [h3, aup_rn h1, upA_n (by omega), aup_n h2]
  have zn : ∀ j, ct3 sz j = 0 := fun j => by rw [h3, aup_rn (by omega), upA_s]
  have z2 : ct3 (2 + a) 0 = sz := by rw [h3, aup_s]
  have z7 : ct3 0 7 = 0 := by rw [h3, aup_rn (by omega), upA_n (by omega), aup_s]
  have m0 : ∀ i, i ≠ 2 → cm2 0 i = cm 0 i := fun i hi => fm 0 i (by decide) (by decide) (by decide) (by omega)
  have mr : ∀ x, x ≠ 0 → x ≠ 3 → x ≠ 4 → x ≠ 5 → cm2 x = cm x := fun x h0 h3 h4 h5 => funext fun i => fm x i h3 h4 h5 (by omega)
  have ta := hR.tr4 ha.1 ha.2
  have TX : TG own (fun x => if x < sz then own x else -10 - a) sz (sz + 1) im (upA im sz (50 + b.toNat, n.toNat, fun _ => 0)) ct ct3 (fun t => t = -2) := ⟨by omega, fun x hx => upA_n (by omega), fun x hx hf => funext fun j => zc x j hx (fun z => hf (by rw [z]; exact ta.2.2)) (fun z => hf (by rw [z.1]; exact hR.1.2)), fun x hx _ => zo x hx⟩
  obtain ⟨kt1, ⟨kt2, kt3, kt4⟩, ⟨s4, dd4, N4, kt5⟩, ⟨ks1, ks2, ks3, ks4, ks5, ks6⟩, kt12, kt13⟩ := id HX
  have e1 := mr 1 (by decide) (by decide) (by decide) (by decide)
  refine XR.gen3 hR HN HS HX HP.1 TX (by decide) (fun t t0 t1 => by omega) (fun t t0 t1 => by omega) (fun x hx h => (zo x hx).trans h) (fun x j hx h2 h5 h6 h7 => zc x j hx (h7 a ha.1 ha.2) (by omega)) ?_ ?_ ?_ (by rw [e1]; exact HP) (HF.eq (m0 24 (by decide)) (mr 9 (by decide) (by decide) (by decide) (by decide))) ⟨s4, dd4, N4, YR.tg TX (fun t t0 t1 => by omega) kt5⟩ (fun t t0 t1 => ?_) (fun x x0 x1 x3 x4 x5 _ _ _ _ => mr x x0 x3 x4 x5) (fun i hi => m0 i (by omega)) ⟨?_, by rw [m0 34 (by decide)]; exact ks6⟩ (fun j j0 j1 => ?_) (by rw [z7, f2]) ?_ ?_
  · rw [e1]; exact YR.tg TX (fun t t0 t1 => by omega) HY
  · rw [e1, zc 10 0 (by omega) (by omega) (by omega)]; exact LR.tg TX (by decide) HL
  · rw [e1]; exact ⟨fun _ _ => rfl, fun _ _ _ => rfl⟩
  · by_cases hta : t = a
    · subst hta
      refine Or.inr ⟨by rw [f3, if_pos rfl]; exact hb, by rw [f4, if_pos rfl]; exact hn, ?_, ?_, fun j j0 j1 => ?_⟩
      · rw [z2, f3, if_pos rfl, f4, if_pos rfl]
        exact ⟨by omega, by omega, by rw [upA_s], by rw [upA_s]; show ((n.toNat : Nat) : Int) = n; omega⟩
      · rw [z2]; exact if_neg (by omega)
      · rw [f4, if_pos rfl] at j1
        rw [z2, zn, f5, if_pos (by omega)]
    · exact TRY.tg TX (by omega) (zc _ _ (by have := (hR.tr4 t0 t1).2.1.2.1; omega) (by omega) (by omega)) (by rw [f3, if_neg hta]) (by rw [f4, if_neg hta]) (fun j j0 j1 => by rw [f5, if_neg (by omega)]) (kt1 t t0 t1)
  · rw [zc 0 15 (by omega) (by omega) (by omega), m0 34 (by decide)]; exact ks5
  · rw [zc 29 j (by omega) (by omega) (by omega), mr 13 (by decide) (by decide) (by decide) (by decide)]; exact kt13 j j0 j1
  · rw [zc 0 8 (by omega) (by omega) (by omega), m0 3 (by decide)]; exact hv3
  · rw [zc 0 9 (by omega) (by omega) (by omega), m0 4 (by decide)]; exact hv4
theorem L_m_tray {ct : Int → Int → Int} {a b n : Int} {Q : aPost} {d kc ks : Nat} (ha : 0 ≤ a ∧ a < 4) (hn : 0 ≤ n ∧ n ≤ 60) (K : ∀ ct1 : Int → Int → Int, (∀ x, x ≠ 5 → ct1 x = ct x) → (∀ i, ct1 5 i = if 60 * a ≤ i ∧ i < 60 * a + n then 0 else ct 5 i) → AW (mq Q) md_X7_tray d kc ks 74 [some (vR 0), some (vI a), some (vI b), some (vI n), some (vI n)] [] (gM ct1)) : ∀ (r : Nat) (k : Int) (ct1 : Int → Int → Int), k + r = n → 0 ≤ k → (∀ x, x ≠ 5 → ct1 x = ct x) → (∀ i, ct1 5 i = if 60 * a ≤ i ∧ i < 60 * a + k then 0 else ct 5 i) → AW (mq Q) md_X7_tray d kc ks 49 [some (vR 0), some (vI a), some (vI b), some (vI n), some (vI k)] [] (gM ct1) := by
  intro r
  induction r with
  | zero =>
    intro k ct1 h1 h2 h3 h4
    have ek : k = n := by omega
    subst ek
    refine aw_iload dX7_tray_49 rfl ?_
    refine aw_iload_n dX7_tray_51 rfl ?_
    refine aw_icmpge (tgt := 74) dX7_tray_52 (by decide) (fun h52 => ?_) (fun h52 => ?_)
    · exact K ct1 h3 h4
    · exfalso; omega
  | succ r ih =>
    intro k ct1 h1 h2 h3 h4
    refine aw_iload dX7_tray_49 rfl ?_
    refine aw_iload_n dX7_tray_51 rfl ?_
    refine aw_icmpge (tgt := 74) dX7_tray_52 (by decide) (fun h52 => ?_) (fun h52 => ?_)
    · exfalso; omega
    · refine gm_27 rfl dX7_tray_55 dX7_tray_56 rfl ?_
      refine aw_bipush dX7_tray_59 (by decide) ?_
      refine aw_iload_n dX7_tray_61 rfl ?_
      refine aw_imulr dX7_tray_62 (by omega) ?_
      refine aw_iload dX7_tray_63 rfl ?_
      refine aw_iaddr dX7_tray_65 (by omega) ?_
      refine aw_lconst0 dX7_tray_66 ?_
      refine aw_lastore dX7_tray_67 m_a5 (by omega) (by omega) ?_
      refine aw_iinc4r dX7_tray_68 (by decide) (by decide) rfl (by omega) ?_
      refine aw_goto (tgt := 49) dX7_tray_71 (by decide) ?_
      refine ih (k + 1) _ (by omega) (by omega) (fun x hx => by rw [aup_rn hx]; exact h3 x hx) (fun i => ?_)
      by_cases z : i = 60 * a + k
      · subst z; rw [aup_s, if_pos (by omega)]
      · rw [aup_n (by omega), h4]
        by_cases z2 : 60 * a ≤ i ∧ i < 60 * a + k
        · rw [if_pos z2, if_pos (by omega)]
        · rw [if_neg z2, if_neg (by omega)]
theorem OP_tray {sz : Int} {im : Int → aIm} {ct cm : Int → Int → Int} (h : XR (sz, im, ct) cm) {a b c : Int} (r0 : -2147483648 ≤ a ∧ a < 2147483648) (r1 : -2147483648 ≤ b ∧ b < 2147483648) (r2 : -2147483648 ≤ c ∧ c < 2147483648)  : AMet md_X0_tray 163 3 222 [vR 0, vI a, vI b, vI c] (sz, im, ct) (XQ md_X7_tray 2 [vR 0, vI a, vI b, vI c] cm) := by
  obtain ⟨own, N, hR, HY, HL, HN, HS, HP, HF, HX, hv2, hv3, hv4⟩ := id h
  dsimp only at hR HY HL HS HX hv2 hv3 hv4
  have hp0 := HP.1
  have hp3 := HP.2.1
  have hpq := HP.2.2.2.1.1
  have hps := HP.2.2.2.2.2
  refine AMet.goW (L := [some (vR 0), some (vI a), some (vI b), some (vI c), none]) mok_X0_tray (Nat.le_of_ble_eq_true rfl) rfl ?_
  refine aw_aload_n dX0_tray_0 rfl ?_
  refine aw_iconst dX0_tray_1 (by decide) ?_
  refine p_X0_73_0 rfl dX0_tray_2 hR.o0 ?_
  refine aw_aload_n dX0_tray_5 rfl ?_
  refine aw_iload_n dX0_tray_6 rfl ?_
  refine aw_iflt (tgt := 34) dX0_tray_7 (by decide) (fun h7 => ?_) (fun h7 => ?_)
  · refine aw_iconst dX0_tray_34 (by decide) ?_
    refine aw_iconst dX0_tray_35 (by decide) ?_
    refine c_X0_98 rfl dX0_tray_36 hR.o0 (Nat.le_of_ble_eq_true rfl) (by omega) (C_x_want hR (fun hb => ?_) (fun hb => ?_))
    · exact absurd rfl hb
    · refine aK_x (ax_catch (E := 1) (pre := [{ startPc := 5, endPc := 54, handlerPc := 55, catchType := 109 }]) (z := { startPc := 5, endPc := 54, handlerPc := 64, catchType := 41 }) (suf := []) rfl (fun y hy => by rw [List.mem_singleton.mp hy]; exact Or.inr ⟨by decide, _, q444, by decide +kernel⟩) rfl (by decide) q235 q237 ?_)
      refine aw_astore4 dX0_tray_64 (by decide) rfl ?_
      refine aw_aload_n dX0_tray_66 rfl ?_
      refine aw_aload dX0_tray_67 rfl ?_
      refine c_X0_111 rfl dX0_tray_69 hR.o0 (Nat.le_of_ble_eq_true rfl) (by omega) (C_x_no (hR.up0 (j := 7) (v := 0)) ?_)
      refine aK_i ?_
      refine aw_zreturn dX0_tray_72 rfl (by omega) ?_
      refine ⟨_, rfl, ?_⟩
      refine AMet.go (L := [some (vR 0), some (vI a), some (vI b), some (vI c), none]) mok_X7_tray (Nat.le_of_ble_eq_true rfl) rfl ?_
      refine aw_iload_n dX7_tray_0 rfl ?_
      refine c_X7_83 rfl dX7_tray_1  (Nat.le_of_ble_eq_true rfl) (by omega) (C_m_isTray (fun htr => ?_) (fun htr => ?_))
      · first
          | (exfalso; omega)
          | skip
            refine aK_i ?_
            refine aw_ifeq (tgt := 26) dX7_tray_4 (by decide) (fun h => absurd h (by decide)) (fun _ => ?_)
            refine aw_iload_n dX7_tray_7 rfl ?_
            refine aw_iflt (tgt := 26) dX7_tray_8 (by decide) (fun h8 => ?_) (fun h8 => ?_)
            · first
                | (exfalso; omega)
                | skip
                  refine aw_aload_n dX7_tray_26 rfl ?_
                  refine aw_iconst dX7_tray_27 (by decide) ?_
                  refine c_X7_79 rfl dX7_tray_28 m_ob (Nat.le_of_ble_eq_true rfl) (by omega) (C_m_is (fun hz => ?_) (fun hz => ?_))
                  · first
                      | (exfalso; omega)
                      | skip
                        refine aK_i ?_
                        refine aw_zreturn dX7_tray_31 rfl (by omega) ?_
                        first
                          | (exfalso; omega)
                          | (refine ⟨by first | rfl | (rw [aup_rn (show ct (2 + a) 0 ≠ 0 from fun z => by rw [z] at y4; have := hR.1.2; omega), aup_rn (by decide), y5 b j0 j1]), _, rfl, XR.try hR HY HL HN HS HP HF HX hv3 hv4 (fun x j h8 h0 _ => ?_) (fun x i _ _ _ h0 => ?_) (fun t t0 t1 => TRY.fr (HX.1 t t0 t1) ?_ (fun x j hx => ?_) ?_ ?_ (fun j j0 j1 => ?_)) ?_⟩
                             · (repeat (first | rw [aup_n h0] | rw [aup_rn h8]))
                             · rw [aup_n h0]
                             · (repeat rw [aup_n (by omega)])
                             · have o8 := hR.2.2.2.2.2.1.2; have o0 := hR.1.2
                               (repeat rw [aup_rn (fun z => by rw [z] at hx; omega)])
                             · rw [aup_rn (by decide)]
                             · rw [aup_rn (by decide)]
                             · rw [aup_rn (by decide)]
                             · simp [aup])
                          | (refine ⟨rfl, _, rfl, XR.newrow (a := a) (b := b) (n := c) hR HY HL HN HS HP HF HX hv3 hv4 (by omega) (by omega) (by omega) (fun x i x3 x4 x5 h0 => ?_) (fun i => ?_) (fun i => ?_) (fun i => ?_) ?_⟩
                             · rw [aup_n h0, g1 x x5, aup_rn x4, aup_rn x3]
                             · rw [aup_rn (by decide), g1 3 (by decide), aup_rn (by decide)]
                               by_cases z : i = a
                               · subst z; rw [aup_s, if_pos rfl]
                               · rw [aup_n (by omega), if_neg z]
                             · rw [aup_rn (by decide), g1 4 (by decide)]
                               by_cases z : i = a
                               · subst z; rw [aup_s, if_pos rfl]
                               · rw [aup_n (by omega), if_neg z, aup_rn (by decide)]
                             · rw [aup_rn (by decide), g2, aup_rn (by decide), aup_rn (by decide)]
                             · rw [aup_s])
                  · first
                      | (exfalso; omega)
                      | skip
                        refine aK_i ?_
                        refine aw_zreturn dX7_tray_31 rfl (by omega) ?_
                        first
                          | (exfalso; omega)
                          | (refine ⟨by first | rfl | (rw [aup_rn (show ct (2 + a) 0 ≠ 0 from fun z => by rw [z] at y4; have := hR.1.2; omega), aup_rn (by decide), y5 b j0 j1]), _, rfl, XR.try hR HY HL HN HS HP HF HX hv3 hv4 (fun x j h8 h0 _ => ?_) (fun x i _ _ _ h0 => ?_) (fun t t0 t1 => TRY.fr (HX.1 t t0 t1) ?_ (fun x j hx => ?_) ?_ ?_ (fun j j0 j1 => ?_)) ?_⟩
                             · (repeat (first | rw [aup_n h0] | rw [aup_rn h8]))
                             · rw [aup_n h0]
                             · (repeat rw [aup_n (by omega)])
                             · have o8 := hR.2.2.2.2.2.1.2; have o0 := hR.1.2
                               (repeat rw [aup_rn (fun z => by rw [z] at hx; omega)])
                             · rw [aup_rn (by decide)]
                             · rw [aup_rn (by decide)]
                             · rw [aup_rn (by decide)]
                             · simp [aup])
                          | (refine ⟨rfl, _, rfl, XR.newrow (a := a) (b := b) (n := c) hR HY HL HN HS HP HF HX hv3 hv4 (by omega) (by omega) (by omega) (fun x i x3 x4 x5 h0 => ?_) (fun i => ?_) (fun i => ?_) (fun i => ?_) ?_⟩
                             · rw [aup_n h0, g1 x x5, aup_rn x4, aup_rn x3]
                             · rw [aup_rn (by decide), g1 3 (by decide), aup_rn (by decide)]
                               by_cases z : i = a
                               · subst z; rw [aup_s, if_pos rfl]
                               · rw [aup_n (by omega), if_neg z]
                             · rw [aup_rn (by decide), g1 4 (by decide)]
                               by_cases z : i = a
                               · subst z; rw [aup_s, if_pos rfl]
                               · rw [aup_n (by omega), if_neg z, aup_rn (by decide)]
                             · rw [aup_rn (by decide), g2, aup_rn (by decide), aup_rn (by decide)]
                             · rw [aup_s])
            · first
                | (exfalso; omega)
                | skip
                  refine aw_iload_n dX7_tray_11 rfl ?_
                  refine aw_iconst dX7_tray_12 (by decide) ?_
                  refine aw_icmpgt (tgt := 26) dX7_tray_13 (by decide) (fun h13 => ?_) (fun h13 => ?_)
                  · first
                      | (exfalso; omega)
                      | skip
                        refine aw_aload_n dX7_tray_26 rfl ?_
                        refine aw_iconst dX7_tray_27 (by decide) ?_
                        refine c_X7_79 rfl dX7_tray_28 m_ob (Nat.le_of_ble_eq_true rfl) (by omega) (C_m_is (fun hz => ?_) (fun hz => ?_))
                        · first
                            | (exfalso; omega)
                            | skip
                              refine aK_i ?_
                              refine aw_zreturn dX7_tray_31 rfl (by omega) ?_
                              first
                                | (exfalso; omega)
                                | (refine ⟨by first | rfl | (rw [aup_rn (show ct (2 + a) 0 ≠ 0 from fun z => by rw [z] at y4; have := hR.1.2; omega), aup_rn (by decide), y5 b j0 j1]), _, rfl, XR.try hR HY HL HN HS HP HF HX hv3 hv4 (fun x j h8 h0 _ => ?_) (fun x i _ _ _ h0 => ?_) (fun t t0 t1 => TRY.fr (HX.1 t t0 t1) ?_ (fun x j hx => ?_) ?_ ?_ (fun j j0 j1 => ?_)) ?_⟩
                                   · (repeat (first | rw [aup_n h0] | rw [aup_rn h8]))
                                   · rw [aup_n h0]
                                   · (repeat rw [aup_n (by omega)])
                                   · have o8 := hR.2.2.2.2.2.1.2; have o0 := hR.1.2
                                     (repeat rw [aup_rn (fun z => by rw [z] at hx; omega)])
                                   · rw [aup_rn (by decide)]
                                   · rw [aup_rn (by decide)]
                                   · rw [aup_rn (by decide)]
                                   · simp [aup])
                                | (refine ⟨rfl, _, rfl, XR.newrow (a := a) (b := b) (n := c) hR HY HL HN HS HP HF HX hv3 hv4 (by omega) (by omega) (by omega) (fun x i x3 x4 x5 h0 => ?_) (fun i => ?_) (fun i => ?_) (fun i => ?_) ?_⟩
                                   · rw [aup_n h0, g1 x x5, aup_rn x4, aup_rn x3]
                                   · rw [aup_rn (by decide), g1 3 (by decide), aup_rn (by decide)]
                                     by_cases z : i = a
                                     · subst z; rw [aup_s, if_pos rfl]
                                     · rw [aup_n (by omega), if_neg z]
                                   · rw [aup_rn (by decide), g1 4 (by decide)]
                                     by_cases z : i = a
                                     · subst z; rw [aup_s, if_pos rfl]
                                     · rw [aup_n (by omega), if_neg z, aup_rn (by decide)]
                                   · rw [aup_rn (by decide), g2, aup_rn (by decide), aup_rn (by decide)]
                                   · rw [aup_s])
                        · first
                            | (exfalso; omega)
                            | skip
                              refine aK_i ?_
                              refine aw_zreturn dX7_tray_31 rfl (by omega) ?_
                              first
                                | (exfalso; omega)
                                | (refine ⟨by first | rfl | (rw [aup_rn (show ct (2 + a) 0 ≠ 0 from fun z => by rw [z] at y4; have := hR.1.2; omega), aup_rn (by decide), y5 b j0 j1]), _, rfl, XR.try hR HY HL HN HS HP HF HX hv3 hv4 (fun x j h8 h0 _ => ?_) (fun x i _ _ _ h0 => ?_) (fun t t0 t1 => TRY.fr (HX.1 t t0 t1) ?_ (fun x j hx => ?_) ?_ ?_ (fun j j0 j1 => ?_)) ?_⟩
                                   · (repeat (first | rw [aup_n h0] | rw [aup_rn h8]))
                                   · rw [aup_n h0]
                                   · (repeat rw [aup_n (by omega)])
                                   · have o8 := hR.2.2.2.2.2.1.2; have o0 := hR.1.2
                                     (repeat rw [aup_rn (fun z => by rw [z] at hx; omega)])
                                   · rw [aup_rn (by decide)]
                                   · rw [aup_rn (by decide)]
                                   · rw [aup_rn (by decide)]
                                   · simp [aup])
                                | (refine ⟨rfl, _, rfl, XR.newrow (a := a) (b := b) (n := c) hR HY HL HN HS HP HF HX hv3 hv4 (by omega) (by omega) (by omega) (fun x i x3 x4 x5 h0 => ?_) (fun i => ?_) (fun i => ?_) (fun i => ?_) ?_⟩
                                   · rw [aup_n h0, g1 x x5, aup_rn x4, aup_rn x3]
                                   · rw [aup_rn (by decide), g1 3 (by decide), aup_rn (by decide)]
                                     by_cases z : i = a
                                     · subst z; rw [aup_s, if_pos rfl]
                                     · rw [aup_n (by omega), if_neg z]
                                   · rw [aup_rn (by decide), g1 4 (by decide)]
                                     by_cases z : i = a
                                     · subst z; rw [aup_s, if_pos rfl]
                                     · rw [aup_n (by omega), if_neg z, aup_rn (by decide)]
                                   · rw [aup_rn (by decide), g2, aup_rn (by decide), aup_rn (by decide)]
                                   · rw [aup_s])
                  · first
                      | (exfalso; omega)
                      | skip
                        refine aw_iload_n dX7_tray_16 rfl ?_
                        refine aw_iflt (tgt := 26) dX7_tray_17 (by decide) (fun h17 => ?_) (fun h17 => ?_)
                        · first
                            | (exfalso; omega)
                            | skip
                              refine aw_aload_n dX7_tray_26 rfl ?_
                              refine aw_iconst dX7_tray_27 (by decide) ?_
                              refine c_X7_79 rfl dX7_tray_28 m_ob (Nat.le_of_ble_eq_true rfl) (by omega) (C_m_is (fun hz => ?_) (fun hz => ?_))
                              · first
                                  | (exfalso; omega)
                                  | skip
                                    refine aK_i ?_
                                    refine aw_zreturn dX7_tray_31 rfl (by omega) ?_
                                    first
                                      | (exfalso; omega)
                                      | (refine ⟨by first | rfl | (rw [aup_rn (show ct (2 + a) 0 ≠ 0 from fun z => by rw [z] at y4; have := hR.1.2; omega), aup_rn (by decide), y5 b j0 j1]), _, rfl, XR.try hR HY HL HN HS HP HF HX hv3 hv4 (fun x j h8 h0 _ => ?_) (fun x i _ _ _ h0 => ?_) (fun t t0 t1 => TRY.fr (HX.1 t t0 t1) ?_ (fun x j hx => ?_) ?_ ?_ (fun j j0 j1 => ?_)) ?_⟩
                                         · (repeat (first | rw [aup_n h0] | rw [aup_rn h8]))
                                         · rw [aup_n h0]
                                         · (repeat rw [aup_n (by omega)])
                                         · have o8 := hR.2.2.2.2.2.1.2; have o0 := hR.1.2
                                           (repeat rw [aup_rn (fun z => by rw [z] at hx; omega)])
                                         · rw [aup_rn (by decide)]
                                         · rw [aup_rn (by decide)]
                                         · rw [aup_rn (by decide)]
                                         · simp [aup])
                                      | (refine ⟨rfl, _, rfl, XR.newrow (a := a) (b := b) (n := c) hR HY HL HN HS HP HF HX hv3 hv4 (by omega) (by omega) (by omega) (fun x i x3 x4 x5 h0 => ?_) (fun i => ?_) (fun i => ?_) (fun i => ?_) ?_⟩
                                         · rw [aup_n h0, g1 x x5, aup_rn x4, aup_rn x3]
                                         · rw [aup_rn (by decide), g1 3 (by decide), aup_rn (by decide)]
                                           by_cases z : i = a
                                           · subst z; rw [aup_s, if_pos rfl]
                                           · rw [aup_n (by omega), if_neg z]
                                         · rw [aup_rn (by decide), g1 4 (by decide)]
                                           by_cases z : i = a
                                           · subst z; rw [aup_s, if_pos rfl]
                                           · rw [aup_n (by omega), if_neg z, aup_rn (by decide)]
                                         · rw [aup_rn (by decide), g2, aup_rn (by decide), aup_rn (by decide)]
                                         · rw [aup_s])
                              · first
                                  | (exfalso; omega)
                                  | skip
                                    refine aK_i ?_
                                    refine aw_zreturn dX7_tray_31 rfl (by omega) ?_
                                    first
                                      | (exfalso; omega)
                                      | (refine ⟨by first | rfl | (rw [aup_rn (show ct (2 + a) 0 ≠ 0 from fun z => by rw [z] at y4; have := hR.1.2; omega), aup_rn (by decide), y5 b j0 j1]), _, rfl, XR.try hR HY HL HN HS HP HF HX hv3 hv4 (fun x j h8 h0 _ => ?_) (fun x i _ _ _ h0 => ?_) (fun t t0 t1 => TRY.fr (HX.1 t t0 t1) ?_ (fun x j hx => ?_) ?_ ?_ (fun j j0 j1 => ?_)) ?_⟩
                                         · (repeat (first | rw [aup_n h0] | rw [aup_rn h8]))
                                         · rw [aup_n h0]
                                         · (repeat rw [aup_n (by omega)])
                                         · have o8 := hR.2.2.2.2.2.1.2; have o0 := hR.1.2
                                           (repeat rw [aup_rn (fun z => by rw [z] at hx; omega)])
                                         · rw [aup_rn (by decide)]
                                         · rw [aup_rn (by decide)]
                                         · rw [aup_rn (by decide)]
                                         · simp [aup])
                                      | (refine ⟨rfl, _, rfl, XR.newrow (a := a) (b := b) (n := c) hR HY HL HN HS HP HF HX hv3 hv4 (by omega) (by omega) (by omega) (fun x i x3 x4 x5 h0 => ?_) (fun i => ?_) (fun i => ?_) (fun i => ?_) ?_⟩
                                         · rw [aup_n h0, g1 x x5, aup_rn x4, aup_rn x3]
                                         · rw [aup_rn (by decide), g1 3 (by decide), aup_rn (by decide)]
                                           by_cases z : i = a
                                           · subst z; rw [aup_s, if_pos rfl]
                                           · rw [aup_n (by omega), if_neg z]
                                         · rw [aup_rn (by decide), g1 4 (by decide)]
                                           by_cases z : i = a
                                           · subst z; rw [aup_s, if_pos rfl]
                                           · rw [aup_n (by omega), if_neg z, aup_rn (by decide)]
                                         · rw [aup_rn (by decide), g2, aup_rn (by decide), aup_rn (by decide)]
                                         · rw [aup_s])
                        · first
                            | (exfalso; omega)
                            | skip
                              refine aw_iload_n dX7_tray_20 rfl ?_
                              refine aw_bipush dX7_tray_21 (by decide) ?_
                              refine aw_icmple (tgt := 32) dX7_tray_23 (by decide) (fun h23 => ?_) (fun h23 => ?_)
                              · first
                                  | (exfalso; omega)
                                  | skip
                                    refine gm_21 rfl dX7_tray_32 dX7_tray_33 rfl ?_
                                    refine aw_iload_n dX7_tray_36 rfl ?_
                                    refine aw_iload_n dX7_tray_37 rfl ?_
                                    refine aw_iastore dX7_tray_38 m_a3 (by omega) (by omega) ?_
                                    refine gm_24 rfl dX7_tray_39 dX7_tray_40 rfl ?_
                                    refine aw_iload_n dX7_tray_43 rfl ?_
                                    refine aw_iload_n dX7_tray_44 rfl ?_
                                    refine aw_iastore dX7_tray_45 m_a4 (by omega) (by omega) ?_
                                    refine aw_iconst dX7_tray_46 (by decide) ?_
                                    refine aw_istore4 dX7_tray_47 (by decide) rfl ?_
                                    refine L_m_tray (n := c) (by omega) (by omega) (fun cm3 g1 g2 => ?_) c.toNat 0 _ (by omega) (by decide) (fun _ _ => rfl) (fun i => by rw [if_neg (by omega)])
                                    refine aw_aload_n dX7_tray_74 rfl ?_
                                    refine aw_iconst dX7_tray_75 (by decide) ?_
                                    refine c_X7_79 rfl dX7_tray_76 m_ob (Nat.le_of_ble_eq_true rfl) (by omega) (C_m_is (fun hz => ?_) (fun hz => ?_))
                                    · refine aK_i ?_
                                      refine aw_zreturn dX7_tray_79 rfl (by omega) ?_
                                      first
                                        | (exfalso; omega)
                                        | (refine ⟨by first | rfl | (rw [aup_rn (show ct (2 + a) 0 ≠ 0 from fun z => by rw [z] at y4; have := hR.1.2; omega), aup_rn (by decide), y5 b j0 j1]), _, rfl, XR.try hR HY HL HN HS HP HF HX hv3 hv4 (fun x j h8 h0 _ => ?_) (fun x i _ _ _ h0 => ?_) (fun t t0 t1 => TRY.fr (HX.1 t t0 t1) ?_ (fun x j hx => ?_) ?_ ?_ (fun j j0 j1 => ?_)) ?_⟩
                                           · (repeat (first | rw [aup_n h0] | rw [aup_rn h8]))
                                           · rw [aup_n h0]
                                           · (repeat rw [aup_n (by omega)])
                                           · have o8 := hR.2.2.2.2.2.1.2; have o0 := hR.1.2
                                             (repeat rw [aup_rn (fun z => by rw [z] at hx; omega)])
                                           · rw [aup_rn (by decide)]
                                           · rw [aup_rn (by decide)]
                                           · rw [aup_rn (by decide)]
                                           · simp [aup])
                                        | (refine ⟨rfl, _, rfl, XR.newrow (a := a) (b := b) (n := c) hR HY HL HN HS HP HF HX hv3 hv4 (by omega) (by omega) (by omega) (fun x i x3 x4 x5 h0 => ?_) (fun i => ?_) (fun i => ?_) (fun i => ?_) ?_⟩
                                           · rw [aup_n h0, g1 x x5, aup_rn x4, aup_rn x3]
                                           · rw [aup_rn (by decide), g1 3 (by decide), aup_rn (by decide)]
                                             by_cases z : i = a
                                             · subst z; rw [aup_s, if_pos rfl]
                                             · rw [aup_n (by omega), if_neg z]
                                           · rw [aup_rn (by decide), g1 4 (by decide)]
                                             by_cases z : i = a
                                             · subst z; rw [aup_s, if_pos rfl]
                                             · rw [aup_n (by omega), if_neg z, aup_rn (by decide)]
                                           · rw [aup_rn (by decide), g2, aup_rn (by decide), aup_rn (by decide)]
                                           · rw [aup_s])
                                    · refine aK_i ?_
                                      refine aw_zreturn dX7_tray_79 rfl (by omega) ?_
                                      first
                                        | (exfalso; omega)
                                        | (refine ⟨by first | rfl | (rw [aup_rn (show ct (2 + a) 0 ≠ 0 from fun z => by rw [z] at y4; have := hR.1.2; omega), aup_rn (by decide), y5 b j0 j1]), _, rfl, XR.try hR HY HL HN HS HP HF HX hv3 hv4 (fun x j h8 h0 _ => ?_) (fun x i _ _ _ h0 => ?_) (fun t t0 t1 => TRY.fr (HX.1 t t0 t1) ?_ (fun x j hx => ?_) ?_ ?_ (fun j j0 j1 => ?_)) ?_⟩
                                           · (repeat (first | rw [aup_n h0] | rw [aup_rn h8]))
                                           · rw [aup_n h0]
                                           · (repeat rw [aup_n (by omega)])
                                           · have o8 := hR.2.2.2.2.2.1.2; have o0 := hR.1.2
                                             (repeat rw [aup_rn (fun z => by rw [z] at hx; omega)])
                                           · rw [aup_rn (by decide)]
                                           · rw [aup_rn (by decide)]
                                           · rw [aup_rn (by decide)]
                                           · simp [aup])
                                        | (refine ⟨rfl, _, rfl, XR.newrow (a := a) (b := b) (n := c) hR HY HL HN HS HP HF HX hv3 hv4 (by omega) (by omega) (by omega) (fun x i x3 x4 x5 h0 => ?_) (fun i => ?_) (fun i => ?_) (fun i => ?_) ?_⟩
                                           · rw [aup_n h0, g1 x x5, aup_rn x4, aup_rn x3]
                                           · rw [aup_rn (by decide), g1 3 (by decide), aup_rn (by decide)]
                                             by_cases z : i = a
                                             · subst z; rw [aup_s, if_pos rfl]
                                             · rw [aup_n (by omega), if_neg z]
                                           · rw [aup_rn (by decide), g1 4 (by decide)]
                                             by_cases z : i = a
                                             · subst z; rw [aup_s, if_pos rfl]
                                             · rw [aup_n (by omega), if_neg z, aup_rn (by decide)]
                                           · rw [aup_rn (by decide), g2, aup_rn (by decide), aup_rn (by decide)]
                                           · rw [aup_s])
                              · first
                                  | (exfalso; omega)
                                  | skip
                                    refine aw_aload_n dX7_tray_26 rfl ?_
                                    refine aw_iconst dX7_tray_27 (by decide) ?_
                                    refine c_X7_79 rfl dX7_tray_28 m_ob (Nat.le_of_ble_eq_true rfl) (by omega) (C_m_is (fun hz => ?_) (fun hz => ?_))
                                    · first
                                        | (exfalso; omega)
                                        | skip
                                          refine aK_i ?_
                                          refine aw_zreturn dX7_tray_31 rfl (by omega) ?_
                                          first
                                            | (exfalso; omega)
                                            | (refine ⟨by first | rfl | (rw [aup_rn (show ct (2 + a) 0 ≠ 0 from fun z => by rw [z] at y4; have := hR.1.2; omega), aup_rn (by decide), y5 b j0 j1]), _, rfl, XR.try hR HY HL HN HS HP HF HX hv3 hv4 (fun x j h8 h0 _ => ?_) (fun x i _ _ _ h0 => ?_) (fun t t0 t1 => TRY.fr (HX.1 t t0 t1) ?_ (fun x j hx => ?_) ?_ ?_ (fun j j0 j1 => ?_)) ?_⟩
                                               · (repeat (first | rw [aup_n h0] | rw [aup_rn h8]))
                                               · rw [aup_n h0]
                                               · (repeat rw [aup_n (by omega)])
                                               · have o8 := hR.2.2.2.2.2.1.2; have o0 := hR.1.2
                                                 (repeat rw [aup_rn (fun z => by rw [z] at hx; omega)])
                                               · rw [aup_rn (by decide)]
                                               · rw [aup_rn (by decide)]
                                               · rw [aup_rn (by decide)]
                                               · simp [aup])
                                            | (refine ⟨rfl, _, rfl, XR.newrow (a := a) (b := b) (n := c) hR HY HL HN HS HP HF HX hv3 hv4 (by omega) (by omega) (by omega) (fun x i x3 x4 x5 h0 => ?_) (fun i => ?_) (fun i => ?_) (fun i => ?_) ?_⟩
                                               · rw [aup_n h0, g1 x x5, aup_rn x4, aup_rn x3]
                                               · rw [aup_rn (by decide), g1 3 (by decide), aup_rn (by decide)]
                                                 by_cases z : i = a
                                                 · subst z; rw [aup_s, if_pos rfl]
                                                 · rw [aup_n (by omega), if_neg z]
                                               · rw [aup_rn (by decide), g1 4 (by decide)]
                                                 by_cases z : i = a
                                                 · subst z; rw [aup_s, if_pos rfl]
                                                 · rw [aup_n (by omega), if_neg z, aup_rn (by decide)]
                                               · rw [aup_rn (by decide), g2, aup_rn (by decide), aup_rn (by decide)]
                                               · rw [aup_s])
                                    · first
                                        | (exfalso; omega)
                                        | skip
                                          refine aK_i ?_
                                          refine aw_zreturn dX7_tray_31 rfl (by omega) ?_
                                          first
                                            | (exfalso; omega)
                                            | (refine ⟨by first | rfl | (rw [aup_rn (show ct (2 + a) 0 ≠ 0 from fun z => by rw [z] at y4; have := hR.1.2; omega), aup_rn (by decide), y5 b j0 j1]), _, rfl, XR.try hR HY HL HN HS HP HF HX hv3 hv4 (fun x j h8 h0 _ => ?_) (fun x i _ _ _ h0 => ?_) (fun t t0 t1 => TRY.fr (HX.1 t t0 t1) ?_ (fun x j hx => ?_) ?_ ?_ (fun j j0 j1 => ?_)) ?_⟩
                                               · (repeat (first | rw [aup_n h0] | rw [aup_rn h8]))
                                               · rw [aup_n h0]
                                               · (repeat rw [aup_n (by omega)])
                                               · have o8 := hR.2.2.2.2.2.1.2; have o0 := hR.1.2
                                                 (repeat rw [aup_rn (fun z => by rw [z] at hx; omega)])
                                               · rw [aup_rn (by decide)]
                                               · rw [aup_rn (by decide)]
                                               · rw [aup_rn (by decide)]
                                               · simp [aup])
                                            | (refine ⟨rfl, _, rfl, XR.newrow (a := a) (b := b) (n := c) hR HY HL HN HS HP HF HX hv3 hv4 (by omega) (by omega) (by omega) (fun x i x3 x4 x5 h0 => ?_) (fun i => ?_) (fun i => ?_) (fun i => ?_) ?_⟩
                                               · rw [aup_n h0, g1 x x5, aup_rn x4, aup_rn x3]
                                               · rw [aup_rn (by decide), g1 3 (by decide), aup_rn (by decide)]
                                                 by_cases z : i = a
                                                 · subst z; rw [aup_s, if_pos rfl]
                                                 · rw [aup_n (by omega), if_neg z]
                                               · rw [aup_rn (by decide), g1 4 (by decide)]
                                                 by_cases z : i = a
                                                 · subst z; rw [aup_s, if_pos rfl]
                                                 · rw [aup_n (by omega), if_neg z, aup_rn (by decide)]
                                               · rw [aup_rn (by decide), g2, aup_rn (by decide), aup_rn (by decide)]
                                               · rw [aup_s])
      · first
          | (exfalso; omega)
          | skip
            refine aK_i ?_
            refine aw_ifeq (tgt := 26) dX7_tray_4 (by decide) (fun _ => ?_) (fun h => absurd h (by decide))
            refine aw_aload_n dX7_tray_26 rfl ?_
            refine aw_iconst dX7_tray_27 (by decide) ?_
            refine c_X7_79 rfl dX7_tray_28 m_ob (Nat.le_of_ble_eq_true rfl) (by omega) (C_m_is (fun hz => ?_) (fun hz => ?_))
            · first
                | (exfalso; omega)
                | skip
                  refine aK_i ?_
                  refine aw_zreturn dX7_tray_31 rfl (by omega) ?_
                  first
                    | (exfalso; omega)
                    | (refine ⟨by first | rfl | (rw [aup_rn (show ct (2 + a) 0 ≠ 0 from fun z => by rw [z] at y4; have := hR.1.2; omega), aup_rn (by decide), y5 b j0 j1]), _, rfl, XR.try hR HY HL HN HS HP HF HX hv3 hv4 (fun x j h8 h0 _ => ?_) (fun x i _ _ _ h0 => ?_) (fun t t0 t1 => TRY.fr (HX.1 t t0 t1) ?_ (fun x j hx => ?_) ?_ ?_ (fun j j0 j1 => ?_)) ?_⟩
                       · (repeat (first | rw [aup_n h0] | rw [aup_rn h8]))
                       · rw [aup_n h0]
                       · (repeat rw [aup_n (by omega)])
                       · have o8 := hR.2.2.2.2.2.1.2; have o0 := hR.1.2
                         (repeat rw [aup_rn (fun z => by rw [z] at hx; omega)])
                       · rw [aup_rn (by decide)]
                       · rw [aup_rn (by decide)]
                       · rw [aup_rn (by decide)]
                       · simp [aup])
                    | (refine ⟨rfl, _, rfl, XR.newrow (a := a) (b := b) (n := c) hR HY HL HN HS HP HF HX hv3 hv4 (by omega) (by omega) (by omega) (fun x i x3 x4 x5 h0 => ?_) (fun i => ?_) (fun i => ?_) (fun i => ?_) ?_⟩
                       · rw [aup_n h0, g1 x x5, aup_rn x4, aup_rn x3]
                       · rw [aup_rn (by decide), g1 3 (by decide), aup_rn (by decide)]
                         by_cases z : i = a
                         · subst z; rw [aup_s, if_pos rfl]
                         · rw [aup_n (by omega), if_neg z]
                       · rw [aup_rn (by decide), g1 4 (by decide)]
                         by_cases z : i = a
                         · subst z; rw [aup_s, if_pos rfl]
                         · rw [aup_n (by omega), if_neg z, aup_rn (by decide)]
                       · rw [aup_rn (by decide), g2, aup_rn (by decide), aup_rn (by decide)]
                       · rw [aup_s])
            · first
                | (exfalso; omega)
                | skip
                  refine aK_i ?_
                  refine aw_zreturn dX7_tray_31 rfl (by omega) ?_
                  first
                    | (exfalso; omega)
                    | (refine ⟨by first | rfl | (rw [aup_rn (show ct (2 + a) 0 ≠ 0 from fun z => by rw [z] at y4; have := hR.1.2; omega), aup_rn (by decide), y5 b j0 j1]), _, rfl, XR.try hR HY HL HN HS HP HF HX hv3 hv4 (fun x j h8 h0 _ => ?_) (fun x i _ _ _ h0 => ?_) (fun t t0 t1 => TRY.fr (HX.1 t t0 t1) ?_ (fun x j hx => ?_) ?_ ?_ (fun j j0 j1 => ?_)) ?_⟩
                       · (repeat (first | rw [aup_n h0] | rw [aup_rn h8]))
                       · rw [aup_n h0]
                       · (repeat rw [aup_n (by omega)])
                       · have o8 := hR.2.2.2.2.2.1.2; have o0 := hR.1.2
                         (repeat rw [aup_rn (fun z => by rw [z] at hx; omega)])
                       · rw [aup_rn (by decide)]
                       · rw [aup_rn (by decide)]
                       · rw [aup_rn (by decide)]
                       · simp [aup])
                    | (refine ⟨rfl, _, rfl, XR.newrow (a := a) (b := b) (n := c) hR HY HL HN HS HP HF HX hv3 hv4 (by omega) (by omega) (by omega) (fun x i x3 x4 x5 h0 => ?_) (fun i => ?_) (fun i => ?_) (fun i => ?_) ?_⟩
                       · rw [aup_n h0, g1 x x5, aup_rn x4, aup_rn x3]
                       · rw [aup_rn (by decide), g1 3 (by decide), aup_rn (by decide)]
                         by_cases z : i = a
                         · subst z; rw [aup_s, if_pos rfl]
                         · rw [aup_n (by omega), if_neg z]
                       · rw [aup_rn (by decide), g1 4 (by decide)]
                         by_cases z : i = a
                         · subst z; rw [aup_s, if_pos rfl]
                         · rw [aup_n (by omega), if_neg z, aup_rn (by decide)]
                       · rw [aup_rn (by decide), g2, aup_rn (by decide), aup_rn (by decide)]
                       · rw [aup_s])
  · refine aw_iload_n dX0_tray_10 rfl ?_
    refine aw_iconst dX0_tray_11 (by decide) ?_
    refine aw_icmpge (tgt := 34) dX0_tray_12 (by decide) (fun h12 => ?_) (fun h12 => ?_)
    · refine aw_iconst dX0_tray_34 (by decide) ?_
      refine aw_iconst dX0_tray_35 (by decide) ?_
      refine c_X0_98 rfl dX0_tray_36 hR.o0 (Nat.le_of_ble_eq_true rfl) (by omega) (C_x_want hR (fun hb => ?_) (fun hb => ?_))
      · exact absurd rfl hb
      · refine aK_x (ax_catch (E := 1) (pre := [{ startPc := 5, endPc := 54, handlerPc := 55, catchType := 109 }]) (z := { startPc := 5, endPc := 54, handlerPc := 64, catchType := 41 }) (suf := []) rfl (fun y hy => by rw [List.mem_singleton.mp hy]; exact Or.inr ⟨by decide, _, q444, by decide +kernel⟩) rfl (by decide) q235 q237 ?_)
        refine aw_astore4 dX0_tray_64 (by decide) rfl ?_
        refine aw_aload_n dX0_tray_66 rfl ?_
        refine aw_aload dX0_tray_67 rfl ?_
        refine c_X0_111 rfl dX0_tray_69 hR.o0 (Nat.le_of_ble_eq_true rfl) (by omega) (C_x_no (hR.up0 (j := 7) (v := 0)) ?_)
        refine aK_i ?_
        refine aw_zreturn dX0_tray_72 rfl (by omega) ?_
        refine ⟨_, rfl, ?_⟩
        refine AMet.go (L := [some (vR 0), some (vI a), some (vI b), some (vI c), none]) mok_X7_tray (Nat.le_of_ble_eq_true rfl) rfl ?_
        refine aw_iload_n dX7_tray_0 rfl ?_
        refine c_X7_83 rfl dX7_tray_1  (Nat.le_of_ble_eq_true rfl) (by omega) (C_m_isTray (fun htr => ?_) (fun htr => ?_))
        · first
            | (exfalso; omega)
            | skip
              refine aK_i ?_
              refine aw_ifeq (tgt := 26) dX7_tray_4 (by decide) (fun h => absurd h (by decide)) (fun _ => ?_)
              refine aw_iload_n dX7_tray_7 rfl ?_
              refine aw_iflt (tgt := 26) dX7_tray_8 (by decide) (fun h8 => ?_) (fun h8 => ?_)
              · first
                  | (exfalso; omega)
                  | skip
                    refine aw_aload_n dX7_tray_26 rfl ?_
                    refine aw_iconst dX7_tray_27 (by decide) ?_
                    refine c_X7_79 rfl dX7_tray_28 m_ob (Nat.le_of_ble_eq_true rfl) (by omega) (C_m_is (fun hz => ?_) (fun hz => ?_))
                    · first
                        | (exfalso; omega)
                        | skip
                          refine aK_i ?_
                          refine aw_zreturn dX7_tray_31 rfl (by omega) ?_
                          first
                            | (exfalso; omega)
                            | (refine ⟨by first | rfl | (rw [aup_rn (show ct (2 + a) 0 ≠ 0 from fun z => by rw [z] at y4; have := hR.1.2; omega), aup_rn (by decide), y5 b j0 j1]), _, rfl, XR.try hR HY HL HN HS HP HF HX hv3 hv4 (fun x j h8 h0 _ => ?_) (fun x i _ _ _ h0 => ?_) (fun t t0 t1 => TRY.fr (HX.1 t t0 t1) ?_ (fun x j hx => ?_) ?_ ?_ (fun j j0 j1 => ?_)) ?_⟩
                               · (repeat (first | rw [aup_n h0] | rw [aup_rn h8]))
                               · rw [aup_n h0]
                               · (repeat rw [aup_n (by omega)])
                               · have o8 := hR.2.2.2.2.2.1.2; have o0 := hR.1.2
                                 (repeat rw [aup_rn (fun z => by rw [z] at hx; omega)])
                               · rw [aup_rn (by decide)]
                               · rw [aup_rn (by decide)]
                               · rw [aup_rn (by decide)]
                               · simp [aup])
                            | (refine ⟨rfl, _, rfl, XR.newrow (a := a) (b := b) (n := c) hR HY HL HN HS HP HF HX hv3 hv4 (by omega) (by omega) (by omega) (fun x i x3 x4 x5 h0 => ?_) (fun i => ?_) (fun i => ?_) (fun i => ?_) ?_⟩
                               · rw [aup_n h0, g1 x x5, aup_rn x4, aup_rn x3]
                               · rw [aup_rn (by decide), g1 3 (by decide), aup_rn (by decide)]
                                 by_cases z : i = a
                                 · subst z; rw [aup_s, if_pos rfl]
                                 · rw [aup_n (by omega), if_neg z]
                               · rw [aup_rn (by decide), g1 4 (by decide)]
                                 by_cases z : i = a
                                 · subst z; rw [aup_s, if_pos rfl]
                                 · rw [aup_n (by omega), if_neg z, aup_rn (by decide)]
                               · rw [aup_rn (by decide), g2, aup_rn (by decide), aup_rn (by decide)]
                               · rw [aup_s])
                    · first
                        | (exfalso; omega)
                        | skip
                          refine aK_i ?_
                          refine aw_zreturn dX7_tray_31 rfl (by omega) ?_
                          first
                            | (exfalso; omega)
                            | (refine ⟨by first | rfl | (rw [aup_rn (show ct (2 + a) 0 ≠ 0 from fun z => by rw [z] at y4; have := hR.1.2; omega), aup_rn (by decide), y5 b j0 j1]), _, rfl, XR.try hR HY HL HN HS HP HF HX hv3 hv4 (fun x j h8 h0 _ => ?_) (fun x i _ _ _ h0 => ?_) (fun t t0 t1 => TRY.fr (HX.1 t t0 t1) ?_ (fun x j hx => ?_) ?_ ?_ (fun j j0 j1 => ?_)) ?_⟩
                               · (repeat (first | rw [aup_n h0] | rw [aup_rn h8]))
                               · rw [aup_n h0]
                               · (repeat rw [aup_n (by omega)])
                               · have o8 := hR.2.2.2.2.2.1.2; have o0 := hR.1.2
                                 (repeat rw [aup_rn (fun z => by rw [z] at hx; omega)])
                               · rw [aup_rn (by decide)]
                               · rw [aup_rn (by decide)]
                               · rw [aup_rn (by decide)]
                               · simp [aup])
                            | (refine ⟨rfl, _, rfl, XR.newrow (a := a) (b := b) (n := c) hR HY HL HN HS HP HF HX hv3 hv4 (by omega) (by omega) (by omega) (fun x i x3 x4 x5 h0 => ?_) (fun i => ?_) (fun i => ?_) (fun i => ?_) ?_⟩
                               · rw [aup_n h0, g1 x x5, aup_rn x4, aup_rn x3]
                               · rw [aup_rn (by decide), g1 3 (by decide), aup_rn (by decide)]
                                 by_cases z : i = a
                                 · subst z; rw [aup_s, if_pos rfl]
                                 · rw [aup_n (by omega), if_neg z]
                               · rw [aup_rn (by decide), g1 4 (by decide)]
                                 by_cases z : i = a
                                 · subst z; rw [aup_s, if_pos rfl]
                                 · rw [aup_n (by omega), if_neg z, aup_rn (by decide)]
                               · rw [aup_rn (by decide), g2, aup_rn (by decide), aup_rn (by decide)]
                               · rw [aup_s])
              · first
                  | (exfalso; omega)
                  | skip
                    refine aw_iload_n dX7_tray_11 rfl ?_
                    refine aw_iconst dX7_tray_12 (by decide) ?_
                    refine aw_icmpgt (tgt := 26) dX7_tray_13 (by decide) (fun h13 => ?_) (fun h13 => ?_)
                    · first
                        | (exfalso; omega)
                        | skip
                          refine aw_aload_n dX7_tray_26 rfl ?_
                          refine aw_iconst dX7_tray_27 (by decide) ?_
                          refine c_X7_79 rfl dX7_tray_28 m_ob (Nat.le_of_ble_eq_true rfl) (by omega) (C_m_is (fun hz => ?_) (fun hz => ?_))
                          · first
                              | (exfalso; omega)
                              | skip
                                refine aK_i ?_
                                refine aw_zreturn dX7_tray_31 rfl (by omega) ?_
                                first
                                  | (exfalso; omega)
                                  | (refine ⟨by first | rfl | (rw [aup_rn (show ct (2 + a) 0 ≠ 0 from fun z => by rw [z] at y4; have := hR.1.2; omega), aup_rn (by decide), y5 b j0 j1]), _, rfl, XR.try hR HY HL HN HS HP HF HX hv3 hv4 (fun x j h8 h0 _ => ?_) (fun x i _ _ _ h0 => ?_) (fun t t0 t1 => TRY.fr (HX.1 t t0 t1) ?_ (fun x j hx => ?_) ?_ ?_ (fun j j0 j1 => ?_)) ?_⟩
                                     · (repeat (first | rw [aup_n h0] | rw [aup_rn h8]))
                                     · rw [aup_n h0]
                                     · (repeat rw [aup_n (by omega)])
                                     · have o8 := hR.2.2.2.2.2.1.2; have o0 := hR.1.2
                                       (repeat rw [aup_rn (fun z => by rw [z] at hx; omega)])
                                     · rw [aup_rn (by decide)]
                                     · rw [aup_rn (by decide)]
                                     · rw [aup_rn (by decide)]
                                     · simp [aup])
                                  | (refine ⟨rfl, _, rfl, XR.newrow (a := a) (b := b) (n := c) hR HY HL HN HS HP HF HX hv3 hv4 (by omega) (by omega) (by omega) (fun x i x3 x4 x5 h0 => ?_) (fun i => ?_) (fun i => ?_) (fun i => ?_) ?_⟩
                                     · rw [aup_n h0, g1 x x5, aup_rn x4, aup_rn x3]
                                     · rw [aup_rn (by decide), g1 3 (by decide), aup_rn (by decide)]
                                       by_cases z : i = a
                                       · subst z; rw [aup_s, if_pos rfl]
                                       · rw [aup_n (by omega), if_neg z]
                                     · rw [aup_rn (by decide), g1 4 (by decide)]
                                       by_cases z : i = a
                                       · subst z; rw [aup_s, if_pos rfl]
                                       · rw [aup_n (by omega), if_neg z, aup_rn (by decide)]
                                     · rw [aup_rn (by decide), g2, aup_rn (by decide), aup_rn (by decide)]
                                     · rw [aup_s])
                          · first
                              | (exfalso; omega)
                              | skip
                                refine aK_i ?_
                                refine aw_zreturn dX7_tray_31 rfl (by omega) ?_
                                first
                                  | (exfalso; omega)
                                  | (refine ⟨by first | rfl | (rw [aup_rn (show ct (2 + a) 0 ≠ 0 from fun z => by rw [z] at y4; have := hR.1.2; omega), aup_rn (by decide), y5 b j0 j1]), _, rfl, XR.try hR HY HL HN HS HP HF HX hv3 hv4 (fun x j h8 h0 _ => ?_) (fun x i _ _ _ h0 => ?_) (fun t t0 t1 => TRY.fr (HX.1 t t0 t1) ?_ (fun x j hx => ?_) ?_ ?_ (fun j j0 j1 => ?_)) ?_⟩
                                     · (repeat (first | rw [aup_n h0] | rw [aup_rn h8]))
                                     · rw [aup_n h0]
                                     · (repeat rw [aup_n (by omega)])
                                     · have o8 := hR.2.2.2.2.2.1.2; have o0 := hR.1.2
                                       (repeat rw [aup_rn (fun z => by rw [z] at hx; omega)])
                                     · rw [aup_rn (by decide)]
                                     · rw [aup_rn (by decide)]
                                     · rw [aup_rn (by decide)]
                                     · simp [aup])
                                  | (refine ⟨rfl, _, rfl, XR.newrow (a := a) (b := b) (n := c) hR HY HL HN HS HP HF HX hv3 hv4 (by omega) (by omega) (by omega) (fun x i x3 x4 x5 h0 => ?_) (fun i => ?_) (fun i => ?_) (fun i => ?_) ?_⟩
                                     · rw [aup_n h0, g1 x x5, aup_rn x4, aup_rn x3]
                                     · rw [aup_rn (by decide), g1 3 (by decide), aup_rn (by decide)]
                                       by_cases z : i = a
                                       · subst z; rw [aup_s, if_pos rfl]
                                       · rw [aup_n (by omega), if_neg z]
                                     · rw [aup_rn (by decide), g1 4 (by decide)]
                                       by_cases z : i = a
                                       · subst z; rw [aup_s, if_pos rfl]
                                       · rw [aup_n (by omega), if_neg z, aup_rn (by decide)]
                                     · rw [aup_rn (by decide), g2, aup_rn (by decide), aup_rn (by decide)]
                                     · rw [aup_s])
                    · first
                        | (exfalso; omega)
                        | skip
                          refine aw_iload_n dX7_tray_16 rfl ?_
                          refine aw_iflt (tgt := 26) dX7_tray_17 (by decide) (fun h17 => ?_) (fun h17 => ?_)
                          · first
                              | (exfalso; omega)
                              | skip
                                refine aw_aload_n dX7_tray_26 rfl ?_
                                refine aw_iconst dX7_tray_27 (by decide) ?_
                                refine c_X7_79 rfl dX7_tray_28 m_ob (Nat.le_of_ble_eq_true rfl) (by omega) (C_m_is (fun hz => ?_) (fun hz => ?_))
                                · first
                                    | (exfalso; omega)
                                    | skip
                                      refine aK_i ?_
                                      refine aw_zreturn dX7_tray_31 rfl (by omega) ?_
                                      first
                                        | (exfalso; omega)
                                        | (refine ⟨by first | rfl | (rw [aup_rn (show ct (2 + a) 0 ≠ 0 from fun z => by rw [z] at y4; have := hR.1.2; omega), aup_rn (by decide), y5 b j0 j1]), _, rfl, XR.try hR HY HL HN HS HP HF HX hv3 hv4 (fun x j h8 h0 _ => ?_) (fun x i _ _ _ h0 => ?_) (fun t t0 t1 => TRY.fr (HX.1 t t0 t1) ?_ (fun x j hx => ?_) ?_ ?_ (fun j j0 j1 => ?_)) ?_⟩
                                           · (repeat (first | rw [aup_n h0] | rw [aup_rn h8]))
                                           · rw [aup_n h0]
                                           · (repeat rw [aup_n (by omega)])
                                           · have o8 := hR.2.2.2.2.2.1.2; have o0 := hR.1.2
                                             (repeat rw [aup_rn (fun z => by rw [z] at hx; omega)])
                                           · rw [aup_rn (by decide)]
                                           · rw [aup_rn (by decide)]
                                           · rw [aup_rn (by decide)]
                                           · simp [aup])
                                        | (refine ⟨rfl, _, rfl, XR.newrow (a := a) (b := b) (n := c) hR HY HL HN HS HP HF HX hv3 hv4 (by omega) (by omega) (by omega) (fun x i x3 x4 x5 h0 => ?_) (fun i => ?_) (fun i => ?_) (fun i => ?_) ?_⟩
                                           · rw [aup_n h0, g1 x x5, aup_rn x4, aup_rn x3]
                                           · rw [aup_rn (by decide), g1 3 (by decide), aup_rn (by decide)]
                                             by_cases z : i = a
                                             · subst z; rw [aup_s, if_pos rfl]
                                             · rw [aup_n (by omega), if_neg z]
                                           · rw [aup_rn (by decide), g1 4 (by decide)]
                                             by_cases z : i = a
                                             · subst z; rw [aup_s, if_pos rfl]
                                             · rw [aup_n (by omega), if_neg z, aup_rn (by decide)]
                                           · rw [aup_rn (by decide), g2, aup_rn (by decide), aup_rn (by decide)]
                                           · rw [aup_s])
                                · first
                                    | (exfalso; omega)
                                    | skip
                                      refine aK_i ?_
                                      refine aw_zreturn dX7_tray_31 rfl (by omega) ?_
                                      first
                                        | (exfalso; omega)
                                        | (refine ⟨by first | rfl | (rw [aup_rn (show ct (2 + a) 0 ≠ 0 from fun z => by rw [z] at y4; have := hR.1.2; omega), aup_rn (by decide), y5 b j0 j1]), _, rfl, XR.try hR HY HL HN HS HP HF HX hv3 hv4 (fun x j h8 h0 _ => ?_) (fun x i _ _ _ h0 => ?_) (fun t t0 t1 => TRY.fr (HX.1 t t0 t1) ?_ (fun x j hx => ?_) ?_ ?_ (fun j j0 j1 => ?_)) ?_⟩
                                           · (repeat (first | rw [aup_n h0] | rw [aup_rn h8]))
                                           · rw [aup_n h0]
                                           · (repeat rw [aup_n (by omega)])
                                           · have o8 := hR.2.2.2.2.2.1.2; have o0 := hR.1.2
                                             (repeat rw [aup_rn (fun z => by rw [z] at hx; omega)])
                                           · rw [aup_rn (by decide)]
                                           · rw [aup_rn (by decide)]
                                           · rw [aup_rn (by decide)]
                                           · simp [aup])
                                        | (refine ⟨rfl, _, rfl, XR.newrow (a := a) (b := b) (n := c) hR HY HL HN HS HP HF HX hv3 hv4 (by omega) (by omega) (by omega) (fun x i x3 x4 x5 h0 => ?_) (fun i => ?_) (fun i => ?_) (fun i => ?_) ?_⟩
                                           · rw [aup_n h0, g1 x x5, aup_rn x4, aup_rn x3]
                                           · rw [aup_rn (by decide), g1 3 (by decide), aup_rn (by decide)]
                                             by_cases z : i = a
                                             · subst z; rw [aup_s, if_pos rfl]
                                             · rw [aup_n (by omega), if_neg z]
                                           · rw [aup_rn (by decide), g1 4 (by decide)]
                                             by_cases z : i = a
                                             · subst z; rw [aup_s, if_pos rfl]
                                             · rw [aup_n (by omega), if_neg z, aup_rn (by decide)]
                                           · rw [aup_rn (by decide), g2, aup_rn (by decide), aup_rn (by decide)]
                                           · rw [aup_s])
                          · first
                              | (exfalso; omega)
                              | skip
                                refine aw_iload_n dX7_tray_20 rfl ?_
                                refine aw_bipush dX7_tray_21 (by decide) ?_
                                refine aw_icmple (tgt := 32) dX7_tray_23 (by decide) (fun h23 => ?_) (fun h23 => ?_)
                                · first
                                    | (exfalso; omega)
                                    | skip
                                      refine gm_21 rfl dX7_tray_32 dX7_tray_33 rfl ?_
                                      refine aw_iload_n dX7_tray_36 rfl ?_
                                      refine aw_iload_n dX7_tray_37 rfl ?_
                                      refine aw_iastore dX7_tray_38 m_a3 (by omega) (by omega) ?_
                                      refine gm_24 rfl dX7_tray_39 dX7_tray_40 rfl ?_
                                      refine aw_iload_n dX7_tray_43 rfl ?_
                                      refine aw_iload_n dX7_tray_44 rfl ?_
                                      refine aw_iastore dX7_tray_45 m_a4 (by omega) (by omega) ?_
                                      refine aw_iconst dX7_tray_46 (by decide) ?_
                                      refine aw_istore4 dX7_tray_47 (by decide) rfl ?_
                                      refine L_m_tray (n := c) (by omega) (by omega) (fun cm3 g1 g2 => ?_) c.toNat 0 _ (by omega) (by decide) (fun _ _ => rfl) (fun i => by rw [if_neg (by omega)])
                                      refine aw_aload_n dX7_tray_74 rfl ?_
                                      refine aw_iconst dX7_tray_75 (by decide) ?_
                                      refine c_X7_79 rfl dX7_tray_76 m_ob (Nat.le_of_ble_eq_true rfl) (by omega) (C_m_is (fun hz => ?_) (fun hz => ?_))
                                      · refine aK_i ?_
                                        refine aw_zreturn dX7_tray_79 rfl (by omega) ?_
                                        first
                                          | (exfalso; omega)
                                          | (refine ⟨by first | rfl | (rw [aup_rn (show ct (2 + a) 0 ≠ 0 from fun z => by rw [z] at y4; have := hR.1.2; omega), aup_rn (by decide), y5 b j0 j1]), _, rfl, XR.try hR HY HL HN HS HP HF HX hv3 hv4 (fun x j h8 h0 _ => ?_) (fun x i _ _ _ h0 => ?_) (fun t t0 t1 => TRY.fr (HX.1 t t0 t1) ?_ (fun x j hx => ?_) ?_ ?_ (fun j j0 j1 => ?_)) ?_⟩
                                             · (repeat (first | rw [aup_n h0] | rw [aup_rn h8]))
                                             · rw [aup_n h0]
                                             · (repeat rw [aup_n (by omega)])
                                             · have o8 := hR.2.2.2.2.2.1.2; have o0 := hR.1.2
                                               (repeat rw [aup_rn (fun z => by rw [z] at hx; omega)])
                                             · rw [aup_rn (by decide)]
                                             · rw [aup_rn (by decide)]
                                             · rw [aup_rn (by decide)]
                                             · simp [aup])
                                          | (refine ⟨rfl, _, rfl, XR.newrow (a := a) (b := b) (n := c) hR HY HL HN HS HP HF HX hv3 hv4 (by omega) (by omega) (by omega) (fun x i x3 x4 x5 h0 => ?_) (fun i => ?_) (fun i => ?_) (fun i => ?_) ?_⟩
                                             · rw [aup_n h0, g1 x x5, aup_rn x4, aup_rn x3]
                                             · rw [aup_rn (by decide), g1 3 (by decide), aup_rn (by decide)]
                                               by_cases z : i = a
                                               · subst z; rw [aup_s, if_pos rfl]
                                               · rw [aup_n (by omega), if_neg z]
                                             · rw [aup_rn (by decide), g1 4 (by decide)]
                                               by_cases z : i = a
                                               · subst z; rw [aup_s, if_pos rfl]
                                               · rw [aup_n (by omega), if_neg z, aup_rn (by decide)]
                                             · rw [aup_rn (by decide), g2, aup_rn (by decide), aup_rn (by decide)]
                                             · rw [aup_s])
                                      · refine aK_i ?_
                                        refine aw_zreturn dX7_tray_79 rfl (by omega) ?_
                                        first
                                          | (exfalso; omega)
                                          | (refine ⟨by first | rfl | (rw [aup_rn (show ct (2 + a) 0 ≠ 0 from fun z => by rw [z] at y4; have := hR.1.2; omega), aup_rn (by decide), y5 b j0 j1]), _, rfl, XR.try hR HY HL HN HS HP HF HX hv3 hv4 (fun x j h8 h0 _ => ?_) (fun x i _ _ _ h0 => ?_) (fun t t0 t1 => TRY.fr (HX.1 t t0 t1) ?_ (fun x j hx => ?_) ?_ ?_ (fun j j0 j1 => ?_)) ?_⟩
                                             · (repeat (first | rw [aup_n h0] | rw [aup_rn h8]))
                                             · rw [aup_n h0]
                                             · (repeat rw [aup_n (by omega)])
                                             · have o8 := hR.2.2.2.2.2.1.2; have o0 := hR.1.2
                                               (repeat rw [aup_rn (fun z => by rw [z] at hx; omega)])
                                             · rw [aup_rn (by decide)]
                                             · rw [aup_rn (by decide)]
                                             · rw [aup_rn (by decide)]
                                             · simp [aup])
                                          | (refine ⟨rfl, _, rfl, XR.newrow (a := a) (b := b) (n := c) hR HY HL HN HS HP HF HX hv3 hv4 (by omega) (by omega) (by omega) (fun x i x3 x4 x5 h0 => ?_) (fun i => ?_) (fun i => ?_) (fun i => ?_) ?_⟩
                                             · rw [aup_n h0, g1 x x5, aup_rn x4, aup_rn x3]
                                             · rw [aup_rn (by decide), g1 3 (by decide), aup_rn (by decide)]
                                               by_cases z : i = a
                                               · subst z; rw [aup_s, if_pos rfl]
                                               · rw [aup_n (by omega), if_neg z]
                                             · rw [aup_rn (by decide), g1 4 (by decide)]
                                               by_cases z : i = a
                                               · subst z; rw [aup_s, if_pos rfl]
                                               · rw [aup_n (by omega), if_neg z, aup_rn (by decide)]
                                             · rw [aup_rn (by decide), g2, aup_rn (by decide), aup_rn (by decide)]
                                             · rw [aup_s])
                                · first
                                    | (exfalso; omega)
                                    | skip
                                      refine aw_aload_n dX7_tray_26 rfl ?_
                                      refine aw_iconst dX7_tray_27 (by decide) ?_
                                      refine c_X7_79 rfl dX7_tray_28 m_ob (Nat.le_of_ble_eq_true rfl) (by omega) (C_m_is (fun hz => ?_) (fun hz => ?_))
                                      · first
                                          | (exfalso; omega)
                                          | skip
                                            refine aK_i ?_
                                            refine aw_zreturn dX7_tray_31 rfl (by omega) ?_
                                            first
                                              | (exfalso; omega)
                                              | (refine ⟨by first | rfl | (rw [aup_rn (show ct (2 + a) 0 ≠ 0 from fun z => by rw [z] at y4; have := hR.1.2; omega), aup_rn (by decide), y5 b j0 j1]), _, rfl, XR.try hR HY HL HN HS HP HF HX hv3 hv4 (fun x j h8 h0 _ => ?_) (fun x i _ _ _ h0 => ?_) (fun t t0 t1 => TRY.fr (HX.1 t t0 t1) ?_ (fun x j hx => ?_) ?_ ?_ (fun j j0 j1 => ?_)) ?_⟩
                                                 · (repeat (first | rw [aup_n h0] | rw [aup_rn h8]))
                                                 · rw [aup_n h0]
                                                 · (repeat rw [aup_n (by omega)])
                                                 · have o8 := hR.2.2.2.2.2.1.2; have o0 := hR.1.2
                                                   (repeat rw [aup_rn (fun z => by rw [z] at hx; omega)])
                                                 · rw [aup_rn (by decide)]
                                                 · rw [aup_rn (by decide)]
                                                 · rw [aup_rn (by decide)]
                                                 · simp [aup])
                                              | (refine ⟨rfl, _, rfl, XR.newrow (a := a) (b := b) (n := c) hR HY HL HN HS HP HF HX hv3 hv4 (by omega) (by omega) (by omega) (fun x i x3 x4 x5 h0 => ?_) (fun i => ?_) (fun i => ?_) (fun i => ?_) ?_⟩
                                                 · rw [aup_n h0, g1 x x5, aup_rn x4, aup_rn x3]
                                                 · rw [aup_rn (by decide), g1 3 (by decide), aup_rn (by decide)]
                                                   by_cases z : i = a
                                                   · subst z; rw [aup_s, if_pos rfl]
                                                   · rw [aup_n (by omega), if_neg z]
                                                 · rw [aup_rn (by decide), g1 4 (by decide)]
                                                   by_cases z : i = a
                                                   · subst z; rw [aup_s, if_pos rfl]
                                                   · rw [aup_n (by omega), if_neg z, aup_rn (by decide)]
                                                 · rw [aup_rn (by decide), g2, aup_rn (by decide), aup_rn (by decide)]
                                                 · rw [aup_s])
                                      · first
                                          | (exfalso; omega)
                                          | skip
                                            refine aK_i ?_
                                            refine aw_zreturn dX7_tray_31 rfl (by omega) ?_
                                            first
                                              | (exfalso; omega)
                                              | (refine ⟨by first | rfl | (rw [aup_rn (show ct (2 + a) 0 ≠ 0 from fun z => by rw [z] at y4; have := hR.1.2; omega), aup_rn (by decide), y5 b j0 j1]), _, rfl, XR.try hR HY HL HN HS HP HF HX hv3 hv4 (fun x j h8 h0 _ => ?_) (fun x i _ _ _ h0 => ?_) (fun t t0 t1 => TRY.fr (HX.1 t t0 t1) ?_ (fun x j hx => ?_) ?_ ?_ (fun j j0 j1 => ?_)) ?_⟩
                                                 · (repeat (first | rw [aup_n h0] | rw [aup_rn h8]))
                                                 · rw [aup_n h0]
                                                 · (repeat rw [aup_n (by omega)])
                                                 · have o8 := hR.2.2.2.2.2.1.2; have o0 := hR.1.2
                                                   (repeat rw [aup_rn (fun z => by rw [z] at hx; omega)])
                                                 · rw [aup_rn (by decide)]
                                                 · rw [aup_rn (by decide)]
                                                 · rw [aup_rn (by decide)]
                                                 · simp [aup])
                                              | (refine ⟨rfl, _, rfl, XR.newrow (a := a) (b := b) (n := c) hR HY HL HN HS HP HF HX hv3 hv4 (by omega) (by omega) (by omega) (fun x i x3 x4 x5 h0 => ?_) (fun i => ?_) (fun i => ?_) (fun i => ?_) ?_⟩
                                                 · rw [aup_n h0, g1 x x5, aup_rn x4, aup_rn x3]
                                                 · rw [aup_rn (by decide), g1 3 (by decide), aup_rn (by decide)]
                                                   by_cases z : i = a
                                                   · subst z; rw [aup_s, if_pos rfl]
                                                   · rw [aup_n (by omega), if_neg z]
                                                 · rw [aup_rn (by decide), g1 4 (by decide)]
                                                   by_cases z : i = a
                                                   · subst z; rw [aup_s, if_pos rfl]
                                                   · rw [aup_n (by omega), if_neg z, aup_rn (by decide)]
                                                 · rw [aup_rn (by decide), g2, aup_rn (by decide), aup_rn (by decide)]
                                                 · rw [aup_s])
        · first
            | (exfalso; omega)
            | skip
              refine aK_i ?_
              refine aw_ifeq (tgt := 26) dX7_tray_4 (by decide) (fun _ => ?_) (fun h => absurd h (by decide))
              refine aw_aload_n dX7_tray_26 rfl ?_
              refine aw_iconst dX7_tray_27 (by decide) ?_
              refine c_X7_79 rfl dX7_tray_28 m_ob (Nat.le_of_ble_eq_true rfl) (by omega) (C_m_is (fun hz => ?_) (fun hz => ?_))
              · first
                  | (exfalso; omega)
                  | skip
                    refine aK_i ?_
                    refine aw_zreturn dX7_tray_31 rfl (by omega) ?_
                    first
                      | (exfalso; omega)
                      | (refine ⟨by first | rfl | (rw [aup_rn (show ct (2 + a) 0 ≠ 0 from fun z => by rw [z] at y4; have := hR.1.2; omega), aup_rn (by decide), y5 b j0 j1]), _, rfl, XR.try hR HY HL HN HS HP HF HX hv3 hv4 (fun x j h8 h0 _ => ?_) (fun x i _ _ _ h0 => ?_) (fun t t0 t1 => TRY.fr (HX.1 t t0 t1) ?_ (fun x j hx => ?_) ?_ ?_ (fun j j0 j1 => ?_)) ?_⟩
                         · (repeat (first | rw [aup_n h0] | rw [aup_rn h8]))
                         · rw [aup_n h0]
                         · (repeat rw [aup_n (by omega)])
                         · have o8 := hR.2.2.2.2.2.1.2; have o0 := hR.1.2
                           (repeat rw [aup_rn (fun z => by rw [z] at hx; omega)])
                         · rw [aup_rn (by decide)]
                         · rw [aup_rn (by decide)]
                         · rw [aup_rn (by decide)]
                         · simp [aup])
                      | (refine ⟨rfl, _, rfl, XR.newrow (a := a) (b := b) (n := c) hR HY HL HN HS HP HF HX hv3 hv4 (by omega) (by omega) (by omega) (fun x i x3 x4 x5 h0 => ?_) (fun i => ?_) (fun i => ?_) (fun i => ?_) ?_⟩
                         · rw [aup_n h0, g1 x x5, aup_rn x4, aup_rn x3]
                         · rw [aup_rn (by decide), g1 3 (by decide), aup_rn (by decide)]
                           by_cases z : i = a
                           · subst z; rw [aup_s, if_pos rfl]
                           · rw [aup_n (by omega), if_neg z]
                         · rw [aup_rn (by decide), g1 4 (by decide)]
                           by_cases z : i = a
                           · subst z; rw [aup_s, if_pos rfl]
                           · rw [aup_n (by omega), if_neg z, aup_rn (by decide)]
                         · rw [aup_rn (by decide), g2, aup_rn (by decide), aup_rn (by decide)]
                         · rw [aup_s])
              · first
                  | (exfalso; omega)
                  | skip
                    refine aK_i ?_
                    refine aw_zreturn dX7_tray_31 rfl (by omega) ?_
                    first
                      | (exfalso; omega)
                      | (refine ⟨by first | rfl | (rw [aup_rn (show ct (2 + a) 0 ≠ 0 from fun z => by rw [z] at y4; have := hR.1.2; omega), aup_rn (by decide), y5 b j0 j1]), _, rfl, XR.try hR HY HL HN HS HP HF HX hv3 hv4 (fun x j h8 h0 _ => ?_) (fun x i _ _ _ h0 => ?_) (fun t t0 t1 => TRY.fr (HX.1 t t0 t1) ?_ (fun x j hx => ?_) ?_ ?_ (fun j j0 j1 => ?_)) ?_⟩
                         · (repeat (first | rw [aup_n h0] | rw [aup_rn h8]))
                         · rw [aup_n h0]
                         · (repeat rw [aup_n (by omega)])
                         · have o8 := hR.2.2.2.2.2.1.2; have o0 := hR.1.2
                           (repeat rw [aup_rn (fun z => by rw [z] at hx; omega)])
                         · rw [aup_rn (by decide)]
                         · rw [aup_rn (by decide)]
                         · rw [aup_rn (by decide)]
                         · simp [aup])
                      | (refine ⟨rfl, _, rfl, XR.newrow (a := a) (b := b) (n := c) hR HY HL HN HS HP HF HX hv3 hv4 (by omega) (by omega) (by omega) (fun x i x3 x4 x5 h0 => ?_) (fun i => ?_) (fun i => ?_) (fun i => ?_) ?_⟩
                         · rw [aup_n h0, g1 x x5, aup_rn x4, aup_rn x3]
                         · rw [aup_rn (by decide), g1 3 (by decide), aup_rn (by decide)]
                           by_cases z : i = a
                           · subst z; rw [aup_s, if_pos rfl]
                           · rw [aup_n (by omega), if_neg z]
                         · rw [aup_rn (by decide), g1 4 (by decide)]
                           by_cases z : i = a
                           · subst z; rw [aup_s, if_pos rfl]
                           · rw [aup_n (by omega), if_neg z, aup_rn (by decide)]
                         · rw [aup_rn (by decide), g2, aup_rn (by decide), aup_rn (by decide)]
                         · rw [aup_s])
    · refine aw_iload_n dX0_tray_15 rfl ?_
      refine aw_iflt (tgt := 34) dX0_tray_16 (by decide) (fun h16 => ?_) (fun h16 => ?_)
      · refine aw_iconst dX0_tray_34 (by decide) ?_
        refine aw_iconst dX0_tray_35 (by decide) ?_
        refine c_X0_98 rfl dX0_tray_36 hR.o0 (Nat.le_of_ble_eq_true rfl) (by omega) (C_x_want hR (fun hb => ?_) (fun hb => ?_))
        · exact absurd rfl hb
        · refine aK_x (ax_catch (E := 1) (pre := [{ startPc := 5, endPc := 54, handlerPc := 55, catchType := 109 }]) (z := { startPc := 5, endPc := 54, handlerPc := 64, catchType := 41 }) (suf := []) rfl (fun y hy => by rw [List.mem_singleton.mp hy]; exact Or.inr ⟨by decide, _, q444, by decide +kernel⟩) rfl (by decide) q235 q237 ?_)
          refine aw_astore4 dX0_tray_64 (by decide) rfl ?_
          refine aw_aload_n dX0_tray_66 rfl ?_
          refine aw_aload dX0_tray_67 rfl ?_
          refine c_X0_111 rfl dX0_tray_69 hR.o0 (Nat.le_of_ble_eq_true rfl) (by omega) (C_x_no (hR.up0 (j := 7) (v := 0)) ?_)
          refine aK_i ?_
          refine aw_zreturn dX0_tray_72 rfl (by omega) ?_
          refine ⟨_, rfl, ?_⟩
          refine AMet.go (L := [some (vR 0), some (vI a), some (vI b), some (vI c), none]) mok_X7_tray (Nat.le_of_ble_eq_true rfl) rfl ?_
          refine aw_iload_n dX7_tray_0 rfl ?_
          refine c_X7_83 rfl dX7_tray_1  (Nat.le_of_ble_eq_true rfl) (by omega) (C_m_isTray (fun htr => ?_) (fun htr => ?_))
          · first
              | (exfalso; omega)
              | skip
                refine aK_i ?_
                refine aw_ifeq (tgt := 26) dX7_tray_4 (by decide) (fun h => absurd h (by decide)) (fun _ => ?_)
                refine aw_iload_n dX7_tray_7 rfl ?_
                refine aw_iflt (tgt := 26) dX7_tray_8 (by decide) (fun h8 => ?_) (fun h8 => ?_)
                · first
                    | (exfalso; omega)
                    | skip
                      refine aw_aload_n dX7_tray_26 rfl ?_
                      refine aw_iconst dX7_tray_27 (by decide) ?_
                      refine c_X7_79 rfl dX7_tray_28 m_ob (Nat.le_of_ble_eq_true rfl) (by omega) (C_m_is (fun hz => ?_) (fun hz => ?_))
                      · first
                          | (exfalso; omega)
                          | skip
                            refine aK_i ?_
                            refine aw_zreturn dX7_tray_31 rfl (by omega) ?_
                            first
                              | (exfalso; omega)
                              | (refine ⟨by first | rfl | (rw [aup_rn (show ct (2 + a) 0 ≠ 0 from fun z => by rw [z] at y4; have := hR.1.2; omega), aup_rn (by decide), y5 b j0 j1]), _, rfl, XR.try hR HY HL HN HS HP HF HX hv3 hv4 (fun x j h8 h0 _ => ?_) (fun x i _ _ _ h0 => ?_) (fun t t0 t1 => TRY.fr (HX.1 t t0 t1) ?_ (fun x j hx => ?_) ?_ ?_ (fun j j0 j1 => ?_)) ?_⟩
                                 · (repeat (first | rw [aup_n h0] | rw [aup_rn h8]))
                                 · rw [aup_n h0]
                                 · (repeat rw [aup_n (by omega)])
                                 · have o8 := hR.2.2.2.2.2.1.2; have o0 := hR.1.2
                                   (repeat rw [aup_rn (fun z => by rw [z] at hx; omega)])
                                 · rw [aup_rn (by decide)]
                                 · rw [aup_rn (by decide)]
                                 · rw [aup_rn (by decide)]
                                 · simp [aup])
                              | (refine ⟨rfl, _, rfl, XR.newrow (a := a) (b := b) (n := c) hR HY HL HN HS HP HF HX hv3 hv4 (by omega) (by omega) (by omega) (fun x i x3 x4 x5 h0 => ?_) (fun i => ?_) (fun i => ?_) (fun i => ?_) ?_⟩
                                 · rw [aup_n h0, g1 x x5, aup_rn x4, aup_rn x3]
                                 · rw [aup_rn (by decide), g1 3 (by decide), aup_rn (by decide)]
                                   by_cases z : i = a
                                   · subst z; rw [aup_s, if_pos rfl]
                                   · rw [aup_n (by omega), if_neg z]
                                 · rw [aup_rn (by decide), g1 4 (by decide)]
                                   by_cases z : i = a
                                   · subst z; rw [aup_s, if_pos rfl]
                                   · rw [aup_n (by omega), if_neg z, aup_rn (by decide)]
                                 · rw [aup_rn (by decide), g2, aup_rn (by decide), aup_rn (by decide)]
                                 · rw [aup_s])
                      · first
                          | (exfalso; omega)
                          | skip
                            refine aK_i ?_
                            refine aw_zreturn dX7_tray_31 rfl (by omega) ?_
                            first
                              | (exfalso; omega)
                              | (refine ⟨by first | rfl | (rw [aup_rn (show ct (2 + a) 0 ≠ 0 from fun z => by rw [z] at y4; have := hR.1.2; omega), aup_rn (by decide), y5 b j0 j1]), _, rfl, XR.try hR HY HL HN HS HP HF HX hv3 hv4 (fun x j h8 h0 _ => ?_) (fun x i _ _ _ h0 => ?_) (fun t t0 t1 => TRY.fr (HX.1 t t0 t1) ?_ (fun x j hx => ?_) ?_ ?_ (fun j j0 j1 => ?_)) ?_⟩
                                 · (repeat (first | rw [aup_n h0] | rw [aup_rn h8]))
                                 · rw [aup_n h0]
                                 · (repeat rw [aup_n (by omega)])
                                 · have o8 := hR.2.2.2.2.2.1.2; have o0 := hR.1.2
                                   (repeat rw [aup_rn (fun z => by rw [z] at hx; omega)])
                                 · rw [aup_rn (by decide)]
                                 · rw [aup_rn (by decide)]
                                 · rw [aup_rn (by decide)]
                                 · simp [aup])
                              | (refine ⟨rfl, _, rfl, XR.newrow (a := a) (b := b) (n := c) hR HY HL HN HS HP HF HX hv3 hv4 (by omega) (by omega) (by omega) (fun x i x3 x4 x5 h0 => ?_) (fun i => ?_) (fun i => ?_) (fun i => ?_) ?_⟩
                                 · rw [aup_n h0, g1 x x5, aup_rn x4, aup_rn x3]
                                 · rw [aup_rn (by decide), g1 3 (by decide), aup_rn (by decide)]
                                   by_cases z : i = a
                                   · subst z; rw [aup_s, if_pos rfl]
                                   · rw [aup_n (by omega), if_neg z]
                                 · rw [aup_rn (by decide), g1 4 (by decide)]
                                   by_cases z : i = a
                                   · subst z; rw [aup_s, if_pos rfl]
                                   · rw [aup_n (by omega), if_neg z, aup_rn (by decide)]
                                 · rw [aup_rn (by decide), g2, aup_rn (by decide), aup_rn (by decide)]
                                 · rw [aup_s])
                · first
                    | (exfalso; omega)
                    | skip
                      refine aw_iload_n dX7_tray_11 rfl ?_
                      refine aw_iconst dX7_tray_12 (by decide) ?_
                      refine aw_icmpgt (tgt := 26) dX7_tray_13 (by decide) (fun h13 => ?_) (fun h13 => ?_)
                      · first
                          | (exfalso; omega)
                          | skip
                            refine aw_aload_n dX7_tray_26 rfl ?_
                            refine aw_iconst dX7_tray_27 (by decide) ?_
                            refine c_X7_79 rfl dX7_tray_28 m_ob (Nat.le_of_ble_eq_true rfl) (by omega) (C_m_is (fun hz => ?_) (fun hz => ?_))
                            · first
                                | (exfalso; omega)
                                | skip
                                  refine aK_i ?_
                                  refine aw_zreturn dX7_tray_31 rfl (by omega) ?_
                                  first
                                    | (exfalso; omega)
                                    | (refine ⟨by first | rfl | (rw [aup_rn (show ct (2 + a) 0 ≠ 0 from fun z => by rw [z] at y4; have := hR.1.2; omega), aup_rn (by decide), y5 b j0 j1]), _, rfl, XR.try hR HY HL HN HS HP HF HX hv3 hv4 (fun x j h8 h0 _ => ?_) (fun x i _ _ _ h0 => ?_) (fun t t0 t1 => TRY.fr (HX.1 t t0 t1) ?_ (fun x j hx => ?_) ?_ ?_ (fun j j0 j1 => ?_)) ?_⟩
                                       · (repeat (first | rw [aup_n h0] | rw [aup_rn h8]))
                                       · rw [aup_n h0]
                                       · (repeat rw [aup_n (by omega)])
                                       · have o8 := hR.2.2.2.2.2.1.2; have o0 := hR.1.2
                                         (repeat rw [aup_rn (fun z => by rw [z] at hx; omega)])
                                       · rw [aup_rn (by decide)]
                                       · rw [aup_rn (by decide)]
                                       · rw [aup_rn (by decide)]
                                       · simp [aup])
                                    | (refine ⟨rfl, _, rfl, XR.newrow (a := a) (b := b) (n := c) hR HY HL HN HS HP HF HX hv3 hv4 (by omega) (by omega) (by omega) (fun x i x3 x4 x5 h0 => ?_) (fun i => ?_) (fun i => ?_) (fun i => ?_) ?_⟩
                                       · rw [aup_n h0, g1 x x5, aup_rn x4, aup_rn x3]
                                       · rw [aup_rn (by decide), g1 3 (by decide), aup_rn (by decide)]
                                         by_cases z : i = a
                                         · subst z; rw [aup_s, if_pos rfl]
                                         · rw [aup_n (by omega), if_neg z]
                                       · rw [aup_rn (by decide), g1 4 (by decide)]
                                         by_cases z : i = a
                                         · subst z; rw [aup_s, if_pos rfl]
                                         · rw [aup_n (by omega), if_neg z, aup_rn (by decide)]
                                       · rw [aup_rn (by decide), g2, aup_rn (by decide), aup_rn (by decide)]
                                       · rw [aup_s])
                            · first
                                | (exfalso; omega)
                                | skip
                                  refine aK_i ?_
                                  refine aw_zreturn dX7_tray_31 rfl (by omega) ?_
                                  first
                                    | (exfalso; omega)
                                    | (refine ⟨by first | rfl | (rw [aup_rn (show ct (2 + a) 0 ≠ 0 from fun z => by rw [z] at y4; have := hR.1.2; omega), aup_rn (by decide), y5 b j0 j1]), _, rfl, XR.try hR HY HL HN HS HP HF HX hv3 hv4 (fun x j h8 h0 _ => ?_) (fun x i _ _ _ h0 => ?_) (fun t t0 t1 => TRY.fr (HX.1 t t0 t1) ?_ (fun x j hx => ?_) ?_ ?_ (fun j j0 j1 => ?_)) ?_⟩
                                       · (repeat (first | rw [aup_n h0] | rw [aup_rn h8]))
                                       · rw [aup_n h0]
                                       · (repeat rw [aup_n (by omega)])
                                       · have o8 := hR.2.2.2.2.2.1.2; have o0 := hR.1.2
                                         (repeat rw [aup_rn (fun z => by rw [z] at hx; omega)])
                                       · rw [aup_rn (by decide)]
                                       · rw [aup_rn (by decide)]
                                       · rw [aup_rn (by decide)]
                                       · simp [aup])
                                    | (refine ⟨rfl, _, rfl, XR.newrow (a := a) (b := b) (n := c) hR HY HL HN HS HP HF HX hv3 hv4 (by omega) (by omega) (by omega) (fun x i x3 x4 x5 h0 => ?_) (fun i => ?_) (fun i => ?_) (fun i => ?_) ?_⟩
                                       · rw [aup_n h0, g1 x x5, aup_rn x4, aup_rn x3]
                                       · rw [aup_rn (by decide), g1 3 (by decide), aup_rn (by decide)]
                                         by_cases z : i = a
                                         · subst z; rw [aup_s, if_pos rfl]
                                         · rw [aup_n (by omega), if_neg z]
                                       · rw [aup_rn (by decide), g1 4 (by decide)]
                                         by_cases z : i = a
                                         · subst z; rw [aup_s, if_pos rfl]
                                         · rw [aup_n (by omega), if_neg z, aup_rn (by decide)]
                                       · rw [aup_rn (by decide), g2, aup_rn (by decide), aup_rn (by decide)]
                                       · rw [aup_s])
                      · first
                          | (exfalso; omega)
                          | skip
                            refine aw_iload_n dX7_tray_16 rfl ?_
                            refine aw_iflt (tgt := 26) dX7_tray_17 (by decide) (fun h17 => ?_) (fun h17 => ?_)
                            · first
                                | (exfalso; omega)
                                | skip
                                  refine aw_aload_n dX7_tray_26 rfl ?_
                                  refine aw_iconst dX7_tray_27 (by decide) ?_
                                  refine c_X7_79 rfl dX7_tray_28 m_ob (Nat.le_of_ble_eq_true rfl) (by omega) (C_m_is (fun hz => ?_) (fun hz => ?_))
                                  · first
                                      | (exfalso; omega)
                                      | skip
                                        refine aK_i ?_
                                        refine aw_zreturn dX7_tray_31 rfl (by omega) ?_
                                        first
                                          | (exfalso; omega)
                                          | (refine ⟨by first | rfl | (rw [aup_rn (show ct (2 + a) 0 ≠ 0 from fun z => by rw [z] at y4; have := hR.1.2; omega), aup_rn (by decide), y5 b j0 j1]), _, rfl, XR.try hR HY HL HN HS HP HF HX hv3 hv4 (fun x j h8 h0 _ => ?_) (fun x i _ _ _ h0 => ?_) (fun t t0 t1 => TRY.fr (HX.1 t t0 t1) ?_ (fun x j hx => ?_) ?_ ?_ (fun j j0 j1 => ?_)) ?_⟩
                                             · (repeat (first | rw [aup_n h0] | rw [aup_rn h8]))
                                             · rw [aup_n h0]
                                             · (repeat rw [aup_n (by omega)])
                                             · have o8 := hR.2.2.2.2.2.1.2; have o0 := hR.1.2
                                               (repeat rw [aup_rn (fun z => by rw [z] at hx; omega)])
                                             · rw [aup_rn (by decide)]
                                             · rw [aup_rn (by decide)]
                                             · rw [aup_rn (by decide)]
                                             · simp [aup])
                                          | (refine ⟨rfl, _, rfl, XR.newrow (a := a) (b := b) (n := c) hR HY HL HN HS HP HF HX hv3 hv4 (by omega) (by omega) (by omega) (fun x i x3 x4 x5 h0 => ?_) (fun i => ?_) (fun i => ?_) (fun i => ?_) ?_⟩
                                             · rw [aup_n h0, g1 x x5, aup_rn x4, aup_rn x3]
                                             · rw [aup_rn (by decide), g1 3 (by decide), aup_rn (by decide)]
                                               by_cases z : i = a
                                               · subst z; rw [aup_s, if_pos rfl]
                                               · rw [aup_n (by omega), if_neg z]
                                             · rw [aup_rn (by decide), g1 4 (by decide)]
                                               by_cases z : i = a
                                               · subst z; rw [aup_s, if_pos rfl]
                                               · rw [aup_n (by omega), if_neg z, aup_rn (by decide)]
                                             · rw [aup_rn (by decide), g2, aup_rn (by decide), aup_rn (by decide)]
                                             · rw [aup_s])
                                  · first
                                      | (exfalso; omega)
                                      | skip
                                        refine aK_i ?_
                                        refine aw_zreturn dX7_tray_31 rfl (by omega) ?_
                                        first
                                          | (exfalso; omega)
                                          | (refine ⟨by first | rfl | (rw [aup_rn (show ct (2 + a) 0 ≠ 0 from fun z => by rw [z] at y4; have := hR.1.2; omega), aup_rn (by decide), y5 b j0 j1]), _, rfl, XR.try hR HY HL HN HS HP HF HX hv3 hv4 (fun x j h8 h0 _ => ?_) (fun x i _ _ _ h0 => ?_) (fun t t0 t1 => TRY.fr (HX.1 t t0 t1) ?_ (fun x j hx => ?_) ?_ ?_ (fun j j0 j1 => ?_)) ?_⟩
                                             · (repeat (first | rw [aup_n h0] | rw [aup_rn h8]))
                                             · rw [aup_n h0]
                                             · (repeat rw [aup_n (by omega)])
                                             · have o8 := hR.2.2.2.2.2.1.2; have o0 := hR.1.2
                                               (repeat rw [aup_rn (fun z => by rw [z] at hx; omega)])
                                             · rw [aup_rn (by decide)]
                                             · rw [aup_rn (by decide)]
                                             · rw [aup_rn (by decide)]
                                             · simp [aup])
                                          | (refine ⟨rfl, _, rfl, XR.newrow (a := a) (b := b) (n := c) hR HY HL HN HS HP HF HX hv3 hv4 (by omega) (by omega) (by omega) (fun x i x3 x4 x5 h0 => ?_) (fun i => ?_) (fun i => ?_) (fun i => ?_) ?_⟩
                                             · rw [aup_n h0, g1 x x5, aup_rn x4, aup_rn x3]
                                             · rw [aup_rn (by decide), g1 3 (by decide), aup_rn (by decide)]
                                               by_cases z : i = a
                                               · subst z; rw [aup_s, if_pos rfl]
                                               · rw [aup_n (by omega), if_neg z]
                                             · rw [aup_rn (by decide), g1 4 (by decide)]
                                               by_cases z : i = a
                                               · subst z; rw [aup_s, if_pos rfl]
                                               · rw [aup_n (by omega), if_neg z, aup_rn (by decide)]
                                             · rw [aup_rn (by decide), g2, aup_rn (by decide), aup_rn (by decide)]
                                             · rw [aup_s])
                            · first
                                | (exfalso; omega)
                                | skip
                                  refine aw_iload_n dX7_tray_20 rfl ?_
                                  refine aw_bipush dX7_tray_21 (by decide) ?_
                                  refine aw_icmple (tgt := 32) dX7_tray_23 (by decide) (fun h23 => ?_) (fun h23 => ?_)
                                  · first
                                      | (exfalso; omega)
                                      | skip
                                        refine gm_21 rfl dX7_tray_32 dX7_tray_33 rfl ?_
                                        refine aw_iload_n dX7_tray_36 rfl ?_
                                        refine aw_iload_n dX7_tray_37 rfl ?_
                                        refine aw_iastore dX7_tray_38 m_a3 (by omega) (by omega) ?_
                                        refine gm_24 rfl dX7_tray_39 dX7_tray_40 rfl ?_
                                        refine aw_iload_n dX7_tray_43 rfl ?_
                                        refine aw_iload_n dX7_tray_44 rfl ?_
                                        refine aw_iastore dX7_tray_45 m_a4 (by omega) (by omega) ?_
                                        refine aw_iconst dX7_tray_46 (by decide) ?_
                                        refine aw_istore4 dX7_tray_47 (by decide) rfl ?_
                                        refine L_m_tray (n := c) (by omega) (by omega) (fun cm3 g1 g2 => ?_) c.toNat 0 _ (by omega) (by decide) (fun _ _ => rfl) (fun i => by rw [if_neg (by omega)])
                                        refine aw_aload_n dX7_tray_74 rfl ?_
                                        refine aw_iconst dX7_tray_75 (by decide) ?_
                                        refine c_X7_79 rfl dX7_tray_76 m_ob (Nat.le_of_ble_eq_true rfl) (by omega) (C_m_is (fun hz => ?_) (fun hz => ?_))
                                        · refine aK_i ?_
                                          refine aw_zreturn dX7_tray_79 rfl (by omega) ?_
                                          first
                                            | (exfalso; omega)
                                            | (refine ⟨by first | rfl | (rw [aup_rn (show ct (2 + a) 0 ≠ 0 from fun z => by rw [z] at y4; have := hR.1.2; omega), aup_rn (by decide), y5 b j0 j1]), _, rfl, XR.try hR HY HL HN HS HP HF HX hv3 hv4 (fun x j h8 h0 _ => ?_) (fun x i _ _ _ h0 => ?_) (fun t t0 t1 => TRY.fr (HX.1 t t0 t1) ?_ (fun x j hx => ?_) ?_ ?_ (fun j j0 j1 => ?_)) ?_⟩
                                               · (repeat (first | rw [aup_n h0] | rw [aup_rn h8]))
                                               · rw [aup_n h0]
                                               · (repeat rw [aup_n (by omega)])
                                               · have o8 := hR.2.2.2.2.2.1.2; have o0 := hR.1.2
                                                 (repeat rw [aup_rn (fun z => by rw [z] at hx; omega)])
                                               · rw [aup_rn (by decide)]
                                               · rw [aup_rn (by decide)]
                                               · rw [aup_rn (by decide)]
                                               · simp [aup])
                                            | (refine ⟨rfl, _, rfl, XR.newrow (a := a) (b := b) (n := c) hR HY HL HN HS HP HF HX hv3 hv4 (by omega) (by omega) (by omega) (fun x i x3 x4 x5 h0 => ?_) (fun i => ?_) (fun i => ?_) (fun i => ?_) ?_⟩
                                               · rw [aup_n h0, g1 x x5, aup_rn x4, aup_rn x3]
                                               · rw [aup_rn (by decide), g1 3 (by decide), aup_rn (by decide)]
                                                 by_cases z : i = a
                                                 · subst z; rw [aup_s, if_pos rfl]
                                                 · rw [aup_n (by omega), if_neg z]
                                               · rw [aup_rn (by decide), g1 4 (by decide)]
                                                 by_cases z : i = a
                                                 · subst z; rw [aup_s, if_pos rfl]
                                                 · rw [aup_n (by omega), if_neg z, aup_rn (by decide)]
                                               · rw [aup_rn (by decide), g2, aup_rn (by decide), aup_rn (by decide)]
                                               · rw [aup_s])
                                        · refine aK_i ?_
                                          refine aw_zreturn dX7_tray_79 rfl (by omega) ?_
                                          first
                                            | (exfalso; omega)
                                            | (refine ⟨by first | rfl | (rw [aup_rn (show ct (2 + a) 0 ≠ 0 from fun z => by rw [z] at y4; have := hR.1.2; omega), aup_rn (by decide), y5 b j0 j1]), _, rfl, XR.try hR HY HL HN HS HP HF HX hv3 hv4 (fun x j h8 h0 _ => ?_) (fun x i _ _ _ h0 => ?_) (fun t t0 t1 => TRY.fr (HX.1 t t0 t1) ?_ (fun x j hx => ?_) ?_ ?_ (fun j j0 j1 => ?_)) ?_⟩
                                               · (repeat (first | rw [aup_n h0] | rw [aup_rn h8]))
                                               · rw [aup_n h0]
                                               · (repeat rw [aup_n (by omega)])
                                               · have o8 := hR.2.2.2.2.2.1.2; have o0 := hR.1.2
                                                 (repeat rw [aup_rn (fun z => by rw [z] at hx; omega)])
                                               · rw [aup_rn (by decide)]
                                               · rw [aup_rn (by decide)]
                                               · rw [aup_rn (by decide)]
                                               · simp [aup])
                                            | (refine ⟨rfl, _, rfl, XR.newrow (a := a) (b := b) (n := c) hR HY HL HN HS HP HF HX hv3 hv4 (by omega) (by omega) (by omega) (fun x i x3 x4 x5 h0 => ?_) (fun i => ?_) (fun i => ?_) (fun i => ?_) ?_⟩
                                               · rw [aup_n h0, g1 x x5, aup_rn x4, aup_rn x3]
                                               · rw [aup_rn (by decide), g1 3 (by decide), aup_rn (by decide)]
                                                 by_cases z : i = a
                                                 · subst z; rw [aup_s, if_pos rfl]
                                                 · rw [aup_n (by omega), if_neg z]
                                               · rw [aup_rn (by decide), g1 4 (by decide)]
                                                 by_cases z : i = a
                                                 · subst z; rw [aup_s, if_pos rfl]
                                                 · rw [aup_n (by omega), if_neg z, aup_rn (by decide)]
                                               · rw [aup_rn (by decide), g2, aup_rn (by decide), aup_rn (by decide)]
                                               · rw [aup_s])
                                  · first
                                      | (exfalso; omega)
                                      | skip
                                        refine aw_aload_n dX7_tray_26 rfl ?_
                                        refine aw_iconst dX7_tray_27 (by decide) ?_
                                        refine c_X7_79 rfl dX7_tray_28 m_ob (Nat.le_of_ble_eq_true rfl) (by omega) (C_m_is (fun hz => ?_) (fun hz => ?_))
                                        · first
                                            | (exfalso; omega)
                                            | skip
                                              refine aK_i ?_
                                              refine aw_zreturn dX7_tray_31 rfl (by omega) ?_
                                              first
                                                | (exfalso; omega)
                                                | (refine ⟨by first | rfl | (rw [aup_rn (show ct (2 + a) 0 ≠ 0 from fun z => by rw [z] at y4; have := hR.1.2; omega), aup_rn (by decide), y5 b j0 j1]), _, rfl, XR.try hR HY HL HN HS HP HF HX hv3 hv4 (fun x j h8 h0 _ => ?_) (fun x i _ _ _ h0 => ?_) (fun t t0 t1 => TRY.fr (HX.1 t t0 t1) ?_ (fun x j hx => ?_) ?_ ?_ (fun j j0 j1 => ?_)) ?_⟩
                                                   · (repeat (first | rw [aup_n h0] | rw [aup_rn h8]))
                                                   · rw [aup_n h0]
                                                   · (repeat rw [aup_n (by omega)])
                                                   · have o8 := hR.2.2.2.2.2.1.2; have o0 := hR.1.2
                                                     (repeat rw [aup_rn (fun z => by rw [z] at hx; omega)])
                                                   · rw [aup_rn (by decide)]
                                                   · rw [aup_rn (by decide)]
                                                   · rw [aup_rn (by decide)]
                                                   · simp [aup])
                                                | (refine ⟨rfl, _, rfl, XR.newrow (a := a) (b := b) (n := c) hR HY HL HN HS HP HF HX hv3 hv4 (by omega) (by omega) (by omega) (fun x i x3 x4 x5 h0 => ?_) (fun i => ?_) (fun i => ?_) (fun i => ?_) ?_⟩
                                                   · rw [aup_n h0, g1 x x5, aup_rn x4, aup_rn x3]
                                                   · rw [aup_rn (by decide), g1 3 (by decide), aup_rn (by decide)]
                                                     by_cases z : i = a
                                                     · subst z; rw [aup_s, if_pos rfl]
                                                     · rw [aup_n (by omega), if_neg z]
                                                   · rw [aup_rn (by decide), g1 4 (by decide)]
                                                     by_cases z : i = a
                                                     · subst z; rw [aup_s, if_pos rfl]
                                                     · rw [aup_n (by omega), if_neg z, aup_rn (by decide)]
                                                   · rw [aup_rn (by decide), g2, aup_rn (by decide), aup_rn (by decide)]
                                                   · rw [aup_s])
                                        · first
                                            | (exfalso; omega)
                                            | skip
                                              refine aK_i ?_
                                              refine aw_zreturn dX7_tray_31 rfl (by omega) ?_
                                              first
                                                | (exfalso; omega)
                                                | (refine ⟨by first | rfl | (rw [aup_rn (show ct (2 + a) 0 ≠ 0 from fun z => by rw [z] at y4; have := hR.1.2; omega), aup_rn (by decide), y5 b j0 j1]), _, rfl, XR.try hR HY HL HN HS HP HF HX hv3 hv4 (fun x j h8 h0 _ => ?_) (fun x i _ _ _ h0 => ?_) (fun t t0 t1 => TRY.fr (HX.1 t t0 t1) ?_ (fun x j hx => ?_) ?_ ?_ (fun j j0 j1 => ?_)) ?_⟩
                                                   · (repeat (first | rw [aup_n h0] | rw [aup_rn h8]))
                                                   · rw [aup_n h0]
                                                   · (repeat rw [aup_n (by omega)])
                                                   · have o8 := hR.2.2.2.2.2.1.2; have o0 := hR.1.2
                                                     (repeat rw [aup_rn (fun z => by rw [z] at hx; omega)])
                                                   · rw [aup_rn (by decide)]
                                                   · rw [aup_rn (by decide)]
                                                   · rw [aup_rn (by decide)]
                                                   · simp [aup])
                                                | (refine ⟨rfl, _, rfl, XR.newrow (a := a) (b := b) (n := c) hR HY HL HN HS HP HF HX hv3 hv4 (by omega) (by omega) (by omega) (fun x i x3 x4 x5 h0 => ?_) (fun i => ?_) (fun i => ?_) (fun i => ?_) ?_⟩
                                                   · rw [aup_n h0, g1 x x5, aup_rn x4, aup_rn x3]
                                                   · rw [aup_rn (by decide), g1 3 (by decide), aup_rn (by decide)]
                                                     by_cases z : i = a
                                                     · subst z; rw [aup_s, if_pos rfl]
                                                     · rw [aup_n (by omega), if_neg z]
                                                   · rw [aup_rn (by decide), g1 4 (by decide)]
                                                     by_cases z : i = a
                                                     · subst z; rw [aup_s, if_pos rfl]
                                                     · rw [aup_n (by omega), if_neg z, aup_rn (by decide)]
                                                   · rw [aup_rn (by decide), g2, aup_rn (by decide), aup_rn (by decide)]
                                                   · rw [aup_s])
          · first
              | (exfalso; omega)
              | skip
                refine aK_i ?_
                refine aw_ifeq (tgt := 26) dX7_tray_4 (by decide) (fun _ => ?_) (fun h => absurd h (by decide))
                refine aw_aload_n dX7_tray_26 rfl ?_
                refine aw_iconst dX7_tray_27 (by decide) ?_
                refine c_X7_79 rfl dX7_tray_28 m_ob (Nat.le_of_ble_eq_true rfl) (by omega) (C_m_is (fun hz => ?_) (fun hz => ?_))
                · first
                    | (exfalso; omega)
                    | skip
                      refine aK_i ?_
                      refine aw_zreturn dX7_tray_31 rfl (by omega) ?_
                      first
                        | (exfalso; omega)
                        | (refine ⟨by first | rfl | (rw [aup_rn (show ct (2 + a) 0 ≠ 0 from fun z => by rw [z] at y4; have := hR.1.2; omega), aup_rn (by decide), y5 b j0 j1]), _, rfl, XR.try hR HY HL HN HS HP HF HX hv3 hv4 (fun x j h8 h0 _ => ?_) (fun x i _ _ _ h0 => ?_) (fun t t0 t1 => TRY.fr (HX.1 t t0 t1) ?_ (fun x j hx => ?_) ?_ ?_ (fun j j0 j1 => ?_)) ?_⟩
                           · (repeat (first | rw [aup_n h0] | rw [aup_rn h8]))
                           · rw [aup_n h0]
                           · (repeat rw [aup_n (by omega)])
                           · have o8 := hR.2.2.2.2.2.1.2; have o0 := hR.1.2
                             (repeat rw [aup_rn (fun z => by rw [z] at hx; omega)])
                           · rw [aup_rn (by decide)]
                           · rw [aup_rn (by decide)]
                           · rw [aup_rn (by decide)]
                           · simp [aup])
                        | (refine ⟨rfl, _, rfl, XR.newrow (a := a) (b := b) (n := c) hR HY HL HN HS HP HF HX hv3 hv4 (by omega) (by omega) (by omega) (fun x i x3 x4 x5 h0 => ?_) (fun i => ?_) (fun i => ?_) (fun i => ?_) ?_⟩
                           · rw [aup_n h0, g1 x x5, aup_rn x4, aup_rn x3]
                           · rw [aup_rn (by decide), g1 3 (by decide), aup_rn (by decide)]
                             by_cases z : i = a
                             · subst z; rw [aup_s, if_pos rfl]
                             · rw [aup_n (by omega), if_neg z]
                           · rw [aup_rn (by decide), g1 4 (by decide)]
                             by_cases z : i = a
                             · subst z; rw [aup_s, if_pos rfl]
                             · rw [aup_n (by omega), if_neg z, aup_rn (by decide)]
                           · rw [aup_rn (by decide), g2, aup_rn (by decide), aup_rn (by decide)]
                           · rw [aup_s])
                · first
                    | (exfalso; omega)
                    | skip
                      refine aK_i ?_
                      refine aw_zreturn dX7_tray_31 rfl (by omega) ?_
                      first
                        | (exfalso; omega)
                        | (refine ⟨by first | rfl | (rw [aup_rn (show ct (2 + a) 0 ≠ 0 from fun z => by rw [z] at y4; have := hR.1.2; omega), aup_rn (by decide), y5 b j0 j1]), _, rfl, XR.try hR HY HL HN HS HP HF HX hv3 hv4 (fun x j h8 h0 _ => ?_) (fun x i _ _ _ h0 => ?_) (fun t t0 t1 => TRY.fr (HX.1 t t0 t1) ?_ (fun x j hx => ?_) ?_ ?_ (fun j j0 j1 => ?_)) ?_⟩
                           · (repeat (first | rw [aup_n h0] | rw [aup_rn h8]))
                           · rw [aup_n h0]
                           · (repeat rw [aup_n (by omega)])
                           · have o8 := hR.2.2.2.2.2.1.2; have o0 := hR.1.2
                             (repeat rw [aup_rn (fun z => by rw [z] at hx; omega)])
                           · rw [aup_rn (by decide)]
                           · rw [aup_rn (by decide)]
                           · rw [aup_rn (by decide)]
                           · simp [aup])
                        | (refine ⟨rfl, _, rfl, XR.newrow (a := a) (b := b) (n := c) hR HY HL HN HS HP HF HX hv3 hv4 (by omega) (by omega) (by omega) (fun x i x3 x4 x5 h0 => ?_) (fun i => ?_) (fun i => ?_) (fun i => ?_) ?_⟩
                           · rw [aup_n h0, g1 x x5, aup_rn x4, aup_rn x3]
                           · rw [aup_rn (by decide), g1 3 (by decide), aup_rn (by decide)]
                             by_cases z : i = a
                             · subst z; rw [aup_s, if_pos rfl]
                             · rw [aup_n (by omega), if_neg z]
                           · rw [aup_rn (by decide), g1 4 (by decide)]
                             by_cases z : i = a
                             · subst z; rw [aup_s, if_pos rfl]
                             · rw [aup_n (by omega), if_neg z, aup_rn (by decide)]
                           · rw [aup_rn (by decide), g2, aup_rn (by decide), aup_rn (by decide)]
                           · rw [aup_s])
      · refine aw_iload_n dX0_tray_19 rfl ?_
        refine aw_iconst dX0_tray_20 (by decide) ?_
        refine aw_icmpgt (tgt := 34) dX0_tray_21 (by decide) (fun h21 => ?_) (fun h21 => ?_)
        · refine aw_iconst dX0_tray_34 (by decide) ?_
          refine aw_iconst dX0_tray_35 (by decide) ?_
          refine c_X0_98 rfl dX0_tray_36 hR.o0 (Nat.le_of_ble_eq_true rfl) (by omega) (C_x_want hR (fun hb => ?_) (fun hb => ?_))
          · exact absurd rfl hb
          · refine aK_x (ax_catch (E := 1) (pre := [{ startPc := 5, endPc := 54, handlerPc := 55, catchType := 109 }]) (z := { startPc := 5, endPc := 54, handlerPc := 64, catchType := 41 }) (suf := []) rfl (fun y hy => by rw [List.mem_singleton.mp hy]; exact Or.inr ⟨by decide, _, q444, by decide +kernel⟩) rfl (by decide) q235 q237 ?_)
            refine aw_astore4 dX0_tray_64 (by decide) rfl ?_
            refine aw_aload_n dX0_tray_66 rfl ?_
            refine aw_aload dX0_tray_67 rfl ?_
            refine c_X0_111 rfl dX0_tray_69 hR.o0 (Nat.le_of_ble_eq_true rfl) (by omega) (C_x_no (hR.up0 (j := 7) (v := 0)) ?_)
            refine aK_i ?_
            refine aw_zreturn dX0_tray_72 rfl (by omega) ?_
            refine ⟨_, rfl, ?_⟩
            refine AMet.go (L := [some (vR 0), some (vI a), some (vI b), some (vI c), none]) mok_X7_tray (Nat.le_of_ble_eq_true rfl) rfl ?_
            refine aw_iload_n dX7_tray_0 rfl ?_
            refine c_X7_83 rfl dX7_tray_1  (Nat.le_of_ble_eq_true rfl) (by omega) (C_m_isTray (fun htr => ?_) (fun htr => ?_))
            · first
                | (exfalso; omega)
                | skip
                  refine aK_i ?_
                  refine aw_ifeq (tgt := 26) dX7_tray_4 (by decide) (fun h => absurd h (by decide)) (fun _ => ?_)
                  refine aw_iload_n dX7_tray_7 rfl ?_
                  refine aw_iflt (tgt := 26) dX7_tray_8 (by decide) (fun h8 => ?_) (fun h8 => ?_)
                  · first
                      | (exfalso; omega)
                      | skip
                        refine aw_aload_n dX7_tray_26 rfl ?_
                        refine aw_iconst dX7_tray_27 (by decide) ?_
                        refine c_X7_79 rfl dX7_tray_28 m_ob (Nat.le_of_ble_eq_true rfl) (by omega) (C_m_is (fun hz => ?_) (fun hz => ?_))
                        · first
                            | (exfalso; omega)
                            | skip
                              refine aK_i ?_
                              refine aw_zreturn dX7_tray_31 rfl (by omega) ?_
                              first
                                | (exfalso; omega)
                                | (refine ⟨by first | rfl | (rw [aup_rn (show ct (2 + a) 0 ≠ 0 from fun z => by rw [z] at y4; have := hR.1.2; omega), aup_rn (by decide), y5 b j0 j1]), _, rfl, XR.try hR HY HL HN HS HP HF HX hv3 hv4 (fun x j h8 h0 _ => ?_) (fun x i _ _ _ h0 => ?_) (fun t t0 t1 => TRY.fr (HX.1 t t0 t1) ?_ (fun x j hx => ?_) ?_ ?_ (fun j j0 j1 => ?_)) ?_⟩
                                   · (repeat (first | rw [aup_n h0] | rw [aup_rn h8]))
                                   · rw [aup_n h0]
                                   · (repeat rw [aup_n (by omega)])
                                   · have o8 := hR.2.2.2.2.2.1.2; have o0 := hR.1.2
                                     (repeat rw [aup_rn (fun z => by rw [z] at hx; omega)])
                                   · rw [aup_rn (by decide)]
                                   · rw [aup_rn (by decide)]
                                   · rw [aup_rn (by decide)]
                                   · simp [aup])
                                | (refine ⟨rfl, _, rfl, XR.newrow (a := a) (b := b) (n := c) hR HY HL HN HS HP HF HX hv3 hv4 (by omega) (by omega) (by omega) (fun x i x3 x4 x5 h0 => ?_) (fun i => ?_) (fun i => ?_) (fun i => ?_) ?_⟩
                                   · rw [aup_n h0, g1 x x5, aup_rn x4, aup_rn x3]
                                   · rw [aup_rn (by decide), g1 3 (by decide), aup_rn (by decide)]
                                     by_cases z : i = a
                                     · subst z; rw [aup_s, if_pos rfl]
                                     · rw [aup_n (by omega), if_neg z]
                                   · rw [aup_rn (by decide), g1 4 (by decide)]
                                     by_cases z : i = a
                                     · subst z; rw [aup_s, if_pos rfl]
                                     · rw [aup_n (by omega), if_neg z, aup_rn (by decide)]
                                   · rw [aup_rn (by decide), g2, aup_rn (by decide), aup_rn (by decide)]
                                   · rw [aup_s])
                        · first
                            | (exfalso; omega)
                            | skip
                              refine aK_i ?_
                              refine aw_zreturn dX7_tray_31 rfl (by omega) ?_
                              first
                                | (exfalso; omega)
                                | (refine ⟨by first | rfl | (rw [aup_rn (show ct (2 + a) 0 ≠ 0 from fun z => by rw [z] at y4; have := hR.1.2; omega), aup_rn (by decide), y5 b j0 j1]), _, rfl, XR.try hR HY HL HN HS HP HF HX hv3 hv4 (fun x j h8 h0 _ => ?_) (fun x i _ _ _ h0 => ?_) (fun t t0 t1 => TRY.fr (HX.1 t t0 t1) ?_ (fun x j hx => ?_) ?_ ?_ (fun j j0 j1 => ?_)) ?_⟩
                                   · (repeat (first | rw [aup_n h0] | rw [aup_rn h8]))
                                   · rw [aup_n h0]
                                   · (repeat rw [aup_n (by omega)])
                                   · have o8 := hR.2.2.2.2.2.1.2; have o0 := hR.1.2
                                     (repeat rw [aup_rn (fun z => by rw [z] at hx; omega)])
                                   · rw [aup_rn (by decide)]
                                   · rw [aup_rn (by decide)]
                                   · rw [aup_rn (by decide)]
                                   · simp [aup])
                                | (refine ⟨rfl, _, rfl, XR.newrow (a := a) (b := b) (n := c) hR HY HL HN HS HP HF HX hv3 hv4 (by omega) (by omega) (by omega) (fun x i x3 x4 x5 h0 => ?_) (fun i => ?_) (fun i => ?_) (fun i => ?_) ?_⟩
                                   · rw [aup_n h0, g1 x x5, aup_rn x4, aup_rn x3]
                                   · rw [aup_rn (by decide), g1 3 (by decide), aup_rn (by decide)]
                                     by_cases z : i = a
                                     · subst z; rw [aup_s, if_pos rfl]
                                     · rw [aup_n (by omega), if_neg z]
                                   · rw [aup_rn (by decide), g1 4 (by decide)]
                                     by_cases z : i = a
                                     · subst z; rw [aup_s, if_pos rfl]
                                     · rw [aup_n (by omega), if_neg z, aup_rn (by decide)]
                                   · rw [aup_rn (by decide), g2, aup_rn (by decide), aup_rn (by decide)]
                                   · rw [aup_s])
                  · first
                      | (exfalso; omega)
                      | skip
                        refine aw_iload_n dX7_tray_11 rfl ?_
                        refine aw_iconst dX7_tray_12 (by decide) ?_
                        refine aw_icmpgt (tgt := 26) dX7_tray_13 (by decide) (fun h13 => ?_) (fun h13 => ?_)
                        · first
                            | (exfalso; omega)
                            | skip
                              refine aw_aload_n dX7_tray_26 rfl ?_
                              refine aw_iconst dX7_tray_27 (by decide) ?_
                              refine c_X7_79 rfl dX7_tray_28 m_ob (Nat.le_of_ble_eq_true rfl) (by omega) (C_m_is (fun hz => ?_) (fun hz => ?_))
                              · first
                                  | (exfalso; omega)
                                  | skip
                                    refine aK_i ?_
                                    refine aw_zreturn dX7_tray_31 rfl (by omega) ?_
                                    first
                                      | (exfalso; omega)
                                      | (refine ⟨by first | rfl | (rw [aup_rn (show ct (2 + a) 0 ≠ 0 from fun z => by rw [z] at y4; have := hR.1.2; omega), aup_rn (by decide), y5 b j0 j1]), _, rfl, XR.try hR HY HL HN HS HP HF HX hv3 hv4 (fun x j h8 h0 _ => ?_) (fun x i _ _ _ h0 => ?_) (fun t t0 t1 => TRY.fr (HX.1 t t0 t1) ?_ (fun x j hx => ?_) ?_ ?_ (fun j j0 j1 => ?_)) ?_⟩
                                         · (repeat (first | rw [aup_n h0] | rw [aup_rn h8]))
                                         · rw [aup_n h0]
                                         · (repeat rw [aup_n (by omega)])
                                         · have o8 := hR.2.2.2.2.2.1.2; have o0 := hR.1.2
                                           (repeat rw [aup_rn (fun z => by rw [z] at hx; omega)])
                                         · rw [aup_rn (by decide)]
                                         · rw [aup_rn (by decide)]
                                         · rw [aup_rn (by decide)]
                                         · simp [aup])
                                      | (refine ⟨rfl, _, rfl, XR.newrow (a := a) (b := b) (n := c) hR HY HL HN HS HP HF HX hv3 hv4 (by omega) (by omega) (by omega) (fun x i x3 x4 x5 h0 => ?_) (fun i => ?_) (fun i => ?_) (fun i => ?_) ?_⟩
                                         · rw [aup_n h0, g1 x x5, aup_rn x4, aup_rn x3]
                                         · rw [aup_rn (by decide), g1 3 (by decide), aup_rn (by decide)]
                                           by_cases z : i = a
                                           · subst z; rw [aup_s, if_pos rfl]
                                           · rw [aup_n (by omega), if_neg z]
                                         · rw [aup_rn (by decide), g1 4 (by decide)]
                                           by_cases z : i = a
                                           · subst z; rw [aup_s, if_pos rfl]
                                           · rw [aup_n (by omega), if_neg z, aup_rn (by decide)]
                                         · rw [aup_rn (by decide), g2, aup_rn (by decide), aup_rn (by decide)]
                                         · rw [aup_s])
                              · first
                                  | (exfalso; omega)
                                  | skip
                                    refine aK_i ?_
                                    refine aw_zreturn dX7_tray_31 rfl (by omega) ?_
                                    first
                                      | (exfalso; omega)
                                      | (refine ⟨by first | rfl | (rw [aup_rn (show ct (2 + a) 0 ≠ 0 from fun z => by rw [z] at y4; have := hR.1.2; omega), aup_rn (by decide), y5 b j0 j1]), _, rfl, XR.try hR HY HL HN HS HP HF HX hv3 hv4 (fun x j h8 h0 _ => ?_) (fun x i _ _ _ h0 => ?_) (fun t t0 t1 => TRY.fr (HX.1 t t0 t1) ?_ (fun x j hx => ?_) ?_ ?_ (fun j j0 j1 => ?_)) ?_⟩
                                         · (repeat (first | rw [aup_n h0] | rw [aup_rn h8]))
                                         · rw [aup_n h0]
                                         · (repeat rw [aup_n (by omega)])
                                         · have o8 := hR.2.2.2.2.2.1.2; have o0 := hR.1.2
                                           (repeat rw [aup_rn (fun z => by rw [z] at hx; omega)])
                                         · rw [aup_rn (by decide)]
                                         · rw [aup_rn (by decide)]
                                         · rw [aup_rn (by decide)]
                                         · simp [aup])
                                      | (refine ⟨rfl, _, rfl, XR.newrow (a := a) (b := b) (n := c) hR HY HL HN HS HP HF HX hv3 hv4 (by omega) (by omega) (by omega) (fun x i x3 x4 x5 h0 => ?_) (fun i => ?_) (fun i => ?_) (fun i => ?_) ?_⟩
                                         · rw [aup_n h0, g1 x x5, aup_rn x4, aup_rn x3]
                                         · rw [aup_rn (by decide), g1 3 (by decide), aup_rn (by decide)]
                                           by_cases z : i = a
                                           · subst z; rw [aup_s, if_pos rfl]
                                           · rw [aup_n (by omega), if_neg z]
                                         · rw [aup_rn (by decide), g1 4 (by decide)]
                                           by_cases z : i = a
                                           · subst z; rw [aup_s, if_pos rfl]
                                           · rw [aup_n (by omega), if_neg z, aup_rn (by decide)]
                                         · rw [aup_rn (by decide), g2, aup_rn (by decide), aup_rn (by decide)]
                                         · rw [aup_s])
                        · first
                            | (exfalso; omega)
                            | skip
                              refine aw_iload_n dX7_tray_16 rfl ?_
                              refine aw_iflt (tgt := 26) dX7_tray_17 (by decide) (fun h17 => ?_) (fun h17 => ?_)
                              · first
                                  | (exfalso; omega)
                                  | skip
                                    refine aw_aload_n dX7_tray_26 rfl ?_
                                    refine aw_iconst dX7_tray_27 (by decide) ?_
                                    refine c_X7_79 rfl dX7_tray_28 m_ob (Nat.le_of_ble_eq_true rfl) (by omega) (C_m_is (fun hz => ?_) (fun hz => ?_))
                                    · first
                                        | (exfalso; omega)
                                        | skip
                                          refine aK_i ?_
                                          refine aw_zreturn dX7_tray_31 rfl (by omega) ?_
                                          first
                                            | (exfalso; omega)
                                            | (refine ⟨by first | rfl | (rw [aup_rn (show ct (2 + a) 0 ≠ 0 from fun z => by rw [z] at y4; have := hR.1.2; omega), aup_rn (by decide), y5 b j0 j1]), _, rfl, XR.try hR HY HL HN HS HP HF HX hv3 hv4 (fun x j h8 h0 _ => ?_) (fun x i _ _ _ h0 => ?_) (fun t t0 t1 => TRY.fr (HX.1 t t0 t1) ?_ (fun x j hx => ?_) ?_ ?_ (fun j j0 j1 => ?_)) ?_⟩
                                               · (repeat (first | rw [aup_n h0] | rw [aup_rn h8]))
                                               · rw [aup_n h0]
                                               · (repeat rw [aup_n (by omega)])
                                               · have o8 := hR.2.2.2.2.2.1.2; have o0 := hR.1.2
                                                 (repeat rw [aup_rn (fun z => by rw [z] at hx; omega)])
                                               · rw [aup_rn (by decide)]
                                               · rw [aup_rn (by decide)]
                                               · rw [aup_rn (by decide)]
                                               · simp [aup])
                                            | (refine ⟨rfl, _, rfl, XR.newrow (a := a) (b := b) (n := c) hR HY HL HN HS HP HF HX hv3 hv4 (by omega) (by omega) (by omega) (fun x i x3 x4 x5 h0 => ?_) (fun i => ?_) (fun i => ?_) (fun i => ?_) ?_⟩
                                               · rw [aup_n h0, g1 x x5, aup_rn x4, aup_rn x3]
                                               · rw [aup_rn (by decide), g1 3 (by decide), aup_rn (by decide)]
                                                 by_cases z : i = a
                                                 · subst z; rw [aup_s, if_pos rfl]
                                                 · rw [aup_n (by omega), if_neg z]
                                               · rw [aup_rn (by decide), g1 4 (by decide)]
                                                 by_cases z : i = a
                                                 · subst z; rw [aup_s, if_pos rfl]
                                                 · rw [aup_n (by omega), if_neg z, aup_rn (by decide)]
                                               · rw [aup_rn (by decide), g2, aup_rn (by decide), aup_rn (by decide)]
                                               · rw [aup_s])
                                    · first
                                        | (exfalso; omega)
                                        | skip
                                          refine aK_i ?_
                                          refine aw_zreturn dX7_tray_31 rfl (by omega) ?_
                                          first
                                            | (exfalso; omega)
                                            | (refine ⟨by first | rfl | (rw [aup_rn (show ct (2 + a) 0 ≠ 0 from fun z => by rw [z] at y4; have := hR.1.2; omega), aup_rn (by decide), y5 b j0 j1]), _, rfl, XR.try hR HY HL HN HS HP HF HX hv3 hv4 (fun x j h8 h0 _ => ?_) (fun x i _ _ _ h0 => ?_) (fun t t0 t1 => TRY.fr (HX.1 t t0 t1) ?_ (fun x j hx => ?_) ?_ ?_ (fun j j0 j1 => ?_)) ?_⟩
                                               · (repeat (first | rw [aup_n h0] | rw [aup_rn h8]))
                                               · rw [aup_n h0]
                                               · (repeat rw [aup_n (by omega)])
                                               · have o8 := hR.2.2.2.2.2.1.2; have o0 := hR.1.2
                                                 (repeat rw [aup_rn (fun z => by rw [z] at hx; omega)])
                                               · rw [aup_rn (by decide)]
                                               · rw [aup_rn (by decide)]
                                               · rw [aup_rn (by decide)]
                                               · simp [aup])
                                            | (refine ⟨rfl, _, rfl, XR.newrow (a := a) (b := b) (n := c) hR HY HL HN HS HP HF HX hv3 hv4 (by omega) (by omega) (by omega) (fun x i x3 x4 x5 h0 => ?_) (fun i => ?_) (fun i => ?_) (fun i => ?_) ?_⟩
                                               · rw [aup_n h0, g1 x x5, aup_rn x4, aup_rn x3]
                                               · rw [aup_rn (by decide), g1 3 (by decide), aup_rn (by decide)]
                                                 by_cases z : i = a
                                                 · subst z; rw [aup_s, if_pos rfl]
                                                 · rw [aup_n (by omega), if_neg z]
                                               · rw [aup_rn (by decide), g1 4 (by decide)]
                                                 by_cases z : i = a
                                                 · subst z; rw [aup_s, if_pos rfl]
                                                 · rw [aup_n (by omega), if_neg z, aup_rn (by decide)]
                                               · rw [aup_rn (by decide), g2, aup_rn (by decide), aup_rn (by decide)]
                                               · rw [aup_s])
                              · first
                                  | (exfalso; omega)
                                  | skip
                                    refine aw_iload_n dX7_tray_20 rfl ?_
                                    refine aw_bipush dX7_tray_21 (by decide) ?_
                                    refine aw_icmple (tgt := 32) dX7_tray_23 (by decide) (fun h23 => ?_) (fun h23 => ?_)
                                    · first
                                        | (exfalso; omega)
                                        | skip
                                          refine gm_21 rfl dX7_tray_32 dX7_tray_33 rfl ?_
                                          refine aw_iload_n dX7_tray_36 rfl ?_
                                          refine aw_iload_n dX7_tray_37 rfl ?_
                                          refine aw_iastore dX7_tray_38 m_a3 (by omega) (by omega) ?_
                                          refine gm_24 rfl dX7_tray_39 dX7_tray_40 rfl ?_
                                          refine aw_iload_n dX7_tray_43 rfl ?_
                                          refine aw_iload_n dX7_tray_44 rfl ?_
                                          refine aw_iastore dX7_tray_45 m_a4 (by omega) (by omega) ?_
                                          refine aw_iconst dX7_tray_46 (by decide) ?_
                                          refine aw_istore4 dX7_tray_47 (by decide) rfl ?_
                                          refine L_m_tray (n := c) (by omega) (by omega) (fun cm3 g1 g2 => ?_) c.toNat 0 _ (by omega) (by decide) (fun _ _ => rfl) (fun i => by rw [if_neg (by omega)])
                                          refine aw_aload_n dX7_tray_74 rfl ?_
                                          refine aw_iconst dX7_tray_75 (by decide) ?_
                                          refine c_X7_79 rfl dX7_tray_76 m_ob (Nat.le_of_ble_eq_true rfl) (by omega) (C_m_is (fun hz => ?_) (fun hz => ?_))
                                          · refine aK_i ?_
                                            refine aw_zreturn dX7_tray_79 rfl (by omega) ?_
                                            first
                                              | (exfalso; omega)
                                              | (refine ⟨by first | rfl | (rw [aup_rn (show ct (2 + a) 0 ≠ 0 from fun z => by rw [z] at y4; have := hR.1.2; omega), aup_rn (by decide), y5 b j0 j1]), _, rfl, XR.try hR HY HL HN HS HP HF HX hv3 hv4 (fun x j h8 h0 _ => ?_) (fun x i _ _ _ h0 => ?_) (fun t t0 t1 => TRY.fr (HX.1 t t0 t1) ?_ (fun x j hx => ?_) ?_ ?_ (fun j j0 j1 => ?_)) ?_⟩
                                                 · (repeat (first | rw [aup_n h0] | rw [aup_rn h8]))
                                                 · rw [aup_n h0]
                                                 · (repeat rw [aup_n (by omega)])
                                                 · have o8 := hR.2.2.2.2.2.1.2; have o0 := hR.1.2
                                                   (repeat rw [aup_rn (fun z => by rw [z] at hx; omega)])
                                                 · rw [aup_rn (by decide)]
                                                 · rw [aup_rn (by decide)]
                                                 · rw [aup_rn (by decide)]
                                                 · simp [aup])
                                              | (refine ⟨rfl, _, rfl, XR.newrow (a := a) (b := b) (n := c) hR HY HL HN HS HP HF HX hv3 hv4 (by omega) (by omega) (by omega) (fun x i x3 x4 x5 h0 => ?_) (fun i => ?_) (fun i => ?_) (fun i => ?_) ?_⟩
                                                 · rw [aup_n h0, g1 x x5, aup_rn x4, aup_rn x3]
                                                 · rw [aup_rn (by decide), g1 3 (by decide), aup_rn (by decide)]
                                                   by_cases z : i = a
                                                   · subst z; rw [aup_s, if_pos rfl]
                                                   · rw [aup_n (by omega), if_neg z]
                                                 · rw [aup_rn (by decide), g1 4 (by decide)]
                                                   by_cases z : i = a
                                                   · subst z; rw [aup_s, if_pos rfl]
                                                   · rw [aup_n (by omega), if_neg z, aup_rn (by decide)]
                                                 · rw [aup_rn (by decide), g2, aup_rn (by decide), aup_rn (by decide)]
                                                 · rw [aup_s])
                                          · refine aK_i ?_
                                            refine aw_zreturn dX7_tray_79 rfl (by omega) ?_
                                            first
                                              | (exfalso; omega)
                                              | (refine ⟨by first | rfl | (rw [aup_rn (show ct (2 + a) 0 ≠ 0 from fun z => by rw [z] at y4; have := hR.1.2; omega), aup_rn (by decide), y5 b j0 j1]), _, rfl, XR.try hR HY HL HN HS HP HF HX hv3 hv4 (fun x j h8 h0 _ => ?_) (fun x i _ _ _ h0 => ?_) (fun t t0 t1 => TRY.fr (HX.1 t t0 t1) ?_ (fun x j hx => ?_) ?_ ?_ (fun j j0 j1 => ?_)) ?_⟩
                                                 · (repeat (first | rw [aup_n h0] | rw [aup_rn h8]))
                                                 · rw [aup_n h0]
                                                 · (repeat rw [aup_n (by omega)])
                                                 · have o8 := hR.2.2.2.2.2.1.2; have o0 := hR.1.2
                                                   (repeat rw [aup_rn (fun z => by rw [z] at hx; omega)])
                                                 · rw [aup_rn (by decide)]
                                                 · rw [aup_rn (by decide)]
                                                 · rw [aup_rn (by decide)]
                                                 · simp [aup])
                                              | (refine ⟨rfl, _, rfl, XR.newrow (a := a) (b := b) (n := c) hR HY HL HN HS HP HF HX hv3 hv4 (by omega) (by omega) (by omega) (fun x i x3 x4 x5 h0 => ?_) (fun i => ?_) (fun i => ?_) (fun i => ?_) ?_⟩
                                                 · rw [aup_n h0, g1 x x5, aup_rn x4, aup_rn x3]
                                                 · rw [aup_rn (by decide), g1 3 (by decide), aup_rn (by decide)]
                                                   by_cases z : i = a
                                                   · subst z; rw [aup_s, if_pos rfl]
                                                   · rw [aup_n (by omega), if_neg z]
                                                 · rw [aup_rn (by decide), g1 4 (by decide)]
                                                   by_cases z : i = a
                                                   · subst z; rw [aup_s, if_pos rfl]
                                                   · rw [aup_n (by omega), if_neg z, aup_rn (by decide)]
                                                 · rw [aup_rn (by decide), g2, aup_rn (by decide), aup_rn (by decide)]
                                                 · rw [aup_s])
                                    · first
                                        | (exfalso; omega)
                                        | skip
                                          refine aw_aload_n dX7_tray_26 rfl ?_
                                          refine aw_iconst dX7_tray_27 (by decide) ?_
                                          refine c_X7_79 rfl dX7_tray_28 m_ob (Nat.le_of_ble_eq_true rfl) (by omega) (C_m_is (fun hz => ?_) (fun hz => ?_))
                                          · first
                                              | (exfalso; omega)
                                              | skip
                                                refine aK_i ?_
                                                refine aw_zreturn dX7_tray_31 rfl (by omega) ?_
                                                first
                                                  | (exfalso; omega)
                                                  | (refine ⟨by first | rfl | (rw [aup_rn (show ct (2 + a) 0 ≠ 0 from fun z => by rw [z] at y4; have := hR.1.2; omega), aup_rn (by decide), y5 b j0 j1]), _, rfl, XR.try hR HY HL HN HS HP HF HX hv3 hv4 (fun x j h8 h0 _ => ?_) (fun x i _ _ _ h0 => ?_) (fun t t0 t1 => TRY.fr (HX.1 t t0 t1) ?_ (fun x j hx => ?_) ?_ ?_ (fun j j0 j1 => ?_)) ?_⟩
                                                     · (repeat (first | rw [aup_n h0] | rw [aup_rn h8]))
                                                     · rw [aup_n h0]
                                                     · (repeat rw [aup_n (by omega)])
                                                     · have o8 := hR.2.2.2.2.2.1.2; have o0 := hR.1.2
                                                       (repeat rw [aup_rn (fun z => by rw [z] at hx; omega)])
                                                     · rw [aup_rn (by decide)]
                                                     · rw [aup_rn (by decide)]
                                                     · rw [aup_rn (by decide)]
                                                     · simp [aup])
                                                  | (refine ⟨rfl, _, rfl, XR.newrow (a := a) (b := b) (n := c) hR HY HL HN HS HP HF HX hv3 hv4 (by omega) (by omega) (by omega) (fun x i x3 x4 x5 h0 => ?_) (fun i => ?_) (fun i => ?_) (fun i => ?_) ?_⟩
                                                     · rw [aup_n h0, g1 x x5, aup_rn x4, aup_rn x3]
                                                     · rw [aup_rn (by decide), g1 3 (by decide), aup_rn (by decide)]
                                                       by_cases z : i = a
                                                       · subst z; rw [aup_s, if_pos rfl]
                                                       · rw [aup_n (by omega), if_neg z]
                                                     · rw [aup_rn (by decide), g1 4 (by decide)]
                                                       by_cases z : i = a
                                                       · subst z; rw [aup_s, if_pos rfl]
                                                       · rw [aup_n (by omega), if_neg z, aup_rn (by decide)]
                                                     · rw [aup_rn (by decide), g2, aup_rn (by decide), aup_rn (by decide)]
                                                     · rw [aup_s])
                                          · first
                                              | (exfalso; omega)
                                              | skip
                                                refine aK_i ?_
                                                refine aw_zreturn dX7_tray_31 rfl (by omega) ?_
                                                first
                                                  | (exfalso; omega)
                                                  | (refine ⟨by first | rfl | (rw [aup_rn (show ct (2 + a) 0 ≠ 0 from fun z => by rw [z] at y4; have := hR.1.2; omega), aup_rn (by decide), y5 b j0 j1]), _, rfl, XR.try hR HY HL HN HS HP HF HX hv3 hv4 (fun x j h8 h0 _ => ?_) (fun x i _ _ _ h0 => ?_) (fun t t0 t1 => TRY.fr (HX.1 t t0 t1) ?_ (fun x j hx => ?_) ?_ ?_ (fun j j0 j1 => ?_)) ?_⟩
                                                     · (repeat (first | rw [aup_n h0] | rw [aup_rn h8]))
                                                     · rw [aup_n h0]
                                                     · (repeat rw [aup_n (by omega)])
                                                     · have o8 := hR.2.2.2.2.2.1.2; have o0 := hR.1.2
                                                       (repeat rw [aup_rn (fun z => by rw [z] at hx; omega)])
                                                     · rw [aup_rn (by decide)]
                                                     · rw [aup_rn (by decide)]
                                                     · rw [aup_rn (by decide)]
                                                     · simp [aup])
                                                  | (refine ⟨rfl, _, rfl, XR.newrow (a := a) (b := b) (n := c) hR HY HL HN HS HP HF HX hv3 hv4 (by omega) (by omega) (by omega) (fun x i x3 x4 x5 h0 => ?_) (fun i => ?_) (fun i => ?_) (fun i => ?_) ?_⟩
                                                     · rw [aup_n h0, g1 x x5, aup_rn x4, aup_rn x3]
                                                     · rw [aup_rn (by decide), g1 3 (by decide), aup_rn (by decide)]
                                                       by_cases z : i = a
                                                       · subst z; rw [aup_s, if_pos rfl]
                                                       · rw [aup_n (by omega), if_neg z]
                                                     · rw [aup_rn (by decide), g1 4 (by decide)]
                                                       by_cases z : i = a
                                                       · subst z; rw [aup_s, if_pos rfl]
                                                       · rw [aup_n (by omega), if_neg z, aup_rn (by decide)]
                                                     · rw [aup_rn (by decide), g2, aup_rn (by decide), aup_rn (by decide)]
                                                     · rw [aup_s])
            · first
                | (exfalso; omega)
                | skip
                  refine aK_i ?_
                  refine aw_ifeq (tgt := 26) dX7_tray_4 (by decide) (fun _ => ?_) (fun h => absurd h (by decide))
                  refine aw_aload_n dX7_tray_26 rfl ?_
                  refine aw_iconst dX7_tray_27 (by decide) ?_
                  refine c_X7_79 rfl dX7_tray_28 m_ob (Nat.le_of_ble_eq_true rfl) (by omega) (C_m_is (fun hz => ?_) (fun hz => ?_))
                  · first
                      | (exfalso; omega)
                      | skip
                        refine aK_i ?_
                        refine aw_zreturn dX7_tray_31 rfl (by omega) ?_
                        first
                          | (exfalso; omega)
                          | (refine ⟨by first | rfl | (rw [aup_rn (show ct (2 + a) 0 ≠ 0 from fun z => by rw [z] at y4; have := hR.1.2; omega), aup_rn (by decide), y5 b j0 j1]), _, rfl, XR.try hR HY HL HN HS HP HF HX hv3 hv4 (fun x j h8 h0 _ => ?_) (fun x i _ _ _ h0 => ?_) (fun t t0 t1 => TRY.fr (HX.1 t t0 t1) ?_ (fun x j hx => ?_) ?_ ?_ (fun j j0 j1 => ?_)) ?_⟩
                             · (repeat (first | rw [aup_n h0] | rw [aup_rn h8]))
                             · rw [aup_n h0]
                             · (repeat rw [aup_n (by omega)])
                             · have o8 := hR.2.2.2.2.2.1.2; have o0 := hR.1.2
                               (repeat rw [aup_rn (fun z => by rw [z] at hx; omega)])
                             · rw [aup_rn (by decide)]
                             · rw [aup_rn (by decide)]
                             · rw [aup_rn (by decide)]
                             · simp [aup])
                          | (refine ⟨rfl, _, rfl, XR.newrow (a := a) (b := b) (n := c) hR HY HL HN HS HP HF HX hv3 hv4 (by omega) (by omega) (by omega) (fun x i x3 x4 x5 h0 => ?_) (fun i => ?_) (fun i => ?_) (fun i => ?_) ?_⟩
                             · rw [aup_n h0, g1 x x5, aup_rn x4, aup_rn x3]
                             · rw [aup_rn (by decide), g1 3 (by decide), aup_rn (by decide)]
                               by_cases z : i = a
                               · subst z; rw [aup_s, if_pos rfl]
                               · rw [aup_n (by omega), if_neg z]
                             · rw [aup_rn (by decide), g1 4 (by decide)]
                               by_cases z : i = a
                               · subst z; rw [aup_s, if_pos rfl]
                               · rw [aup_n (by omega), if_neg z, aup_rn (by decide)]
                             · rw [aup_rn (by decide), g2, aup_rn (by decide), aup_rn (by decide)]
                             · rw [aup_s])
                  · first
                      | (exfalso; omega)
                      | skip
                        refine aK_i ?_
                        refine aw_zreturn dX7_tray_31 rfl (by omega) ?_
                        first
                          | (exfalso; omega)
                          | (refine ⟨by first | rfl | (rw [aup_rn (show ct (2 + a) 0 ≠ 0 from fun z => by rw [z] at y4; have := hR.1.2; omega), aup_rn (by decide), y5 b j0 j1]), _, rfl, XR.try hR HY HL HN HS HP HF HX hv3 hv4 (fun x j h8 h0 _ => ?_) (fun x i _ _ _ h0 => ?_) (fun t t0 t1 => TRY.fr (HX.1 t t0 t1) ?_ (fun x j hx => ?_) ?_ ?_ (fun j j0 j1 => ?_)) ?_⟩
                             · (repeat (first | rw [aup_n h0] | rw [aup_rn h8]))
                             · rw [aup_n h0]
                             · (repeat rw [aup_n (by omega)])
                             · have o8 := hR.2.2.2.2.2.1.2; have o0 := hR.1.2
                               (repeat rw [aup_rn (fun z => by rw [z] at hx; omega)])
                             · rw [aup_rn (by decide)]
                             · rw [aup_rn (by decide)]
                             · rw [aup_rn (by decide)]
                             · simp [aup])
                          | (refine ⟨rfl, _, rfl, XR.newrow (a := a) (b := b) (n := c) hR HY HL HN HS HP HF HX hv3 hv4 (by omega) (by omega) (by omega) (fun x i x3 x4 x5 h0 => ?_) (fun i => ?_) (fun i => ?_) (fun i => ?_) ?_⟩
                             · rw [aup_n h0, g1 x x5, aup_rn x4, aup_rn x3]
                             · rw [aup_rn (by decide), g1 3 (by decide), aup_rn (by decide)]
                               by_cases z : i = a
                               · subst z; rw [aup_s, if_pos rfl]
                               · rw [aup_n (by omega), if_neg z]
                             · rw [aup_rn (by decide), g1 4 (by decide)]
                               by_cases z : i = a
                               · subst z; rw [aup_s, if_pos rfl]
                               · rw [aup_n (by omega), if_neg z, aup_rn (by decide)]
                             · rw [aup_rn (by decide), g2, aup_rn (by decide), aup_rn (by decide)]
                             · rw [aup_s])
        · refine aw_iload_n dX0_tray_24 rfl ?_
          refine aw_bipush dX0_tray_25 (by decide) ?_
          refine aw_icmpgt (tgt := 34) dX0_tray_27 (by decide) (fun h27 => ?_) (fun h27 => ?_)
          · refine aw_iconst dX0_tray_34 (by decide) ?_
            refine aw_iconst dX0_tray_35 (by decide) ?_
            refine c_X0_98 rfl dX0_tray_36 hR.o0 (Nat.le_of_ble_eq_true rfl) (by omega) (C_x_want hR (fun hb => ?_) (fun hb => ?_))
            · exact absurd rfl hb
            · refine aK_x (ax_catch (E := 1) (pre := [{ startPc := 5, endPc := 54, handlerPc := 55, catchType := 109 }]) (z := { startPc := 5, endPc := 54, handlerPc := 64, catchType := 41 }) (suf := []) rfl (fun y hy => by rw [List.mem_singleton.mp hy]; exact Or.inr ⟨by decide, _, q444, by decide +kernel⟩) rfl (by decide) q235 q237 ?_)
              refine aw_astore4 dX0_tray_64 (by decide) rfl ?_
              refine aw_aload_n dX0_tray_66 rfl ?_
              refine aw_aload dX0_tray_67 rfl ?_
              refine c_X0_111 rfl dX0_tray_69 hR.o0 (Nat.le_of_ble_eq_true rfl) (by omega) (C_x_no (hR.up0 (j := 7) (v := 0)) ?_)
              refine aK_i ?_
              refine aw_zreturn dX0_tray_72 rfl (by omega) ?_
              refine ⟨_, rfl, ?_⟩
              refine AMet.go (L := [some (vR 0), some (vI a), some (vI b), some (vI c), none]) mok_X7_tray (Nat.le_of_ble_eq_true rfl) rfl ?_
              refine aw_iload_n dX7_tray_0 rfl ?_
              refine c_X7_83 rfl dX7_tray_1  (Nat.le_of_ble_eq_true rfl) (by omega) (C_m_isTray (fun htr => ?_) (fun htr => ?_))
              · first
                  | (exfalso; omega)
                  | skip
                    refine aK_i ?_
                    refine aw_ifeq (tgt := 26) dX7_tray_4 (by decide) (fun h => absurd h (by decide)) (fun _ => ?_)
                    refine aw_iload_n dX7_tray_7 rfl ?_
                    refine aw_iflt (tgt := 26) dX7_tray_8 (by decide) (fun h8 => ?_) (fun h8 => ?_)
                    · first
                        | (exfalso; omega)
                        | skip
                          refine aw_aload_n dX7_tray_26 rfl ?_
                          refine aw_iconst dX7_tray_27 (by decide) ?_
                          refine c_X7_79 rfl dX7_tray_28 m_ob (Nat.le_of_ble_eq_true rfl) (by omega) (C_m_is (fun hz => ?_) (fun hz => ?_))
                          · first
                              | (exfalso; omega)
                              | skip
                                refine aK_i ?_
                                refine aw_zreturn dX7_tray_31 rfl (by omega) ?_
                                first
                                  | (exfalso; omega)
                                  | (refine ⟨by first | rfl | (rw [aup_rn (show ct (2 + a) 0 ≠ 0 from fun z => by rw [z] at y4; have := hR.1.2; omega), aup_rn (by decide), y5 b j0 j1]), _, rfl, XR.try hR HY HL HN HS HP HF HX hv3 hv4 (fun x j h8 h0 _ => ?_) (fun x i _ _ _ h0 => ?_) (fun t t0 t1 => TRY.fr (HX.1 t t0 t1) ?_ (fun x j hx => ?_) ?_ ?_ (fun j j0 j1 => ?_)) ?_⟩
                                     · (repeat (first | rw [aup_n h0] | rw [aup_rn h8]))
                                     · rw [aup_n h0]
                                     · (repeat rw [aup_n (by omega)])
                                     · have o8 := hR.2.2.2.2.2.1.2; have o0 := hR.1.2
                                       (repeat rw [aup_rn (fun z => by rw [z] at hx; omega)])
                                     · rw [aup_rn (by decide)]
                                     · rw [aup_rn (by decide)]
                                     · rw [aup_rn (by decide)]
                                     · simp [aup])
                                  | (refine ⟨rfl, _, rfl, XR.newrow (a := a) (b := b) (n := c) hR HY HL HN HS HP HF HX hv3 hv4 (by omega) (by omega) (by omega) (fun x i x3 x4 x5 h0 => ?_) (fun i => ?_) (fun i => ?_) (fun i => ?_) ?_⟩
                                     · rw [aup_n h0, g1 x x5, aup_rn x4, aup_rn x3]
                                     · rw [aup_rn (by decide), g1 3 (by decide), aup_rn (by decide)]
                                       by_cases z : i = a
                                       · subst z; rw [aup_s, if_pos rfl]
                                       · rw [aup_n (by omega), if_neg z]
                                     · rw [aup_rn (by decide), g1 4 (by decide)]
                                       by_cases z : i = a
                                       · subst z; rw [aup_s, if_pos rfl]
                                       · rw [aup_n (by omega), if_neg z, aup_rn (by decide)]
                                     · rw [aup_rn (by decide), g2, aup_rn (by decide), aup_rn (by decide)]
                                     · rw [aup_s])
                          · first
                              | (exfalso; omega)
                              | skip
                                refine aK_i ?_
                                refine aw_zreturn dX7_tray_31 rfl (by omega) ?_
                                first
                                  | (exfalso; omega)
                                  | (refine ⟨by first | rfl | (rw [aup_rn (show ct (2 + a) 0 ≠ 0 from fun z => by rw [z] at y4; have := hR.1.2; omega), aup_rn (by decide), y5 b j0 j1]), _, rfl, XR.try hR HY HL HN HS HP HF HX hv3 hv4 (fun x j h8 h0 _ => ?_) (fun x i _ _ _ h0 => ?_) (fun t t0 t1 => TRY.fr (HX.1 t t0 t1) ?_ (fun x j hx => ?_) ?_ ?_ (fun j j0 j1 => ?_)) ?_⟩
                                     · (repeat (first | rw [aup_n h0] | rw [aup_rn h8]))
                                     · rw [aup_n h0]
                                     · (repeat rw [aup_n (by omega)])
                                     · have o8 := hR.2.2.2.2.2.1.2; have o0 := hR.1.2
                                       (repeat rw [aup_rn (fun z => by rw [z] at hx; omega)])
                                     · rw [aup_rn (by decide)]
                                     · rw [aup_rn (by decide)]
                                     · rw [aup_rn (by decide)]
                                     · simp [aup])
                                  | (refine ⟨rfl, _, rfl, XR.newrow (a := a) (b := b) (n := c) hR HY HL HN HS HP HF HX hv3 hv4 (by omega) (by omega) (by omega) (fun x i x3 x4 x5 h0 => ?_) (fun i => ?_) (fun i => ?_) (fun i => ?_) ?_⟩
                                     · rw [aup_n h0, g1 x x5, aup_rn x4, aup_rn x3]
                                     · rw [aup_rn (by decide), g1 3 (by decide), aup_rn (by decide)]
                                       by_cases z : i = a
                                       · subst z; rw [aup_s, if_pos rfl]
                                       · rw [aup_n (by omega), if_neg z]
                                     · rw [aup_rn (by decide), g1 4 (by decide)]
                                       by_cases z : i = a
                                       · subst z; rw [aup_s, if_pos rfl]
                                       · rw [aup_n (by omega), if_neg z, aup_rn (by decide)]
                                     · rw [aup_rn (by decide), g2, aup_rn (by decide), aup_rn (by decide)]
                                     · rw [aup_s])
                    · first
                        | (exfalso; omega)
                        | skip
                          refine aw_iload_n dX7_tray_11 rfl ?_
                          refine aw_iconst dX7_tray_12 (by decide) ?_
                          refine aw_icmpgt (tgt := 26) dX7_tray_13 (by decide) (fun h13 => ?_) (fun h13 => ?_)
                          · first
                              | (exfalso; omega)
                              | skip
                                refine aw_aload_n dX7_tray_26 rfl ?_
                                refine aw_iconst dX7_tray_27 (by decide) ?_
                                refine c_X7_79 rfl dX7_tray_28 m_ob (Nat.le_of_ble_eq_true rfl) (by omega) (C_m_is (fun hz => ?_) (fun hz => ?_))
                                · first
                                    | (exfalso; omega)
                                    | skip
                                      refine aK_i ?_
                                      refine aw_zreturn dX7_tray_31 rfl (by omega) ?_
                                      first
                                        | (exfalso; omega)
                                        | (refine ⟨by first | rfl | (rw [aup_rn (show ct (2 + a) 0 ≠ 0 from fun z => by rw [z] at y4; have := hR.1.2; omega), aup_rn (by decide), y5 b j0 j1]), _, rfl, XR.try hR HY HL HN HS HP HF HX hv3 hv4 (fun x j h8 h0 _ => ?_) (fun x i _ _ _ h0 => ?_) (fun t t0 t1 => TRY.fr (HX.1 t t0 t1) ?_ (fun x j hx => ?_) ?_ ?_ (fun j j0 j1 => ?_)) ?_⟩
                                           · (repeat (first | rw [aup_n h0] | rw [aup_rn h8]))
                                           · rw [aup_n h0]
                                           · (repeat rw [aup_n (by omega)])
                                           · have o8 := hR.2.2.2.2.2.1.2; have o0 := hR.1.2
                                             (repeat rw [aup_rn (fun z => by rw [z] at hx; omega)])
                                           · rw [aup_rn (by decide)]
                                           · rw [aup_rn (by decide)]
                                           · rw [aup_rn (by decide)]
                                           · simp [aup])
                                        | (refine ⟨rfl, _, rfl, XR.newrow (a := a) (b := b) (n := c) hR HY HL HN HS HP HF HX hv3 hv4 (by omega) (by omega) (by omega) (fun x i x3 x4 x5 h0 => ?_) (fun i => ?_) (fun i => ?_) (fun i => ?_) ?_⟩
                                           · rw [aup_n h0, g1 x x5, aup_rn x4, aup_rn x3]
                                           · rw [aup_rn (by decide), g1 3 (by decide), aup_rn (by decide)]
                                             by_cases z : i = a
                                             · subst z; rw [aup_s, if_pos rfl]
                                             · rw [aup_n (by omega), if_neg z]
                                           · rw [aup_rn (by decide), g1 4 (by decide)]
                                             by_cases z : i = a
                                             · subst z; rw [aup_s, if_pos rfl]
                                             · rw [aup_n (by omega), if_neg z, aup_rn (by decide)]
                                           · rw [aup_rn (by decide), g2, aup_rn (by decide), aup_rn (by decide)]
                                           · rw [aup_s])
                                · first
                                    | (exfalso; omega)
                                    | skip
                                      refine aK_i ?_
                                      refine aw_zreturn dX7_tray_31 rfl (by omega) ?_
                                      first
                                        | (exfalso; omega)
                                        | (refine ⟨by first | rfl | (rw [aup_rn (show ct (2 + a) 0 ≠ 0 from fun z => by rw [z] at y4; have := hR.1.2; omega), aup_rn (by decide), y5 b j0 j1]), _, rfl, XR.try hR HY HL HN HS HP HF HX hv3 hv4 (fun x j h8 h0 _ => ?_) (fun x i _ _ _ h0 => ?_) (fun t t0 t1 => TRY.fr (HX.1 t t0 t1) ?_ (fun x j hx => ?_) ?_ ?_ (fun j j0 j1 => ?_)) ?_⟩
                                           · (repeat (first | rw [aup_n h0] | rw [aup_rn h8]))
                                           · rw [aup_n h0]
                                           · (repeat rw [aup_n (by omega)])
                                           · have o8 := hR.2.2.2.2.2.1.2; have o0 := hR.1.2
                                             (repeat rw [aup_rn (fun z => by rw [z] at hx; omega)])
                                           · rw [aup_rn (by decide)]
                                           · rw [aup_rn (by decide)]
                                           · rw [aup_rn (by decide)]
                                           · simp [aup])
                                        | (refine ⟨rfl, _, rfl, XR.newrow (a := a) (b := b) (n := c) hR HY HL HN HS HP HF HX hv3 hv4 (by omega) (by omega) (by omega) (fun x i x3 x4 x5 h0 => ?_) (fun i => ?_) (fun i => ?_) (fun i => ?_) ?_⟩
                                           · rw [aup_n h0, g1 x x5, aup_rn x4, aup_rn x3]
                                           · rw [aup_rn (by decide), g1 3 (by decide), aup_rn (by decide)]
                                             by_cases z : i = a
                                             · subst z; rw [aup_s, if_pos rfl]
                                             · rw [aup_n (by omega), if_neg z]
                                           · rw [aup_rn (by decide), g1 4 (by decide)]
                                             by_cases z : i = a
                                             · subst z; rw [aup_s, if_pos rfl]
                                             · rw [aup_n (by omega), if_neg z, aup_rn (by decide)]
                                           · rw [aup_rn (by decide), g2, aup_rn (by decide), aup_rn (by decide)]
                                           · rw [aup_s])
                          · first
                              | (exfalso; omega)
                              | skip
                                refine aw_iload_n dX7_tray_16 rfl ?_
                                refine aw_iflt (tgt := 26) dX7_tray_17 (by decide) (fun h17 => ?_) (fun h17 => ?_)
                                · first
                                    | (exfalso; omega)
                                    | skip
                                      refine aw_aload_n dX7_tray_26 rfl ?_
                                      refine aw_iconst dX7_tray_27 (by decide) ?_
                                      refine c_X7_79 rfl dX7_tray_28 m_ob (Nat.le_of_ble_eq_true rfl) (by omega) (C_m_is (fun hz => ?_) (fun hz => ?_))
                                      · first
                                          | (exfalso; omega)
                                          | skip
                                            refine aK_i ?_
                                            refine aw_zreturn dX7_tray_31 rfl (by omega) ?_
                                            first
                                              | (exfalso; omega)
                                              | (refine ⟨by first | rfl | (rw [aup_rn (show ct (2 + a) 0 ≠ 0 from fun z => by rw [z] at y4; have := hR.1.2; omega), aup_rn (by decide), y5 b j0 j1]), _, rfl, XR.try hR HY HL HN HS HP HF HX hv3 hv4 (fun x j h8 h0 _ => ?_) (fun x i _ _ _ h0 => ?_) (fun t t0 t1 => TRY.fr (HX.1 t t0 t1) ?_ (fun x j hx => ?_) ?_ ?_ (fun j j0 j1 => ?_)) ?_⟩
                                                 · (repeat (first | rw [aup_n h0] | rw [aup_rn h8]))
                                                 · rw [aup_n h0]
                                                 · (repeat rw [aup_n (by omega)])
                                                 · have o8 := hR.2.2.2.2.2.1.2; have o0 := hR.1.2
                                                   (repeat rw [aup_rn (fun z => by rw [z] at hx; omega)])
                                                 · rw [aup_rn (by decide)]
                                                 · rw [aup_rn (by decide)]
                                                 · rw [aup_rn (by decide)]
                                                 · simp [aup])
                                              | (refine ⟨rfl, _, rfl, XR.newrow (a := a) (b := b) (n := c) hR HY HL HN HS HP HF HX hv3 hv4 (by omega) (by omega) (by omega) (fun x i x3 x4 x5 h0 => ?_) (fun i => ?_) (fun i => ?_) (fun i => ?_) ?_⟩
                                                 · rw [aup_n h0, g1 x x5, aup_rn x4, aup_rn x3]
                                                 · rw [aup_rn (by decide), g1 3 (by decide), aup_rn (by decide)]
                                                   by_cases z : i = a
                                                   · subst z; rw [aup_s, if_pos rfl]
                                                   · rw [aup_n (by omega), if_neg z]
                                                 · rw [aup_rn (by decide), g1 4 (by decide)]
                                                   by_cases z : i = a
                                                   · subst z; rw [aup_s, if_pos rfl]
                                                   · rw [aup_n (by omega), if_neg z, aup_rn (by decide)]
                                                 · rw [aup_rn (by decide), g2, aup_rn (by decide), aup_rn (by decide)]
                                                 · rw [aup_s])
                                      · first
                                          | (exfalso; omega)
                                          | skip
                                            refine aK_i ?_
                                            refine aw_zreturn dX7_tray_31 rfl (by omega) ?_
                                            first
                                              | (exfalso; omega)
                                              | (refine ⟨by first | rfl | (rw [aup_rn (show ct (2 + a) 0 ≠ 0 from fun z => by rw [z] at y4; have := hR.1.2; omega), aup_rn (by decide), y5 b j0 j1]), _, rfl, XR.try hR HY HL HN HS HP HF HX hv3 hv4 (fun x j h8 h0 _ => ?_) (fun x i _ _ _ h0 => ?_) (fun t t0 t1 => TRY.fr (HX.1 t t0 t1) ?_ (fun x j hx => ?_) ?_ ?_ (fun j j0 j1 => ?_)) ?_⟩
                                                 · (repeat (first | rw [aup_n h0] | rw [aup_rn h8]))
                                                 · rw [aup_n h0]
                                                 · (repeat rw [aup_n (by omega)])
                                                 · have o8 := hR.2.2.2.2.2.1.2; have o0 := hR.1.2
                                                   (repeat rw [aup_rn (fun z => by rw [z] at hx; omega)])
                                                 · rw [aup_rn (by decide)]
                                                 · rw [aup_rn (by decide)]
                                                 · rw [aup_rn (by decide)]
                                                 · simp [aup])
                                              | (refine ⟨rfl, _, rfl, XR.newrow (a := a) (b := b) (n := c) hR HY HL HN HS HP HF HX hv3 hv4 (by omega) (by omega) (by omega) (fun x i x3 x4 x5 h0 => ?_) (fun i => ?_) (fun i => ?_) (fun i => ?_) ?_⟩
                                                 · rw [aup_n h0, g1 x x5, aup_rn x4, aup_rn x3]
                                                 · rw [aup_rn (by decide), g1 3 (by decide), aup_rn (by decide)]
                                                   by_cases z : i = a
                                                   · subst z; rw [aup_s, if_pos rfl]
                                                   · rw [aup_n (by omega), if_neg z]
                                                 · rw [aup_rn (by decide), g1 4 (by decide)]
                                                   by_cases z : i = a
                                                   · subst z; rw [aup_s, if_pos rfl]
                                                   · rw [aup_n (by omega), if_neg z, aup_rn (by decide)]
                                                 · rw [aup_rn (by decide), g2, aup_rn (by decide), aup_rn (by decide)]
                                                 · rw [aup_s])
                                · first
                                    | (exfalso; omega)
                                    | skip
                                      refine aw_iload_n dX7_tray_20 rfl ?_
                                      refine aw_bipush dX7_tray_21 (by decide) ?_
                                      refine aw_icmple (tgt := 32) dX7_tray_23 (by decide) (fun h23 => ?_) (fun h23 => ?_)
                                      · first
                                          | (exfalso; omega)
                                          | skip
                                            refine gm_21 rfl dX7_tray_32 dX7_tray_33 rfl ?_
                                            refine aw_iload_n dX7_tray_36 rfl ?_
                                            refine aw_iload_n dX7_tray_37 rfl ?_
                                            refine aw_iastore dX7_tray_38 m_a3 (by omega) (by omega) ?_
                                            refine gm_24 rfl dX7_tray_39 dX7_tray_40 rfl ?_
                                            refine aw_iload_n dX7_tray_43 rfl ?_
                                            refine aw_iload_n dX7_tray_44 rfl ?_
                                            refine aw_iastore dX7_tray_45 m_a4 (by omega) (by omega) ?_
                                            refine aw_iconst dX7_tray_46 (by decide) ?_
                                            refine aw_istore4 dX7_tray_47 (by decide) rfl ?_
                                            refine L_m_tray (n := c) (by omega) (by omega) (fun cm3 g1 g2 => ?_) c.toNat 0 _ (by omega) (by decide) (fun _ _ => rfl) (fun i => by rw [if_neg (by omega)])
                                            refine aw_aload_n dX7_tray_74 rfl ?_
                                            refine aw_iconst dX7_tray_75 (by decide) ?_
                                            refine c_X7_79 rfl dX7_tray_76 m_ob (Nat.le_of_ble_eq_true rfl) (by omega) (C_m_is (fun hz => ?_) (fun hz => ?_))
                                            · refine aK_i ?_
                                              refine aw_zreturn dX7_tray_79 rfl (by omega) ?_
                                              first
                                                | (exfalso; omega)
                                                | (refine ⟨by first | rfl | (rw [aup_rn (show ct (2 + a) 0 ≠ 0 from fun z => by rw [z] at y4; have := hR.1.2; omega), aup_rn (by decide), y5 b j0 j1]), _, rfl, XR.try hR HY HL HN HS HP HF HX hv3 hv4 (fun x j h8 h0 _ => ?_) (fun x i _ _ _ h0 => ?_) (fun t t0 t1 => TRY.fr (HX.1 t t0 t1) ?_ (fun x j hx => ?_) ?_ ?_ (fun j j0 j1 => ?_)) ?_⟩
                                                   · (repeat (first | rw [aup_n h0] | rw [aup_rn h8]))
                                                   · rw [aup_n h0]
                                                   · (repeat rw [aup_n (by omega)])
                                                   · have o8 := hR.2.2.2.2.2.1.2; have o0 := hR.1.2
                                                     (repeat rw [aup_rn (fun z => by rw [z] at hx; omega)])
                                                   · rw [aup_rn (by decide)]
                                                   · rw [aup_rn (by decide)]
                                                   · rw [aup_rn (by decide)]
                                                   · simp [aup])
                                                | (refine ⟨rfl, _, rfl, XR.newrow (a := a) (b := b) (n := c) hR HY HL HN HS HP HF HX hv3 hv4 (by omega) (by omega) (by omega) (fun x i x3 x4 x5 h0 => ?_) (fun i => ?_) (fun i => ?_) (fun i => ?_) ?_⟩
                                                   · rw [aup_n h0, g1 x x5, aup_rn x4, aup_rn x3]
                                                   · rw [aup_rn (by decide), g1 3 (by decide), aup_rn (by decide)]
                                                     by_cases z : i = a
                                                     · subst z; rw [aup_s, if_pos rfl]
                                                     · rw [aup_n (by omega), if_neg z]
                                                   · rw [aup_rn (by decide), g1 4 (by decide)]
                                                     by_cases z : i = a
                                                     · subst z; rw [aup_s, if_pos rfl]
                                                     · rw [aup_n (by omega), if_neg z, aup_rn (by decide)]
                                                   · rw [aup_rn (by decide), g2, aup_rn (by decide), aup_rn (by decide)]
                                                   · rw [aup_s])
                                            · refine aK_i ?_
                                              refine aw_zreturn dX7_tray_79 rfl (by omega) ?_
                                              first
                                                | (exfalso; omega)
                                                | (refine ⟨by first | rfl | (rw [aup_rn (show ct (2 + a) 0 ≠ 0 from fun z => by rw [z] at y4; have := hR.1.2; omega), aup_rn (by decide), y5 b j0 j1]), _, rfl, XR.try hR HY HL HN HS HP HF HX hv3 hv4 (fun x j h8 h0 _ => ?_) (fun x i _ _ _ h0 => ?_) (fun t t0 t1 => TRY.fr (HX.1 t t0 t1) ?_ (fun x j hx => ?_) ?_ ?_ (fun j j0 j1 => ?_)) ?_⟩
                                                   · (repeat (first | rw [aup_n h0] | rw [aup_rn h8]))
                                                   · rw [aup_n h0]
                                                   · (repeat rw [aup_n (by omega)])
                                                   · have o8 := hR.2.2.2.2.2.1.2; have o0 := hR.1.2
                                                     (repeat rw [aup_rn (fun z => by rw [z] at hx; omega)])
                                                   · rw [aup_rn (by decide)]
                                                   · rw [aup_rn (by decide)]
                                                   · rw [aup_rn (by decide)]
                                                   · simp [aup])
                                                | (refine ⟨rfl, _, rfl, XR.newrow (a := a) (b := b) (n := c) hR HY HL HN HS HP HF HX hv3 hv4 (by omega) (by omega) (by omega) (fun x i x3 x4 x5 h0 => ?_) (fun i => ?_) (fun i => ?_) (fun i => ?_) ?_⟩
                                                   · rw [aup_n h0, g1 x x5, aup_rn x4, aup_rn x3]
                                                   · rw [aup_rn (by decide), g1 3 (by decide), aup_rn (by decide)]
                                                     by_cases z : i = a
                                                     · subst z; rw [aup_s, if_pos rfl]
                                                     · rw [aup_n (by omega), if_neg z]
                                                   · rw [aup_rn (by decide), g1 4 (by decide)]
                                                     by_cases z : i = a
                                                     · subst z; rw [aup_s, if_pos rfl]
                                                     · rw [aup_n (by omega), if_neg z, aup_rn (by decide)]
                                                   · rw [aup_rn (by decide), g2, aup_rn (by decide), aup_rn (by decide)]
                                                   · rw [aup_s])
                                      · first
                                          | (exfalso; omega)
                                          | skip
                                            refine aw_aload_n dX7_tray_26 rfl ?_
                                            refine aw_iconst dX7_tray_27 (by decide) ?_
                                            refine c_X7_79 rfl dX7_tray_28 m_ob (Nat.le_of_ble_eq_true rfl) (by omega) (C_m_is (fun hz => ?_) (fun hz => ?_))
                                            · first
                                                | (exfalso; omega)
                                                | skip
                                                  refine aK_i ?_
                                                  refine aw_zreturn dX7_tray_31 rfl (by omega) ?_
                                                  first
                                                    | (exfalso; omega)
                                                    | (refine ⟨by first | rfl | (rw [aup_rn (show ct (2 + a) 0 ≠ 0 from fun z => by rw [z] at y4; have := hR.1.2; omega), aup_rn (by decide), y5 b j0 j1]), _, rfl, XR.try hR HY HL HN HS HP HF HX hv3 hv4 (fun x j h8 h0 _ => ?_) (fun x i _ _ _ h0 => ?_) (fun t t0 t1 => TRY.fr (HX.1 t t0 t1) ?_ (fun x j hx => ?_) ?_ ?_ (fun j j0 j1 => ?_)) ?_⟩
                                                       · (repeat (first | rw [aup_n h0] | rw [aup_rn h8]))
                                                       · rw [aup_n h0]
                                                       · (repeat rw [aup_n (by omega)])
                                                       · have o8 := hR.2.2.2.2.2.1.2; have o0 := hR.1.2
                                                         (repeat rw [aup_rn (fun z => by rw [z] at hx; omega)])
                                                       · rw [aup_rn (by decide)]
                                                       · rw [aup_rn (by decide)]
                                                       · rw [aup_rn (by decide)]
                                                       · simp [aup])
                                                    | (refine ⟨rfl, _, rfl, XR.newrow (a := a) (b := b) (n := c) hR HY HL HN HS HP HF HX hv3 hv4 (by omega) (by omega) (by omega) (fun x i x3 x4 x5 h0 => ?_) (fun i => ?_) (fun i => ?_) (fun i => ?_) ?_⟩
                                                       · rw [aup_n h0, g1 x x5, aup_rn x4, aup_rn x3]
                                                       · rw [aup_rn (by decide), g1 3 (by decide), aup_rn (by decide)]
                                                         by_cases z : i = a
                                                         · subst z; rw [aup_s, if_pos rfl]
                                                         · rw [aup_n (by omega), if_neg z]
                                                       · rw [aup_rn (by decide), g1 4 (by decide)]
                                                         by_cases z : i = a
                                                         · subst z; rw [aup_s, if_pos rfl]
                                                         · rw [aup_n (by omega), if_neg z, aup_rn (by decide)]
                                                       · rw [aup_rn (by decide), g2, aup_rn (by decide), aup_rn (by decide)]
                                                       · rw [aup_s])
                                            · first
                                                | (exfalso; omega)
                                                | skip
                                                  refine aK_i ?_
                                                  refine aw_zreturn dX7_tray_31 rfl (by omega) ?_
                                                  first
                                                    | (exfalso; omega)
                                                    | (refine ⟨by first | rfl | (rw [aup_rn (show ct (2 + a) 0 ≠ 0 from fun z => by rw [z] at y4; have := hR.1.2; omega), aup_rn (by decide), y5 b j0 j1]), _, rfl, XR.try hR HY HL HN HS HP HF HX hv3 hv4 (fun x j h8 h0 _ => ?_) (fun x i _ _ _ h0 => ?_) (fun t t0 t1 => TRY.fr (HX.1 t t0 t1) ?_ (fun x j hx => ?_) ?_ ?_ (fun j j0 j1 => ?_)) ?_⟩
                                                       · (repeat (first | rw [aup_n h0] | rw [aup_rn h8]))
                                                       · rw [aup_n h0]
                                                       · (repeat rw [aup_n (by omega)])
                                                       · have o8 := hR.2.2.2.2.2.1.2; have o0 := hR.1.2
                                                         (repeat rw [aup_rn (fun z => by rw [z] at hx; omega)])
                                                       · rw [aup_rn (by decide)]
                                                       · rw [aup_rn (by decide)]
                                                       · rw [aup_rn (by decide)]
                                                       · simp [aup])
                                                    | (refine ⟨rfl, _, rfl, XR.newrow (a := a) (b := b) (n := c) hR HY HL HN HS HP HF HX hv3 hv4 (by omega) (by omega) (by omega) (fun x i x3 x4 x5 h0 => ?_) (fun i => ?_) (fun i => ?_) (fun i => ?_) ?_⟩
                                                       · rw [aup_n h0, g1 x x5, aup_rn x4, aup_rn x3]
                                                       · rw [aup_rn (by decide), g1 3 (by decide), aup_rn (by decide)]
                                                         by_cases z : i = a
                                                         · subst z; rw [aup_s, if_pos rfl]
                                                         · rw [aup_n (by omega), if_neg z]
                                                       · rw [aup_rn (by decide), g1 4 (by decide)]
                                                         by_cases z : i = a
                                                         · subst z; rw [aup_s, if_pos rfl]
                                                         · rw [aup_n (by omega), if_neg z, aup_rn (by decide)]
                                                       · rw [aup_rn (by decide), g2, aup_rn (by decide), aup_rn (by decide)]
                                                       · rw [aup_s])
              · first
                  | (exfalso; omega)
                  | skip
                    refine aK_i ?_
                    refine aw_ifeq (tgt := 26) dX7_tray_4 (by decide) (fun _ => ?_) (fun h => absurd h (by decide))
                    refine aw_aload_n dX7_tray_26 rfl ?_
                    refine aw_iconst dX7_tray_27 (by decide) ?_
                    refine c_X7_79 rfl dX7_tray_28 m_ob (Nat.le_of_ble_eq_true rfl) (by omega) (C_m_is (fun hz => ?_) (fun hz => ?_))
                    · first
                        | (exfalso; omega)
                        | skip
                          refine aK_i ?_
                          refine aw_zreturn dX7_tray_31 rfl (by omega) ?_
                          first
                            | (exfalso; omega)
                            | (refine ⟨by first | rfl | (rw [aup_rn (show ct (2 + a) 0 ≠ 0 from fun z => by rw [z] at y4; have := hR.1.2; omega), aup_rn (by decide), y5 b j0 j1]), _, rfl, XR.try hR HY HL HN HS HP HF HX hv3 hv4 (fun x j h8 h0 _ => ?_) (fun x i _ _ _ h0 => ?_) (fun t t0 t1 => TRY.fr (HX.1 t t0 t1) ?_ (fun x j hx => ?_) ?_ ?_ (fun j j0 j1 => ?_)) ?_⟩
                               · (repeat (first | rw [aup_n h0] | rw [aup_rn h8]))
                               · rw [aup_n h0]
                               · (repeat rw [aup_n (by omega)])
                               · have o8 := hR.2.2.2.2.2.1.2; have o0 := hR.1.2
                                 (repeat rw [aup_rn (fun z => by rw [z] at hx; omega)])
                               · rw [aup_rn (by decide)]
                               · rw [aup_rn (by decide)]
                               · rw [aup_rn (by decide)]
                               · simp [aup])
                            | (refine ⟨rfl, _, rfl, XR.newrow (a := a) (b := b) (n := c) hR HY HL HN HS HP HF HX hv3 hv4 (by omega) (by omega) (by omega) (fun x i x3 x4 x5 h0 => ?_) (fun i => ?_) (fun i => ?_) (fun i => ?_) ?_⟩
                               · rw [aup_n h0, g1 x x5, aup_rn x4, aup_rn x3]
                               · rw [aup_rn (by decide), g1 3 (by decide), aup_rn (by decide)]
                                 by_cases z : i = a
                                 · subst z; rw [aup_s, if_pos rfl]
                                 · rw [aup_n (by omega), if_neg z]
                               · rw [aup_rn (by decide), g1 4 (by decide)]
                                 by_cases z : i = a
                                 · subst z; rw [aup_s, if_pos rfl]
                                 · rw [aup_n (by omega), if_neg z, aup_rn (by decide)]
                               · rw [aup_rn (by decide), g2, aup_rn (by decide), aup_rn (by decide)]
                               · rw [aup_s])
                    · first
                        | (exfalso; omega)
                        | skip
                          refine aK_i ?_
                          refine aw_zreturn dX7_tray_31 rfl (by omega) ?_
                          first
                            | (exfalso; omega)
                            | (refine ⟨by first | rfl | (rw [aup_rn (show ct (2 + a) 0 ≠ 0 from fun z => by rw [z] at y4; have := hR.1.2; omega), aup_rn (by decide), y5 b j0 j1]), _, rfl, XR.try hR HY HL HN HS HP HF HX hv3 hv4 (fun x j h8 h0 _ => ?_) (fun x i _ _ _ h0 => ?_) (fun t t0 t1 => TRY.fr (HX.1 t t0 t1) ?_ (fun x j hx => ?_) ?_ ?_ (fun j j0 j1 => ?_)) ?_⟩
                               · (repeat (first | rw [aup_n h0] | rw [aup_rn h8]))
                               · rw [aup_n h0]
                               · (repeat rw [aup_n (by omega)])
                               · have o8 := hR.2.2.2.2.2.1.2; have o0 := hR.1.2
                                 (repeat rw [aup_rn (fun z => by rw [z] at hx; omega)])
                               · rw [aup_rn (by decide)]
                               · rw [aup_rn (by decide)]
                               · rw [aup_rn (by decide)]
                               · simp [aup])
                            | (refine ⟨rfl, _, rfl, XR.newrow (a := a) (b := b) (n := c) hR HY HL HN HS HP HF HX hv3 hv4 (by omega) (by omega) (by omega) (fun x i x3 x4 x5 h0 => ?_) (fun i => ?_) (fun i => ?_) (fun i => ?_) ?_⟩
                               · rw [aup_n h0, g1 x x5, aup_rn x4, aup_rn x3]
                               · rw [aup_rn (by decide), g1 3 (by decide), aup_rn (by decide)]
                                 by_cases z : i = a
                                 · subst z; rw [aup_s, if_pos rfl]
                                 · rw [aup_n (by omega), if_neg z]
                               · rw [aup_rn (by decide), g1 4 (by decide)]
                                 by_cases z : i = a
                                 · subst z; rw [aup_s, if_pos rfl]
                                 · rw [aup_n (by omega), if_neg z, aup_rn (by decide)]
                               · rw [aup_rn (by decide), g2, aup_rn (by decide), aup_rn (by decide)]
                               · rw [aup_s])
          · refine aw_iconst dX0_tray_30 (by decide) ?_
            refine aw_goto (tgt := 35) dX0_tray_31 (by decide) ?_
            refine aw_iconst dX0_tray_35 (by decide) ?_
            refine c_X0_98 rfl dX0_tray_36 hR.o0 (Nat.le_of_ble_eq_true rfl) (by omega) (C_x_want hR (fun hb => ?_) (fun hb => ?_))
            · refine aK_v ?_
              refine aw_aload_n dX0_tray_39 rfl ?_
              refine g_X0_18_0 rfl dX0_tray_40 hR.o0 ?_
              rw [hR.e1]
              refine aw_iload_n dX0_tray_43 rfl ?_
              refine aw_aaload dX0_tray_44 hR.a1 (by decide) (by omega) (by omega) ?_
              rw [aup_n (by omega), (hR.tr4 (t := a) (by omega) (by omega)).1]
              refine aw_iload_n dX0_tray_45 rfl ?_
              refine aw_iload_n dX0_tray_46 rfl ?_
              refine c_X0_106a (kc1 := 3) (ks1 := 222) (kc2 := 0) (ks2 := 0) (by decide) (by decide) rfl dX0_tray_47  (Nat.le_of_ble_eq_true rfl) (by omega) (C_x_row (by omega) (by omega) (fun hn => ?_) (fun hn => ?_))
              · refine aK_x (ax_catch (E := 2) (pre := []) (z := { startPc := 5, endPc := 54, handlerPc := 55, catchType := 109 }) (suf := [{ startPc := 5, endPc := 54, handlerPc := 64, catchType := 41 }]) rfl (fun y hy => by cases hy) rfl (by decide) q444 q464 ?_)
                refine aw_astore4 dX0_tray_55 (by decide) rfl ?_
                refine aw_aload_n dX0_tray_57 rfl ?_
                refine aw_iconst dX0_tray_58 (by decide) ?_
                refine p_X0_73_0 rfl dX0_tray_59 hR.o0 ?_
                refine aw_iconst dX0_tray_62 (by decide) ?_
                refine aw_zreturn dX0_tray_63 rfl (Or.inl rfl) ?_
                refine ⟨_, rfl, ?_⟩
                refine AMet.go (L := [some (vR 0), some (vI a), some (vI b), some (vI c), none]) mok_X7_tray (Nat.le_of_ble_eq_true rfl) rfl ?_
                refine aw_iload_n dX7_tray_0 rfl ?_
                refine c_X7_83 rfl dX7_tray_1  (Nat.le_of_ble_eq_true rfl) (by omega) (C_m_isTray (fun htr => ?_) (fun htr => ?_))
                · first
                    | (exfalso; omega)
                    | skip
                      refine aK_i ?_
                      refine aw_ifeq (tgt := 26) dX7_tray_4 (by decide) (fun h => absurd h (by decide)) (fun _ => ?_)
                      refine aw_iload_n dX7_tray_7 rfl ?_
                      refine aw_iflt (tgt := 26) dX7_tray_8 (by decide) (fun h8 => ?_) (fun h8 => ?_)
                      · first
                          | (exfalso; omega)
                          | skip
                            refine aw_aload_n dX7_tray_26 rfl ?_
                            refine aw_iconst dX7_tray_27 (by decide) ?_
                            refine c_X7_79 rfl dX7_tray_28 m_ob (Nat.le_of_ble_eq_true rfl) (by omega) (C_m_is (fun hz => ?_) (fun hz => ?_))
                            · first
                                | (exfalso; omega)
                                | skip
                                  refine aK_i ?_
                                  refine aw_zreturn dX7_tray_31 rfl (by omega) ?_
                                  first
                                    | (exfalso; omega)
                                    | (refine ⟨by first | rfl | (rw [aup_rn (show ct (2 + a) 0 ≠ 0 from fun z => by rw [z] at y4; have := hR.1.2; omega), aup_rn (by decide), y5 b j0 j1]), _, rfl, XR.try hR HY HL HN HS HP HF HX hv3 hv4 (fun x j h8 h0 _ => ?_) (fun x i _ _ _ h0 => ?_) (fun t t0 t1 => TRY.fr (HX.1 t t0 t1) ?_ (fun x j hx => ?_) ?_ ?_ (fun j j0 j1 => ?_)) ?_⟩
                                       · (repeat (first | rw [aup_n h0] | rw [aup_rn h8]))
                                       · rw [aup_n h0]
                                       · (repeat rw [aup_n (by omega)])
                                       · have o8 := hR.2.2.2.2.2.1.2; have o0 := hR.1.2
                                         (repeat rw [aup_rn (fun z => by rw [z] at hx; omega)])
                                       · rw [aup_rn (by decide)]
                                       · rw [aup_rn (by decide)]
                                       · rw [aup_rn (by decide)]
                                       · simp [aup])
                                    | (refine ⟨rfl, _, rfl, XR.newrow (a := a) (b := b) (n := c) hR HY HL HN HS HP HF HX hv3 hv4 (by omega) (by omega) (by omega) (fun x i x3 x4 x5 h0 => ?_) (fun i => ?_) (fun i => ?_) (fun i => ?_) ?_⟩
                                       · rw [aup_n h0, g1 x x5, aup_rn x4, aup_rn x3]
                                       · rw [aup_rn (by decide), g1 3 (by decide), aup_rn (by decide)]
                                         by_cases z : i = a
                                         · subst z; rw [aup_s, if_pos rfl]
                                         · rw [aup_n (by omega), if_neg z]
                                       · rw [aup_rn (by decide), g1 4 (by decide)]
                                         by_cases z : i = a
                                         · subst z; rw [aup_s, if_pos rfl]
                                         · rw [aup_n (by omega), if_neg z, aup_rn (by decide)]
                                       · rw [aup_rn (by decide), g2, aup_rn (by decide), aup_rn (by decide)]
                                       · rw [aup_s])
                            · first
                                | (exfalso; omega)
                                | skip
                                  refine aK_i ?_
                                  refine aw_zreturn dX7_tray_31 rfl (by omega) ?_
                                  first
                                    | (exfalso; omega)
                                    | (refine ⟨by first | rfl | (rw [aup_rn (show ct (2 + a) 0 ≠ 0 from fun z => by rw [z] at y4; have := hR.1.2; omega), aup_rn (by decide), y5 b j0 j1]), _, rfl, XR.try hR HY HL HN HS HP HF HX hv3 hv4 (fun x j h8 h0 _ => ?_) (fun x i _ _ _ h0 => ?_) (fun t t0 t1 => TRY.fr (HX.1 t t0 t1) ?_ (fun x j hx => ?_) ?_ ?_ (fun j j0 j1 => ?_)) ?_⟩
                                       · (repeat (first | rw [aup_n h0] | rw [aup_rn h8]))
                                       · rw [aup_n h0]
                                       · (repeat rw [aup_n (by omega)])
                                       · have o8 := hR.2.2.2.2.2.1.2; have o0 := hR.1.2
                                         (repeat rw [aup_rn (fun z => by rw [z] at hx; omega)])
                                       · rw [aup_rn (by decide)]
                                       · rw [aup_rn (by decide)]
                                       · rw [aup_rn (by decide)]
                                       · simp [aup])
                                    | (refine ⟨rfl, _, rfl, XR.newrow (a := a) (b := b) (n := c) hR HY HL HN HS HP HF HX hv3 hv4 (by omega) (by omega) (by omega) (fun x i x3 x4 x5 h0 => ?_) (fun i => ?_) (fun i => ?_) (fun i => ?_) ?_⟩
                                       · rw [aup_n h0, g1 x x5, aup_rn x4, aup_rn x3]
                                       · rw [aup_rn (by decide), g1 3 (by decide), aup_rn (by decide)]
                                         by_cases z : i = a
                                         · subst z; rw [aup_s, if_pos rfl]
                                         · rw [aup_n (by omega), if_neg z]
                                       · rw [aup_rn (by decide), g1 4 (by decide)]
                                         by_cases z : i = a
                                         · subst z; rw [aup_s, if_pos rfl]
                                         · rw [aup_n (by omega), if_neg z, aup_rn (by decide)]
                                       · rw [aup_rn (by decide), g2, aup_rn (by decide), aup_rn (by decide)]
                                       · rw [aup_s])
                      · first
                          | (exfalso; omega)
                          | skip
                            refine aw_iload_n dX7_tray_11 rfl ?_
                            refine aw_iconst dX7_tray_12 (by decide) ?_
                            refine aw_icmpgt (tgt := 26) dX7_tray_13 (by decide) (fun h13 => ?_) (fun h13 => ?_)
                            · first
                                | (exfalso; omega)
                                | skip
                                  refine aw_aload_n dX7_tray_26 rfl ?_
                                  refine aw_iconst dX7_tray_27 (by decide) ?_
                                  refine c_X7_79 rfl dX7_tray_28 m_ob (Nat.le_of_ble_eq_true rfl) (by omega) (C_m_is (fun hz => ?_) (fun hz => ?_))
                                  · first
                                      | (exfalso; omega)
                                      | skip
                                        refine aK_i ?_
                                        refine aw_zreturn dX7_tray_31 rfl (by omega) ?_
                                        first
                                          | (exfalso; omega)
                                          | (refine ⟨by first | rfl | (rw [aup_rn (show ct (2 + a) 0 ≠ 0 from fun z => by rw [z] at y4; have := hR.1.2; omega), aup_rn (by decide), y5 b j0 j1]), _, rfl, XR.try hR HY HL HN HS HP HF HX hv3 hv4 (fun x j h8 h0 _ => ?_) (fun x i _ _ _ h0 => ?_) (fun t t0 t1 => TRY.fr (HX.1 t t0 t1) ?_ (fun x j hx => ?_) ?_ ?_ (fun j j0 j1 => ?_)) ?_⟩
                                             · (repeat (first | rw [aup_n h0] | rw [aup_rn h8]))
                                             · rw [aup_n h0]
                                             · (repeat rw [aup_n (by omega)])
                                             · have o8 := hR.2.2.2.2.2.1.2; have o0 := hR.1.2
                                               (repeat rw [aup_rn (fun z => by rw [z] at hx; omega)])
                                             · rw [aup_rn (by decide)]
                                             · rw [aup_rn (by decide)]
                                             · rw [aup_rn (by decide)]
                                             · simp [aup])
                                          | (refine ⟨rfl, _, rfl, XR.newrow (a := a) (b := b) (n := c) hR HY HL HN HS HP HF HX hv3 hv4 (by omega) (by omega) (by omega) (fun x i x3 x4 x5 h0 => ?_) (fun i => ?_) (fun i => ?_) (fun i => ?_) ?_⟩
                                             · rw [aup_n h0, g1 x x5, aup_rn x4, aup_rn x3]
                                             · rw [aup_rn (by decide), g1 3 (by decide), aup_rn (by decide)]
                                               by_cases z : i = a
                                               · subst z; rw [aup_s, if_pos rfl]
                                               · rw [aup_n (by omega), if_neg z]
                                             · rw [aup_rn (by decide), g1 4 (by decide)]
                                               by_cases z : i = a
                                               · subst z; rw [aup_s, if_pos rfl]
                                               · rw [aup_n (by omega), if_neg z, aup_rn (by decide)]
                                             · rw [aup_rn (by decide), g2, aup_rn (by decide), aup_rn (by decide)]
                                             · rw [aup_s])
                                  · first
                                      | (exfalso; omega)
                                      | skip
                                        refine aK_i ?_
                                        refine aw_zreturn dX7_tray_31 rfl (by omega) ?_
                                        first
                                          | (exfalso; omega)
                                          | (refine ⟨by first | rfl | (rw [aup_rn (show ct (2 + a) 0 ≠ 0 from fun z => by rw [z] at y4; have := hR.1.2; omega), aup_rn (by decide), y5 b j0 j1]), _, rfl, XR.try hR HY HL HN HS HP HF HX hv3 hv4 (fun x j h8 h0 _ => ?_) (fun x i _ _ _ h0 => ?_) (fun t t0 t1 => TRY.fr (HX.1 t t0 t1) ?_ (fun x j hx => ?_) ?_ ?_ (fun j j0 j1 => ?_)) ?_⟩
                                             · (repeat (first | rw [aup_n h0] | rw [aup_rn h8]))
                                             · rw [aup_n h0]
                                             · (repeat rw [aup_n (by omega)])
                                             · have o8 := hR.2.2.2.2.2.1.2; have o0 := hR.1.2
                                               (repeat rw [aup_rn (fun z => by rw [z] at hx; omega)])
                                             · rw [aup_rn (by decide)]
                                             · rw [aup_rn (by decide)]
                                             · rw [aup_rn (by decide)]
                                             · simp [aup])
                                          | (refine ⟨rfl, _, rfl, XR.newrow (a := a) (b := b) (n := c) hR HY HL HN HS HP HF HX hv3 hv4 (by omega) (by omega) (by omega) (fun x i x3 x4 x5 h0 => ?_) (fun i => ?_) (fun i => ?_) (fun i => ?_) ?_⟩
                                             · rw [aup_n h0, g1 x x5, aup_rn x4, aup_rn x3]
                                             · rw [aup_rn (by decide), g1 3 (by decide), aup_rn (by decide)]
                                               by_cases z : i = a
                                               · subst z; rw [aup_s, if_pos rfl]
                                               · rw [aup_n (by omega), if_neg z]
                                             · rw [aup_rn (by decide), g1 4 (by decide)]
                                               by_cases z : i = a
                                               · subst z; rw [aup_s, if_pos rfl]
                                               · rw [aup_n (by omega), if_neg z, aup_rn (by decide)]
                                             · rw [aup_rn (by decide), g2, aup_rn (by decide), aup_rn (by decide)]
                                             · rw [aup_s])
                            · first
                                | (exfalso; omega)
                                | skip
                                  refine aw_iload_n dX7_tray_16 rfl ?_
                                  refine aw_iflt (tgt := 26) dX7_tray_17 (by decide) (fun h17 => ?_) (fun h17 => ?_)
                                  · first
                                      | (exfalso; omega)
                                      | skip
                                        refine aw_aload_n dX7_tray_26 rfl ?_
                                        refine aw_iconst dX7_tray_27 (by decide) ?_
                                        refine c_X7_79 rfl dX7_tray_28 m_ob (Nat.le_of_ble_eq_true rfl) (by omega) (C_m_is (fun hz => ?_) (fun hz => ?_))
                                        · first
                                            | (exfalso; omega)
                                            | skip
                                              refine aK_i ?_
                                              refine aw_zreturn dX7_tray_31 rfl (by omega) ?_
                                              first
                                                | (exfalso; omega)
                                                | (refine ⟨by first | rfl | (rw [aup_rn (show ct (2 + a) 0 ≠ 0 from fun z => by rw [z] at y4; have := hR.1.2; omega), aup_rn (by decide), y5 b j0 j1]), _, rfl, XR.try hR HY HL HN HS HP HF HX hv3 hv4 (fun x j h8 h0 _ => ?_) (fun x i _ _ _ h0 => ?_) (fun t t0 t1 => TRY.fr (HX.1 t t0 t1) ?_ (fun x j hx => ?_) ?_ ?_ (fun j j0 j1 => ?_)) ?_⟩
                                                   · (repeat (first | rw [aup_n h0] | rw [aup_rn h8]))
                                                   · rw [aup_n h0]
                                                   · (repeat rw [aup_n (by omega)])
                                                   · have o8 := hR.2.2.2.2.2.1.2; have o0 := hR.1.2
                                                     (repeat rw [aup_rn (fun z => by rw [z] at hx; omega)])
                                                   · rw [aup_rn (by decide)]
                                                   · rw [aup_rn (by decide)]
                                                   · rw [aup_rn (by decide)]
                                                   · simp [aup])
                                                | (refine ⟨rfl, _, rfl, XR.newrow (a := a) (b := b) (n := c) hR HY HL HN HS HP HF HX hv3 hv4 (by omega) (by omega) (by omega) (fun x i x3 x4 x5 h0 => ?_) (fun i => ?_) (fun i => ?_) (fun i => ?_) ?_⟩
                                                   · rw [aup_n h0, g1 x x5, aup_rn x4, aup_rn x3]
                                                   · rw [aup_rn (by decide), g1 3 (by decide), aup_rn (by decide)]
                                                     by_cases z : i = a
                                                     · subst z; rw [aup_s, if_pos rfl]
                                                     · rw [aup_n (by omega), if_neg z]
                                                   · rw [aup_rn (by decide), g1 4 (by decide)]
                                                     by_cases z : i = a
                                                     · subst z; rw [aup_s, if_pos rfl]
                                                     · rw [aup_n (by omega), if_neg z, aup_rn (by decide)]
                                                   · rw [aup_rn (by decide), g2, aup_rn (by decide), aup_rn (by decide)]
                                                   · rw [aup_s])
                                        · first
                                            | (exfalso; omega)
                                            | skip
                                              refine aK_i ?_
                                              refine aw_zreturn dX7_tray_31 rfl (by omega) ?_
                                              first
                                                | (exfalso; omega)
                                                | (refine ⟨by first | rfl | (rw [aup_rn (show ct (2 + a) 0 ≠ 0 from fun z => by rw [z] at y4; have := hR.1.2; omega), aup_rn (by decide), y5 b j0 j1]), _, rfl, XR.try hR HY HL HN HS HP HF HX hv3 hv4 (fun x j h8 h0 _ => ?_) (fun x i _ _ _ h0 => ?_) (fun t t0 t1 => TRY.fr (HX.1 t t0 t1) ?_ (fun x j hx => ?_) ?_ ?_ (fun j j0 j1 => ?_)) ?_⟩
                                                   · (repeat (first | rw [aup_n h0] | rw [aup_rn h8]))
                                                   · rw [aup_n h0]
                                                   · (repeat rw [aup_n (by omega)])
                                                   · have o8 := hR.2.2.2.2.2.1.2; have o0 := hR.1.2
                                                     (repeat rw [aup_rn (fun z => by rw [z] at hx; omega)])
                                                   · rw [aup_rn (by decide)]
                                                   · rw [aup_rn (by decide)]
                                                   · rw [aup_rn (by decide)]
                                                   · simp [aup])
                                                | (refine ⟨rfl, _, rfl, XR.newrow (a := a) (b := b) (n := c) hR HY HL HN HS HP HF HX hv3 hv4 (by omega) (by omega) (by omega) (fun x i x3 x4 x5 h0 => ?_) (fun i => ?_) (fun i => ?_) (fun i => ?_) ?_⟩
                                                   · rw [aup_n h0, g1 x x5, aup_rn x4, aup_rn x3]
                                                   · rw [aup_rn (by decide), g1 3 (by decide), aup_rn (by decide)]
                                                     by_cases z : i = a
                                                     · subst z; rw [aup_s, if_pos rfl]
                                                     · rw [aup_n (by omega), if_neg z]
                                                   · rw [aup_rn (by decide), g1 4 (by decide)]
                                                     by_cases z : i = a
                                                     · subst z; rw [aup_s, if_pos rfl]
                                                     · rw [aup_n (by omega), if_neg z, aup_rn (by decide)]
                                                   · rw [aup_rn (by decide), g2, aup_rn (by decide), aup_rn (by decide)]
                                                   · rw [aup_s])
                                  · first
                                      | (exfalso; omega)
                                      | skip
                                        refine aw_iload_n dX7_tray_20 rfl ?_
                                        refine aw_bipush dX7_tray_21 (by decide) ?_
                                        refine aw_icmple (tgt := 32) dX7_tray_23 (by decide) (fun h23 => ?_) (fun h23 => ?_)
                                        · first
                                            | (exfalso; omega)
                                            | skip
                                              refine gm_21 rfl dX7_tray_32 dX7_tray_33 rfl ?_
                                              refine aw_iload_n dX7_tray_36 rfl ?_
                                              refine aw_iload_n dX7_tray_37 rfl ?_
                                              refine aw_iastore dX7_tray_38 m_a3 (by omega) (by omega) ?_
                                              refine gm_24 rfl dX7_tray_39 dX7_tray_40 rfl ?_
                                              refine aw_iload_n dX7_tray_43 rfl ?_
                                              refine aw_iload_n dX7_tray_44 rfl ?_
                                              refine aw_iastore dX7_tray_45 m_a4 (by omega) (by omega) ?_
                                              refine aw_iconst dX7_tray_46 (by decide) ?_
                                              refine aw_istore4 dX7_tray_47 (by decide) rfl ?_
                                              refine L_m_tray (n := c) (by omega) (by omega) (fun cm3 g1 g2 => ?_) c.toNat 0 _ (by omega) (by decide) (fun _ _ => rfl) (fun i => by rw [if_neg (by omega)])
                                              refine aw_aload_n dX7_tray_74 rfl ?_
                                              refine aw_iconst dX7_tray_75 (by decide) ?_
                                              refine c_X7_79 rfl dX7_tray_76 m_ob (Nat.le_of_ble_eq_true rfl) (by omega) (C_m_is (fun hz => ?_) (fun hz => ?_))
                                              · refine aK_i ?_
                                                refine aw_zreturn dX7_tray_79 rfl (by omega) ?_
                                                first
                                                  | (exfalso; omega)
                                                  | (refine ⟨by first | rfl | (rw [aup_rn (show ct (2 + a) 0 ≠ 0 from fun z => by rw [z] at y4; have := hR.1.2; omega), aup_rn (by decide), y5 b j0 j1]), _, rfl, XR.try hR HY HL HN HS HP HF HX hv3 hv4 (fun x j h8 h0 _ => ?_) (fun x i _ _ _ h0 => ?_) (fun t t0 t1 => TRY.fr (HX.1 t t0 t1) ?_ (fun x j hx => ?_) ?_ ?_ (fun j j0 j1 => ?_)) ?_⟩
                                                     · (repeat (first | rw [aup_n h0] | rw [aup_rn h8]))
                                                     · rw [aup_n h0]
                                                     · (repeat rw [aup_n (by omega)])
                                                     · have o8 := hR.2.2.2.2.2.1.2; have o0 := hR.1.2
                                                       (repeat rw [aup_rn (fun z => by rw [z] at hx; omega)])
                                                     · rw [aup_rn (by decide)]
                                                     · rw [aup_rn (by decide)]
                                                     · rw [aup_rn (by decide)]
                                                     · simp [aup])
                                                  | (refine ⟨rfl, _, rfl, XR.newrow (a := a) (b := b) (n := c) hR HY HL HN HS HP HF HX hv3 hv4 (by omega) (by omega) (by omega) (fun x i x3 x4 x5 h0 => ?_) (fun i => ?_) (fun i => ?_) (fun i => ?_) ?_⟩
                                                     · rw [aup_n h0, g1 x x5, aup_rn x4, aup_rn x3]
                                                     · rw [aup_rn (by decide), g1 3 (by decide), aup_rn (by decide)]
                                                       by_cases z : i = a
                                                       · subst z; rw [aup_s, if_pos rfl]
                                                       · rw [aup_n (by omega), if_neg z]
                                                     · rw [aup_rn (by decide), g1 4 (by decide)]
                                                       by_cases z : i = a
                                                       · subst z; rw [aup_s, if_pos rfl]
                                                       · rw [aup_n (by omega), if_neg z, aup_rn (by decide)]
                                                     · rw [aup_rn (by decide), g2, aup_rn (by decide), aup_rn (by decide)]
                                                     · rw [aup_s])
                                              · refine aK_i ?_
                                                refine aw_zreturn dX7_tray_79 rfl (by omega) ?_
                                                first
                                                  | (exfalso; omega)
                                                  | (refine ⟨by first | rfl | (rw [aup_rn (show ct (2 + a) 0 ≠ 0 from fun z => by rw [z] at y4; have := hR.1.2; omega), aup_rn (by decide), y5 b j0 j1]), _, rfl, XR.try hR HY HL HN HS HP HF HX hv3 hv4 (fun x j h8 h0 _ => ?_) (fun x i _ _ _ h0 => ?_) (fun t t0 t1 => TRY.fr (HX.1 t t0 t1) ?_ (fun x j hx => ?_) ?_ ?_ (fun j j0 j1 => ?_)) ?_⟩
                                                     · (repeat (first | rw [aup_n h0] | rw [aup_rn h8]))
                                                     · rw [aup_n h0]
                                                     · (repeat rw [aup_n (by omega)])
                                                     · have o8 := hR.2.2.2.2.2.1.2; have o0 := hR.1.2
                                                       (repeat rw [aup_rn (fun z => by rw [z] at hx; omega)])
                                                     · rw [aup_rn (by decide)]
                                                     · rw [aup_rn (by decide)]
                                                     · rw [aup_rn (by decide)]
                                                     · simp [aup])
                                                  | (refine ⟨rfl, _, rfl, XR.newrow (a := a) (b := b) (n := c) hR HY HL HN HS HP HF HX hv3 hv4 (by omega) (by omega) (by omega) (fun x i x3 x4 x5 h0 => ?_) (fun i => ?_) (fun i => ?_) (fun i => ?_) ?_⟩
                                                     · rw [aup_n h0, g1 x x5, aup_rn x4, aup_rn x3]
                                                     · rw [aup_rn (by decide), g1 3 (by decide), aup_rn (by decide)]
                                                       by_cases z : i = a
                                                       · subst z; rw [aup_s, if_pos rfl]
                                                       · rw [aup_n (by omega), if_neg z]
                                                     · rw [aup_rn (by decide), g1 4 (by decide)]
                                                       by_cases z : i = a
                                                       · subst z; rw [aup_s, if_pos rfl]
                                                       · rw [aup_n (by omega), if_neg z, aup_rn (by decide)]
                                                     · rw [aup_rn (by decide), g2, aup_rn (by decide), aup_rn (by decide)]
                                                     · rw [aup_s])
                                        · first
                                            | (exfalso; omega)
                                            | skip
                                              refine aw_aload_n dX7_tray_26 rfl ?_
                                              refine aw_iconst dX7_tray_27 (by decide) ?_
                                              refine c_X7_79 rfl dX7_tray_28 m_ob (Nat.le_of_ble_eq_true rfl) (by omega) (C_m_is (fun hz => ?_) (fun hz => ?_))
                                              · first
                                                  | (exfalso; omega)
                                                  | skip
                                                    refine aK_i ?_
                                                    refine aw_zreturn dX7_tray_31 rfl (by omega) ?_
                                                    first
                                                      | (exfalso; omega)
                                                      | (refine ⟨by first | rfl | (rw [aup_rn (show ct (2 + a) 0 ≠ 0 from fun z => by rw [z] at y4; have := hR.1.2; omega), aup_rn (by decide), y5 b j0 j1]), _, rfl, XR.try hR HY HL HN HS HP HF HX hv3 hv4 (fun x j h8 h0 _ => ?_) (fun x i _ _ _ h0 => ?_) (fun t t0 t1 => TRY.fr (HX.1 t t0 t1) ?_ (fun x j hx => ?_) ?_ ?_ (fun j j0 j1 => ?_)) ?_⟩
                                                         · (repeat (first | rw [aup_n h0] | rw [aup_rn h8]))
                                                         · rw [aup_n h0]
                                                         · (repeat rw [aup_n (by omega)])
                                                         · have o8 := hR.2.2.2.2.2.1.2; have o0 := hR.1.2
                                                           (repeat rw [aup_rn (fun z => by rw [z] at hx; omega)])
                                                         · rw [aup_rn (by decide)]
                                                         · rw [aup_rn (by decide)]
                                                         · rw [aup_rn (by decide)]
                                                         · simp [aup])
                                                      | (refine ⟨rfl, _, rfl, XR.newrow (a := a) (b := b) (n := c) hR HY HL HN HS HP HF HX hv3 hv4 (by omega) (by omega) (by omega) (fun x i x3 x4 x5 h0 => ?_) (fun i => ?_) (fun i => ?_) (fun i => ?_) ?_⟩
                                                         · rw [aup_n h0, g1 x x5, aup_rn x4, aup_rn x3]
                                                         · rw [aup_rn (by decide), g1 3 (by decide), aup_rn (by decide)]
                                                           by_cases z : i = a
                                                           · subst z; rw [aup_s, if_pos rfl]
                                                           · rw [aup_n (by omega), if_neg z]
                                                         · rw [aup_rn (by decide), g1 4 (by decide)]
                                                           by_cases z : i = a
                                                           · subst z; rw [aup_s, if_pos rfl]
                                                           · rw [aup_n (by omega), if_neg z, aup_rn (by decide)]
                                                         · rw [aup_rn (by decide), g2, aup_rn (by decide), aup_rn (by decide)]
                                                         · rw [aup_s])
                                              · first
                                                  | (exfalso; omega)
                                                  | skip
                                                    refine aK_i ?_
                                                    refine aw_zreturn dX7_tray_31 rfl (by omega) ?_
                                                    first
                                                      | (exfalso; omega)
                                                      | (refine ⟨by first | rfl | (rw [aup_rn (show ct (2 + a) 0 ≠ 0 from fun z => by rw [z] at y4; have := hR.1.2; omega), aup_rn (by decide), y5 b j0 j1]), _, rfl, XR.try hR HY HL HN HS HP HF HX hv3 hv4 (fun x j h8 h0 _ => ?_) (fun x i _ _ _ h0 => ?_) (fun t t0 t1 => TRY.fr (HX.1 t t0 t1) ?_ (fun x j hx => ?_) ?_ ?_ (fun j j0 j1 => ?_)) ?_⟩
                                                         · (repeat (first | rw [aup_n h0] | rw [aup_rn h8]))
                                                         · rw [aup_n h0]
                                                         · (repeat rw [aup_n (by omega)])
                                                         · have o8 := hR.2.2.2.2.2.1.2; have o0 := hR.1.2
                                                           (repeat rw [aup_rn (fun z => by rw [z] at hx; omega)])
                                                         · rw [aup_rn (by decide)]
                                                         · rw [aup_rn (by decide)]
                                                         · rw [aup_rn (by decide)]
                                                         · simp [aup])
                                                      | (refine ⟨rfl, _, rfl, XR.newrow (a := a) (b := b) (n := c) hR HY HL HN HS HP HF HX hv3 hv4 (by omega) (by omega) (by omega) (fun x i x3 x4 x5 h0 => ?_) (fun i => ?_) (fun i => ?_) (fun i => ?_) ?_⟩
                                                         · rw [aup_n h0, g1 x x5, aup_rn x4, aup_rn x3]
                                                         · rw [aup_rn (by decide), g1 3 (by decide), aup_rn (by decide)]
                                                           by_cases z : i = a
                                                           · subst z; rw [aup_s, if_pos rfl]
                                                           · rw [aup_n (by omega), if_neg z]
                                                         · rw [aup_rn (by decide), g1 4 (by decide)]
                                                           by_cases z : i = a
                                                           · subst z; rw [aup_s, if_pos rfl]
                                                           · rw [aup_n (by omega), if_neg z, aup_rn (by decide)]
                                                         · rw [aup_rn (by decide), g2, aup_rn (by decide), aup_rn (by decide)]
                                                         · rw [aup_s])
                · first
                    | (exfalso; omega)
                    | skip
                      refine aK_i ?_
                      refine aw_ifeq (tgt := 26) dX7_tray_4 (by decide) (fun _ => ?_) (fun h => absurd h (by decide))
                      refine aw_aload_n dX7_tray_26 rfl ?_
                      refine aw_iconst dX7_tray_27 (by decide) ?_
                      refine c_X7_79 rfl dX7_tray_28 m_ob (Nat.le_of_ble_eq_true rfl) (by omega) (C_m_is (fun hz => ?_) (fun hz => ?_))
                      · first
                          | (exfalso; omega)
                          | skip
                            refine aK_i ?_
                            refine aw_zreturn dX7_tray_31 rfl (by omega) ?_
                            first
                              | (exfalso; omega)
                              | (refine ⟨by first | rfl | (rw [aup_rn (show ct (2 + a) 0 ≠ 0 from fun z => by rw [z] at y4; have := hR.1.2; omega), aup_rn (by decide), y5 b j0 j1]), _, rfl, XR.try hR HY HL HN HS HP HF HX hv3 hv4 (fun x j h8 h0 _ => ?_) (fun x i _ _ _ h0 => ?_) (fun t t0 t1 => TRY.fr (HX.1 t t0 t1) ?_ (fun x j hx => ?_) ?_ ?_ (fun j j0 j1 => ?_)) ?_⟩
                                 · (repeat (first | rw [aup_n h0] | rw [aup_rn h8]))
                                 · rw [aup_n h0]
                                 · (repeat rw [aup_n (by omega)])
                                 · have o8 := hR.2.2.2.2.2.1.2; have o0 := hR.1.2
                                   (repeat rw [aup_rn (fun z => by rw [z] at hx; omega)])
                                 · rw [aup_rn (by decide)]
                                 · rw [aup_rn (by decide)]
                                 · rw [aup_rn (by decide)]
                                 · simp [aup])
                              | (refine ⟨rfl, _, rfl, XR.newrow (a := a) (b := b) (n := c) hR HY HL HN HS HP HF HX hv3 hv4 (by omega) (by omega) (by omega) (fun x i x3 x4 x5 h0 => ?_) (fun i => ?_) (fun i => ?_) (fun i => ?_) ?_⟩
                                 · rw [aup_n h0, g1 x x5, aup_rn x4, aup_rn x3]
                                 · rw [aup_rn (by decide), g1 3 (by decide), aup_rn (by decide)]
                                   by_cases z : i = a
                                   · subst z; rw [aup_s, if_pos rfl]
                                   · rw [aup_n (by omega), if_neg z]
                                 · rw [aup_rn (by decide), g1 4 (by decide)]
                                   by_cases z : i = a
                                   · subst z; rw [aup_s, if_pos rfl]
                                   · rw [aup_n (by omega), if_neg z, aup_rn (by decide)]
                                 · rw [aup_rn (by decide), g2, aup_rn (by decide), aup_rn (by decide)]
                                 · rw [aup_s])
                      · first
                          | (exfalso; omega)
                          | skip
                            refine aK_i ?_
                            refine aw_zreturn dX7_tray_31 rfl (by omega) ?_
                            first
                              | (exfalso; omega)
                              | (refine ⟨by first | rfl | (rw [aup_rn (show ct (2 + a) 0 ≠ 0 from fun z => by rw [z] at y4; have := hR.1.2; omega), aup_rn (by decide), y5 b j0 j1]), _, rfl, XR.try hR HY HL HN HS HP HF HX hv3 hv4 (fun x j h8 h0 _ => ?_) (fun x i _ _ _ h0 => ?_) (fun t t0 t1 => TRY.fr (HX.1 t t0 t1) ?_ (fun x j hx => ?_) ?_ ?_ (fun j j0 j1 => ?_)) ?_⟩
                                 · (repeat (first | rw [aup_n h0] | rw [aup_rn h8]))
                                 · rw [aup_n h0]
                                 · (repeat rw [aup_n (by omega)])
                                 · have o8 := hR.2.2.2.2.2.1.2; have o0 := hR.1.2
                                   (repeat rw [aup_rn (fun z => by rw [z] at hx; omega)])
                                 · rw [aup_rn (by decide)]
                                 · rw [aup_rn (by decide)]
                                 · rw [aup_rn (by decide)]
                                 · simp [aup])
                              | (refine ⟨rfl, _, rfl, XR.newrow (a := a) (b := b) (n := c) hR HY HL HN HS HP HF HX hv3 hv4 (by omega) (by omega) (by omega) (fun x i x3 x4 x5 h0 => ?_) (fun i => ?_) (fun i => ?_) (fun i => ?_) ?_⟩
                                 · rw [aup_n h0, g1 x x5, aup_rn x4, aup_rn x3]
                                 · rw [aup_rn (by decide), g1 3 (by decide), aup_rn (by decide)]
                                   by_cases z : i = a
                                   · subst z; rw [aup_s, if_pos rfl]
                                   · rw [aup_n (by omega), if_neg z]
                                 · rw [aup_rn (by decide), g1 4 (by decide)]
                                   by_cases z : i = a
                                   · subst z; rw [aup_s, if_pos rfl]
                                   · rw [aup_n (by omega), if_neg z, aup_rn (by decide)]
                                 · rw [aup_rn (by decide), g2, aup_rn (by decide), aup_rn (by decide)]
                                 · rw [aup_s])
              · refine aK_i ?_
                refine p_X0_102_1 rfl dX0_tray_50 (aob_new (hR.tr4 (t := a) (by omega) (by omega)).2.1) ?_
                refine aw_iconst dX0_tray_53 (by decide) ?_
                refine aw_zreturn dX0_tray_54 rfl (Or.inr rfl) ?_
                refine ⟨_, rfl, ?_⟩
                refine AMet.go (L := [some (vR 0), some (vI a), some (vI b), some (vI c), none]) mok_X7_tray (Nat.le_of_ble_eq_true rfl) rfl ?_
                refine aw_iload_n dX7_tray_0 rfl ?_
                refine c_X7_83 rfl dX7_tray_1  (Nat.le_of_ble_eq_true rfl) (by omega) (C_m_isTray (fun htr => ?_) (fun htr => ?_))
                · first
                    | (exfalso; omega)
                    | skip
                      refine aK_i ?_
                      refine aw_ifeq (tgt := 26) dX7_tray_4 (by decide) (fun h => absurd h (by decide)) (fun _ => ?_)
                      refine aw_iload_n dX7_tray_7 rfl ?_
                      refine aw_iflt (tgt := 26) dX7_tray_8 (by decide) (fun h8 => ?_) (fun h8 => ?_)
                      · first
                          | (exfalso; omega)
                          | skip
                            refine aw_aload_n dX7_tray_26 rfl ?_
                            refine aw_iconst dX7_tray_27 (by decide) ?_
                            refine c_X7_79 rfl dX7_tray_28 m_ob (Nat.le_of_ble_eq_true rfl) (by omega) (C_m_is (fun hz => ?_) (fun hz => ?_))
                            · first
                                | (exfalso; omega)
                                | skip
                                  refine aK_i ?_
                                  refine aw_zreturn dX7_tray_31 rfl (by omega) ?_
                                  first
                                    | (exfalso; omega)
                                    | (refine ⟨by first | rfl | (rw [aup_rn (show ct (2 + a) 0 ≠ 0 from fun z => by rw [z] at y4; have := hR.1.2; omega), aup_rn (by decide), y5 b j0 j1]), _, rfl, XR.try hR HY HL HN HS HP HF HX hv3 hv4 (fun x j h8 h0 _ => ?_) (fun x i _ _ _ h0 => ?_) (fun t t0 t1 => TRY.fr (HX.1 t t0 t1) ?_ (fun x j hx => ?_) ?_ ?_ (fun j j0 j1 => ?_)) ?_⟩
                                       · (repeat (first | rw [aup_n h0] | rw [aup_rn h8]))
                                       · rw [aup_n h0]
                                       · (repeat rw [aup_n (by omega)])
                                       · have o8 := hR.2.2.2.2.2.1.2; have o0 := hR.1.2
                                         (repeat rw [aup_rn (fun z => by rw [z] at hx; omega)])
                                       · rw [aup_rn (by decide)]
                                       · rw [aup_rn (by decide)]
                                       · rw [aup_rn (by decide)]
                                       · simp [aup])
                                    | (refine ⟨rfl, _, rfl, XR.newrow (a := a) (b := b) (n := c) hR HY HL HN HS HP HF HX hv3 hv4 (by omega) (by omega) (by omega) (fun x i x3 x4 x5 h0 => ?_) (fun i => ?_) (fun i => ?_) (fun i => ?_) ?_⟩
                                       · rw [aup_n h0, g1 x x5, aup_rn x4, aup_rn x3]
                                       · rw [aup_rn (by decide), g1 3 (by decide), aup_rn (by decide)]
                                         by_cases z : i = a
                                         · subst z; rw [aup_s, if_pos rfl]
                                         · rw [aup_n (by omega), if_neg z]
                                       · rw [aup_rn (by decide), g1 4 (by decide)]
                                         by_cases z : i = a
                                         · subst z; rw [aup_s, if_pos rfl]
                                         · rw [aup_n (by omega), if_neg z, aup_rn (by decide)]
                                       · rw [aup_rn (by decide), g2, aup_rn (by decide), aup_rn (by decide)]
                                       · rw [aup_s])
                            · first
                                | (exfalso; omega)
                                | skip
                                  refine aK_i ?_
                                  refine aw_zreturn dX7_tray_31 rfl (by omega) ?_
                                  first
                                    | (exfalso; omega)
                                    | (refine ⟨by first | rfl | (rw [aup_rn (show ct (2 + a) 0 ≠ 0 from fun z => by rw [z] at y4; have := hR.1.2; omega), aup_rn (by decide), y5 b j0 j1]), _, rfl, XR.try hR HY HL HN HS HP HF HX hv3 hv4 (fun x j h8 h0 _ => ?_) (fun x i _ _ _ h0 => ?_) (fun t t0 t1 => TRY.fr (HX.1 t t0 t1) ?_ (fun x j hx => ?_) ?_ ?_ (fun j j0 j1 => ?_)) ?_⟩
                                       · (repeat (first | rw [aup_n h0] | rw [aup_rn h8]))
                                       · rw [aup_n h0]
                                       · (repeat rw [aup_n (by omega)])
                                       · have o8 := hR.2.2.2.2.2.1.2; have o0 := hR.1.2
                                         (repeat rw [aup_rn (fun z => by rw [z] at hx; omega)])
                                       · rw [aup_rn (by decide)]
                                       · rw [aup_rn (by decide)]
                                       · rw [aup_rn (by decide)]
                                       · simp [aup])
                                    | (refine ⟨rfl, _, rfl, XR.newrow (a := a) (b := b) (n := c) hR HY HL HN HS HP HF HX hv3 hv4 (by omega) (by omega) (by omega) (fun x i x3 x4 x5 h0 => ?_) (fun i => ?_) (fun i => ?_) (fun i => ?_) ?_⟩
                                       · rw [aup_n h0, g1 x x5, aup_rn x4, aup_rn x3]
                                       · rw [aup_rn (by decide), g1 3 (by decide), aup_rn (by decide)]
                                         by_cases z : i = a
                                         · subst z; rw [aup_s, if_pos rfl]
                                         · rw [aup_n (by omega), if_neg z]
                                       · rw [aup_rn (by decide), g1 4 (by decide)]
                                         by_cases z : i = a
                                         · subst z; rw [aup_s, if_pos rfl]
                                         · rw [aup_n (by omega), if_neg z, aup_rn (by decide)]
                                       · rw [aup_rn (by decide), g2, aup_rn (by decide), aup_rn (by decide)]
                                       · rw [aup_s])
                      · first
                          | (exfalso; omega)
                          | skip
                            refine aw_iload_n dX7_tray_11 rfl ?_
                            refine aw_iconst dX7_tray_12 (by decide) ?_
                            refine aw_icmpgt (tgt := 26) dX7_tray_13 (by decide) (fun h13 => ?_) (fun h13 => ?_)
                            · first
                                | (exfalso; omega)
                                | skip
                                  refine aw_aload_n dX7_tray_26 rfl ?_
                                  refine aw_iconst dX7_tray_27 (by decide) ?_
                                  refine c_X7_79 rfl dX7_tray_28 m_ob (Nat.le_of_ble_eq_true rfl) (by omega) (C_m_is (fun hz => ?_) (fun hz => ?_))
                                  · first
                                      | (exfalso; omega)
                                      | skip
                                        refine aK_i ?_
                                        refine aw_zreturn dX7_tray_31 rfl (by omega) ?_
                                        first
                                          | (exfalso; omega)
                                          | (refine ⟨by first | rfl | (rw [aup_rn (show ct (2 + a) 0 ≠ 0 from fun z => by rw [z] at y4; have := hR.1.2; omega), aup_rn (by decide), y5 b j0 j1]), _, rfl, XR.try hR HY HL HN HS HP HF HX hv3 hv4 (fun x j h8 h0 _ => ?_) (fun x i _ _ _ h0 => ?_) (fun t t0 t1 => TRY.fr (HX.1 t t0 t1) ?_ (fun x j hx => ?_) ?_ ?_ (fun j j0 j1 => ?_)) ?_⟩
                                             · (repeat (first | rw [aup_n h0] | rw [aup_rn h8]))
                                             · rw [aup_n h0]
                                             · (repeat rw [aup_n (by omega)])
                                             · have o8 := hR.2.2.2.2.2.1.2; have o0 := hR.1.2
                                               (repeat rw [aup_rn (fun z => by rw [z] at hx; omega)])
                                             · rw [aup_rn (by decide)]
                                             · rw [aup_rn (by decide)]
                                             · rw [aup_rn (by decide)]
                                             · simp [aup])
                                          | (refine ⟨rfl, _, rfl, XR.newrow (a := a) (b := b) (n := c) hR HY HL HN HS HP HF HX hv3 hv4 (by omega) (by omega) (by omega) (fun x i x3 x4 x5 h0 => ?_) (fun i => ?_) (fun i => ?_) (fun i => ?_) ?_⟩
                                             · rw [aup_n h0, g1 x x5, aup_rn x4, aup_rn x3]
                                             · rw [aup_rn (by decide), g1 3 (by decide), aup_rn (by decide)]
                                               by_cases z : i = a
                                               · subst z; rw [aup_s, if_pos rfl]
                                               · rw [aup_n (by omega), if_neg z]
                                             · rw [aup_rn (by decide), g1 4 (by decide)]
                                               by_cases z : i = a
                                               · subst z; rw [aup_s, if_pos rfl]
                                               · rw [aup_n (by omega), if_neg z, aup_rn (by decide)]
                                             · rw [aup_rn (by decide), g2, aup_rn (by decide), aup_rn (by decide)]
                                             · rw [aup_s])
                                  · first
                                      | (exfalso; omega)
                                      | skip
                                        refine aK_i ?_
                                        refine aw_zreturn dX7_tray_31 rfl (by omega) ?_
                                        first
                                          | (exfalso; omega)
                                          | (refine ⟨by first | rfl | (rw [aup_rn (show ct (2 + a) 0 ≠ 0 from fun z => by rw [z] at y4; have := hR.1.2; omega), aup_rn (by decide), y5 b j0 j1]), _, rfl, XR.try hR HY HL HN HS HP HF HX hv3 hv4 (fun x j h8 h0 _ => ?_) (fun x i _ _ _ h0 => ?_) (fun t t0 t1 => TRY.fr (HX.1 t t0 t1) ?_ (fun x j hx => ?_) ?_ ?_ (fun j j0 j1 => ?_)) ?_⟩
                                             · (repeat (first | rw [aup_n h0] | rw [aup_rn h8]))
                                             · rw [aup_n h0]
                                             · (repeat rw [aup_n (by omega)])
                                             · have o8 := hR.2.2.2.2.2.1.2; have o0 := hR.1.2
                                               (repeat rw [aup_rn (fun z => by rw [z] at hx; omega)])
                                             · rw [aup_rn (by decide)]
                                             · rw [aup_rn (by decide)]
                                             · rw [aup_rn (by decide)]
                                             · simp [aup])
                                          | (refine ⟨rfl, _, rfl, XR.newrow (a := a) (b := b) (n := c) hR HY HL HN HS HP HF HX hv3 hv4 (by omega) (by omega) (by omega) (fun x i x3 x4 x5 h0 => ?_) (fun i => ?_) (fun i => ?_) (fun i => ?_) ?_⟩
                                             · rw [aup_n h0, g1 x x5, aup_rn x4, aup_rn x3]
                                             · rw [aup_rn (by decide), g1 3 (by decide), aup_rn (by decide)]
                                               by_cases z : i = a
                                               · subst z; rw [aup_s, if_pos rfl]
                                               · rw [aup_n (by omega), if_neg z]
                                             · rw [aup_rn (by decide), g1 4 (by decide)]
                                               by_cases z : i = a
                                               · subst z; rw [aup_s, if_pos rfl]
                                               · rw [aup_n (by omega), if_neg z, aup_rn (by decide)]
                                             · rw [aup_rn (by decide), g2, aup_rn (by decide), aup_rn (by decide)]
                                             · rw [aup_s])
                            · first
                                | (exfalso; omega)
                                | skip
                                  refine aw_iload_n dX7_tray_16 rfl ?_
                                  refine aw_iflt (tgt := 26) dX7_tray_17 (by decide) (fun h17 => ?_) (fun h17 => ?_)
                                  · first
                                      | (exfalso; omega)
                                      | skip
                                        refine aw_aload_n dX7_tray_26 rfl ?_
                                        refine aw_iconst dX7_tray_27 (by decide) ?_
                                        refine c_X7_79 rfl dX7_tray_28 m_ob (Nat.le_of_ble_eq_true rfl) (by omega) (C_m_is (fun hz => ?_) (fun hz => ?_))
                                        · first
                                            | (exfalso; omega)
                                            | skip
                                              refine aK_i ?_
                                              refine aw_zreturn dX7_tray_31 rfl (by omega) ?_
                                              first
                                                | (exfalso; omega)
                                                | (refine ⟨by first | rfl | (rw [aup_rn (show ct (2 + a) 0 ≠ 0 from fun z => by rw [z] at y4; have := hR.1.2; omega), aup_rn (by decide), y5 b j0 j1]), _, rfl, XR.try hR HY HL HN HS HP HF HX hv3 hv4 (fun x j h8 h0 _ => ?_) (fun x i _ _ _ h0 => ?_) (fun t t0 t1 => TRY.fr (HX.1 t t0 t1) ?_ (fun x j hx => ?_) ?_ ?_ (fun j j0 j1 => ?_)) ?_⟩
                                                   · (repeat (first | rw [aup_n h0] | rw [aup_rn h8]))
                                                   · rw [aup_n h0]
                                                   · (repeat rw [aup_n (by omega)])
                                                   · have o8 := hR.2.2.2.2.2.1.2; have o0 := hR.1.2
                                                     (repeat rw [aup_rn (fun z => by rw [z] at hx; omega)])
                                                   · rw [aup_rn (by decide)]
                                                   · rw [aup_rn (by decide)]
                                                   · rw [aup_rn (by decide)]
                                                   · simp [aup])
                                                | (refine ⟨rfl, _, rfl, XR.newrow (a := a) (b := b) (n := c) hR HY HL HN HS HP HF HX hv3 hv4 (by omega) (by omega) (by omega) (fun x i x3 x4 x5 h0 => ?_) (fun i => ?_) (fun i => ?_) (fun i => ?_) ?_⟩
                                                   · rw [aup_n h0, g1 x x5, aup_rn x4, aup_rn x3]
                                                   · rw [aup_rn (by decide), g1 3 (by decide), aup_rn (by decide)]
                                                     by_cases z : i = a
                                                     · subst z; rw [aup_s, if_pos rfl]
                                                     · rw [aup_n (by omega), if_neg z]
                                                   · rw [aup_rn (by decide), g1 4 (by decide)]
                                                     by_cases z : i = a
                                                     · subst z; rw [aup_s, if_pos rfl]
                                                     · rw [aup_n (by omega), if_neg z, aup_rn (by decide)]
                                                   · rw [aup_rn (by decide), g2, aup_rn (by decide), aup_rn (by decide)]
                                                   · rw [aup_s])
                                        · first
                                            | (exfalso; omega)
                                            | skip
                                              refine aK_i ?_
                                              refine aw_zreturn dX7_tray_31 rfl (by omega) ?_
                                              first
                                                | (exfalso; omega)
                                                | (refine ⟨by first | rfl | (rw [aup_rn (show ct (2 + a) 0 ≠ 0 from fun z => by rw [z] at y4; have := hR.1.2; omega), aup_rn (by decide), y5 b j0 j1]), _, rfl, XR.try hR HY HL HN HS HP HF HX hv3 hv4 (fun x j h8 h0 _ => ?_) (fun x i _ _ _ h0 => ?_) (fun t t0 t1 => TRY.fr (HX.1 t t0 t1) ?_ (fun x j hx => ?_) ?_ ?_ (fun j j0 j1 => ?_)) ?_⟩
                                                   · (repeat (first | rw [aup_n h0] | rw [aup_rn h8]))
                                                   · rw [aup_n h0]
                                                   · (repeat rw [aup_n (by omega)])
                                                   · have o8 := hR.2.2.2.2.2.1.2; have o0 := hR.1.2
                                                     (repeat rw [aup_rn (fun z => by rw [z] at hx; omega)])
                                                   · rw [aup_rn (by decide)]
                                                   · rw [aup_rn (by decide)]
                                                   · rw [aup_rn (by decide)]
                                                   · simp [aup])
                                                | (refine ⟨rfl, _, rfl, XR.newrow (a := a) (b := b) (n := c) hR HY HL HN HS HP HF HX hv3 hv4 (by omega) (by omega) (by omega) (fun x i x3 x4 x5 h0 => ?_) (fun i => ?_) (fun i => ?_) (fun i => ?_) ?_⟩
                                                   · rw [aup_n h0, g1 x x5, aup_rn x4, aup_rn x3]
                                                   · rw [aup_rn (by decide), g1 3 (by decide), aup_rn (by decide)]
                                                     by_cases z : i = a
                                                     · subst z; rw [aup_s, if_pos rfl]
                                                     · rw [aup_n (by omega), if_neg z]
                                                   · rw [aup_rn (by decide), g1 4 (by decide)]
                                                     by_cases z : i = a
                                                     · subst z; rw [aup_s, if_pos rfl]
                                                     · rw [aup_n (by omega), if_neg z, aup_rn (by decide)]
                                                   · rw [aup_rn (by decide), g2, aup_rn (by decide), aup_rn (by decide)]
                                                   · rw [aup_s])
                                  · first
                                      | (exfalso; omega)
                                      | skip
                                        refine aw_iload_n dX7_tray_20 rfl ?_
                                        refine aw_bipush dX7_tray_21 (by decide) ?_
                                        refine aw_icmple (tgt := 32) dX7_tray_23 (by decide) (fun h23 => ?_) (fun h23 => ?_)
                                        · first
                                            | (exfalso; omega)
                                            | skip
                                              refine gm_21 rfl dX7_tray_32 dX7_tray_33 rfl ?_
                                              refine aw_iload_n dX7_tray_36 rfl ?_
                                              refine aw_iload_n dX7_tray_37 rfl ?_
                                              refine aw_iastore dX7_tray_38 m_a3 (by omega) (by omega) ?_
                                              refine gm_24 rfl dX7_tray_39 dX7_tray_40 rfl ?_
                                              refine aw_iload_n dX7_tray_43 rfl ?_
                                              refine aw_iload_n dX7_tray_44 rfl ?_
                                              refine aw_iastore dX7_tray_45 m_a4 (by omega) (by omega) ?_
                                              refine aw_iconst dX7_tray_46 (by decide) ?_
                                              refine aw_istore4 dX7_tray_47 (by decide) rfl ?_
                                              refine L_m_tray (n := c) (by omega) (by omega) (fun cm3 g1 g2 => ?_) c.toNat 0 _ (by omega) (by decide) (fun _ _ => rfl) (fun i => by rw [if_neg (by omega)])
                                              refine aw_aload_n dX7_tray_74 rfl ?_
                                              refine aw_iconst dX7_tray_75 (by decide) ?_
                                              refine c_X7_79 rfl dX7_tray_76 m_ob (Nat.le_of_ble_eq_true rfl) (by omega) (C_m_is (fun hz => ?_) (fun hz => ?_))
                                              · refine aK_i ?_
                                                refine aw_zreturn dX7_tray_79 rfl (by omega) ?_
                                                first
                                                  | (exfalso; omega)
                                                  | (refine ⟨by first | rfl | (rw [aup_rn (show ct (2 + a) 0 ≠ 0 from fun z => by rw [z] at y4; have := hR.1.2; omega), aup_rn (by decide), y5 b j0 j1]), _, rfl, XR.try hR HY HL HN HS HP HF HX hv3 hv4 (fun x j h8 h0 _ => ?_) (fun x i _ _ _ h0 => ?_) (fun t t0 t1 => TRY.fr (HX.1 t t0 t1) ?_ (fun x j hx => ?_) ?_ ?_ (fun j j0 j1 => ?_)) ?_⟩
                                                     · (repeat (first | rw [aup_n h0] | rw [aup_rn h8]))
                                                     · rw [aup_n h0]
                                                     · (repeat rw [aup_n (by omega)])
                                                     · have o8 := hR.2.2.2.2.2.1.2; have o0 := hR.1.2
                                                       (repeat rw [aup_rn (fun z => by rw [z] at hx; omega)])
                                                     · rw [aup_rn (by decide)]
                                                     · rw [aup_rn (by decide)]
                                                     · rw [aup_rn (by decide)]
                                                     · simp [aup])
                                                  | (refine ⟨rfl, _, rfl, XR.newrow (a := a) (b := b) (n := c) hR HY HL HN HS HP HF HX hv3 hv4 (by omega) (by omega) (by omega) (fun x i x3 x4 x5 h0 => ?_) (fun i => ?_) (fun i => ?_) (fun i => ?_) ?_⟩
                                                     · rw [aup_n h0, g1 x x5, aup_rn x4, aup_rn x3]
                                                     · rw [aup_rn (by decide), g1 3 (by decide), aup_rn (by decide)]
                                                       by_cases z : i = a
                                                       · subst z; rw [aup_s, if_pos rfl]
                                                       · rw [aup_n (by omega), if_neg z]
                                                     · rw [aup_rn (by decide), g1 4 (by decide)]
                                                       by_cases z : i = a
                                                       · subst z; rw [aup_s, if_pos rfl]
                                                       · rw [aup_n (by omega), if_neg z, aup_rn (by decide)]
                                                     · rw [aup_rn (by decide), g2, aup_rn (by decide), aup_rn (by decide)]
                                                     · rw [aup_s])
                                              · refine aK_i ?_
                                                refine aw_zreturn dX7_tray_79 rfl (by omega) ?_
                                                first
                                                  | (exfalso; omega)
                                                  | (refine ⟨by first | rfl | (rw [aup_rn (show ct (2 + a) 0 ≠ 0 from fun z => by rw [z] at y4; have := hR.1.2; omega), aup_rn (by decide), y5 b j0 j1]), _, rfl, XR.try hR HY HL HN HS HP HF HX hv3 hv4 (fun x j h8 h0 _ => ?_) (fun x i _ _ _ h0 => ?_) (fun t t0 t1 => TRY.fr (HX.1 t t0 t1) ?_ (fun x j hx => ?_) ?_ ?_ (fun j j0 j1 => ?_)) ?_⟩
                                                     · (repeat (first | rw [aup_n h0] | rw [aup_rn h8]))
                                                     · rw [aup_n h0]
                                                     · (repeat rw [aup_n (by omega)])
                                                     · have o8 := hR.2.2.2.2.2.1.2; have o0 := hR.1.2
                                                       (repeat rw [aup_rn (fun z => by rw [z] at hx; omega)])
                                                     · rw [aup_rn (by decide)]
                                                     · rw [aup_rn (by decide)]
                                                     · rw [aup_rn (by decide)]
                                                     · simp [aup])
                                                  | (refine ⟨rfl, _, rfl, XR.newrow (a := a) (b := b) (n := c) hR HY HL HN HS HP HF HX hv3 hv4 (by omega) (by omega) (by omega) (fun x i x3 x4 x5 h0 => ?_) (fun i => ?_) (fun i => ?_) (fun i => ?_) ?_⟩
                                                     · rw [aup_n h0, g1 x x5, aup_rn x4, aup_rn x3]
                                                     · rw [aup_rn (by decide), g1 3 (by decide), aup_rn (by decide)]
                                                       by_cases z : i = a
                                                       · subst z; rw [aup_s, if_pos rfl]
                                                       · rw [aup_n (by omega), if_neg z]
                                                     · rw [aup_rn (by decide), g1 4 (by decide)]
                                                       by_cases z : i = a
                                                       · subst z; rw [aup_s, if_pos rfl]
                                                       · rw [aup_n (by omega), if_neg z, aup_rn (by decide)]
                                                     · rw [aup_rn (by decide), g2, aup_rn (by decide), aup_rn (by decide)]
                                                     · rw [aup_s])
                                        · first
                                            | (exfalso; omega)
                                            | skip
                                              refine aw_aload_n dX7_tray_26 rfl ?_
                                              refine aw_iconst dX7_tray_27 (by decide) ?_
                                              refine c_X7_79 rfl dX7_tray_28 m_ob (Nat.le_of_ble_eq_true rfl) (by omega) (C_m_is (fun hz => ?_) (fun hz => ?_))
                                              · first
                                                  | (exfalso; omega)
                                                  | skip
                                                    refine aK_i ?_
                                                    refine aw_zreturn dX7_tray_31 rfl (by omega) ?_
                                                    first
                                                      | (exfalso; omega)
                                                      | (refine ⟨by first | rfl | (rw [aup_rn (show ct (2 + a) 0 ≠ 0 from fun z => by rw [z] at y4; have := hR.1.2; omega), aup_rn (by decide), y5 b j0 j1]), _, rfl, XR.try hR HY HL HN HS HP HF HX hv3 hv4 (fun x j h8 h0 _ => ?_) (fun x i _ _ _ h0 => ?_) (fun t t0 t1 => TRY.fr (HX.1 t t0 t1) ?_ (fun x j hx => ?_) ?_ ?_ (fun j j0 j1 => ?_)) ?_⟩
                                                         · (repeat (first | rw [aup_n h0] | rw [aup_rn h8]))
                                                         · rw [aup_n h0]
                                                         · (repeat rw [aup_n (by omega)])
                                                         · have o8 := hR.2.2.2.2.2.1.2; have o0 := hR.1.2
                                                           (repeat rw [aup_rn (fun z => by rw [z] at hx; omega)])
                                                         · rw [aup_rn (by decide)]
                                                         · rw [aup_rn (by decide)]
                                                         · rw [aup_rn (by decide)]
                                                         · simp [aup])
                                                      | (refine ⟨rfl, _, rfl, XR.newrow (a := a) (b := b) (n := c) hR HY HL HN HS HP HF HX hv3 hv4 (by omega) (by omega) (by omega) (fun x i x3 x4 x5 h0 => ?_) (fun i => ?_) (fun i => ?_) (fun i => ?_) ?_⟩
                                                         · rw [aup_n h0, g1 x x5, aup_rn x4, aup_rn x3]
                                                         · rw [aup_rn (by decide), g1 3 (by decide), aup_rn (by decide)]
                                                           by_cases z : i = a
                                                           · subst z; rw [aup_s, if_pos rfl]
                                                           · rw [aup_n (by omega), if_neg z]
                                                         · rw [aup_rn (by decide), g1 4 (by decide)]
                                                           by_cases z : i = a
                                                           · subst z; rw [aup_s, if_pos rfl]
                                                           · rw [aup_n (by omega), if_neg z, aup_rn (by decide)]
                                                         · rw [aup_rn (by decide), g2, aup_rn (by decide), aup_rn (by decide)]
                                                         · rw [aup_s])
                                              · first
                                                  | (exfalso; omega)
                                                  | skip
                                                    refine aK_i ?_
                                                    refine aw_zreturn dX7_tray_31 rfl (by omega) ?_
                                                    first
                                                      | (exfalso; omega)
                                                      | (refine ⟨by first | rfl | (rw [aup_rn (show ct (2 + a) 0 ≠ 0 from fun z => by rw [z] at y4; have := hR.1.2; omega), aup_rn (by decide), y5 b j0 j1]), _, rfl, XR.try hR HY HL HN HS HP HF HX hv3 hv4 (fun x j h8 h0 _ => ?_) (fun x i _ _ _ h0 => ?_) (fun t t0 t1 => TRY.fr (HX.1 t t0 t1) ?_ (fun x j hx => ?_) ?_ ?_ (fun j j0 j1 => ?_)) ?_⟩
                                                         · (repeat (first | rw [aup_n h0] | rw [aup_rn h8]))
                                                         · rw [aup_n h0]
                                                         · (repeat rw [aup_n (by omega)])
                                                         · have o8 := hR.2.2.2.2.2.1.2; have o0 := hR.1.2
                                                           (repeat rw [aup_rn (fun z => by rw [z] at hx; omega)])
                                                         · rw [aup_rn (by decide)]
                                                         · rw [aup_rn (by decide)]
                                                         · rw [aup_rn (by decide)]
                                                         · simp [aup])
                                                      | (refine ⟨rfl, _, rfl, XR.newrow (a := a) (b := b) (n := c) hR HY HL HN HS HP HF HX hv3 hv4 (by omega) (by omega) (by omega) (fun x i x3 x4 x5 h0 => ?_) (fun i => ?_) (fun i => ?_) (fun i => ?_) ?_⟩
                                                         · rw [aup_n h0, g1 x x5, aup_rn x4, aup_rn x3]
                                                         · rw [aup_rn (by decide), g1 3 (by decide), aup_rn (by decide)]
                                                           by_cases z : i = a
                                                           · subst z; rw [aup_s, if_pos rfl]
                                                           · rw [aup_n (by omega), if_neg z]
                                                         · rw [aup_rn (by decide), g1 4 (by decide)]
                                                           by_cases z : i = a
                                                           · subst z; rw [aup_s, if_pos rfl]
                                                           · rw [aup_n (by omega), if_neg z, aup_rn (by decide)]
                                                         · rw [aup_rn (by decide), g2, aup_rn (by decide), aup_rn (by decide)]
                                                         · rw [aup_s])
                · first
                    | (exfalso; omega)
                    | skip
                      refine aK_i ?_
                      refine aw_ifeq (tgt := 26) dX7_tray_4 (by decide) (fun _ => ?_) (fun h => absurd h (by decide))
                      refine aw_aload_n dX7_tray_26 rfl ?_
                      refine aw_iconst dX7_tray_27 (by decide) ?_
                      refine c_X7_79 rfl dX7_tray_28 m_ob (Nat.le_of_ble_eq_true rfl) (by omega) (C_m_is (fun hz => ?_) (fun hz => ?_))
                      · first
                          | (exfalso; omega)
                          | skip
                            refine aK_i ?_
                            refine aw_zreturn dX7_tray_31 rfl (by omega) ?_
                            first
                              | (exfalso; omega)
                              | (refine ⟨by first | rfl | (rw [aup_rn (show ct (2 + a) 0 ≠ 0 from fun z => by rw [z] at y4; have := hR.1.2; omega), aup_rn (by decide), y5 b j0 j1]), _, rfl, XR.try hR HY HL HN HS HP HF HX hv3 hv4 (fun x j h8 h0 _ => ?_) (fun x i _ _ _ h0 => ?_) (fun t t0 t1 => TRY.fr (HX.1 t t0 t1) ?_ (fun x j hx => ?_) ?_ ?_ (fun j j0 j1 => ?_)) ?_⟩
                                 · (repeat (first | rw [aup_n h0] | rw [aup_rn h8]))
                                 · rw [aup_n h0]
                                 · (repeat rw [aup_n (by omega)])
                                 · have o8 := hR.2.2.2.2.2.1.2; have o0 := hR.1.2
                                   (repeat rw [aup_rn (fun z => by rw [z] at hx; omega)])
                                 · rw [aup_rn (by decide)]
                                 · rw [aup_rn (by decide)]
                                 · rw [aup_rn (by decide)]
                                 · simp [aup])
                              | (refine ⟨rfl, _, rfl, XR.newrow (a := a) (b := b) (n := c) hR HY HL HN HS HP HF HX hv3 hv4 (by omega) (by omega) (by omega) (fun x i x3 x4 x5 h0 => ?_) (fun i => ?_) (fun i => ?_) (fun i => ?_) ?_⟩
                                 · rw [aup_n h0, g1 x x5, aup_rn x4, aup_rn x3]
                                 · rw [aup_rn (by decide), g1 3 (by decide), aup_rn (by decide)]
                                   by_cases z : i = a
                                   · subst z; rw [aup_s, if_pos rfl]
                                   · rw [aup_n (by omega), if_neg z]
                                 · rw [aup_rn (by decide), g1 4 (by decide)]
                                   by_cases z : i = a
                                   · subst z; rw [aup_s, if_pos rfl]
                                   · rw [aup_n (by omega), if_neg z, aup_rn (by decide)]
                                 · rw [aup_rn (by decide), g2, aup_rn (by decide), aup_rn (by decide)]
                                 · rw [aup_s])
                      · first
                          | (exfalso; omega)
                          | skip
                            refine aK_i ?_
                            refine aw_zreturn dX7_tray_31 rfl (by omega) ?_
                            first
                              | (exfalso; omega)
                              | (refine ⟨by first | rfl | (rw [aup_rn (show ct (2 + a) 0 ≠ 0 from fun z => by rw [z] at y4; have := hR.1.2; omega), aup_rn (by decide), y5 b j0 j1]), _, rfl, XR.try hR HY HL HN HS HP HF HX hv3 hv4 (fun x j h8 h0 _ => ?_) (fun x i _ _ _ h0 => ?_) (fun t t0 t1 => TRY.fr (HX.1 t t0 t1) ?_ (fun x j hx => ?_) ?_ ?_ (fun j j0 j1 => ?_)) ?_⟩
                                 · (repeat (first | rw [aup_n h0] | rw [aup_rn h8]))
                                 · rw [aup_n h0]
                                 · (repeat rw [aup_n (by omega)])
                                 · have o8 := hR.2.2.2.2.2.1.2; have o0 := hR.1.2
                                   (repeat rw [aup_rn (fun z => by rw [z] at hx; omega)])
                                 · rw [aup_rn (by decide)]
                                 · rw [aup_rn (by decide)]
                                 · rw [aup_rn (by decide)]
                                 · simp [aup])
                              | (refine ⟨rfl, _, rfl, XR.newrow (a := a) (b := b) (n := c) hR HY HL HN HS HP HF HX hv3 hv4 (by omega) (by omega) (by omega) (fun x i x3 x4 x5 h0 => ?_) (fun i => ?_) (fun i => ?_) (fun i => ?_) ?_⟩
                                 · rw [aup_n h0, g1 x x5, aup_rn x4, aup_rn x3]
                                 · rw [aup_rn (by decide), g1 3 (by decide), aup_rn (by decide)]
                                   by_cases z : i = a
                                   · subst z; rw [aup_s, if_pos rfl]
                                   · rw [aup_n (by omega), if_neg z]
                                 · rw [aup_rn (by decide), g1 4 (by decide)]
                                   by_cases z : i = a
                                   · subst z; rw [aup_s, if_pos rfl]
                                   · rw [aup_n (by omega), if_neg z, aup_rn (by decide)]
                                 · rw [aup_rn (by decide), g2, aup_rn (by decide), aup_rn (by decide)]
                                 · rw [aup_s])
            · exact absurd hb (by decide)
