set_option maxRecDepth 100000
/-! trays: write -/
theorem TRY.rne {own : Int → Int} {sz : Int} {im : Int → aIm} {ct : Int → Int → Int} {a r : Int} (hR : RT own sz im ct) (a0 : 0 ≤ a) (h : own r = -10 - a) : r ≠ 0 ∧ r ≠ 8 ∧ ∀ t, 0 ≤ t → t < 4 → r ≠ 2 + t :=
  ⟨fun z => by rw [z, hR.1.2] at h; omega, fun z => by rw [z, hR.2.2.2.2.2.1.2] at h; omega, fun t t0 t1 z => by rw [z, (hR.tr4 t0 t1).2.2] at h; omega⟩
theorem XR.put {own N : Int → Int} {sz : Int} {im : Int → aIm} {ct ct' cm cm' : Int → Int → Int} {a : Int} (hR : RT own sz im ct) (HY : YR own 0 sz im ct 10 (cm 1) (cm 1 3) N) (HL : LR own sz im ct (ct 10 0) (cm 1) N) (HN : NRl N (cm 2) (cm 1)) (HS : SE own sz im ct (cm 1) (ct 9 1)) (HP : PI (cm 1)) (HF : Fok cm) (HX : XO own sz im ct cm) (hv3 : ct 0 8 = cm 0 3) (hv4 : ct 0 9 = cm 0 4) (t0 : 0 ≤ a) (t1 : a < 4) (y1 : 0 ≤ cm 3 a ∧ cm 3 a ≤ 3) (y2 : 0 ≤ cm 4 a ∧ cm 4 a ≤ 60) (y3 : aar sz im (ct (2 + a) 0) (cm 3 a).toNat (cm 4 a)) (y4 : own (ct (2 + a) 0) = -10 - a)
    (fx : ∀ x j, x ≠ ct (2 + a) 0 → ¬ (x = 0 ∧ j = 7) → ct' x j = ct x j) (fm : ∀ x i, x ≠ 5 → ¬ (x = 0 ∧ i = 2) → cm' x i = cm x i) (f5 : ∀ i, i < 60 * a ∨ 60 * a + 60 ≤ i → cm' 5 i = cm 5 i) (fr : ∀ j, 0 ≤ j → j < cm 4 a → ct' (ct (2 + a) 0) j = cm' 5 (60 * a + j)) (h2 : ct' 0 7 = cm' 0 2) : XR (sz, im, ct') cm' := by
  obtain ⟨n0, n8, n2⟩ := TRY.rne hR t0 y4
  refine XR.try hR HY HL HN HS HP HF HX hv3 hv4 (fun x j h8 h0 hx => fx x j (fun z => (hx a t0 t1).1 (by rw [z]; exact y4)) h0) (fun x i _ _ h5 h0 => fm x i h5 h0) (fun t u0 u1 => ?_) h2
  have e2 : ct' (2 + t) 0 = ct (2 + t) 0 := fx _ _ (fun z => n2 t u0 u1 z.symm) (by omega)
  have e3 : cm' 3 t = cm 3 t := fm 3 t (by decide) (by omega)
  have e4 : cm' 4 t = cm 4 t := fm 4 t (by decide) (by omega)
  by_cases ht : t = a
  · subst ht
    unfold TRY
    rw [e2, e3, e4]
    exact Or.inr ⟨y1, y2, y3, y4, fr⟩
  · exact TRY.fr (HX.1 t u0 u1) e2 (fun x j hx => fx x j (fun z => by rw [z] at hx; omega) (fun z => by rw [z.1, hR.1.2] at hx; omega)) e3 e4 (fun j j0 j1 => f5 _ (by omega))
theorem OP_write {sz : Int} {im : Int → aIm} {ct cm : Int → Int → Int} (h : XR (sz, im, ct) cm) {a b v : Int} (r0 : -2147483648 ≤ a ∧ a < 2147483648) (r1 : -2147483648 ≤ b ∧ b < 2147483648) (r2 : -9223372036854775808 ≤ v ∧ v < 9223372036854775808)  : AMet md_X0_write 163 3 222 [vR 0, vI a, vI b, vL v] (sz, im, ct) (XQ md_X7_write 3 [vR 0, vI a, vI b, vL v] cm) := by
  obtain ⟨own, N, hR, HY, HL, HN, HS, HP, HF, HX, hv2, hv3, hv4⟩ := id h
  dsimp only at hR HY HL HS HX hv2 hv3 hv4
  have hp0 := HP.1
  have hp3 := HP.2.1
  have hpq := HP.2.2.2.1.1
  have hps := HP.2.2.2.2.2
  refine AMet.goW (L := [some (vR 0), some (vI a), some (vI b), some (vL v), none, none]) mok_X0_write (Nat.le_of_ble_eq_true rfl) rfl ?_
  refine aw_aload_n dX0_write_0 rfl ?_
  refine aw_iconst dX0_write_1 (by decide) ?_
  refine p_X0_73_0 rfl dX0_write_2 hR.o0 ?_
  refine aw_aload_n dX0_write_5 rfl ?_
  refine aw_iload_n dX0_write_6 rfl ?_
  refine c_X0_115 rfl dX0_write_7 hR.o0 (Nat.le_of_ble_eq_true rfl) (by omega) (C_x_on (hR.up0 (j := 7) (v := 0)) (fun t0 t1 => by rw [aup_n (by omega)]; exact (HX.1 a t0 t1).ge) (fun hb => ?_) (fun t0 t1 hb => ?_) (fun t0 t1 hb => ?_))
  · refine aK_x (ax_catch (E := 1) (pre := [{ startPc := 5, endPc := 16, handlerPc := 17, catchType := 123 }]) (z := { startPc := 5, endPc := 16, handlerPc := 26, catchType := 41 }) (suf := []) rfl (fun y hy => by rw [List.mem_singleton.mp hy]; exact Or.inr ⟨by decide, _, q493, by decide +kernel⟩) rfl (by decide) q235 q237 ?_)
    refine aw_astore5 dX0_write_26 (by decide) rfl ?_
    refine aw_aload_n dX0_write_28 rfl ?_
    refine aw_aload dX0_write_29 rfl ?_
    refine c_X0_111 rfl dX0_write_31 hR.o0 (Nat.le_of_ble_eq_true rfl) (by omega) (C_x_no (hR.up0 (j := 7) (v := 0)) ?_)
    refine aK_i ?_
    refine aw_zreturn dX0_write_34 rfl (by omega) ?_
    refine ⟨_, rfl, ?_⟩
    refine AMet.go (L := [some (vR 0), some (vI a), some (vI b), some (vL v), none, none]) mok_X7_write (Nat.le_of_ble_eq_true rfl) rfl ?_
    refine aw_aload_n dX7_write_0 rfl ?_
    refine aw_iload_n dX7_write_1 rfl ?_
    refine aw_iload_n dX7_write_2 rfl ?_
    refine c_X7_86 rfl dX7_write_3 m_ob (Nat.le_of_ble_eq_true rfl) (by omega) (C_m_wrongPlace (fun m1 => ?_) (fun m1 m2 m3 => ?_) (fun m1 m2 m3 m4 => ?_) (fun m1 m2 m3 m4 m5 => ?_))
    · first
        | (exfalso; omega)
        | skip
          refine aK_i ?_
          refine aw_istore5 dX7_write_6 (by decide) rfl ?_
          refine aw_iload dX7_write_8 rfl ?_
          refine aw_ifne (tgt := 34) dX7_write_10 (by decide) (fun h10 => ?_) (fun h10 => ?_)
          · first
              | (exfalso; omega)
              | skip
                refine aw_aload_n dX7_write_34 rfl ?_
                refine aw_iload dX7_write_35 rfl ?_
                refine c_X7_79 rfl dX7_write_37 m_ob (Nat.le_of_ble_eq_true rfl) (by omega) (C_m_is (fun hz => ?_) (fun hz => ?_))
                · first
                    | (exfalso; omega)
                    | skip
                      refine aK_i ?_
                      refine aw_zreturn dX7_write_40 rfl (by omega) ?_
                      first
                        | (exfalso; omega)
                        | (refine ⟨by first | rfl | (rw [aup_rn (show ct (2 + a) 0 ≠ 0 from fun z => by rw [z] at y4; have := hR.1.2; omega), aup_rn (by decide), y5 b j0 j1]), _, rfl, XR.try hR HY HL HN HS HP HF HX hv3 hv4 (fun x j h8 h0 _ => ?_) (fun x i _ _ _ h0 => ?_) (fun t t0 t1 => TRY.fr (HX.1 t t0 t1) ?_ (fun x j hx => ?_) ?_ ?_ (fun j j0 j1 => ?_)) ?_⟩
                           · (repeat (first | rw [aup_n h0] | rw [aup_rn h8]))
                           · rw [aup_n h0]
                           · (repeat rw [aup_n (by omega)])
                           · have o8 := hR.2.2.2.2.2.1.2; have o0 := hR.1.2
                             (repeat rw [aup_rn (fun z => by rw [z] at hx; omega)])
                           · rw [aup_rn (by decide)]
                           · rw [aup_rn (by decide)]
                           · rw [aup_rn (by decide)]
                           · simp [aup])
                        | (refine ⟨rfl, _, rfl, XR.put (a := a) hR HY HL HN HS HP HF HX hv3 hv4 t0 t1 y1 y2 y3 y4 (fun x j h8 h0 => ?_) (fun x i h5 h0 => ?_) (fun i hi => ?_) (fun j u0 u1 => ?_) ?_⟩
                           · rw [aup_rn h8, aup_n h0]
                           · rw [aup_n h0, aup_rn h5]
                           · rw [aup_rn (by decide), aup_n (by omega)]
                           · by_cases z : j = b
                             · subst z
                               rw [aup_s, aup_rn (by decide), aup_s, ctF_cu y1]
                             · rw [aup_n (by omega), aup_rn (TRY.rne hR t0 y4).1, aup_rn (by decide), aup_n (by omega)]
                               exact y5 j u0 u1
                           · rw [aup_rn (fun z => (TRY.rne hR t0 y4).1 z.symm), aup_s, aup_s])
                · first
                    | (exfalso; omega)
                    | skip
                      refine aK_i ?_
                      refine aw_zreturn dX7_write_40 rfl (by omega) ?_
                      first
                        | (exfalso; omega)
                        | (refine ⟨by first | rfl | (rw [aup_rn (show ct (2 + a) 0 ≠ 0 from fun z => by rw [z] at y4; have := hR.1.2; omega), aup_rn (by decide), y5 b j0 j1]), _, rfl, XR.try hR HY HL HN HS HP HF HX hv3 hv4 (fun x j h8 h0 _ => ?_) (fun x i _ _ _ h0 => ?_) (fun t t0 t1 => TRY.fr (HX.1 t t0 t1) ?_ (fun x j hx => ?_) ?_ ?_ (fun j j0 j1 => ?_)) ?_⟩
                           · (repeat (first | rw [aup_n h0] | rw [aup_rn h8]))
                           · rw [aup_n h0]
                           · (repeat rw [aup_n (by omega)])
                           · have o8 := hR.2.2.2.2.2.1.2; have o0 := hR.1.2
                             (repeat rw [aup_rn (fun z => by rw [z] at hx; omega)])
                           · rw [aup_rn (by decide)]
                           · rw [aup_rn (by decide)]
                           · rw [aup_rn (by decide)]
                           · simp [aup])
                        | (refine ⟨rfl, _, rfl, XR.put (a := a) hR HY HL HN HS HP HF HX hv3 hv4 t0 t1 y1 y2 y3 y4 (fun x j h8 h0 => ?_) (fun x i h5 h0 => ?_) (fun i hi => ?_) (fun j u0 u1 => ?_) ?_⟩
                           · rw [aup_rn h8, aup_n h0]
                           · rw [aup_n h0, aup_rn h5]
                           · rw [aup_rn (by decide), aup_n (by omega)]
                           · by_cases z : j = b
                             · subst z
                               rw [aup_s, aup_rn (by decide), aup_s, ctF_cu y1]
                             · rw [aup_n (by omega), aup_rn (TRY.rne hR t0 y4).1, aup_rn (by decide), aup_n (by omega)]
                               exact y5 j u0 u1
                           · rw [aup_rn (fun z => (TRY.rne hR t0 y4).1 z.symm), aup_s, aup_s])
          · first
              | (exfalso; omega)
              | skip
                refine gm_27 rfl dX7_write_13 dX7_write_14 rfl ?_
                refine aw_bipush dX7_write_17 (by decide) ?_
                refine aw_iload_n dX7_write_19 rfl ?_
                refine aw_imulr dX7_write_20 (by omega) ?_
                refine aw_iload_n dX7_write_21 rfl ?_
                refine aw_iaddr dX7_write_22 (by omega) ?_
                refine aw_lload_n dX7_write_23 rfl ?_
                refine gm_21 rfl dX7_write_24 dX7_write_25 rfl ?_
                refine aw_iload_n dX7_write_28 rfl ?_
                refine aw_iaload dX7_write_29 m_a3 (by omega) (by omega) ?_
                refine c_X7_90 rfl dX7_write_30  (Nat.le_of_ble_eq_true rfl) (by omega) (C_m_cut ?_)
                refine aK_i ?_
                refine aw_lastore dX7_write_33 m_a5 (by omega) (by omega) ?_
                refine aw_aload_n dX7_write_34 rfl ?_
                refine aw_iload dX7_write_35 rfl ?_
                refine c_X7_79 rfl dX7_write_37 m_ob (Nat.le_of_ble_eq_true rfl) (by omega) (C_m_is (fun hz => ?_) (fun hz => ?_))
                · first
                    | (exfalso; omega)
                    | skip
                      refine aK_i ?_
                      refine aw_zreturn dX7_write_40 rfl (by omega) ?_
                      first
                        | (exfalso; omega)
                        | (refine ⟨by first | rfl | (rw [aup_rn (show ct (2 + a) 0 ≠ 0 from fun z => by rw [z] at y4; have := hR.1.2; omega), aup_rn (by decide), y5 b j0 j1]), _, rfl, XR.try hR HY HL HN HS HP HF HX hv3 hv4 (fun x j h8 h0 _ => ?_) (fun x i _ _ _ h0 => ?_) (fun t t0 t1 => TRY.fr (HX.1 t t0 t1) ?_ (fun x j hx => ?_) ?_ ?_ (fun j j0 j1 => ?_)) ?_⟩
                           · (repeat (first | rw [aup_n h0] | rw [aup_rn h8]))
                           · rw [aup_n h0]
                           · (repeat rw [aup_n (by omega)])
                           · have o8 := hR.2.2.2.2.2.1.2; have o0 := hR.1.2
                             (repeat rw [aup_rn (fun z => by rw [z] at hx; omega)])
                           · rw [aup_rn (by decide)]
                           · rw [aup_rn (by decide)]
                           · rw [aup_rn (by decide)]
                           · simp [aup])
                        | (refine ⟨rfl, _, rfl, XR.put (a := a) hR HY HL HN HS HP HF HX hv3 hv4 t0 t1 y1 y2 y3 y4 (fun x j h8 h0 => ?_) (fun x i h5 h0 => ?_) (fun i hi => ?_) (fun j u0 u1 => ?_) ?_⟩
                           · rw [aup_rn h8, aup_n h0]
                           · rw [aup_n h0, aup_rn h5]
                           · rw [aup_rn (by decide), aup_n (by omega)]
                           · by_cases z : j = b
                             · subst z
                               rw [aup_s, aup_rn (by decide), aup_s, ctF_cu y1]
                             · rw [aup_n (by omega), aup_rn (TRY.rne hR t0 y4).1, aup_rn (by decide), aup_n (by omega)]
                               exact y5 j u0 u1
                           · rw [aup_rn (fun z => (TRY.rne hR t0 y4).1 z.symm), aup_s, aup_s])
                · first
                    | (exfalso; omega)
                    | skip
                      refine aK_i ?_
                      refine aw_zreturn dX7_write_40 rfl (by omega) ?_
                      first
                        | (exfalso; omega)
                        | (refine ⟨by first | rfl | (rw [aup_rn (show ct (2 + a) 0 ≠ 0 from fun z => by rw [z] at y4; have := hR.1.2; omega), aup_rn (by decide), y5 b j0 j1]), _, rfl, XR.try hR HY HL HN HS HP HF HX hv3 hv4 (fun x j h8 h0 _ => ?_) (fun x i _ _ _ h0 => ?_) (fun t t0 t1 => TRY.fr (HX.1 t t0 t1) ?_ (fun x j hx => ?_) ?_ ?_ (fun j j0 j1 => ?_)) ?_⟩
                           · (repeat (first | rw [aup_n h0] | rw [aup_rn h8]))
                           · rw [aup_n h0]
                           · (repeat rw [aup_n (by omega)])
                           · have o8 := hR.2.2.2.2.2.1.2; have o0 := hR.1.2
                             (repeat rw [aup_rn (fun z => by rw [z] at hx; omega)])
                           · rw [aup_rn (by decide)]
                           · rw [aup_rn (by decide)]
                           · rw [aup_rn (by decide)]
                           · simp [aup])
                        | (refine ⟨rfl, _, rfl, XR.put (a := a) hR HY HL HN HS HP HF HX hv3 hv4 t0 t1 y1 y2 y3 y4 (fun x j h8 h0 => ?_) (fun x i h5 h0 => ?_) (fun i hi => ?_) (fun j u0 u1 => ?_) ?_⟩
                           · rw [aup_rn h8, aup_n h0]
                           · rw [aup_n h0, aup_rn h5]
                           · rw [aup_rn (by decide), aup_n (by omega)]
                           · by_cases z : j = b
                             · subst z
                               rw [aup_s, aup_rn (by decide), aup_s, ctF_cu y1]
                             · rw [aup_n (by omega), aup_rn (TRY.rne hR t0 y4).1, aup_rn (by decide), aup_n (by omega)]
                               exact y5 j u0 u1
                           · rw [aup_rn (fun z => (TRY.rne hR t0 y4).1 z.symm), aup_s, aup_s])
    · first
        | (exfalso; omega)
        | skip
          refine aK_i ?_
          refine aw_istore5 dX7_write_6 (by decide) rfl ?_
          refine aw_iload dX7_write_8 rfl ?_
          refine aw_ifne (tgt := 34) dX7_write_10 (by decide) (fun h10 => ?_) (fun h10 => ?_)
          · first
              | (exfalso; omega)
              | skip
                refine aw_aload_n dX7_write_34 rfl ?_
                refine aw_iload dX7_write_35 rfl ?_
                refine c_X7_79 rfl dX7_write_37 m_ob (Nat.le_of_ble_eq_true rfl) (by omega) (C_m_is (fun hz => ?_) (fun hz => ?_))
                · first
                    | (exfalso; omega)
                    | skip
                      refine aK_i ?_
                      refine aw_zreturn dX7_write_40 rfl (by omega) ?_
                      first
                        | (exfalso; omega)
                        | (refine ⟨by first | rfl | (rw [aup_rn (show ct (2 + a) 0 ≠ 0 from fun z => by rw [z] at y4; have := hR.1.2; omega), aup_rn (by decide), y5 b j0 j1]), _, rfl, XR.try hR HY HL HN HS HP HF HX hv3 hv4 (fun x j h8 h0 _ => ?_) (fun x i _ _ _ h0 => ?_) (fun t t0 t1 => TRY.fr (HX.1 t t0 t1) ?_ (fun x j hx => ?_) ?_ ?_ (fun j j0 j1 => ?_)) ?_⟩
                           · (repeat (first | rw [aup_n h0] | rw [aup_rn h8]))
                           · rw [aup_n h0]
                           · (repeat rw [aup_n (by omega)])
                           · have o8 := hR.2.2.2.2.2.1.2; have o0 := hR.1.2
                             (repeat rw [aup_rn (fun z => by rw [z] at hx; omega)])
                           · rw [aup_rn (by decide)]
                           · rw [aup_rn (by decide)]
                           · rw [aup_rn (by decide)]
                           · simp [aup])
                        | (refine ⟨rfl, _, rfl, XR.put (a := a) hR HY HL HN HS HP HF HX hv3 hv4 t0 t1 y1 y2 y3 y4 (fun x j h8 h0 => ?_) (fun x i h5 h0 => ?_) (fun i hi => ?_) (fun j u0 u1 => ?_) ?_⟩
                           · rw [aup_rn h8, aup_n h0]
                           · rw [aup_n h0, aup_rn h5]
                           · rw [aup_rn (by decide), aup_n (by omega)]
                           · by_cases z : j = b
                             · subst z
                               rw [aup_s, aup_rn (by decide), aup_s, ctF_cu y1]
                             · rw [aup_n (by omega), aup_rn (TRY.rne hR t0 y4).1, aup_rn (by decide), aup_n (by omega)]
                               exact y5 j u0 u1
                           · rw [aup_rn (fun z => (TRY.rne hR t0 y4).1 z.symm), aup_s, aup_s])
                · first
                    | (exfalso; omega)
                    | skip
                      refine aK_i ?_
                      refine aw_zreturn dX7_write_40 rfl (by omega) ?_
                      first
                        | (exfalso; omega)
                        | (refine ⟨by first | rfl | (rw [aup_rn (show ct (2 + a) 0 ≠ 0 from fun z => by rw [z] at y4; have := hR.1.2; omega), aup_rn (by decide), y5 b j0 j1]), _, rfl, XR.try hR HY HL HN HS HP HF HX hv3 hv4 (fun x j h8 h0 _ => ?_) (fun x i _ _ _ h0 => ?_) (fun t t0 t1 => TRY.fr (HX.1 t t0 t1) ?_ (fun x j hx => ?_) ?_ ?_ (fun j j0 j1 => ?_)) ?_⟩
                           · (repeat (first | rw [aup_n h0] | rw [aup_rn h8]))
                           · rw [aup_n h0]
                           · (repeat rw [aup_n (by omega)])
                           · have o8 := hR.2.2.2.2.2.1.2; have o0 := hR.1.2
                             (repeat rw [aup_rn (fun z => by rw [z] at hx; omega)])
                           · rw [aup_rn (by decide)]
                           · rw [aup_rn (by decide)]
                           · rw [aup_rn (by decide)]
                           · simp [aup])
                        | (refine ⟨rfl, _, rfl, XR.put (a := a) hR HY HL HN HS HP HF HX hv3 hv4 t0 t1 y1 y2 y3 y4 (fun x j h8 h0 => ?_) (fun x i h5 h0 => ?_) (fun i hi => ?_) (fun j u0 u1 => ?_) ?_⟩
                           · rw [aup_rn h8, aup_n h0]
                           · rw [aup_n h0, aup_rn h5]
                           · rw [aup_rn (by decide), aup_n (by omega)]
                           · by_cases z : j = b
                             · subst z
                               rw [aup_s, aup_rn (by decide), aup_s, ctF_cu y1]
                             · rw [aup_n (by omega), aup_rn (TRY.rne hR t0 y4).1, aup_rn (by decide), aup_n (by omega)]
                               exact y5 j u0 u1
                           · rw [aup_rn (fun z => (TRY.rne hR t0 y4).1 z.symm), aup_s, aup_s])
          · first
              | (exfalso; omega)
              | skip
                refine gm_27 rfl dX7_write_13 dX7_write_14 rfl ?_
                refine aw_bipush dX7_write_17 (by decide) ?_
                refine aw_iload_n dX7_write_19 rfl ?_
                refine aw_imulr dX7_write_20 (by omega) ?_
                refine aw_iload_n dX7_write_21 rfl ?_
                refine aw_iaddr dX7_write_22 (by omega) ?_
                refine aw_lload_n dX7_write_23 rfl ?_
                refine gm_21 rfl dX7_write_24 dX7_write_25 rfl ?_
                refine aw_iload_n dX7_write_28 rfl ?_
                refine aw_iaload dX7_write_29 m_a3 (by omega) (by omega) ?_
                refine c_X7_90 rfl dX7_write_30  (Nat.le_of_ble_eq_true rfl) (by omega) (C_m_cut ?_)
                refine aK_i ?_
                refine aw_lastore dX7_write_33 m_a5 (by omega) (by omega) ?_
                refine aw_aload_n dX7_write_34 rfl ?_
                refine aw_iload dX7_write_35 rfl ?_
                refine c_X7_79 rfl dX7_write_37 m_ob (Nat.le_of_ble_eq_true rfl) (by omega) (C_m_is (fun hz => ?_) (fun hz => ?_))
                · first
                    | (exfalso; omega)
                    | skip
                      refine aK_i ?_
                      refine aw_zreturn dX7_write_40 rfl (by omega) ?_
                      first
                        | (exfalso; omega)
                        | (refine ⟨by first | rfl | (rw [aup_rn (show ct (2 + a) 0 ≠ 0 from fun z => by rw [z] at y4; have := hR.1.2; omega), aup_rn (by decide), y5 b j0 j1]), _, rfl, XR.try hR HY HL HN HS HP HF HX hv3 hv4 (fun x j h8 h0 _ => ?_) (fun x i _ _ _ h0 => ?_) (fun t t0 t1 => TRY.fr (HX.1 t t0 t1) ?_ (fun x j hx => ?_) ?_ ?_ (fun j j0 j1 => ?_)) ?_⟩
                           · (repeat (first | rw [aup_n h0] | rw [aup_rn h8]))
                           · rw [aup_n h0]
                           · (repeat rw [aup_n (by omega)])
                           · have o8 := hR.2.2.2.2.2.1.2; have o0 := hR.1.2
                             (repeat rw [aup_rn (fun z => by rw [z] at hx; omega)])
                           · rw [aup_rn (by decide)]
                           · rw [aup_rn (by decide)]
                           · rw [aup_rn (by decide)]
                           · simp [aup])
                        | (refine ⟨rfl, _, rfl, XR.put (a := a) hR HY HL HN HS HP HF HX hv3 hv4 t0 t1 y1 y2 y3 y4 (fun x j h8 h0 => ?_) (fun x i h5 h0 => ?_) (fun i hi => ?_) (fun j u0 u1 => ?_) ?_⟩
                           · rw [aup_rn h8, aup_n h0]
                           · rw [aup_n h0, aup_rn h5]
                           · rw [aup_rn (by decide), aup_n (by omega)]
                           · by_cases z : j = b
                             · subst z
                               rw [aup_s, aup_rn (by decide), aup_s, ctF_cu y1]
                             · rw [aup_n (by omega), aup_rn (TRY.rne hR t0 y4).1, aup_rn (by decide), aup_n (by omega)]
                               exact y5 j u0 u1
                           · rw [aup_rn (fun z => (TRY.rne hR t0 y4).1 z.symm), aup_s, aup_s])
                · first
                    | (exfalso; omega)
                    | skip
                      refine aK_i ?_
                      refine aw_zreturn dX7_write_40 rfl (by omega) ?_
                      first
                        | (exfalso; omega)
                        | (refine ⟨by first | rfl | (rw [aup_rn (show ct (2 + a) 0 ≠ 0 from fun z => by rw [z] at y4; have := hR.1.2; omega), aup_rn (by decide), y5 b j0 j1]), _, rfl, XR.try hR HY HL HN HS HP HF HX hv3 hv4 (fun x j h8 h0 _ => ?_) (fun x i _ _ _ h0 => ?_) (fun t t0 t1 => TRY.fr (HX.1 t t0 t1) ?_ (fun x j hx => ?_) ?_ ?_ (fun j j0 j1 => ?_)) ?_⟩
                           · (repeat (first | rw [aup_n h0] | rw [aup_rn h8]))
                           · rw [aup_n h0]
                           · (repeat rw [aup_n (by omega)])
                           · have o8 := hR.2.2.2.2.2.1.2; have o0 := hR.1.2
                             (repeat rw [aup_rn (fun z => by rw [z] at hx; omega)])
                           · rw [aup_rn (by decide)]
                           · rw [aup_rn (by decide)]
                           · rw [aup_rn (by decide)]
                           · simp [aup])
                        | (refine ⟨rfl, _, rfl, XR.put (a := a) hR HY HL HN HS HP HF HX hv3 hv4 t0 t1 y1 y2 y3 y4 (fun x j h8 h0 => ?_) (fun x i h5 h0 => ?_) (fun i hi => ?_) (fun j u0 u1 => ?_) ?_⟩
                           · rw [aup_rn h8, aup_n h0]
                           · rw [aup_n h0, aup_rn h5]
                           · rw [aup_rn (by decide), aup_n (by omega)]
                           · by_cases z : j = b
                             · subst z
                               rw [aup_s, aup_rn (by decide), aup_s, ctF_cu y1]
                             · rw [aup_n (by omega), aup_rn (TRY.rne hR t0 y4).1, aup_rn (by decide), aup_n (by omega)]
                               exact y5 j u0 u1
                           · rw [aup_rn (fun z => (TRY.rne hR t0 y4).1 z.symm), aup_s, aup_s])
    · first
        | (exfalso; omega)
        | skip
          refine aK_i ?_
          refine aw_istore5 dX7_write_6 (by decide) rfl ?_
          refine aw_iload dX7_write_8 rfl ?_
          refine aw_ifne (tgt := 34) dX7_write_10 (by decide) (fun h10 => ?_) (fun h10 => ?_)
          · first
              | (exfalso; omega)
              | skip
                refine aw_aload_n dX7_write_34 rfl ?_
                refine aw_iload dX7_write_35 rfl ?_
                refine c_X7_79 rfl dX7_write_37 m_ob (Nat.le_of_ble_eq_true rfl) (by omega) (C_m_is (fun hz => ?_) (fun hz => ?_))
                · first
                    | (exfalso; omega)
                    | skip
                      refine aK_i ?_
                      refine aw_zreturn dX7_write_40 rfl (by omega) ?_
                      first
                        | (exfalso; omega)
                        | (refine ⟨by first | rfl | (rw [aup_rn (show ct (2 + a) 0 ≠ 0 from fun z => by rw [z] at y4; have := hR.1.2; omega), aup_rn (by decide), y5 b j0 j1]), _, rfl, XR.try hR HY HL HN HS HP HF HX hv3 hv4 (fun x j h8 h0 _ => ?_) (fun x i _ _ _ h0 => ?_) (fun t t0 t1 => TRY.fr (HX.1 t t0 t1) ?_ (fun x j hx => ?_) ?_ ?_ (fun j j0 j1 => ?_)) ?_⟩
                           · (repeat (first | rw [aup_n h0] | rw [aup_rn h8]))
                           · rw [aup_n h0]
                           · (repeat rw [aup_n (by omega)])
                           · have o8 := hR.2.2.2.2.2.1.2; have o0 := hR.1.2
                             (repeat rw [aup_rn (fun z => by rw [z] at hx; omega)])
                           · rw [aup_rn (by decide)]
                           · rw [aup_rn (by decide)]
                           · rw [aup_rn (by decide)]
                           · simp [aup])
                        | (refine ⟨rfl, _, rfl, XR.put (a := a) hR HY HL HN HS HP HF HX hv3 hv4 t0 t1 y1 y2 y3 y4 (fun x j h8 h0 => ?_) (fun x i h5 h0 => ?_) (fun i hi => ?_) (fun j u0 u1 => ?_) ?_⟩
                           · rw [aup_rn h8, aup_n h0]
                           · rw [aup_n h0, aup_rn h5]
                           · rw [aup_rn (by decide), aup_n (by omega)]
                           · by_cases z : j = b
                             · subst z
                               rw [aup_s, aup_rn (by decide), aup_s, ctF_cu y1]
                             · rw [aup_n (by omega), aup_rn (TRY.rne hR t0 y4).1, aup_rn (by decide), aup_n (by omega)]
                               exact y5 j u0 u1
                           · rw [aup_rn (fun z => (TRY.rne hR t0 y4).1 z.symm), aup_s, aup_s])
                · first
                    | (exfalso; omega)
                    | skip
                      refine aK_i ?_
                      refine aw_zreturn dX7_write_40 rfl (by omega) ?_
                      first
                        | (exfalso; omega)
                        | (refine ⟨by first | rfl | (rw [aup_rn (show ct (2 + a) 0 ≠ 0 from fun z => by rw [z] at y4; have := hR.1.2; omega), aup_rn (by decide), y5 b j0 j1]), _, rfl, XR.try hR HY HL HN HS HP HF HX hv3 hv4 (fun x j h8 h0 _ => ?_) (fun x i _ _ _ h0 => ?_) (fun t t0 t1 => TRY.fr (HX.1 t t0 t1) ?_ (fun x j hx => ?_) ?_ ?_ (fun j j0 j1 => ?_)) ?_⟩
                           · (repeat (first | rw [aup_n h0] | rw [aup_rn h8]))
                           · rw [aup_n h0]
                           · (repeat rw [aup_n (by omega)])
                           · have o8 := hR.2.2.2.2.2.1.2; have o0 := hR.1.2
                             (repeat rw [aup_rn (fun z => by rw [z] at hx; omega)])
                           · rw [aup_rn (by decide)]
                           · rw [aup_rn (by decide)]
                           · rw [aup_rn (by decide)]
                           · simp [aup])
                        | (refine ⟨rfl, _, rfl, XR.put (a := a) hR HY HL HN HS HP HF HX hv3 hv4 t0 t1 y1 y2 y3 y4 (fun x j h8 h0 => ?_) (fun x i h5 h0 => ?_) (fun i hi => ?_) (fun j u0 u1 => ?_) ?_⟩
                           · rw [aup_rn h8, aup_n h0]
                           · rw [aup_n h0, aup_rn h5]
                           · rw [aup_rn (by decide), aup_n (by omega)]
                           · by_cases z : j = b
                             · subst z
                               rw [aup_s, aup_rn (by decide), aup_s, ctF_cu y1]
                             · rw [aup_n (by omega), aup_rn (TRY.rne hR t0 y4).1, aup_rn (by decide), aup_n (by omega)]
                               exact y5 j u0 u1
                           · rw [aup_rn (fun z => (TRY.rne hR t0 y4).1 z.symm), aup_s, aup_s])
          · first
              | (exfalso; omega)
              | skip
                refine gm_27 rfl dX7_write_13 dX7_write_14 rfl ?_
                refine aw_bipush dX7_write_17 (by decide) ?_
                refine aw_iload_n dX7_write_19 rfl ?_
                refine aw_imulr dX7_write_20 (by omega) ?_
                refine aw_iload_n dX7_write_21 rfl ?_
                refine aw_iaddr dX7_write_22 (by omega) ?_
                refine aw_lload_n dX7_write_23 rfl ?_
                refine gm_21 rfl dX7_write_24 dX7_write_25 rfl ?_
                refine aw_iload_n dX7_write_28 rfl ?_
                refine aw_iaload dX7_write_29 m_a3 (by omega) (by omega) ?_
                refine c_X7_90 rfl dX7_write_30  (Nat.le_of_ble_eq_true rfl) (by omega) (C_m_cut ?_)
                refine aK_i ?_
                refine aw_lastore dX7_write_33 m_a5 (by omega) (by omega) ?_
                refine aw_aload_n dX7_write_34 rfl ?_
                refine aw_iload dX7_write_35 rfl ?_
                refine c_X7_79 rfl dX7_write_37 m_ob (Nat.le_of_ble_eq_true rfl) (by omega) (C_m_is (fun hz => ?_) (fun hz => ?_))
                · first
                    | (exfalso; omega)
                    | skip
                      refine aK_i ?_
                      refine aw_zreturn dX7_write_40 rfl (by omega) ?_
                      first
                        | (exfalso; omega)
                        | (refine ⟨by first | rfl | (rw [aup_rn (show ct (2 + a) 0 ≠ 0 from fun z => by rw [z] at y4; have := hR.1.2; omega), aup_rn (by decide), y5 b j0 j1]), _, rfl, XR.try hR HY HL HN HS HP HF HX hv3 hv4 (fun x j h8 h0 _ => ?_) (fun x i _ _ _ h0 => ?_) (fun t t0 t1 => TRY.fr (HX.1 t t0 t1) ?_ (fun x j hx => ?_) ?_ ?_ (fun j j0 j1 => ?_)) ?_⟩
                           · (repeat (first | rw [aup_n h0] | rw [aup_rn h8]))
                           · rw [aup_n h0]
                           · (repeat rw [aup_n (by omega)])
                           · have o8 := hR.2.2.2.2.2.1.2; have o0 := hR.1.2
                             (repeat rw [aup_rn (fun z => by rw [z] at hx; omega)])
                           · rw [aup_rn (by decide)]
                           · rw [aup_rn (by decide)]
                           · rw [aup_rn (by decide)]
                           · simp [aup])
                        | (refine ⟨rfl, _, rfl, XR.put (a := a) hR HY HL HN HS HP HF HX hv3 hv4 t0 t1 y1 y2 y3 y4 (fun x j h8 h0 => ?_) (fun x i h5 h0 => ?_) (fun i hi => ?_) (fun j u0 u1 => ?_) ?_⟩
                           · rw [aup_rn h8, aup_n h0]
                           · rw [aup_n h0, aup_rn h5]
                           · rw [aup_rn (by decide), aup_n (by omega)]
                           · by_cases z : j = b
                             · subst z
                               rw [aup_s, aup_rn (by decide), aup_s, ctF_cu y1]
                             · rw [aup_n (by omega), aup_rn (TRY.rne hR t0 y4).1, aup_rn (by decide), aup_n (by omega)]
                               exact y5 j u0 u1
                           · rw [aup_rn (fun z => (TRY.rne hR t0 y4).1 z.symm), aup_s, aup_s])
                · first
                    | (exfalso; omega)
                    | skip
                      refine aK_i ?_
                      refine aw_zreturn dX7_write_40 rfl (by omega) ?_
                      first
                        | (exfalso; omega)
                        | (refine ⟨by first | rfl | (rw [aup_rn (show ct (2 + a) 0 ≠ 0 from fun z => by rw [z] at y4; have := hR.1.2; omega), aup_rn (by decide), y5 b j0 j1]), _, rfl, XR.try hR HY HL HN HS HP HF HX hv3 hv4 (fun x j h8 h0 _ => ?_) (fun x i _ _ _ h0 => ?_) (fun t t0 t1 => TRY.fr (HX.1 t t0 t1) ?_ (fun x j hx => ?_) ?_ ?_ (fun j j0 j1 => ?_)) ?_⟩
                           · (repeat (first | rw [aup_n h0] | rw [aup_rn h8]))
                           · rw [aup_n h0]
                           · (repeat rw [aup_n (by omega)])
                           · have o8 := hR.2.2.2.2.2.1.2; have o0 := hR.1.2
                             (repeat rw [aup_rn (fun z => by rw [z] at hx; omega)])
                           · rw [aup_rn (by decide)]
                           · rw [aup_rn (by decide)]
                           · rw [aup_rn (by decide)]
                           · simp [aup])
                        | (refine ⟨rfl, _, rfl, XR.put (a := a) hR HY HL HN HS HP HF HX hv3 hv4 t0 t1 y1 y2 y3 y4 (fun x j h8 h0 => ?_) (fun x i h5 h0 => ?_) (fun i hi => ?_) (fun j u0 u1 => ?_) ?_⟩
                           · rw [aup_rn h8, aup_n h0]
                           · rw [aup_n h0, aup_rn h5]
                           · rw [aup_rn (by decide), aup_n (by omega)]
                           · by_cases z : j = b
                             · subst z
                               rw [aup_s, aup_rn (by decide), aup_s, ctF_cu y1]
                             · rw [aup_n (by omega), aup_rn (TRY.rne hR t0 y4).1, aup_rn (by decide), aup_n (by omega)]
                               exact y5 j u0 u1
                           · rw [aup_rn (fun z => (TRY.rne hR t0 y4).1 z.symm), aup_s, aup_s])
    · first
        | (exfalso; omega)
        | skip
          refine aK_i ?_
          refine aw_istore5 dX7_write_6 (by decide) rfl ?_
          refine aw_iload dX7_write_8 rfl ?_
          refine aw_ifne (tgt := 34) dX7_write_10 (by decide) (fun h10 => ?_) (fun h10 => ?_)
          · first
              | (exfalso; omega)
              | skip
                refine aw_aload_n dX7_write_34 rfl ?_
                refine aw_iload dX7_write_35 rfl ?_
                refine c_X7_79 rfl dX7_write_37 m_ob (Nat.le_of_ble_eq_true rfl) (by omega) (C_m_is (fun hz => ?_) (fun hz => ?_))
                · first
                    | (exfalso; omega)
                    | skip
                      refine aK_i ?_
                      refine aw_zreturn dX7_write_40 rfl (by omega) ?_
                      first
                        | (exfalso; omega)
                        | (refine ⟨by first | rfl | (rw [aup_rn (show ct (2 + a) 0 ≠ 0 from fun z => by rw [z] at y4; have := hR.1.2; omega), aup_rn (by decide), y5 b j0 j1]), _, rfl, XR.try hR HY HL HN HS HP HF HX hv3 hv4 (fun x j h8 h0 _ => ?_) (fun x i _ _ _ h0 => ?_) (fun t t0 t1 => TRY.fr (HX.1 t t0 t1) ?_ (fun x j hx => ?_) ?_ ?_ (fun j j0 j1 => ?_)) ?_⟩
                           · (repeat (first | rw [aup_n h0] | rw [aup_rn h8]))
                           · rw [aup_n h0]
                           · (repeat rw [aup_n (by omega)])
                           · have o8 := hR.2.2.2.2.2.1.2; have o0 := hR.1.2
                             (repeat rw [aup_rn (fun z => by rw [z] at hx; omega)])
                           · rw [aup_rn (by decide)]
                           · rw [aup_rn (by decide)]
                           · rw [aup_rn (by decide)]
                           · simp [aup])
                        | (refine ⟨rfl, _, rfl, XR.put (a := a) hR HY HL HN HS HP HF HX hv3 hv4 t0 t1 y1 y2 y3 y4 (fun x j h8 h0 => ?_) (fun x i h5 h0 => ?_) (fun i hi => ?_) (fun j u0 u1 => ?_) ?_⟩
                           · rw [aup_rn h8, aup_n h0]
                           · rw [aup_n h0, aup_rn h5]
                           · rw [aup_rn (by decide), aup_n (by omega)]
                           · by_cases z : j = b
                             · subst z
                               rw [aup_s, aup_rn (by decide), aup_s, ctF_cu y1]
                             · rw [aup_n (by omega), aup_rn (TRY.rne hR t0 y4).1, aup_rn (by decide), aup_n (by omega)]
                               exact y5 j u0 u1
                           · rw [aup_rn (fun z => (TRY.rne hR t0 y4).1 z.symm), aup_s, aup_s])
                · first
                    | (exfalso; omega)
                    | skip
                      refine aK_i ?_
                      refine aw_zreturn dX7_write_40 rfl (by omega) ?_
                      first
                        | (exfalso; omega)
                        | (refine ⟨by first | rfl | (rw [aup_rn (show ct (2 + a) 0 ≠ 0 from fun z => by rw [z] at y4; have := hR.1.2; omega), aup_rn (by decide), y5 b j0 j1]), _, rfl, XR.try hR HY HL HN HS HP HF HX hv3 hv4 (fun x j h8 h0 _ => ?_) (fun x i _ _ _ h0 => ?_) (fun t t0 t1 => TRY.fr (HX.1 t t0 t1) ?_ (fun x j hx => ?_) ?_ ?_ (fun j j0 j1 => ?_)) ?_⟩
                           · (repeat (first | rw [aup_n h0] | rw [aup_rn h8]))
                           · rw [aup_n h0]
                           · (repeat rw [aup_n (by omega)])
                           · have o8 := hR.2.2.2.2.2.1.2; have o0 := hR.1.2
                             (repeat rw [aup_rn (fun z => by rw [z] at hx; omega)])
                           · rw [aup_rn (by decide)]
                           · rw [aup_rn (by decide)]
                           · rw [aup_rn (by decide)]
                           · simp [aup])
                        | (refine ⟨rfl, _, rfl, XR.put (a := a) hR HY HL HN HS HP HF HX hv3 hv4 t0 t1 y1 y2 y3 y4 (fun x j h8 h0 => ?_) (fun x i h5 h0 => ?_) (fun i hi => ?_) (fun j u0 u1 => ?_) ?_⟩
                           · rw [aup_rn h8, aup_n h0]
                           · rw [aup_n h0, aup_rn h5]
                           · rw [aup_rn (by decide), aup_n (by omega)]
                           · by_cases z : j = b
                             · subst z
                               rw [aup_s, aup_rn (by decide), aup_s, ctF_cu y1]
                             · rw [aup_n (by omega), aup_rn (TRY.rne hR t0 y4).1, aup_rn (by decide), aup_n (by omega)]
                               exact y5 j u0 u1
                           · rw [aup_rn (fun z => (TRY.rne hR t0 y4).1 z.symm), aup_s, aup_s])
          · first
              | (exfalso; omega)
              | skip
                refine gm_27 rfl dX7_write_13 dX7_write_14 rfl ?_
                refine aw_bipush dX7_write_17 (by decide) ?_
                refine aw_iload_n dX7_write_19 rfl ?_
                refine aw_imulr dX7_write_20 (by omega) ?_
                refine aw_iload_n dX7_write_21 rfl ?_
                refine aw_iaddr dX7_write_22 (by omega) ?_
                refine aw_lload_n dX7_write_23 rfl ?_
                refine gm_21 rfl dX7_write_24 dX7_write_25 rfl ?_
                refine aw_iload_n dX7_write_28 rfl ?_
                refine aw_iaload dX7_write_29 m_a3 (by omega) (by omega) ?_
                refine c_X7_90 rfl dX7_write_30  (Nat.le_of_ble_eq_true rfl) (by omega) (C_m_cut ?_)
                refine aK_i ?_
                refine aw_lastore dX7_write_33 m_a5 (by omega) (by omega) ?_
                refine aw_aload_n dX7_write_34 rfl ?_
                refine aw_iload dX7_write_35 rfl ?_
                refine c_X7_79 rfl dX7_write_37 m_ob (Nat.le_of_ble_eq_true rfl) (by omega) (C_m_is (fun hz => ?_) (fun hz => ?_))
                · first
                    | (exfalso; omega)
                    | skip
                      refine aK_i ?_
                      refine aw_zreturn dX7_write_40 rfl (by omega) ?_
                      first
                        | (exfalso; omega)
                        | (refine ⟨by first | rfl | (rw [aup_rn (show ct (2 + a) 0 ≠ 0 from fun z => by rw [z] at y4; have := hR.1.2; omega), aup_rn (by decide), y5 b j0 j1]), _, rfl, XR.try hR HY HL HN HS HP HF HX hv3 hv4 (fun x j h8 h0 _ => ?_) (fun x i _ _ _ h0 => ?_) (fun t t0 t1 => TRY.fr (HX.1 t t0 t1) ?_ (fun x j hx => ?_) ?_ ?_ (fun j j0 j1 => ?_)) ?_⟩
                           · (repeat (first | rw [aup_n h0] | rw [aup_rn h8]))
                           · rw [aup_n h0]
                           · (repeat rw [aup_n (by omega)])
                           · have o8 := hR.2.2.2.2.2.1.2; have o0 := hR.1.2
                             (repeat rw [aup_rn (fun z => by rw [z] at hx; omega)])
                           · rw [aup_rn (by decide)]
                           · rw [aup_rn (by decide)]
                           · rw [aup_rn (by decide)]
                           · simp [aup])
                        | (refine ⟨rfl, _, rfl, XR.put (a := a) hR HY HL HN HS HP HF HX hv3 hv4 t0 t1 y1 y2 y3 y4 (fun x j h8 h0 => ?_) (fun x i h5 h0 => ?_) (fun i hi => ?_) (fun j u0 u1 => ?_) ?_⟩
                           · rw [aup_rn h8, aup_n h0]
                           · rw [aup_n h0, aup_rn h5]
                           · rw [aup_rn (by decide), aup_n (by omega)]
                           · by_cases z : j = b
                             · subst z
                               rw [aup_s, aup_rn (by decide), aup_s, ctF_cu y1]
                             · rw [aup_n (by omega), aup_rn (TRY.rne hR t0 y4).1, aup_rn (by decide), aup_n (by omega)]
                               exact y5 j u0 u1
                           · rw [aup_rn (fun z => (TRY.rne hR t0 y4).1 z.symm), aup_s, aup_s])
                · first
                    | (exfalso; omega)
                    | skip
                      refine aK_i ?_
                      refine aw_zreturn dX7_write_40 rfl (by omega) ?_
                      first
                        | (exfalso; omega)
                        | (refine ⟨by first | rfl | (rw [aup_rn (show ct (2 + a) 0 ≠ 0 from fun z => by rw [z] at y4; have := hR.1.2; omega), aup_rn (by decide), y5 b j0 j1]), _, rfl, XR.try hR HY HL HN HS HP HF HX hv3 hv4 (fun x j h8 h0 _ => ?_) (fun x i _ _ _ h0 => ?_) (fun t t0 t1 => TRY.fr (HX.1 t t0 t1) ?_ (fun x j hx => ?_) ?_ ?_ (fun j j0 j1 => ?_)) ?_⟩
                           · (repeat (first | rw [aup_n h0] | rw [aup_rn h8]))
                           · rw [aup_n h0]
                           · (repeat rw [aup_n (by omega)])
                           · have o8 := hR.2.2.2.2.2.1.2; have o0 := hR.1.2
                             (repeat rw [aup_rn (fun z => by rw [z] at hx; omega)])
                           · rw [aup_rn (by decide)]
                           · rw [aup_rn (by decide)]
                           · rw [aup_rn (by decide)]
                           · simp [aup])
                        | (refine ⟨rfl, _, rfl, XR.put (a := a) hR HY HL HN HS HP HF HX hv3 hv4 t0 t1 y1 y2 y3 y4 (fun x j h8 h0 => ?_) (fun x i h5 h0 => ?_) (fun i hi => ?_) (fun j u0 u1 => ?_) ?_⟩
                           · rw [aup_rn h8, aup_n h0]
                           · rw [aup_n h0, aup_rn h5]
                           · rw [aup_rn (by decide), aup_n (by omega)]
                           · by_cases z : j = b
                             · subst z
                               rw [aup_s, aup_rn (by decide), aup_s, ctF_cu y1]
                             · rw [aup_n (by omega), aup_rn (TRY.rne hR t0 y4).1, aup_rn (by decide), aup_n (by omega)]
                               exact y5 j u0 u1
                           · rw [aup_rn (fun z => (TRY.rne hR t0 y4).1 z.symm), aup_s, aup_s])
  · rw [aup_n (by omega)] at hb
    have hno := (HX.1 a t0 t1).no
    refine aK_x (ax_catch (E := 1) (pre := [{ startPc := 5, endPc := 16, handlerPc := 17, catchType := 123 }]) (z := { startPc := 5, endPc := 16, handlerPc := 26, catchType := 41 }) (suf := []) rfl (fun y hy => by rw [List.mem_singleton.mp hy]; exact Or.inr ⟨by decide, _, q493, by decide +kernel⟩) rfl (by decide) q235 q237 ?_)
    refine aw_astore5 dX0_write_26 (by decide) rfl ?_
    refine aw_aload_n dX0_write_28 rfl ?_
    refine aw_aload dX0_write_29 rfl ?_
    refine c_X0_111 rfl dX0_write_31 hR.o0 (Nat.le_of_ble_eq_true rfl) (by omega) (C_x_no (hR.up0 (j := 7) (v := 0)) ?_)
    refine aK_i ?_
    refine aw_zreturn dX0_write_34 rfl (by omega) ?_
    refine ⟨_, rfl, ?_⟩
    refine AMet.go (L := [some (vR 0), some (vI a), some (vI b), some (vL v), none, none]) mok_X7_write (Nat.le_of_ble_eq_true rfl) rfl ?_
    refine aw_aload_n dX7_write_0 rfl ?_
    refine aw_iload_n dX7_write_1 rfl ?_
    refine aw_iload_n dX7_write_2 rfl ?_
    refine c_X7_86 rfl dX7_write_3 m_ob (Nat.le_of_ble_eq_true rfl) (by omega) (C_m_wrongPlace (fun m1 => ?_) (fun m1 m2 m3 => ?_) (fun m1 m2 m3 m4 => ?_) (fun m1 m2 m3 m4 m5 => ?_))
    · first
        | (exfalso; omega)
        | skip
          refine aK_i ?_
          refine aw_istore5 dX7_write_6 (by decide) rfl ?_
          refine aw_iload dX7_write_8 rfl ?_
          refine aw_ifne (tgt := 34) dX7_write_10 (by decide) (fun h10 => ?_) (fun h10 => ?_)
          · first
              | (exfalso; omega)
              | skip
                refine aw_aload_n dX7_write_34 rfl ?_
                refine aw_iload dX7_write_35 rfl ?_
                refine c_X7_79 rfl dX7_write_37 m_ob (Nat.le_of_ble_eq_true rfl) (by omega) (C_m_is (fun hz => ?_) (fun hz => ?_))
                · first
                    | (exfalso; omega)
                    | skip
                      refine aK_i ?_
                      refine aw_zreturn dX7_write_40 rfl (by omega) ?_
                      first
                        | (exfalso; omega)
                        | (refine ⟨by first | rfl | (rw [aup_rn (show ct (2 + a) 0 ≠ 0 from fun z => by rw [z] at y4; have := hR.1.2; omega), aup_rn (by decide), y5 b j0 j1]), _, rfl, XR.try hR HY HL HN HS HP HF HX hv3 hv4 (fun x j h8 h0 _ => ?_) (fun x i _ _ _ h0 => ?_) (fun t t0 t1 => TRY.fr (HX.1 t t0 t1) ?_ (fun x j hx => ?_) ?_ ?_ (fun j j0 j1 => ?_)) ?_⟩
                           · (repeat (first | rw [aup_n h0] | rw [aup_rn h8]))
                           · rw [aup_n h0]
                           · (repeat rw [aup_n (by omega)])
                           · have o8 := hR.2.2.2.2.2.1.2; have o0 := hR.1.2
                             (repeat rw [aup_rn (fun z => by rw [z] at hx; omega)])
                           · rw [aup_rn (by decide)]
                           · rw [aup_rn (by decide)]
                           · rw [aup_rn (by decide)]
                           · simp [aup])
                        | (refine ⟨rfl, _, rfl, XR.put (a := a) hR HY HL HN HS HP HF HX hv3 hv4 t0 t1 y1 y2 y3 y4 (fun x j h8 h0 => ?_) (fun x i h5 h0 => ?_) (fun i hi => ?_) (fun j u0 u1 => ?_) ?_⟩
                           · rw [aup_rn h8, aup_n h0]
                           · rw [aup_n h0, aup_rn h5]
                           · rw [aup_rn (by decide), aup_n (by omega)]
                           · by_cases z : j = b
                             · subst z
                               rw [aup_s, aup_rn (by decide), aup_s, ctF_cu y1]
                             · rw [aup_n (by omega), aup_rn (TRY.rne hR t0 y4).1, aup_rn (by decide), aup_n (by omega)]
                               exact y5 j u0 u1
                           · rw [aup_rn (fun z => (TRY.rne hR t0 y4).1 z.symm), aup_s, aup_s])
                · first
                    | (exfalso; omega)
                    | skip
                      refine aK_i ?_
                      refine aw_zreturn dX7_write_40 rfl (by omega) ?_
                      first
                        | (exfalso; omega)
                        | (refine ⟨by first | rfl | (rw [aup_rn (show ct (2 + a) 0 ≠ 0 from fun z => by rw [z] at y4; have := hR.1.2; omega), aup_rn (by decide), y5 b j0 j1]), _, rfl, XR.try hR HY HL HN HS HP HF HX hv3 hv4 (fun x j h8 h0 _ => ?_) (fun x i _ _ _ h0 => ?_) (fun t t0 t1 => TRY.fr (HX.1 t t0 t1) ?_ (fun x j hx => ?_) ?_ ?_ (fun j j0 j1 => ?_)) ?_⟩
                           · (repeat (first | rw [aup_n h0] | rw [aup_rn h8]))
                           · rw [aup_n h0]
                           · (repeat rw [aup_n (by omega)])
                           · have o8 := hR.2.2.2.2.2.1.2; have o0 := hR.1.2
                             (repeat rw [aup_rn (fun z => by rw [z] at hx; omega)])
                           · rw [aup_rn (by decide)]
                           · rw [aup_rn (by decide)]
                           · rw [aup_rn (by decide)]
                           · simp [aup])
                        | (refine ⟨rfl, _, rfl, XR.put (a := a) hR HY HL HN HS HP HF HX hv3 hv4 t0 t1 y1 y2 y3 y4 (fun x j h8 h0 => ?_) (fun x i h5 h0 => ?_) (fun i hi => ?_) (fun j u0 u1 => ?_) ?_⟩
                           · rw [aup_rn h8, aup_n h0]
                           · rw [aup_n h0, aup_rn h5]
                           · rw [aup_rn (by decide), aup_n (by omega)]
                           · by_cases z : j = b
                             · subst z
                               rw [aup_s, aup_rn (by decide), aup_s, ctF_cu y1]
                             · rw [aup_n (by omega), aup_rn (TRY.rne hR t0 y4).1, aup_rn (by decide), aup_n (by omega)]
                               exact y5 j u0 u1
                           · rw [aup_rn (fun z => (TRY.rne hR t0 y4).1 z.symm), aup_s, aup_s])
          · first
              | (exfalso; omega)
              | skip
                refine gm_27 rfl dX7_write_13 dX7_write_14 rfl ?_
                refine aw_bipush dX7_write_17 (by decide) ?_
                refine aw_iload_n dX7_write_19 rfl ?_
                refine aw_imulr dX7_write_20 (by omega) ?_
                refine aw_iload_n dX7_write_21 rfl ?_
                refine aw_iaddr dX7_write_22 (by omega) ?_
                refine aw_lload_n dX7_write_23 rfl ?_
                refine gm_21 rfl dX7_write_24 dX7_write_25 rfl ?_
                refine aw_iload_n dX7_write_28 rfl ?_
                refine aw_iaload dX7_write_29 m_a3 (by omega) (by omega) ?_
                refine c_X7_90 rfl dX7_write_30  (Nat.le_of_ble_eq_true rfl) (by omega) (C_m_cut ?_)
                refine aK_i ?_
                refine aw_lastore dX7_write_33 m_a5 (by omega) (by omega) ?_
                refine aw_aload_n dX7_write_34 rfl ?_
                refine aw_iload dX7_write_35 rfl ?_
                refine c_X7_79 rfl dX7_write_37 m_ob (Nat.le_of_ble_eq_true rfl) (by omega) (C_m_is (fun hz => ?_) (fun hz => ?_))
                · first
                    | (exfalso; omega)
                    | skip
                      refine aK_i ?_
                      refine aw_zreturn dX7_write_40 rfl (by omega) ?_
                      first
                        | (exfalso; omega)
                        | (refine ⟨by first | rfl | (rw [aup_rn (show ct (2 + a) 0 ≠ 0 from fun z => by rw [z] at y4; have := hR.1.2; omega), aup_rn (by decide), y5 b j0 j1]), _, rfl, XR.try hR HY HL HN HS HP HF HX hv3 hv4 (fun x j h8 h0 _ => ?_) (fun x i _ _ _ h0 => ?_) (fun t t0 t1 => TRY.fr (HX.1 t t0 t1) ?_ (fun x j hx => ?_) ?_ ?_ (fun j j0 j1 => ?_)) ?_⟩
                           · (repeat (first | rw [aup_n h0] | rw [aup_rn h8]))
                           · rw [aup_n h0]
                           · (repeat rw [aup_n (by omega)])
                           · have o8 := hR.2.2.2.2.2.1.2; have o0 := hR.1.2
                             (repeat rw [aup_rn (fun z => by rw [z] at hx; omega)])
                           · rw [aup_rn (by decide)]
                           · rw [aup_rn (by decide)]
                           · rw [aup_rn (by decide)]
                           · simp [aup])
                        | (refine ⟨rfl, _, rfl, XR.put (a := a) hR HY HL HN HS HP HF HX hv3 hv4 t0 t1 y1 y2 y3 y4 (fun x j h8 h0 => ?_) (fun x i h5 h0 => ?_) (fun i hi => ?_) (fun j u0 u1 => ?_) ?_⟩
                           · rw [aup_rn h8, aup_n h0]
                           · rw [aup_n h0, aup_rn h5]
                           · rw [aup_rn (by decide), aup_n (by omega)]
                           · by_cases z : j = b
                             · subst z
                               rw [aup_s, aup_rn (by decide), aup_s, ctF_cu y1]
                             · rw [aup_n (by omega), aup_rn (TRY.rne hR t0 y4).1, aup_rn (by decide), aup_n (by omega)]
                               exact y5 j u0 u1
                           · rw [aup_rn (fun z => (TRY.rne hR t0 y4).1 z.symm), aup_s, aup_s])
                · first
                    | (exfalso; omega)
                    | skip
                      refine aK_i ?_
                      refine aw_zreturn dX7_write_40 rfl (by omega) ?_
                      first
                        | (exfalso; omega)
                        | (refine ⟨by first | rfl | (rw [aup_rn (show ct (2 + a) 0 ≠ 0 from fun z => by rw [z] at y4; have := hR.1.2; omega), aup_rn (by decide), y5 b j0 j1]), _, rfl, XR.try hR HY HL HN HS HP HF HX hv3 hv4 (fun x j h8 h0 _ => ?_) (fun x i _ _ _ h0 => ?_) (fun t t0 t1 => TRY.fr (HX.1 t t0 t1) ?_ (fun x j hx => ?_) ?_ ?_ (fun j j0 j1 => ?_)) ?_⟩
                           · (repeat (first | rw [aup_n h0] | rw [aup_rn h8]))
                           · rw [aup_n h0]
                           · (repeat rw [aup_n (by omega)])
                           · have o8 := hR.2.2.2.2.2.1.2; have o0 := hR.1.2
                             (repeat rw [aup_rn (fun z => by rw [z] at hx; omega)])
                           · rw [aup_rn (by decide)]
                           · rw [aup_rn (by decide)]
                           · rw [aup_rn (by decide)]
                           · simp [aup])
                        | (refine ⟨rfl, _, rfl, XR.put (a := a) hR HY HL HN HS HP HF HX hv3 hv4 t0 t1 y1 y2 y3 y4 (fun x j h8 h0 => ?_) (fun x i h5 h0 => ?_) (fun i hi => ?_) (fun j u0 u1 => ?_) ?_⟩
                           · rw [aup_rn h8, aup_n h0]
                           · rw [aup_n h0, aup_rn h5]
                           · rw [aup_rn (by decide), aup_n (by omega)]
                           · by_cases z : j = b
                             · subst z
                               rw [aup_s, aup_rn (by decide), aup_s, ctF_cu y1]
                             · rw [aup_n (by omega), aup_rn (TRY.rne hR t0 y4).1, aup_rn (by decide), aup_n (by omega)]
                               exact y5 j u0 u1
                           · rw [aup_rn (fun z => (TRY.rne hR t0 y4).1 z.symm), aup_s, aup_s])
    · first
        | (exfalso; omega)
        | skip
          refine aK_i ?_
          refine aw_istore5 dX7_write_6 (by decide) rfl ?_
          refine aw_iload dX7_write_8 rfl ?_
          refine aw_ifne (tgt := 34) dX7_write_10 (by decide) (fun h10 => ?_) (fun h10 => ?_)
          · first
              | (exfalso; omega)
              | skip
                refine aw_aload_n dX7_write_34 rfl ?_
                refine aw_iload dX7_write_35 rfl ?_
                refine c_X7_79 rfl dX7_write_37 m_ob (Nat.le_of_ble_eq_true rfl) (by omega) (C_m_is (fun hz => ?_) (fun hz => ?_))
                · first
                    | (exfalso; omega)
                    | skip
                      refine aK_i ?_
                      refine aw_zreturn dX7_write_40 rfl (by omega) ?_
                      first
                        | (exfalso; omega)
                        | (refine ⟨by first | rfl | (rw [aup_rn (show ct (2 + a) 0 ≠ 0 from fun z => by rw [z] at y4; have := hR.1.2; omega), aup_rn (by decide), y5 b j0 j1]), _, rfl, XR.try hR HY HL HN HS HP HF HX hv3 hv4 (fun x j h8 h0 _ => ?_) (fun x i _ _ _ h0 => ?_) (fun t t0 t1 => TRY.fr (HX.1 t t0 t1) ?_ (fun x j hx => ?_) ?_ ?_ (fun j j0 j1 => ?_)) ?_⟩
                           · (repeat (first | rw [aup_n h0] | rw [aup_rn h8]))
                           · rw [aup_n h0]
                           · (repeat rw [aup_n (by omega)])
                           · have o8 := hR.2.2.2.2.2.1.2; have o0 := hR.1.2
                             (repeat rw [aup_rn (fun z => by rw [z] at hx; omega)])
                           · rw [aup_rn (by decide)]
                           · rw [aup_rn (by decide)]
                           · rw [aup_rn (by decide)]
                           · simp [aup])
                        | (refine ⟨rfl, _, rfl, XR.put (a := a) hR HY HL HN HS HP HF HX hv3 hv4 t0 t1 y1 y2 y3 y4 (fun x j h8 h0 => ?_) (fun x i h5 h0 => ?_) (fun i hi => ?_) (fun j u0 u1 => ?_) ?_⟩
                           · rw [aup_rn h8, aup_n h0]
                           · rw [aup_n h0, aup_rn h5]
                           · rw [aup_rn (by decide), aup_n (by omega)]
                           · by_cases z : j = b
                             · subst z
                               rw [aup_s, aup_rn (by decide), aup_s, ctF_cu y1]
                             · rw [aup_n (by omega), aup_rn (TRY.rne hR t0 y4).1, aup_rn (by decide), aup_n (by omega)]
                               exact y5 j u0 u1
                           · rw [aup_rn (fun z => (TRY.rne hR t0 y4).1 z.symm), aup_s, aup_s])
                · first
                    | (exfalso; omega)
                    | skip
                      refine aK_i ?_
                      refine aw_zreturn dX7_write_40 rfl (by omega) ?_
                      first
                        | (exfalso; omega)
                        | (refine ⟨by first | rfl | (rw [aup_rn (show ct (2 + a) 0 ≠ 0 from fun z => by rw [z] at y4; have := hR.1.2; omega), aup_rn (by decide), y5 b j0 j1]), _, rfl, XR.try hR HY HL HN HS HP HF HX hv3 hv4 (fun x j h8 h0 _ => ?_) (fun x i _ _ _ h0 => ?_) (fun t t0 t1 => TRY.fr (HX.1 t t0 t1) ?_ (fun x j hx => ?_) ?_ ?_ (fun j j0 j1 => ?_)) ?_⟩
                           · (repeat (first | rw [aup_n h0] | rw [aup_rn h8]))
                           · rw [aup_n h0]
                           · (repeat rw [aup_n (by omega)])
                           · have o8 := hR.2.2.2.2.2.1.2; have o0 := hR.1.2
                             (repeat rw [aup_rn (fun z => by rw [z] at hx; omega)])
                           · rw [aup_rn (by decide)]
                           · rw [aup_rn (by decide)]
                           · rw [aup_rn (by decide)]
                           · simp [aup])
                        | (refine ⟨rfl, _, rfl, XR.put (a := a) hR HY HL HN HS HP HF HX hv3 hv4 t0 t1 y1 y2 y3 y4 (fun x j h8 h0 => ?_) (fun x i h5 h0 => ?_) (fun i hi => ?_) (fun j u0 u1 => ?_) ?_⟩
                           · rw [aup_rn h8, aup_n h0]
                           · rw [aup_n h0, aup_rn h5]
                           · rw [aup_rn (by decide), aup_n (by omega)]
                           · by_cases z : j = b
                             · subst z
                               rw [aup_s, aup_rn (by decide), aup_s, ctF_cu y1]
                             · rw [aup_n (by omega), aup_rn (TRY.rne hR t0 y4).1, aup_rn (by decide), aup_n (by omega)]
                               exact y5 j u0 u1
                           · rw [aup_rn (fun z => (TRY.rne hR t0 y4).1 z.symm), aup_s, aup_s])
          · first
              | (exfalso; omega)
              | skip
                refine gm_27 rfl dX7_write_13 dX7_write_14 rfl ?_
                refine aw_bipush dX7_write_17 (by decide) ?_
                refine aw_iload_n dX7_write_19 rfl ?_
                refine aw_imulr dX7_write_20 (by omega) ?_
                refine aw_iload_n dX7_write_21 rfl ?_
                refine aw_iaddr dX7_write_22 (by omega) ?_
                refine aw_lload_n dX7_write_23 rfl ?_
                refine gm_21 rfl dX7_write_24 dX7_write_25 rfl ?_
                refine aw_iload_n dX7_write_28 rfl ?_
                refine aw_iaload dX7_write_29 m_a3 (by omega) (by omega) ?_
                refine c_X7_90 rfl dX7_write_30  (Nat.le_of_ble_eq_true rfl) (by omega) (C_m_cut ?_)
                refine aK_i ?_
                refine aw_lastore dX7_write_33 m_a5 (by omega) (by omega) ?_
                refine aw_aload_n dX7_write_34 rfl ?_
                refine aw_iload dX7_write_35 rfl ?_
                refine c_X7_79 rfl dX7_write_37 m_ob (Nat.le_of_ble_eq_true rfl) (by omega) (C_m_is (fun hz => ?_) (fun hz => ?_))
                · first
                    | (exfalso; omega)
                    | skip
                      refine aK_i ?_
                      refine aw_zreturn dX7_write_40 rfl (by omega) ?_
                      first
                        | (exfalso; omega)
                        | (refine ⟨by first | rfl | (rw [aup_rn (show ct (2 + a) 0 ≠ 0 from fun z => by rw [z] at y4; have := hR.1.2; omega), aup_rn (by decide), y5 b j0 j1]), _, rfl, XR.try hR HY HL HN HS HP HF HX hv3 hv4 (fun x j h8 h0 _ => ?_) (fun x i _ _ _ h0 => ?_) (fun t t0 t1 => TRY.fr (HX.1 t t0 t1) ?_ (fun x j hx => ?_) ?_ ?_ (fun j j0 j1 => ?_)) ?_⟩
                           · (repeat (first | rw [aup_n h0] | rw [aup_rn h8]))
                           · rw [aup_n h0]
                           · (repeat rw [aup_n (by omega)])
                           · have o8 := hR.2.2.2.2.2.1.2; have o0 := hR.1.2
                             (repeat rw [aup_rn (fun z => by rw [z] at hx; omega)])
                           · rw [aup_rn (by decide)]
                           · rw [aup_rn (by decide)]
                           · rw [aup_rn (by decide)]
                           · simp [aup])
                        | (refine ⟨rfl, _, rfl, XR.put (a := a) hR HY HL HN HS HP HF HX hv3 hv4 t0 t1 y1 y2 y3 y4 (fun x j h8 h0 => ?_) (fun x i h5 h0 => ?_) (fun i hi => ?_) (fun j u0 u1 => ?_) ?_⟩
                           · rw [aup_rn h8, aup_n h0]
                           · rw [aup_n h0, aup_rn h5]
                           · rw [aup_rn (by decide), aup_n (by omega)]
                           · by_cases z : j = b
                             · subst z
                               rw [aup_s, aup_rn (by decide), aup_s, ctF_cu y1]
                             · rw [aup_n (by omega), aup_rn (TRY.rne hR t0 y4).1, aup_rn (by decide), aup_n (by omega)]
                               exact y5 j u0 u1
                           · rw [aup_rn (fun z => (TRY.rne hR t0 y4).1 z.symm), aup_s, aup_s])
                · first
                    | (exfalso; omega)
                    | skip
                      refine aK_i ?_
                      refine aw_zreturn dX7_write_40 rfl (by omega) ?_
                      first
                        | (exfalso; omega)
                        | (refine ⟨by first | rfl | (rw [aup_rn (show ct (2 + a) 0 ≠ 0 from fun z => by rw [z] at y4; have := hR.1.2; omega), aup_rn (by decide), y5 b j0 j1]), _, rfl, XR.try hR HY HL HN HS HP HF HX hv3 hv4 (fun x j h8 h0 _ => ?_) (fun x i _ _ _ h0 => ?_) (fun t t0 t1 => TRY.fr (HX.1 t t0 t1) ?_ (fun x j hx => ?_) ?_ ?_ (fun j j0 j1 => ?_)) ?_⟩
                           · (repeat (first | rw [aup_n h0] | rw [aup_rn h8]))
                           · rw [aup_n h0]
                           · (repeat rw [aup_n (by omega)])
                           · have o8 := hR.2.2.2.2.2.1.2; have o0 := hR.1.2
                             (repeat rw [aup_rn (fun z => by rw [z] at hx; omega)])
                           · rw [aup_rn (by decide)]
                           · rw [aup_rn (by decide)]
                           · rw [aup_rn (by decide)]
                           · simp [aup])
                        | (refine ⟨rfl, _, rfl, XR.put (a := a) hR HY HL HN HS HP HF HX hv3 hv4 t0 t1 y1 y2 y3 y4 (fun x j h8 h0 => ?_) (fun x i h5 h0 => ?_) (fun i hi => ?_) (fun j u0 u1 => ?_) ?_⟩
                           · rw [aup_rn h8, aup_n h0]
                           · rw [aup_n h0, aup_rn h5]
                           · rw [aup_rn (by decide), aup_n (by omega)]
                           · by_cases z : j = b
                             · subst z
                               rw [aup_s, aup_rn (by decide), aup_s, ctF_cu y1]
                             · rw [aup_n (by omega), aup_rn (TRY.rne hR t0 y4).1, aup_rn (by decide), aup_n (by omega)]
                               exact y5 j u0 u1
                           · rw [aup_rn (fun z => (TRY.rne hR t0 y4).1 z.symm), aup_s, aup_s])
    · first
        | (exfalso; omega)
        | skip
          refine aK_i ?_
          refine aw_istore5 dX7_write_6 (by decide) rfl ?_
          refine aw_iload dX7_write_8 rfl ?_
          refine aw_ifne (tgt := 34) dX7_write_10 (by decide) (fun h10 => ?_) (fun h10 => ?_)
          · first
              | (exfalso; omega)
              | skip
                refine aw_aload_n dX7_write_34 rfl ?_
                refine aw_iload dX7_write_35 rfl ?_
                refine c_X7_79 rfl dX7_write_37 m_ob (Nat.le_of_ble_eq_true rfl) (by omega) (C_m_is (fun hz => ?_) (fun hz => ?_))
                · first
                    | (exfalso; omega)
                    | skip
                      refine aK_i ?_
                      refine aw_zreturn dX7_write_40 rfl (by omega) ?_
                      first
                        | (exfalso; omega)
                        | (refine ⟨by first | rfl | (rw [aup_rn (show ct (2 + a) 0 ≠ 0 from fun z => by rw [z] at y4; have := hR.1.2; omega), aup_rn (by decide), y5 b j0 j1]), _, rfl, XR.try hR HY HL HN HS HP HF HX hv3 hv4 (fun x j h8 h0 _ => ?_) (fun x i _ _ _ h0 => ?_) (fun t t0 t1 => TRY.fr (HX.1 t t0 t1) ?_ (fun x j hx => ?_) ?_ ?_ (fun j j0 j1 => ?_)) ?_⟩
                           · (repeat (first | rw [aup_n h0] | rw [aup_rn h8]))
                           · rw [aup_n h0]
                           · (repeat rw [aup_n (by omega)])
                           · have o8 := hR.2.2.2.2.2.1.2; have o0 := hR.1.2
                             (repeat rw [aup_rn (fun z => by rw [z] at hx; omega)])
                           · rw [aup_rn (by decide)]
                           · rw [aup_rn (by decide)]
                           · rw [aup_rn (by decide)]
                           · simp [aup])
                        | (refine ⟨rfl, _, rfl, XR.put (a := a) hR HY HL HN HS HP HF HX hv3 hv4 t0 t1 y1 y2 y3 y4 (fun x j h8 h0 => ?_) (fun x i h5 h0 => ?_) (fun i hi => ?_) (fun j u0 u1 => ?_) ?_⟩
                           · rw [aup_rn h8, aup_n h0]
                           · rw [aup_n h0, aup_rn h5]
                           · rw [aup_rn (by decide), aup_n (by omega)]
                           · by_cases z : j = b
                             · subst z
                               rw [aup_s, aup_rn (by decide), aup_s, ctF_cu y1]
                             · rw [aup_n (by omega), aup_rn (TRY.rne hR t0 y4).1, aup_rn (by decide), aup_n (by omega)]
                               exact y5 j u0 u1
                           · rw [aup_rn (fun z => (TRY.rne hR t0 y4).1 z.symm), aup_s, aup_s])
                · first
                    | (exfalso; omega)
                    | skip
                      refine aK_i ?_
                      refine aw_zreturn dX7_write_40 rfl (by omega) ?_
                      first
                        | (exfalso; omega)
                        | (refine ⟨by first | rfl | (rw [aup_rn (show ct (2 + a) 0 ≠ 0 from fun z => by rw [z] at y4; have := hR.1.2; omega), aup_rn (by decide), y5 b j0 j1]), _, rfl, XR.try hR HY HL HN HS HP HF HX hv3 hv4 (fun x j h8 h0 _ => ?_) (fun x i _ _ _ h0 => ?_) (fun t t0 t1 => TRY.fr (HX.1 t t0 t1) ?_ (fun x j hx => ?_) ?_ ?_ (fun j j0 j1 => ?_)) ?_⟩
                           · (repeat (first | rw [aup_n h0] | rw [aup_rn h8]))
                           · rw [aup_n h0]
                           · (repeat rw [aup_n (by omega)])
                           · have o8 := hR.2.2.2.2.2.1.2; have o0 := hR.1.2
                             (repeat rw [aup_rn (fun z => by rw [z] at hx; omega)])
                           · rw [aup_rn (by decide)]
                           · rw [aup_rn (by decide)]
                           · rw [aup_rn (by decide)]
                           · simp [aup])
                        | (refine ⟨rfl, _, rfl, XR.put (a := a) hR HY HL HN HS HP HF HX hv3 hv4 t0 t1 y1 y2 y3 y4 (fun x j h8 h0 => ?_) (fun x i h5 h0 => ?_) (fun i hi => ?_) (fun j u0 u1 => ?_) ?_⟩
                           · rw [aup_rn h8, aup_n h0]
                           · rw [aup_n h0, aup_rn h5]
                           · rw [aup_rn (by decide), aup_n (by omega)]
                           · by_cases z : j = b
                             · subst z
                               rw [aup_s, aup_rn (by decide), aup_s, ctF_cu y1]
                             · rw [aup_n (by omega), aup_rn (TRY.rne hR t0 y4).1, aup_rn (by decide), aup_n (by omega)]
                               exact y5 j u0 u1
                           · rw [aup_rn (fun z => (TRY.rne hR t0 y4).1 z.symm), aup_s, aup_s])
          · first
              | (exfalso; omega)
              | skip
                refine gm_27 rfl dX7_write_13 dX7_write_14 rfl ?_
                refine aw_bipush dX7_write_17 (by decide) ?_
                refine aw_iload_n dX7_write_19 rfl ?_
                refine aw_imulr dX7_write_20 (by omega) ?_
                refine aw_iload_n dX7_write_21 rfl ?_
                refine aw_iaddr dX7_write_22 (by omega) ?_
                refine aw_lload_n dX7_write_23 rfl ?_
                refine gm_21 rfl dX7_write_24 dX7_write_25 rfl ?_
                refine aw_iload_n dX7_write_28 rfl ?_
                refine aw_iaload dX7_write_29 m_a3 (by omega) (by omega) ?_
                refine c_X7_90 rfl dX7_write_30  (Nat.le_of_ble_eq_true rfl) (by omega) (C_m_cut ?_)
                refine aK_i ?_
                refine aw_lastore dX7_write_33 m_a5 (by omega) (by omega) ?_
                refine aw_aload_n dX7_write_34 rfl ?_
                refine aw_iload dX7_write_35 rfl ?_
                refine c_X7_79 rfl dX7_write_37 m_ob (Nat.le_of_ble_eq_true rfl) (by omega) (C_m_is (fun hz => ?_) (fun hz => ?_))
                · first
                    | (exfalso; omega)
                    | skip
                      refine aK_i ?_
                      refine aw_zreturn dX7_write_40 rfl (by omega) ?_
                      first
                        | (exfalso; omega)
                        | (refine ⟨by first | rfl | (rw [aup_rn (show ct (2 + a) 0 ≠ 0 from fun z => by rw [z] at y4; have := hR.1.2; omega), aup_rn (by decide), y5 b j0 j1]), _, rfl, XR.try hR HY HL HN HS HP HF HX hv3 hv4 (fun x j h8 h0 _ => ?_) (fun x i _ _ _ h0 => ?_) (fun t t0 t1 => TRY.fr (HX.1 t t0 t1) ?_ (fun x j hx => ?_) ?_ ?_ (fun j j0 j1 => ?_)) ?_⟩
                           · (repeat (first | rw [aup_n h0] | rw [aup_rn h8]))
                           · rw [aup_n h0]
                           · (repeat rw [aup_n (by omega)])
                           · have o8 := hR.2.2.2.2.2.1.2; have o0 := hR.1.2
                             (repeat rw [aup_rn (fun z => by rw [z] at hx; omega)])
                           · rw [aup_rn (by decide)]
                           · rw [aup_rn (by decide)]
                           · rw [aup_rn (by decide)]
                           · simp [aup])
                        | (refine ⟨rfl, _, rfl, XR.put (a := a) hR HY HL HN HS HP HF HX hv3 hv4 t0 t1 y1 y2 y3 y4 (fun x j h8 h0 => ?_) (fun x i h5 h0 => ?_) (fun i hi => ?_) (fun j u0 u1 => ?_) ?_⟩
                           · rw [aup_rn h8, aup_n h0]
                           · rw [aup_n h0, aup_rn h5]
                           · rw [aup_rn (by decide), aup_n (by omega)]
                           · by_cases z : j = b
                             · subst z
                               rw [aup_s, aup_rn (by decide), aup_s, ctF_cu y1]
                             · rw [aup_n (by omega), aup_rn (TRY.rne hR t0 y4).1, aup_rn (by decide), aup_n (by omega)]
                               exact y5 j u0 u1
                           · rw [aup_rn (fun z => (TRY.rne hR t0 y4).1 z.symm), aup_s, aup_s])
                · first
                    | (exfalso; omega)
                    | skip
                      refine aK_i ?_
                      refine aw_zreturn dX7_write_40 rfl (by omega) ?_
                      first
                        | (exfalso; omega)
                        | (refine ⟨by first | rfl | (rw [aup_rn (show ct (2 + a) 0 ≠ 0 from fun z => by rw [z] at y4; have := hR.1.2; omega), aup_rn (by decide), y5 b j0 j1]), _, rfl, XR.try hR HY HL HN HS HP HF HX hv3 hv4 (fun x j h8 h0 _ => ?_) (fun x i _ _ _ h0 => ?_) (fun t t0 t1 => TRY.fr (HX.1 t t0 t1) ?_ (fun x j hx => ?_) ?_ ?_ (fun j j0 j1 => ?_)) ?_⟩
                           · (repeat (first | rw [aup_n h0] | rw [aup_rn h8]))
                           · rw [aup_n h0]
                           · (repeat rw [aup_n (by omega)])
                           · have o8 := hR.2.2.2.2.2.1.2; have o0 := hR.1.2
                             (repeat rw [aup_rn (fun z => by rw [z] at hx; omega)])
                           · rw [aup_rn (by decide)]
                           · rw [aup_rn (by decide)]
                           · rw [aup_rn (by decide)]
                           · simp [aup])
                        | (refine ⟨rfl, _, rfl, XR.put (a := a) hR HY HL HN HS HP HF HX hv3 hv4 t0 t1 y1 y2 y3 y4 (fun x j h8 h0 => ?_) (fun x i h5 h0 => ?_) (fun i hi => ?_) (fun j u0 u1 => ?_) ?_⟩
                           · rw [aup_rn h8, aup_n h0]
                           · rw [aup_n h0, aup_rn h5]
                           · rw [aup_rn (by decide), aup_n (by omega)]
                           · by_cases z : j = b
                             · subst z
                               rw [aup_s, aup_rn (by decide), aup_s, ctF_cu y1]
                             · rw [aup_n (by omega), aup_rn (TRY.rne hR t0 y4).1, aup_rn (by decide), aup_n (by omega)]
                               exact y5 j u0 u1
                           · rw [aup_rn (fun z => (TRY.rne hR t0 y4).1 z.symm), aup_s, aup_s])
    · first
        | (exfalso; omega)
        | skip
          refine aK_i ?_
          refine aw_istore5 dX7_write_6 (by decide) rfl ?_
          refine aw_iload dX7_write_8 rfl ?_
          refine aw_ifne (tgt := 34) dX7_write_10 (by decide) (fun h10 => ?_) (fun h10 => ?_)
          · first
              | (exfalso; omega)
              | skip
                refine aw_aload_n dX7_write_34 rfl ?_
                refine aw_iload dX7_write_35 rfl ?_
                refine c_X7_79 rfl dX7_write_37 m_ob (Nat.le_of_ble_eq_true rfl) (by omega) (C_m_is (fun hz => ?_) (fun hz => ?_))
                · first
                    | (exfalso; omega)
                    | skip
                      refine aK_i ?_
                      refine aw_zreturn dX7_write_40 rfl (by omega) ?_
                      first
                        | (exfalso; omega)
                        | (refine ⟨by first | rfl | (rw [aup_rn (show ct (2 + a) 0 ≠ 0 from fun z => by rw [z] at y4; have := hR.1.2; omega), aup_rn (by decide), y5 b j0 j1]), _, rfl, XR.try hR HY HL HN HS HP HF HX hv3 hv4 (fun x j h8 h0 _ => ?_) (fun x i _ _ _ h0 => ?_) (fun t t0 t1 => TRY.fr (HX.1 t t0 t1) ?_ (fun x j hx => ?_) ?_ ?_ (fun j j0 j1 => ?_)) ?_⟩
                           · (repeat (first | rw [aup_n h0] | rw [aup_rn h8]))
                           · rw [aup_n h0]
                           · (repeat rw [aup_n (by omega)])
                           · have o8 := hR.2.2.2.2.2.1.2; have o0 := hR.1.2
                             (repeat rw [aup_rn (fun z => by rw [z] at hx; omega)])
                           · rw [aup_rn (by decide)]
                           · rw [aup_rn (by decide)]
                           · rw [aup_rn (by decide)]
                           · simp [aup])
                        | (refine ⟨rfl, _, rfl, XR.put (a := a) hR HY HL HN HS HP HF HX hv3 hv4 t0 t1 y1 y2 y3 y4 (fun x j h8 h0 => ?_) (fun x i h5 h0 => ?_) (fun i hi => ?_) (fun j u0 u1 => ?_) ?_⟩
                           · rw [aup_rn h8, aup_n h0]
                           · rw [aup_n h0, aup_rn h5]
                           · rw [aup_rn (by decide), aup_n (by omega)]
                           · by_cases z : j = b
                             · subst z
                               rw [aup_s, aup_rn (by decide), aup_s, ctF_cu y1]
                             · rw [aup_n (by omega), aup_rn (TRY.rne hR t0 y4).1, aup_rn (by decide), aup_n (by omega)]
                               exact y5 j u0 u1
                           · rw [aup_rn (fun z => (TRY.rne hR t0 y4).1 z.symm), aup_s, aup_s])
                · first
                    | (exfalso; omega)
                    | skip
                      refine aK_i ?_
                      refine aw_zreturn dX7_write_40 rfl (by omega) ?_
                      first
                        | (exfalso; omega)
                        | (refine ⟨by first | rfl | (rw [aup_rn (show ct (2 + a) 0 ≠ 0 from fun z => by rw [z] at y4; have := hR.1.2; omega), aup_rn (by decide), y5 b j0 j1]), _, rfl, XR.try hR HY HL HN HS HP HF HX hv3 hv4 (fun x j h8 h0 _ => ?_) (fun x i _ _ _ h0 => ?_) (fun t t0 t1 => TRY.fr (HX.1 t t0 t1) ?_ (fun x j hx => ?_) ?_ ?_ (fun j j0 j1 => ?_)) ?_⟩
                           · (repeat (first | rw [aup_n h0] | rw [aup_rn h8]))
                           · rw [aup_n h0]
                           · (repeat rw [aup_n (by omega)])
                           · have o8 := hR.2.2.2.2.2.1.2; have o0 := hR.1.2
                             (repeat rw [aup_rn (fun z => by rw [z] at hx; omega)])
                           · rw [aup_rn (by decide)]
                           · rw [aup_rn (by decide)]
                           · rw [aup_rn (by decide)]
                           · simp [aup])
                        | (refine ⟨rfl, _, rfl, XR.put (a := a) hR HY HL HN HS HP HF HX hv3 hv4 t0 t1 y1 y2 y3 y4 (fun x j h8 h0 => ?_) (fun x i h5 h0 => ?_) (fun i hi => ?_) (fun j u0 u1 => ?_) ?_⟩
                           · rw [aup_rn h8, aup_n h0]
                           · rw [aup_n h0, aup_rn h5]
                           · rw [aup_rn (by decide), aup_n (by omega)]
                           · by_cases z : j = b
                             · subst z
                               rw [aup_s, aup_rn (by decide), aup_s, ctF_cu y1]
                             · rw [aup_n (by omega), aup_rn (TRY.rne hR t0 y4).1, aup_rn (by decide), aup_n (by omega)]
                               exact y5 j u0 u1
                           · rw [aup_rn (fun z => (TRY.rne hR t0 y4).1 z.symm), aup_s, aup_s])
          · first
              | (exfalso; omega)
              | skip
                refine gm_27 rfl dX7_write_13 dX7_write_14 rfl ?_
                refine aw_bipush dX7_write_17 (by decide) ?_
                refine aw_iload_n dX7_write_19 rfl ?_
                refine aw_imulr dX7_write_20 (by omega) ?_
                refine aw_iload_n dX7_write_21 rfl ?_
                refine aw_iaddr dX7_write_22 (by omega) ?_
                refine aw_lload_n dX7_write_23 rfl ?_
                refine gm_21 rfl dX7_write_24 dX7_write_25 rfl ?_
                refine aw_iload_n dX7_write_28 rfl ?_
                refine aw_iaload dX7_write_29 m_a3 (by omega) (by omega) ?_
                refine c_X7_90 rfl dX7_write_30  (Nat.le_of_ble_eq_true rfl) (by omega) (C_m_cut ?_)
                refine aK_i ?_
                refine aw_lastore dX7_write_33 m_a5 (by omega) (by omega) ?_
                refine aw_aload_n dX7_write_34 rfl ?_
                refine aw_iload dX7_write_35 rfl ?_
                refine c_X7_79 rfl dX7_write_37 m_ob (Nat.le_of_ble_eq_true rfl) (by omega) (C_m_is (fun hz => ?_) (fun hz => ?_))
                · first
                    | (exfalso; omega)
                    | skip
                      refine aK_i ?_
                      refine aw_zreturn dX7_write_40 rfl (by omega) ?_
                      first
                        | (exfalso; omega)
                        | (refine ⟨by first | rfl | (rw [aup_rn (show ct (2 + a) 0 ≠ 0 from fun z => by rw [z] at y4; have := hR.1.2; omega), aup_rn (by decide), y5 b j0 j1]), _, rfl, XR.try hR HY HL HN HS HP HF HX hv3 hv4 (fun x j h8 h0 _ => ?_) (fun x i _ _ _ h0 => ?_) (fun t t0 t1 => TRY.fr (HX.1 t t0 t1) ?_ (fun x j hx => ?_) ?_ ?_ (fun j j0 j1 => ?_)) ?_⟩
                           · (repeat (first | rw [aup_n h0] | rw [aup_rn h8]))
                           · rw [aup_n h0]
                           · (repeat rw [aup_n (by omega)])
                           · have o8 := hR.2.2.2.2.2.1.2; have o0 := hR.1.2
                             (repeat rw [aup_rn (fun z => by rw [z] at hx; omega)])
                           · rw [aup_rn (by decide)]
                           · rw [aup_rn (by decide)]
                           · rw [aup_rn (by decide)]
                           · simp [aup])
                        | (refine ⟨rfl, _, rfl, XR.put (a := a) hR HY HL HN HS HP HF HX hv3 hv4 t0 t1 y1 y2 y3 y4 (fun x j h8 h0 => ?_) (fun x i h5 h0 => ?_) (fun i hi => ?_) (fun j u0 u1 => ?_) ?_⟩
                           · rw [aup_rn h8, aup_n h0]
                           · rw [aup_n h0, aup_rn h5]
                           · rw [aup_rn (by decide), aup_n (by omega)]
                           · by_cases z : j = b
                             · subst z
                               rw [aup_s, aup_rn (by decide), aup_s, ctF_cu y1]
                             · rw [aup_n (by omega), aup_rn (TRY.rne hR t0 y4).1, aup_rn (by decide), aup_n (by omega)]
                               exact y5 j u0 u1
                           · rw [aup_rn (fun z => (TRY.rne hR t0 y4).1 z.symm), aup_s, aup_s])
                · first
                    | (exfalso; omega)
                    | skip
                      refine aK_i ?_
                      refine aw_zreturn dX7_write_40 rfl (by omega) ?_
                      first
                        | (exfalso; omega)
                        | (refine ⟨by first | rfl | (rw [aup_rn (show ct (2 + a) 0 ≠ 0 from fun z => by rw [z] at y4; have := hR.1.2; omega), aup_rn (by decide), y5 b j0 j1]), _, rfl, XR.try hR HY HL HN HS HP HF HX hv3 hv4 (fun x j h8 h0 _ => ?_) (fun x i _ _ _ h0 => ?_) (fun t t0 t1 => TRY.fr (HX.1 t t0 t1) ?_ (fun x j hx => ?_) ?_ ?_ (fun j j0 j1 => ?_)) ?_⟩
                           · (repeat (first | rw [aup_n h0] | rw [aup_rn h8]))
                           · rw [aup_n h0]
                           · (repeat rw [aup_n (by omega)])
                           · have o8 := hR.2.2.2.2.2.1.2; have o0 := hR.1.2
                             (repeat rw [aup_rn (fun z => by rw [z] at hx; omega)])
                           · rw [aup_rn (by decide)]
                           · rw [aup_rn (by decide)]
                           · rw [aup_rn (by decide)]
                           · simp [aup])
                        | (refine ⟨rfl, _, rfl, XR.put (a := a) hR HY HL HN HS HP HF HX hv3 hv4 t0 t1 y1 y2 y3 y4 (fun x j h8 h0 => ?_) (fun x i h5 h0 => ?_) (fun i hi => ?_) (fun j u0 u1 => ?_) ?_⟩
                           · rw [aup_rn h8, aup_n h0]
                           · rw [aup_n h0, aup_rn h5]
                           · rw [aup_rn (by decide), aup_n (by omega)]
                           · by_cases z : j = b
                             · subst z
                               rw [aup_s, aup_rn (by decide), aup_s, ctF_cu y1]
                             · rw [aup_n (by omega), aup_rn (TRY.rne hR t0 y4).1, aup_rn (by decide), aup_n (by omega)]
                               exact y5 j u0 u1
                           · rw [aup_rn (fun z => (TRY.rne hR t0 y4).1 z.symm), aup_s, aup_s])
  · have hy := (HX.1 a t0 t1).yes (by rw [aup_n (by omega)] at hb; exact hb)
    obtain ⟨y1, y2, y3, y4, y5⟩ := hy
    rw [aup_n (by omega)]
    refine aK_i ?_
    refine aw_iload_n dX0_write_10 rfl ?_
    refine aw_lload_n dX0_write_11 rfl ?_
    refine c_X0_119a (kc1 := 3) (ks1 := 222) (kc2 := 0) (ks2 := 0) (by decide) (by decide) rfl dX0_write_12  (Nat.le_of_ble_eq_true rfl) (by omega) (C_x_tput (t := (cm 3 a).toNat) (by omega) y3 (by omega) (fun j0 j1 => ?_) (fun hj => ?_))
    · refine aK_v ?_
      refine aw_iconst dX0_write_15 (by decide) ?_
      refine aw_zreturn dX0_write_16 rfl (Or.inr rfl) ?_
      refine ⟨_, rfl, ?_⟩
      refine AMet.go (L := [some (vR 0), some (vI a), some (vI b), some (vL v), none, none]) mok_X7_write (Nat.le_of_ble_eq_true rfl) rfl ?_
      refine aw_aload_n dX7_write_0 rfl ?_
      refine aw_iload_n dX7_write_1 rfl ?_
      refine aw_iload_n dX7_write_2 rfl ?_
      refine c_X7_86 rfl dX7_write_3 m_ob (Nat.le_of_ble_eq_true rfl) (by omega) (C_m_wrongPlace (fun m1 => ?_) (fun m1 m2 m3 => ?_) (fun m1 m2 m3 m4 => ?_) (fun m1 m2 m3 m4 m5 => ?_))
      · first
          | (exfalso; omega)
          | skip
            refine aK_i ?_
            refine aw_istore5 dX7_write_6 (by decide) rfl ?_
            refine aw_iload dX7_write_8 rfl ?_
            refine aw_ifne (tgt := 34) dX7_write_10 (by decide) (fun h10 => ?_) (fun h10 => ?_)
            · first
                | (exfalso; omega)
                | skip
                  refine aw_aload_n dX7_write_34 rfl ?_
                  refine aw_iload dX7_write_35 rfl ?_
                  refine c_X7_79 rfl dX7_write_37 m_ob (Nat.le_of_ble_eq_true rfl) (by omega) (C_m_is (fun hz => ?_) (fun hz => ?_))
                  · first
                      | (exfalso; omega)
                      | skip
                        refine aK_i ?_
                        refine aw_zreturn dX7_write_40 rfl (by omega) ?_
                        first
                          | (exfalso; omega)
                          | (refine ⟨by first | rfl | (rw [aup_rn (show ct (2 + a) 0 ≠ 0 from fun z => by rw [z] at y4; have := hR.1.2; omega), aup_rn (by decide), y5 b j0 j1]), _, rfl, XR.try hR HY HL HN HS HP HF HX hv3 hv4 (fun x j h8 h0 _ => ?_) (fun x i _ _ _ h0 => ?_) (fun t t0 t1 => TRY.fr (HX.1 t t0 t1) ?_ (fun x j hx => ?_) ?_ ?_ (fun j j0 j1 => ?_)) ?_⟩
                             · (repeat (first | rw [aup_n h0] | rw [aup_rn h8]))
                             · rw [aup_n h0]
                             · (repeat rw [aup_n (by omega)])
                             · have o8 := hR.2.2.2.2.2.1.2; have o0 := hR.1.2
                               (repeat rw [aup_rn (fun z => by rw [z] at hx; omega)])
                             · rw [aup_rn (by decide)]
                             · rw [aup_rn (by decide)]
                             · rw [aup_rn (by decide)]
                             · simp [aup])
                          | (refine ⟨rfl, _, rfl, XR.put (a := a) hR HY HL HN HS HP HF HX hv3 hv4 t0 t1 y1 y2 y3 y4 (fun x j h8 h0 => ?_) (fun x i h5 h0 => ?_) (fun i hi => ?_) (fun j u0 u1 => ?_) ?_⟩
                             · rw [aup_rn h8, aup_n h0]
                             · rw [aup_n h0, aup_rn h5]
                             · rw [aup_rn (by decide), aup_n (by omega)]
                             · by_cases z : j = b
                               · subst z
                                 rw [aup_s, aup_rn (by decide), aup_s, ctF_cu y1]
                               · rw [aup_n (by omega), aup_rn (TRY.rne hR t0 y4).1, aup_rn (by decide), aup_n (by omega)]
                                 exact y5 j u0 u1
                             · rw [aup_rn (fun z => (TRY.rne hR t0 y4).1 z.symm), aup_s, aup_s])
                  · first
                      | (exfalso; omega)
                      | skip
                        refine aK_i ?_
                        refine aw_zreturn dX7_write_40 rfl (by omega) ?_
                        first
                          | (exfalso; omega)
                          | (refine ⟨by first | rfl | (rw [aup_rn (show ct (2 + a) 0 ≠ 0 from fun z => by rw [z] at y4; have := hR.1.2; omega), aup_rn (by decide), y5 b j0 j1]), _, rfl, XR.try hR HY HL HN HS HP HF HX hv3 hv4 (fun x j h8 h0 _ => ?_) (fun x i _ _ _ h0 => ?_) (fun t t0 t1 => TRY.fr (HX.1 t t0 t1) ?_ (fun x j hx => ?_) ?_ ?_ (fun j j0 j1 => ?_)) ?_⟩
                             · (repeat (first | rw [aup_n h0] | rw [aup_rn h8]))
                             · rw [aup_n h0]
                             · (repeat rw [aup_n (by omega)])
                             · have o8 := hR.2.2.2.2.2.1.2; have o0 := hR.1.2
                               (repeat rw [aup_rn (fun z => by rw [z] at hx; omega)])
                             · rw [aup_rn (by decide)]
                             · rw [aup_rn (by decide)]
                             · rw [aup_rn (by decide)]
                             · simp [aup])
                          | (refine ⟨rfl, _, rfl, XR.put (a := a) hR HY HL HN HS HP HF HX hv3 hv4 t0 t1 y1 y2 y3 y4 (fun x j h8 h0 => ?_) (fun x i h5 h0 => ?_) (fun i hi => ?_) (fun j u0 u1 => ?_) ?_⟩
                             · rw [aup_rn h8, aup_n h0]
                             · rw [aup_n h0, aup_rn h5]
                             · rw [aup_rn (by decide), aup_n (by omega)]
                             · by_cases z : j = b
                               · subst z
                                 rw [aup_s, aup_rn (by decide), aup_s, ctF_cu y1]
                               · rw [aup_n (by omega), aup_rn (TRY.rne hR t0 y4).1, aup_rn (by decide), aup_n (by omega)]
                                 exact y5 j u0 u1
                             · rw [aup_rn (fun z => (TRY.rne hR t0 y4).1 z.symm), aup_s, aup_s])
            · first
                | (exfalso; omega)
                | skip
                  refine gm_27 rfl dX7_write_13 dX7_write_14 rfl ?_
                  refine aw_bipush dX7_write_17 (by decide) ?_
                  refine aw_iload_n dX7_write_19 rfl ?_
                  refine aw_imulr dX7_write_20 (by omega) ?_
                  refine aw_iload_n dX7_write_21 rfl ?_
                  refine aw_iaddr dX7_write_22 (by omega) ?_
                  refine aw_lload_n dX7_write_23 rfl ?_
                  refine gm_21 rfl dX7_write_24 dX7_write_25 rfl ?_
                  refine aw_iload_n dX7_write_28 rfl ?_
                  refine aw_iaload dX7_write_29 m_a3 (by omega) (by omega) ?_
                  refine c_X7_90 rfl dX7_write_30  (Nat.le_of_ble_eq_true rfl) (by omega) (C_m_cut ?_)
                  refine aK_i ?_
                  refine aw_lastore dX7_write_33 m_a5 (by omega) (by omega) ?_
                  refine aw_aload_n dX7_write_34 rfl ?_
                  refine aw_iload dX7_write_35 rfl ?_
                  refine c_X7_79 rfl dX7_write_37 m_ob (Nat.le_of_ble_eq_true rfl) (by omega) (C_m_is (fun hz => ?_) (fun hz => ?_))
                  · first
                      | (exfalso; omega)
                      | skip
                        refine aK_i ?_
                        refine aw_zreturn dX7_write_40 rfl (by omega) ?_
                        first
                          | (exfalso; omega)
                          | (refine ⟨by first | rfl | (rw [aup_rn (show ct (2 + a) 0 ≠ 0 from fun z => by rw [z] at y4; have := hR.1.2; omega), aup_rn (by decide), y5 b j0 j1]), _, rfl, XR.try hR HY HL HN HS HP HF HX hv3 hv4 (fun x j h8 h0 _ => ?_) (fun x i _ _ _ h0 => ?_) (fun t t0 t1 => TRY.fr (HX.1 t t0 t1) ?_ (fun x j hx => ?_) ?_ ?_ (fun j j0 j1 => ?_)) ?_⟩
                             · (repeat (first | rw [aup_n h0] | rw [aup_rn h8]))
                             · rw [aup_n h0]
                             · (repeat rw [aup_n (by omega)])
                             · have o8 := hR.2.2.2.2.2.1.2; have o0 := hR.1.2
                               (repeat rw [aup_rn (fun z => by rw [z] at hx; omega)])
                             · rw [aup_rn (by decide)]
                             · rw [aup_rn (by decide)]
                             · rw [aup_rn (by decide)]
                             · simp [aup])
                          | (refine ⟨rfl, _, rfl, XR.put (a := a) hR HY HL HN HS HP HF HX hv3 hv4 t0 t1 y1 y2 y3 y4 (fun x j h8 h0 => ?_) (fun x i h5 h0 => ?_) (fun i hi => ?_) (fun j u0 u1 => ?_) ?_⟩
                             · rw [aup_rn h8, aup_n h0]
                             · rw [aup_n h0, aup_rn h5]
                             · rw [aup_rn (by decide), aup_n (by omega)]
                             · by_cases z : j = b
                               · subst z
                                 rw [aup_s, aup_rn (by decide), aup_s, ctF_cu y1]
                               · rw [aup_n (by omega), aup_rn (TRY.rne hR t0 y4).1, aup_rn (by decide), aup_n (by omega)]
                                 exact y5 j u0 u1
                             · rw [aup_rn (fun z => (TRY.rne hR t0 y4).1 z.symm), aup_s, aup_s])
                  · first
                      | (exfalso; omega)
                      | skip
                        refine aK_i ?_
                        refine aw_zreturn dX7_write_40 rfl (by omega) ?_
                        first
                          | (exfalso; omega)
                          | (refine ⟨by first | rfl | (rw [aup_rn (show ct (2 + a) 0 ≠ 0 from fun z => by rw [z] at y4; have := hR.1.2; omega), aup_rn (by decide), y5 b j0 j1]), _, rfl, XR.try hR HY HL HN HS HP HF HX hv3 hv4 (fun x j h8 h0 _ => ?_) (fun x i _ _ _ h0 => ?_) (fun t t0 t1 => TRY.fr (HX.1 t t0 t1) ?_ (fun x j hx => ?_) ?_ ?_ (fun j j0 j1 => ?_)) ?_⟩
                             · (repeat (first | rw [aup_n h0] | rw [aup_rn h8]))
                             · rw [aup_n h0]
                             · (repeat rw [aup_n (by omega)])
                             · have o8 := hR.2.2.2.2.2.1.2; have o0 := hR.1.2
                               (repeat rw [aup_rn (fun z => by rw [z] at hx; omega)])
                             · rw [aup_rn (by decide)]
                             · rw [aup_rn (by decide)]
                             · rw [aup_rn (by decide)]
                             · simp [aup])
                          | (refine ⟨rfl, _, rfl, XR.put (a := a) hR HY HL HN HS HP HF HX hv3 hv4 t0 t1 y1 y2 y3 y4 (fun x j h8 h0 => ?_) (fun x i h5 h0 => ?_) (fun i hi => ?_) (fun j u0 u1 => ?_) ?_⟩
                             · rw [aup_rn h8, aup_n h0]
                             · rw [aup_n h0, aup_rn h5]
                             · rw [aup_rn (by decide), aup_n (by omega)]
                             · by_cases z : j = b
                               · subst z
                                 rw [aup_s, aup_rn (by decide), aup_s, ctF_cu y1]
                               · rw [aup_n (by omega), aup_rn (TRY.rne hR t0 y4).1, aup_rn (by decide), aup_n (by omega)]
                                 exact y5 j u0 u1
                             · rw [aup_rn (fun z => (TRY.rne hR t0 y4).1 z.symm), aup_s, aup_s])
      · first
          | (exfalso; omega)
          | skip
            refine aK_i ?_
            refine aw_istore5 dX7_write_6 (by decide) rfl ?_
            refine aw_iload dX7_write_8 rfl ?_
            refine aw_ifne (tgt := 34) dX7_write_10 (by decide) (fun h10 => ?_) (fun h10 => ?_)
            · first
                | (exfalso; omega)
                | skip
                  refine aw_aload_n dX7_write_34 rfl ?_
                  refine aw_iload dX7_write_35 rfl ?_
                  refine c_X7_79 rfl dX7_write_37 m_ob (Nat.le_of_ble_eq_true rfl) (by omega) (C_m_is (fun hz => ?_) (fun hz => ?_))
                  · first
                      | (exfalso; omega)
                      | skip
                        refine aK_i ?_
                        refine aw_zreturn dX7_write_40 rfl (by omega) ?_
                        first
                          | (exfalso; omega)
                          | (refine ⟨by first | rfl | (rw [aup_rn (show ct (2 + a) 0 ≠ 0 from fun z => by rw [z] at y4; have := hR.1.2; omega), aup_rn (by decide), y5 b j0 j1]), _, rfl, XR.try hR HY HL HN HS HP HF HX hv3 hv4 (fun x j h8 h0 _ => ?_) (fun x i _ _ _ h0 => ?_) (fun t t0 t1 => TRY.fr (HX.1 t t0 t1) ?_ (fun x j hx => ?_) ?_ ?_ (fun j j0 j1 => ?_)) ?_⟩
                             · (repeat (first | rw [aup_n h0] | rw [aup_rn h8]))
                             · rw [aup_n h0]
                             · (repeat rw [aup_n (by omega)])
                             · have o8 := hR.2.2.2.2.2.1.2; have o0 := hR.1.2
                               (repeat rw [aup_rn (fun z => by rw [z] at hx; omega)])
                             · rw [aup_rn (by decide)]
                             · rw [aup_rn (by decide)]
                             · rw [aup_rn (by decide)]
                             · simp [aup])
                          | (refine ⟨rfl, _, rfl, XR.put (a := a) hR HY HL HN HS HP HF HX hv3 hv4 t0 t1 y1 y2 y3 y4 (fun x j h8 h0 => ?_) (fun x i h5 h0 => ?_) (fun i hi => ?_) (fun j u0 u1 => ?_) ?_⟩
                             · rw [aup_rn h8, aup_n h0]
                             · rw [aup_n h0, aup_rn h5]
                             · rw [aup_rn (by decide), aup_n (by omega)]
                             · by_cases z : j = b
                               · subst z
                                 rw [aup_s, aup_rn (by decide), aup_s, ctF_cu y1]
                               · rw [aup_n (by omega), aup_rn (TRY.rne hR t0 y4).1, aup_rn (by decide), aup_n (by omega)]
                                 exact y5 j u0 u1
                             · rw [aup_rn (fun z => (TRY.rne hR t0 y4).1 z.symm), aup_s, aup_s])
                  · first
                      | (exfalso; omega)
                      | skip
                        refine aK_i ?_
                        refine aw_zreturn dX7_write_40 rfl (by omega) ?_
                        first
                          | (exfalso; omega)
                          | (refine ⟨by first | rfl | (rw [aup_rn (show ct (2 + a) 0 ≠ 0 from fun z => by rw [z] at y4; have := hR.1.2; omega), aup_rn (by decide), y5 b j0 j1]), _, rfl, XR.try hR HY HL HN HS HP HF HX hv3 hv4 (fun x j h8 h0 _ => ?_) (fun x i _ _ _ h0 => ?_) (fun t t0 t1 => TRY.fr (HX.1 t t0 t1) ?_ (fun x j hx => ?_) ?_ ?_ (fun j j0 j1 => ?_)) ?_⟩
                             · (repeat (first | rw [aup_n h0] | rw [aup_rn h8]))
                             · rw [aup_n h0]
                             · (repeat rw [aup_n (by omega)])
                             · have o8 := hR.2.2.2.2.2.1.2; have o0 := hR.1.2
                               (repeat rw [aup_rn (fun z => by rw [z] at hx; omega)])
                             · rw [aup_rn (by decide)]
                             · rw [aup_rn (by decide)]
                             · rw [aup_rn (by decide)]
                             · simp [aup])
                          | (refine ⟨rfl, _, rfl, XR.put (a := a) hR HY HL HN HS HP HF HX hv3 hv4 t0 t1 y1 y2 y3 y4 (fun x j h8 h0 => ?_) (fun x i h5 h0 => ?_) (fun i hi => ?_) (fun j u0 u1 => ?_) ?_⟩
                             · rw [aup_rn h8, aup_n h0]
                             · rw [aup_n h0, aup_rn h5]
                             · rw [aup_rn (by decide), aup_n (by omega)]
                             · by_cases z : j = b
                               · subst z
                                 rw [aup_s, aup_rn (by decide), aup_s, ctF_cu y1]
                               · rw [aup_n (by omega), aup_rn (TRY.rne hR t0 y4).1, aup_rn (by decide), aup_n (by omega)]
                                 exact y5 j u0 u1
                             · rw [aup_rn (fun z => (TRY.rne hR t0 y4).1 z.symm), aup_s, aup_s])
            · first
                | (exfalso; omega)
                | skip
                  refine gm_27 rfl dX7_write_13 dX7_write_14 rfl ?_
                  refine aw_bipush dX7_write_17 (by decide) ?_
                  refine aw_iload_n dX7_write_19 rfl ?_
                  refine aw_imulr dX7_write_20 (by omega) ?_
                  refine aw_iload_n dX7_write_21 rfl ?_
                  refine aw_iaddr dX7_write_22 (by omega) ?_
                  refine aw_lload_n dX7_write_23 rfl ?_
                  refine gm_21 rfl dX7_write_24 dX7_write_25 rfl ?_
                  refine aw_iload_n dX7_write_28 rfl ?_
                  refine aw_iaload dX7_write_29 m_a3 (by omega) (by omega) ?_
                  refine c_X7_90 rfl dX7_write_30  (Nat.le_of_ble_eq_true rfl) (by omega) (C_m_cut ?_)
                  refine aK_i ?_
                  refine aw_lastore dX7_write_33 m_a5 (by omega) (by omega) ?_
                  refine aw_aload_n dX7_write_34 rfl ?_
                  refine aw_iload dX7_write_35 rfl ?_
                  refine c_X7_79 rfl dX7_write_37 m_ob (Nat.le_of_ble_eq_true rfl) (by omega) (C_m_is (fun hz => ?_) (fun hz => ?_))
                  · first
                      | (exfalso; omega)
                      | skip
                        refine aK_i ?_
                        refine aw_zreturn dX7_write_40 rfl (by omega) ?_
                        first
                          | (exfalso; omega)
                          | (refine ⟨by first | rfl | (rw [aup_rn (show ct (2 + a) 0 ≠ 0 from fun z => by rw [z] at y4; have := hR.1.2; omega), aup_rn (by decide), y5 b j0 j1]), _, rfl, XR.try hR HY HL HN HS HP HF HX hv3 hv4 (fun x j h8 h0 _ => ?_) (fun x i _ _ _ h0 => ?_) (fun t t0 t1 => TRY.fr (HX.1 t t0 t1) ?_ (fun x j hx => ?_) ?_ ?_ (fun j j0 j1 => ?_)) ?_⟩
                             · (repeat (first | rw [aup_n h0] | rw [aup_rn h8]))
                             · rw [aup_n h0]
                             · (repeat rw [aup_n (by omega)])
                             · have o8 := hR.2.2.2.2.2.1.2; have o0 := hR.1.2
                               (repeat rw [aup_rn (fun z => by rw [z] at hx; omega)])
                             · rw [aup_rn (by decide)]
                             · rw [aup_rn (by decide)]
                             · rw [aup_rn (by decide)]
                             · simp [aup])
                          | (refine ⟨rfl, _, rfl, XR.put (a := a) hR HY HL HN HS HP HF HX hv3 hv4 t0 t1 y1 y2 y3 y4 (fun x j h8 h0 => ?_) (fun x i h5 h0 => ?_) (fun i hi => ?_) (fun j u0 u1 => ?_) ?_⟩
                             · rw [aup_rn h8, aup_n h0]
                             · rw [aup_n h0, aup_rn h5]
                             · rw [aup_rn (by decide), aup_n (by omega)]
                             · by_cases z : j = b
                               · subst z
                                 rw [aup_s, aup_rn (by decide), aup_s, ctF_cu y1]
                               · rw [aup_n (by omega), aup_rn (TRY.rne hR t0 y4).1, aup_rn (by decide), aup_n (by omega)]
                                 exact y5 j u0 u1
                             · rw [aup_rn (fun z => (TRY.rne hR t0 y4).1 z.symm), aup_s, aup_s])
                  · first
                      | (exfalso; omega)
                      | skip
                        refine aK_i ?_
                        refine aw_zreturn dX7_write_40 rfl (by omega) ?_
                        first
                          | (exfalso; omega)
                          | (refine ⟨by first | rfl | (rw [aup_rn (show ct (2 + a) 0 ≠ 0 from fun z => by rw [z] at y4; have := hR.1.2; omega), aup_rn (by decide), y5 b j0 j1]), _, rfl, XR.try hR HY HL HN HS HP HF HX hv3 hv4 (fun x j h8 h0 _ => ?_) (fun x i _ _ _ h0 => ?_) (fun t t0 t1 => TRY.fr (HX.1 t t0 t1) ?_ (fun x j hx => ?_) ?_ ?_ (fun j j0 j1 => ?_)) ?_⟩
                             · (repeat (first | rw [aup_n h0] | rw [aup_rn h8]))
                             · rw [aup_n h0]
                             · (repeat rw [aup_n (by omega)])
                             · have o8 := hR.2.2.2.2.2.1.2; have o0 := hR.1.2
                               (repeat rw [aup_rn (fun z => by rw [z] at hx; omega)])
                             · rw [aup_rn (by decide)]
                             · rw [aup_rn (by decide)]
                             · rw [aup_rn (by decide)]
                             · simp [aup])
                          | (refine ⟨rfl, _, rfl, XR.put (a := a) hR HY HL HN HS HP HF HX hv3 hv4 t0 t1 y1 y2 y3 y4 (fun x j h8 h0 => ?_) (fun x i h5 h0 => ?_) (fun i hi => ?_) (fun j u0 u1 => ?_) ?_⟩
                             · rw [aup_rn h8, aup_n h0]
                             · rw [aup_n h0, aup_rn h5]
                             · rw [aup_rn (by decide), aup_n (by omega)]
                             · by_cases z : j = b
                               · subst z
                                 rw [aup_s, aup_rn (by decide), aup_s, ctF_cu y1]
                               · rw [aup_n (by omega), aup_rn (TRY.rne hR t0 y4).1, aup_rn (by decide), aup_n (by omega)]
                                 exact y5 j u0 u1
                             · rw [aup_rn (fun z => (TRY.rne hR t0 y4).1 z.symm), aup_s, aup_s])
      · first
          | (exfalso; omega)
          | skip
            refine aK_i ?_
            refine aw_istore5 dX7_write_6 (by decide) rfl ?_
            refine aw_iload dX7_write_8 rfl ?_
            refine aw_ifne (tgt := 34) dX7_write_10 (by decide) (fun h10 => ?_) (fun h10 => ?_)
            · first
                | (exfalso; omega)
                | skip
                  refine aw_aload_n dX7_write_34 rfl ?_
                  refine aw_iload dX7_write_35 rfl ?_
                  refine c_X7_79 rfl dX7_write_37 m_ob (Nat.le_of_ble_eq_true rfl) (by omega) (C_m_is (fun hz => ?_) (fun hz => ?_))
                  · first
                      | (exfalso; omega)
                      | skip
                        refine aK_i ?_
                        refine aw_zreturn dX7_write_40 rfl (by omega) ?_
                        first
                          | (exfalso; omega)
                          | (refine ⟨by first | rfl | (rw [aup_rn (show ct (2 + a) 0 ≠ 0 from fun z => by rw [z] at y4; have := hR.1.2; omega), aup_rn (by decide), y5 b j0 j1]), _, rfl, XR.try hR HY HL HN HS HP HF HX hv3 hv4 (fun x j h8 h0 _ => ?_) (fun x i _ _ _ h0 => ?_) (fun t t0 t1 => TRY.fr (HX.1 t t0 t1) ?_ (fun x j hx => ?_) ?_ ?_ (fun j j0 j1 => ?_)) ?_⟩
                             · (repeat (first | rw [aup_n h0] | rw [aup_rn h8]))
                             · rw [aup_n h0]
                             · (repeat rw [aup_n (by omega)])
                             · have o8 := hR.2.2.2.2.2.1.2; have o0 := hR.1.2
                               (repeat rw [aup_rn (fun z => by rw [z] at hx; omega)])
                             · rw [aup_rn (by decide)]
                             · rw [aup_rn (by decide)]
                             · rw [aup_rn (by decide)]
                             · simp [aup])
                          | (refine ⟨rfl, _, rfl, XR.put (a := a) hR HY HL HN HS HP HF HX hv3 hv4 t0 t1 y1 y2 y3 y4 (fun x j h8 h0 => ?_) (fun x i h5 h0 => ?_) (fun i hi => ?_) (fun j u0 u1 => ?_) ?_⟩
                             · rw [aup_rn h8, aup_n h0]
                             · rw [aup_n h0, aup_rn h5]
                             · rw [aup_rn (by decide), aup_n (by omega)]
                             · by_cases z : j = b
                               · subst z
                                 rw [aup_s, aup_rn (by decide), aup_s, ctF_cu y1]
                               · rw [aup_n (by omega), aup_rn (TRY.rne hR t0 y4).1, aup_rn (by decide), aup_n (by omega)]
                                 exact y5 j u0 u1
                             · rw [aup_rn (fun z => (TRY.rne hR t0 y4).1 z.symm), aup_s, aup_s])
                  · first
                      | (exfalso; omega)
                      | skip
                        refine aK_i ?_
                        refine aw_zreturn dX7_write_40 rfl (by omega) ?_
                        first
                          | (exfalso; omega)
                          | (refine ⟨by first | rfl | (rw [aup_rn (show ct (2 + a) 0 ≠ 0 from fun z => by rw [z] at y4; have := hR.1.2; omega), aup_rn (by decide), y5 b j0 j1]), _, rfl, XR.try hR HY HL HN HS HP HF HX hv3 hv4 (fun x j h8 h0 _ => ?_) (fun x i _ _ _ h0 => ?_) (fun t t0 t1 => TRY.fr (HX.1 t t0 t1) ?_ (fun x j hx => ?_) ?_ ?_ (fun j j0 j1 => ?_)) ?_⟩
                             · (repeat (first | rw [aup_n h0] | rw [aup_rn h8]))
                             · rw [aup_n h0]
                             · (repeat rw [aup_n (by omega)])
                             · have o8 := hR.2.2.2.2.2.1.2; have o0 := hR.1.2
                               (repeat rw [aup_rn (fun z => by rw [z] at hx; omega)])
                             · rw [aup_rn (by decide)]
                             · rw [aup_rn (by decide)]
                             · rw [aup_rn (by decide)]
                             · simp [aup])
                          | (refine ⟨rfl, _, rfl, XR.put (a := a) hR HY HL HN HS HP HF HX hv3 hv4 t0 t1 y1 y2 y3 y4 (fun x j h8 h0 => ?_) (fun x i h5 h0 => ?_) (fun i hi => ?_) (fun j u0 u1 => ?_) ?_⟩
                             · rw [aup_rn h8, aup_n h0]
                             · rw [aup_n h0, aup_rn h5]
                             · rw [aup_rn (by decide), aup_n (by omega)]
                             · by_cases z : j = b
                               · subst z
                                 rw [aup_s, aup_rn (by decide), aup_s, ctF_cu y1]
                               · rw [aup_n (by omega), aup_rn (TRY.rne hR t0 y4).1, aup_rn (by decide), aup_n (by omega)]
                                 exact y5 j u0 u1
                             · rw [aup_rn (fun z => (TRY.rne hR t0 y4).1 z.symm), aup_s, aup_s])
            · first
                | (exfalso; omega)
                | skip
                  refine gm_27 rfl dX7_write_13 dX7_write_14 rfl ?_
                  refine aw_bipush dX7_write_17 (by decide) ?_
                  refine aw_iload_n dX7_write_19 rfl ?_
                  refine aw_imulr dX7_write_20 (by omega) ?_
                  refine aw_iload_n dX7_write_21 rfl ?_
                  refine aw_iaddr dX7_write_22 (by omega) ?_
                  refine aw_lload_n dX7_write_23 rfl ?_
                  refine gm_21 rfl dX7_write_24 dX7_write_25 rfl ?_
                  refine aw_iload_n dX7_write_28 rfl ?_
                  refine aw_iaload dX7_write_29 m_a3 (by omega) (by omega) ?_
                  refine c_X7_90 rfl dX7_write_30  (Nat.le_of_ble_eq_true rfl) (by omega) (C_m_cut ?_)
                  refine aK_i ?_
                  refine aw_lastore dX7_write_33 m_a5 (by omega) (by omega) ?_
                  refine aw_aload_n dX7_write_34 rfl ?_
                  refine aw_iload dX7_write_35 rfl ?_
                  refine c_X7_79 rfl dX7_write_37 m_ob (Nat.le_of_ble_eq_true rfl) (by omega) (C_m_is (fun hz => ?_) (fun hz => ?_))
                  · first
                      | (exfalso; omega)
                      | skip
                        refine aK_i ?_
                        refine aw_zreturn dX7_write_40 rfl (by omega) ?_
                        first
                          | (exfalso; omega)
                          | (refine ⟨by first | rfl | (rw [aup_rn (show ct (2 + a) 0 ≠ 0 from fun z => by rw [z] at y4; have := hR.1.2; omega), aup_rn (by decide), y5 b j0 j1]), _, rfl, XR.try hR HY HL HN HS HP HF HX hv3 hv4 (fun x j h8 h0 _ => ?_) (fun x i _ _ _ h0 => ?_) (fun t t0 t1 => TRY.fr (HX.1 t t0 t1) ?_ (fun x j hx => ?_) ?_ ?_ (fun j j0 j1 => ?_)) ?_⟩
                             · (repeat (first | rw [aup_n h0] | rw [aup_rn h8]))
                             · rw [aup_n h0]
                             · (repeat rw [aup_n (by omega)])
                             · have o8 := hR.2.2.2.2.2.1.2; have o0 := hR.1.2
                               (repeat rw [aup_rn (fun z => by rw [z] at hx; omega)])
                             · rw [aup_rn (by decide)]
                             · rw [aup_rn (by decide)]
                             · rw [aup_rn (by decide)]
                             · simp [aup])
                          | (refine ⟨rfl, _, rfl, XR.put (a := a) hR HY HL HN HS HP HF HX hv3 hv4 t0 t1 y1 y2 y3 y4 (fun x j h8 h0 => ?_) (fun x i h5 h0 => ?_) (fun i hi => ?_) (fun j u0 u1 => ?_) ?_⟩
                             · rw [aup_rn h8, aup_n h0]
                             · rw [aup_n h0, aup_rn h5]
                             · rw [aup_rn (by decide), aup_n (by omega)]
                             · by_cases z : j = b
                               · subst z
                                 rw [aup_s, aup_rn (by decide), aup_s, ctF_cu y1]
                               · rw [aup_n (by omega), aup_rn (TRY.rne hR t0 y4).1, aup_rn (by decide), aup_n (by omega)]
                                 exact y5 j u0 u1
                             · rw [aup_rn (fun z => (TRY.rne hR t0 y4).1 z.symm), aup_s, aup_s])
                  · first
                      | (exfalso; omega)
                      | skip
                        refine aK_i ?_
                        refine aw_zreturn dX7_write_40 rfl (by omega) ?_
                        first
                          | (exfalso; omega)
                          | (refine ⟨by first | rfl | (rw [aup_rn (show ct (2 + a) 0 ≠ 0 from fun z => by rw [z] at y4; have := hR.1.2; omega), aup_rn (by decide), y5 b j0 j1]), _, rfl, XR.try hR HY HL HN HS HP HF HX hv3 hv4 (fun x j h8 h0 _ => ?_) (fun x i _ _ _ h0 => ?_) (fun t t0 t1 => TRY.fr (HX.1 t t0 t1) ?_ (fun x j hx => ?_) ?_ ?_ (fun j j0 j1 => ?_)) ?_⟩
                             · (repeat (first | rw [aup_n h0] | rw [aup_rn h8]))
                             · rw [aup_n h0]
                             · (repeat rw [aup_n (by omega)])
                             · have o8 := hR.2.2.2.2.2.1.2; have o0 := hR.1.2
                               (repeat rw [aup_rn (fun z => by rw [z] at hx; omega)])
                             · rw [aup_rn (by decide)]
                             · rw [aup_rn (by decide)]
                             · rw [aup_rn (by decide)]
                             · simp [aup])
                          | (refine ⟨rfl, _, rfl, XR.put (a := a) hR HY HL HN HS HP HF HX hv3 hv4 t0 t1 y1 y2 y3 y4 (fun x j h8 h0 => ?_) (fun x i h5 h0 => ?_) (fun i hi => ?_) (fun j u0 u1 => ?_) ?_⟩
                             · rw [aup_rn h8, aup_n h0]
                             · rw [aup_n h0, aup_rn h5]
                             · rw [aup_rn (by decide), aup_n (by omega)]
                             · by_cases z : j = b
                               · subst z
                                 rw [aup_s, aup_rn (by decide), aup_s, ctF_cu y1]
                               · rw [aup_n (by omega), aup_rn (TRY.rne hR t0 y4).1, aup_rn (by decide), aup_n (by omega)]
                                 exact y5 j u0 u1
                             · rw [aup_rn (fun z => (TRY.rne hR t0 y4).1 z.symm), aup_s, aup_s])
      · first
          | (exfalso; omega)
          | skip
            refine aK_i ?_
            refine aw_istore5 dX7_write_6 (by decide) rfl ?_
            refine aw_iload dX7_write_8 rfl ?_
            refine aw_ifne (tgt := 34) dX7_write_10 (by decide) (fun h10 => ?_) (fun h10 => ?_)
            · first
                | (exfalso; omega)
                | skip
                  refine aw_aload_n dX7_write_34 rfl ?_
                  refine aw_iload dX7_write_35 rfl ?_
                  refine c_X7_79 rfl dX7_write_37 m_ob (Nat.le_of_ble_eq_true rfl) (by omega) (C_m_is (fun hz => ?_) (fun hz => ?_))
                  · first
                      | (exfalso; omega)
                      | skip
                        refine aK_i ?_
                        refine aw_zreturn dX7_write_40 rfl (by omega) ?_
                        first
                          | (exfalso; omega)
                          | (refine ⟨by first | rfl | (rw [aup_rn (show ct (2 + a) 0 ≠ 0 from fun z => by rw [z] at y4; have := hR.1.2; omega), aup_rn (by decide), y5 b j0 j1]), _, rfl, XR.try hR HY HL HN HS HP HF HX hv3 hv4 (fun x j h8 h0 _ => ?_) (fun x i _ _ _ h0 => ?_) (fun t t0 t1 => TRY.fr (HX.1 t t0 t1) ?_ (fun x j hx => ?_) ?_ ?_ (fun j j0 j1 => ?_)) ?_⟩
                             · (repeat (first | rw [aup_n h0] | rw [aup_rn h8]))
                             · rw [aup_n h0]
                             · (repeat rw [aup_n (by omega)])
                             · have o8 := hR.2.2.2.2.2.1.2; have o0 := hR.1.2
                               (repeat rw [aup_rn (fun z => by rw [z] at hx; omega)])
                             · rw [aup_rn (by decide)]
                             · rw [aup_rn (by decide)]
                             · rw [aup_rn (by decide)]
                             · simp [aup])
                          | (refine ⟨rfl, _, rfl, XR.put (a := a) hR HY HL HN HS HP HF HX hv3 hv4 t0 t1 y1 y2 y3 y4 (fun x j h8 h0 => ?_) (fun x i h5 h0 => ?_) (fun i hi => ?_) (fun j u0 u1 => ?_) ?_⟩
                             · rw [aup_rn h8, aup_n h0]
                             · rw [aup_n h0, aup_rn h5]
                             · rw [aup_rn (by decide), aup_n (by omega)]
                             · by_cases z : j = b
                               · subst z
                                 rw [aup_s, aup_rn (by decide), aup_s, ctF_cu y1]
                               · rw [aup_n (by omega), aup_rn (TRY.rne hR t0 y4).1, aup_rn (by decide), aup_n (by omega)]
                                 exact y5 j u0 u1
                             · rw [aup_rn (fun z => (TRY.rne hR t0 y4).1 z.symm), aup_s, aup_s])
                  · first
                      | (exfalso; omega)
                      | skip
                        refine aK_i ?_
                        refine aw_zreturn dX7_write_40 rfl (by omega) ?_
                        first
                          | (exfalso; omega)
                          | (refine ⟨by first | rfl | (rw [aup_rn (show ct (2 + a) 0 ≠ 0 from fun z => by rw [z] at y4; have := hR.1.2; omega), aup_rn (by decide), y5 b j0 j1]), _, rfl, XR.try hR HY HL HN HS HP HF HX hv3 hv4 (fun x j h8 h0 _ => ?_) (fun x i _ _ _ h0 => ?_) (fun t t0 t1 => TRY.fr (HX.1 t t0 t1) ?_ (fun x j hx => ?_) ?_ ?_ (fun j j0 j1 => ?_)) ?_⟩
                             · (repeat (first | rw [aup_n h0] | rw [aup_rn h8]))
                             · rw [aup_n h0]
                             · (repeat rw [aup_n (by omega)])
                             · have o8 := hR.2.2.2.2.2.1.2; have o0 := hR.1.2
                               (repeat rw [aup_rn (fun z => by rw [z] at hx; omega)])
                             · rw [aup_rn (by decide)]
                             · rw [aup_rn (by decide)]
                             · rw [aup_rn (by decide)]
                             · simp [aup])
                          | (refine ⟨rfl, _, rfl, XR.put (a := a) hR HY HL HN HS HP HF HX hv3 hv4 t0 t1 y1 y2 y3 y4 (fun x j h8 h0 => ?_) (fun x i h5 h0 => ?_) (fun i hi => ?_) (fun j u0 u1 => ?_) ?_⟩
                             · rw [aup_rn h8, aup_n h0]
                             · rw [aup_n h0, aup_rn h5]
                             · rw [aup_rn (by decide), aup_n (by omega)]
                             · by_cases z : j = b
                               · subst z
                                 rw [aup_s, aup_rn (by decide), aup_s, ctF_cu y1]
                               · rw [aup_n (by omega), aup_rn (TRY.rne hR t0 y4).1, aup_rn (by decide), aup_n (by omega)]
                                 exact y5 j u0 u1
                             · rw [aup_rn (fun z => (TRY.rne hR t0 y4).1 z.symm), aup_s, aup_s])
            · first
                | (exfalso; omega)
                | skip
                  refine gm_27 rfl dX7_write_13 dX7_write_14 rfl ?_
                  refine aw_bipush dX7_write_17 (by decide) ?_
                  refine aw_iload_n dX7_write_19 rfl ?_
                  refine aw_imulr dX7_write_20 (by omega) ?_
                  refine aw_iload_n dX7_write_21 rfl ?_
                  refine aw_iaddr dX7_write_22 (by omega) ?_
                  refine aw_lload_n dX7_write_23 rfl ?_
                  refine gm_21 rfl dX7_write_24 dX7_write_25 rfl ?_
                  refine aw_iload_n dX7_write_28 rfl ?_
                  refine aw_iaload dX7_write_29 m_a3 (by omega) (by omega) ?_
                  refine c_X7_90 rfl dX7_write_30  (Nat.le_of_ble_eq_true rfl) (by omega) (C_m_cut ?_)
                  refine aK_i ?_
                  refine aw_lastore dX7_write_33 m_a5 (by omega) (by omega) ?_
                  refine aw_aload_n dX7_write_34 rfl ?_
                  refine aw_iload dX7_write_35 rfl ?_
                  refine c_X7_79 rfl dX7_write_37 m_ob (Nat.le_of_ble_eq_true rfl) (by omega) (C_m_is (fun hz => ?_) (fun hz => ?_))
                  · first
                      | (exfalso; omega)
                      | skip
                        refine aK_i ?_
                        refine aw_zreturn dX7_write_40 rfl (by omega) ?_
                        first
                          | (exfalso; omega)
                          | (refine ⟨by first | rfl | (rw [aup_rn (show ct (2 + a) 0 ≠ 0 from fun z => by rw [z] at y4; have := hR.1.2; omega), aup_rn (by decide), y5 b j0 j1]), _, rfl, XR.try hR HY HL HN HS HP HF HX hv3 hv4 (fun x j h8 h0 _ => ?_) (fun x i _ _ _ h0 => ?_) (fun t t0 t1 => TRY.fr (HX.1 t t0 t1) ?_ (fun x j hx => ?_) ?_ ?_ (fun j j0 j1 => ?_)) ?_⟩
                             · (repeat (first | rw [aup_n h0] | rw [aup_rn h8]))
                             · rw [aup_n h0]
                             · (repeat rw [aup_n (by omega)])
                             · have o8 := hR.2.2.2.2.2.1.2; have o0 := hR.1.2
                               (repeat rw [aup_rn (fun z => by rw [z] at hx; omega)])
                             · rw [aup_rn (by decide)]
                             · rw [aup_rn (by decide)]
                             · rw [aup_rn (by decide)]
                             · simp [aup])
                          | (refine ⟨rfl, _, rfl, XR.put (a := a) hR HY HL HN HS HP HF HX hv3 hv4 t0 t1 y1 y2 y3 y4 (fun x j h8 h0 => ?_) (fun x i h5 h0 => ?_) (fun i hi => ?_) (fun j u0 u1 => ?_) ?_⟩
                             · rw [aup_rn h8, aup_n h0]
                             · rw [aup_n h0, aup_rn h5]
                             · rw [aup_rn (by decide), aup_n (by omega)]
                             · by_cases z : j = b
                               · subst z
                                 rw [aup_s, aup_rn (by decide), aup_s, ctF_cu y1]
                               · rw [aup_n (by omega), aup_rn (TRY.rne hR t0 y4).1, aup_rn (by decide), aup_n (by omega)]
                                 exact y5 j u0 u1
                             · rw [aup_rn (fun z => (TRY.rne hR t0 y4).1 z.symm), aup_s, aup_s])
                  · first
                      | (exfalso; omega)
                      | skip
                        refine aK_i ?_
                        refine aw_zreturn dX7_write_40 rfl (by omega) ?_
                        first
                          | (exfalso; omega)
                          | (refine ⟨by first | rfl | (rw [aup_rn (show ct (2 + a) 0 ≠ 0 from fun z => by rw [z] at y4; have := hR.1.2; omega), aup_rn (by decide), y5 b j0 j1]), _, rfl, XR.try hR HY HL HN HS HP HF HX hv3 hv4 (fun x j h8 h0 _ => ?_) (fun x i _ _ _ h0 => ?_) (fun t t0 t1 => TRY.fr (HX.1 t t0 t1) ?_ (fun x j hx => ?_) ?_ ?_ (fun j j0 j1 => ?_)) ?_⟩
                             · (repeat (first | rw [aup_n h0] | rw [aup_rn h8]))
                             · rw [aup_n h0]
                             · (repeat rw [aup_n (by omega)])
                             · have o8 := hR.2.2.2.2.2.1.2; have o0 := hR.1.2
                               (repeat rw [aup_rn (fun z => by rw [z] at hx; omega)])
                             · rw [aup_rn (by decide)]
                             · rw [aup_rn (by decide)]
                             · rw [aup_rn (by decide)]
                             · simp [aup])
                          | (refine ⟨rfl, _, rfl, XR.put (a := a) hR HY HL HN HS HP HF HX hv3 hv4 t0 t1 y1 y2 y3 y4 (fun x j h8 h0 => ?_) (fun x i h5 h0 => ?_) (fun i hi => ?_) (fun j u0 u1 => ?_) ?_⟩
                             · rw [aup_rn h8, aup_n h0]
                             · rw [aup_n h0, aup_rn h5]
                             · rw [aup_rn (by decide), aup_n (by omega)]
                             · by_cases z : j = b
                               · subst z
                                 rw [aup_s, aup_rn (by decide), aup_s, ctF_cu y1]
                               · rw [aup_n (by omega), aup_rn (TRY.rne hR t0 y4).1, aup_rn (by decide), aup_n (by omega)]
                                 exact y5 j u0 u1
                             · rw [aup_rn (fun z => (TRY.rne hR t0 y4).1 z.symm), aup_s, aup_s])
    · refine aK_x (ax_catch (E := 3) (pre := []) (z := { startPc := 5, endPc := 16, handlerPc := 17, catchType := 123 }) (suf := [{ startPc := 5, endPc := 16, handlerPc := 26, catchType := 41 }]) rfl (fun y hy => by cases hy) rfl (by decide) q493 q508 ?_)
      refine aw_astore5 dX0_write_17 (by decide) rfl ?_
      refine aw_aload_n dX0_write_19 rfl ?_
      refine aw_iconst dX0_write_20 (by decide) ?_
      refine p_X0_73_0 rfl dX0_write_21 hR.o0 ?_
      refine aw_iconst dX0_write_24 (by decide) ?_
      refine aw_zreturn dX0_write_25 rfl (Or.inl rfl) ?_
      refine ⟨_, rfl, ?_⟩
      refine AMet.go (L := [some (vR 0), some (vI a), some (vI b), some (vL v), none, none]) mok_X7_write (Nat.le_of_ble_eq_true rfl) rfl ?_
      refine aw_aload_n dX7_write_0 rfl ?_
      refine aw_iload_n dX7_write_1 rfl ?_
      refine aw_iload_n dX7_write_2 rfl ?_
      refine c_X7_86 rfl dX7_write_3 m_ob (Nat.le_of_ble_eq_true rfl) (by omega) (C_m_wrongPlace (fun m1 => ?_) (fun m1 m2 m3 => ?_) (fun m1 m2 m3 m4 => ?_) (fun m1 m2 m3 m4 m5 => ?_))
      · first
          | (exfalso; omega)
          | skip
            refine aK_i ?_
            refine aw_istore5 dX7_write_6 (by decide) rfl ?_
            refine aw_iload dX7_write_8 rfl ?_
            refine aw_ifne (tgt := 34) dX7_write_10 (by decide) (fun h10 => ?_) (fun h10 => ?_)
            · first
                | (exfalso; omega)
                | skip
                  refine aw_aload_n dX7_write_34 rfl ?_
                  refine aw_iload dX7_write_35 rfl ?_
                  refine c_X7_79 rfl dX7_write_37 m_ob (Nat.le_of_ble_eq_true rfl) (by omega) (C_m_is (fun hz => ?_) (fun hz => ?_))
                  · first
                      | (exfalso; omega)
                      | skip
                        refine aK_i ?_
                        refine aw_zreturn dX7_write_40 rfl (by omega) ?_
                        first
                          | (exfalso; omega)
                          | (refine ⟨by first | rfl | (rw [aup_rn (show ct (2 + a) 0 ≠ 0 from fun z => by rw [z] at y4; have := hR.1.2; omega), aup_rn (by decide), y5 b j0 j1]), _, rfl, XR.try hR HY HL HN HS HP HF HX hv3 hv4 (fun x j h8 h0 _ => ?_) (fun x i _ _ _ h0 => ?_) (fun t t0 t1 => TRY.fr (HX.1 t t0 t1) ?_ (fun x j hx => ?_) ?_ ?_ (fun j j0 j1 => ?_)) ?_⟩
                             · (repeat (first | rw [aup_n h0] | rw [aup_rn h8]))
                             · rw [aup_n h0]
                             · (repeat rw [aup_n (by omega)])
                             · have o8 := hR.2.2.2.2.2.1.2; have o0 := hR.1.2
                               (repeat rw [aup_rn (fun z => by rw [z] at hx; omega)])
                             · rw [aup_rn (by decide)]
                             · rw [aup_rn (by decide)]
                             · rw [aup_rn (by decide)]
                             · simp [aup])
                          | (refine ⟨rfl, _, rfl, XR.put (a := a) hR HY HL HN HS HP HF HX hv3 hv4 t0 t1 y1 y2 y3 y4 (fun x j h8 h0 => ?_) (fun x i h5 h0 => ?_) (fun i hi => ?_) (fun j u0 u1 => ?_) ?_⟩
                             · rw [aup_rn h8, aup_n h0]
                             · rw [aup_n h0, aup_rn h5]
                             · rw [aup_rn (by decide), aup_n (by omega)]
                             · by_cases z : j = b
                               · subst z
                                 rw [aup_s, aup_rn (by decide), aup_s, ctF_cu y1]
                               · rw [aup_n (by omega), aup_rn (TRY.rne hR t0 y4).1, aup_rn (by decide), aup_n (by omega)]
                                 exact y5 j u0 u1
                             · rw [aup_rn (fun z => (TRY.rne hR t0 y4).1 z.symm), aup_s, aup_s])
                  · first
                      | (exfalso; omega)
                      | skip
                        refine aK_i ?_
                        refine aw_zreturn dX7_write_40 rfl (by omega) ?_
                        first
                          | (exfalso; omega)
                          | (refine ⟨by first | rfl | (rw [aup_rn (show ct (2 + a) 0 ≠ 0 from fun z => by rw [z] at y4; have := hR.1.2; omega), aup_rn (by decide), y5 b j0 j1]), _, rfl, XR.try hR HY HL HN HS HP HF HX hv3 hv4 (fun x j h8 h0 _ => ?_) (fun x i _ _ _ h0 => ?_) (fun t t0 t1 => TRY.fr (HX.1 t t0 t1) ?_ (fun x j hx => ?_) ?_ ?_ (fun j j0 j1 => ?_)) ?_⟩
                             · (repeat (first | rw [aup_n h0] | rw [aup_rn h8]))
                             · rw [aup_n h0]
                             · (repeat rw [aup_n (by omega)])
                             · have o8 := hR.2.2.2.2.2.1.2; have o0 := hR.1.2
                               (repeat rw [aup_rn (fun z => by rw [z] at hx; omega)])
                             · rw [aup_rn (by decide)]
                             · rw [aup_rn (by decide)]
                             · rw [aup_rn (by decide)]
                             · simp [aup])
                          | (refine ⟨rfl, _, rfl, XR.put (a := a) hR HY HL HN HS HP HF HX hv3 hv4 t0 t1 y1 y2 y3 y4 (fun x j h8 h0 => ?_) (fun x i h5 h0 => ?_) (fun i hi => ?_) (fun j u0 u1 => ?_) ?_⟩
                             · rw [aup_rn h8, aup_n h0]
                             · rw [aup_n h0, aup_rn h5]
                             · rw [aup_rn (by decide), aup_n (by omega)]
                             · by_cases z : j = b
                               · subst z
                                 rw [aup_s, aup_rn (by decide), aup_s, ctF_cu y1]
                               · rw [aup_n (by omega), aup_rn (TRY.rne hR t0 y4).1, aup_rn (by decide), aup_n (by omega)]
                                 exact y5 j u0 u1
                             · rw [aup_rn (fun z => (TRY.rne hR t0 y4).1 z.symm), aup_s, aup_s])
            · first
                | (exfalso; omega)
                | skip
                  refine gm_27 rfl dX7_write_13 dX7_write_14 rfl ?_
                  refine aw_bipush dX7_write_17 (by decide) ?_
                  refine aw_iload_n dX7_write_19 rfl ?_
                  refine aw_imulr dX7_write_20 (by omega) ?_
                  refine aw_iload_n dX7_write_21 rfl ?_
                  refine aw_iaddr dX7_write_22 (by omega) ?_
                  refine aw_lload_n dX7_write_23 rfl ?_
                  refine gm_21 rfl dX7_write_24 dX7_write_25 rfl ?_
                  refine aw_iload_n dX7_write_28 rfl ?_
                  refine aw_iaload dX7_write_29 m_a3 (by omega) (by omega) ?_
                  refine c_X7_90 rfl dX7_write_30  (Nat.le_of_ble_eq_true rfl) (by omega) (C_m_cut ?_)
                  refine aK_i ?_
                  refine aw_lastore dX7_write_33 m_a5 (by omega) (by omega) ?_
                  refine aw_aload_n dX7_write_34 rfl ?_
                  refine aw_iload dX7_write_35 rfl ?_
                  refine c_X7_79 rfl dX7_write_37 m_ob (Nat.le_of_ble_eq_true rfl) (by omega) (C_m_is (fun hz => ?_) (fun hz => ?_))
                  · first
                      | (exfalso; omega)
                      | skip
                        refine aK_i ?_
                        refine aw_zreturn dX7_write_40 rfl (by omega) ?_
                        first
                          | (exfalso; omega)
                          | (refine ⟨by first | rfl | (rw [aup_rn (show ct (2 + a) 0 ≠ 0 from fun z => by rw [z] at y4; have := hR.1.2; omega), aup_rn (by decide), y5 b j0 j1]), _, rfl, XR.try hR HY HL HN HS HP HF HX hv3 hv4 (fun x j h8 h0 _ => ?_) (fun x i _ _ _ h0 => ?_) (fun t t0 t1 => TRY.fr (HX.1 t t0 t1) ?_ (fun x j hx => ?_) ?_ ?_ (fun j j0 j1 => ?_)) ?_⟩
                             · (repeat (first | rw [aup_n h0] | rw [aup_rn h8]))
                             · rw [aup_n h0]
                             · (repeat rw [aup_n (by omega)])
                             · have o8 := hR.2.2.2.2.2.1.2; have o0 := hR.1.2
                               (repeat rw [aup_rn (fun z => by rw [z] at hx; omega)])
                             · rw [aup_rn (by decide)]
                             · rw [aup_rn (by decide)]
                             · rw [aup_rn (by decide)]
                             · simp [aup])
                          | (refine ⟨rfl, _, rfl, XR.put (a := a) hR HY HL HN HS HP HF HX hv3 hv4 t0 t1 y1 y2 y3 y4 (fun x j h8 h0 => ?_) (fun x i h5 h0 => ?_) (fun i hi => ?_) (fun j u0 u1 => ?_) ?_⟩
                             · rw [aup_rn h8, aup_n h0]
                             · rw [aup_n h0, aup_rn h5]
                             · rw [aup_rn (by decide), aup_n (by omega)]
                             · by_cases z : j = b
                               · subst z
                                 rw [aup_s, aup_rn (by decide), aup_s, ctF_cu y1]
                               · rw [aup_n (by omega), aup_rn (TRY.rne hR t0 y4).1, aup_rn (by decide), aup_n (by omega)]
                                 exact y5 j u0 u1
                             · rw [aup_rn (fun z => (TRY.rne hR t0 y4).1 z.symm), aup_s, aup_s])
                  · first
                      | (exfalso; omega)
                      | skip
                        refine aK_i ?_
                        refine aw_zreturn dX7_write_40 rfl (by omega) ?_
                        first
                          | (exfalso; omega)
                          | (refine ⟨by first | rfl | (rw [aup_rn (show ct (2 + a) 0 ≠ 0 from fun z => by rw [z] at y4; have := hR.1.2; omega), aup_rn (by decide), y5 b j0 j1]), _, rfl, XR.try hR HY HL HN HS HP HF HX hv3 hv4 (fun x j h8 h0 _ => ?_) (fun x i _ _ _ h0 => ?_) (fun t t0 t1 => TRY.fr (HX.1 t t0 t1) ?_ (fun x j hx => ?_) ?_ ?_ (fun j j0 j1 => ?_)) ?_⟩
                             · (repeat (first | rw [aup_n h0] | rw [aup_rn h8]))
                             · rw [aup_n h0]
                             · (repeat rw [aup_n (by omega)])
                             · have o8 := hR.2.2.2.2.2.1.2; have o0 := hR.1.2
                               (repeat rw [aup_rn (fun z => by rw [z] at hx; omega)])
                             · rw [aup_rn (by decide)]
                             · rw [aup_rn (by decide)]
                             · rw [aup_rn (by decide)]
                             · simp [aup])
                          | (refine ⟨rfl, _, rfl, XR.put (a := a) hR HY HL HN HS HP HF HX hv3 hv4 t0 t1 y1 y2 y3 y4 (fun x j h8 h0 => ?_) (fun x i h5 h0 => ?_) (fun i hi => ?_) (fun j u0 u1 => ?_) ?_⟩
                             · rw [aup_rn h8, aup_n h0]
                             · rw [aup_n h0, aup_rn h5]
                             · rw [aup_rn (by decide), aup_n (by omega)]
                             · by_cases z : j = b
                               · subst z
                                 rw [aup_s, aup_rn (by decide), aup_s, ctF_cu y1]
                               · rw [aup_n (by omega), aup_rn (TRY.rne hR t0 y4).1, aup_rn (by decide), aup_n (by omega)]
                                 exact y5 j u0 u1
                             · rw [aup_rn (fun z => (TRY.rne hR t0 y4).1 z.symm), aup_s, aup_s])
      · first
          | (exfalso; omega)
          | skip
            refine aK_i ?_
            refine aw_istore5 dX7_write_6 (by decide) rfl ?_
            refine aw_iload dX7_write_8 rfl ?_
            refine aw_ifne (tgt := 34) dX7_write_10 (by decide) (fun h10 => ?_) (fun h10 => ?_)
            · first
                | (exfalso; omega)
                | skip
                  refine aw_aload_n dX7_write_34 rfl ?_
                  refine aw_iload dX7_write_35 rfl ?_
                  refine c_X7_79 rfl dX7_write_37 m_ob (Nat.le_of_ble_eq_true rfl) (by omega) (C_m_is (fun hz => ?_) (fun hz => ?_))
                  · first
                      | (exfalso; omega)
                      | skip
                        refine aK_i ?_
                        refine aw_zreturn dX7_write_40 rfl (by omega) ?_
                        first
                          | (exfalso; omega)
                          | (refine ⟨by first | rfl | (rw [aup_rn (show ct (2 + a) 0 ≠ 0 from fun z => by rw [z] at y4; have := hR.1.2; omega), aup_rn (by decide), y5 b j0 j1]), _, rfl, XR.try hR HY HL HN HS HP HF HX hv3 hv4 (fun x j h8 h0 _ => ?_) (fun x i _ _ _ h0 => ?_) (fun t t0 t1 => TRY.fr (HX.1 t t0 t1) ?_ (fun x j hx => ?_) ?_ ?_ (fun j j0 j1 => ?_)) ?_⟩
                             · (repeat (first | rw [aup_n h0] | rw [aup_rn h8]))
                             · rw [aup_n h0]
                             · (repeat rw [aup_n (by omega)])
                             · have o8 := hR.2.2.2.2.2.1.2; have o0 := hR.1.2
                               (repeat rw [aup_rn (fun z => by rw [z] at hx; omega)])
                             · rw [aup_rn (by decide)]
                             · rw [aup_rn (by decide)]
                             · rw [aup_rn (by decide)]
                             · simp [aup])
                          | (refine ⟨rfl, _, rfl, XR.put (a := a) hR HY HL HN HS HP HF HX hv3 hv4 t0 t1 y1 y2 y3 y4 (fun x j h8 h0 => ?_) (fun x i h5 h0 => ?_) (fun i hi => ?_) (fun j u0 u1 => ?_) ?_⟩
                             · rw [aup_rn h8, aup_n h0]
                             · rw [aup_n h0, aup_rn h5]
                             · rw [aup_rn (by decide), aup_n (by omega)]
                             · by_cases z : j = b
                               · subst z
                                 rw [aup_s, aup_rn (by decide), aup_s, ctF_cu y1]
                               · rw [aup_n (by omega), aup_rn (TRY.rne hR t0 y4).1, aup_rn (by decide), aup_n (by omega)]
                                 exact y5 j u0 u1
                             · rw [aup_rn (fun z => (TRY.rne hR t0 y4).1 z.symm), aup_s, aup_s])
                  · first
                      | (exfalso; omega)
                      | skip
                        refine aK_i ?_
                        refine aw_zreturn dX7_write_40 rfl (by omega) ?_
                        first
                          | (exfalso; omega)
                          | (refine ⟨by first | rfl | (rw [aup_rn (show ct (2 + a) 0 ≠ 0 from fun z => by rw [z] at y4; have := hR.1.2; omega), aup_rn (by decide), y5 b j0 j1]), _, rfl, XR.try hR HY HL HN HS HP HF HX hv3 hv4 (fun x j h8 h0 _ => ?_) (fun x i _ _ _ h0 => ?_) (fun t t0 t1 => TRY.fr (HX.1 t t0 t1) ?_ (fun x j hx => ?_) ?_ ?_ (fun j j0 j1 => ?_)) ?_⟩
                             · (repeat (first | rw [aup_n h0] | rw [aup_rn h8]))
                             · rw [aup_n h0]
                             · (repeat rw [aup_n (by omega)])
                             · have o8 := hR.2.2.2.2.2.1.2; have o0 := hR.1.2
                               (repeat rw [aup_rn (fun z => by rw [z] at hx; omega)])
                             · rw [aup_rn (by decide)]
                             · rw [aup_rn (by decide)]
                             · rw [aup_rn (by decide)]
                             · simp [aup])
                          | (refine ⟨rfl, _, rfl, XR.put (a := a) hR HY HL HN HS HP HF HX hv3 hv4 t0 t1 y1 y2 y3 y4 (fun x j h8 h0 => ?_) (fun x i h5 h0 => ?_) (fun i hi => ?_) (fun j u0 u1 => ?_) ?_⟩
                             · rw [aup_rn h8, aup_n h0]
                             · rw [aup_n h0, aup_rn h5]
                             · rw [aup_rn (by decide), aup_n (by omega)]
                             · by_cases z : j = b
                               · subst z
                                 rw [aup_s, aup_rn (by decide), aup_s, ctF_cu y1]
                               · rw [aup_n (by omega), aup_rn (TRY.rne hR t0 y4).1, aup_rn (by decide), aup_n (by omega)]
                                 exact y5 j u0 u1
                             · rw [aup_rn (fun z => (TRY.rne hR t0 y4).1 z.symm), aup_s, aup_s])
            · first
                | (exfalso; omega)
                | skip
                  refine gm_27 rfl dX7_write_13 dX7_write_14 rfl ?_
                  refine aw_bipush dX7_write_17 (by decide) ?_
                  refine aw_iload_n dX7_write_19 rfl ?_
                  refine aw_imulr dX7_write_20 (by omega) ?_
                  refine aw_iload_n dX7_write_21 rfl ?_
                  refine aw_iaddr dX7_write_22 (by omega) ?_
                  refine aw_lload_n dX7_write_23 rfl ?_
                  refine gm_21 rfl dX7_write_24 dX7_write_25 rfl ?_
                  refine aw_iload_n dX7_write_28 rfl ?_
                  refine aw_iaload dX7_write_29 m_a3 (by omega) (by omega) ?_
                  refine c_X7_90 rfl dX7_write_30  (Nat.le_of_ble_eq_true rfl) (by omega) (C_m_cut ?_)
                  refine aK_i ?_
                  refine aw_lastore dX7_write_33 m_a5 (by omega) (by omega) ?_
                  refine aw_aload_n dX7_write_34 rfl ?_
                  refine aw_iload dX7_write_35 rfl ?_
                  refine c_X7_79 rfl dX7_write_37 m_ob (Nat.le_of_ble_eq_true rfl) (by omega) (C_m_is (fun hz => ?_) (fun hz => ?_))
                  · first
                      | (exfalso; omega)
                      | skip
                        refine aK_i ?_
                        refine aw_zreturn dX7_write_40 rfl (by omega) ?_
                        first
                          | (exfalso; omega)
                          | (refine ⟨by first | rfl | (rw [aup_rn (show ct (2 + a) 0 ≠ 0 from fun z => by rw [z] at y4; have := hR.1.2; omega), aup_rn (by decide), y5 b j0 j1]), _, rfl, XR.try hR HY HL HN HS HP HF HX hv3 hv4 (fun x j h8 h0 _ => ?_) (fun x i _ _ _ h0 => ?_) (fun t t0 t1 => TRY.fr (HX.1 t t0 t1) ?_ (fun x j hx => ?_) ?_ ?_ (fun j j0 j1 => ?_)) ?_⟩
                             · (repeat (first | rw [aup_n h0] | rw [aup_rn h8]))
                             · rw [aup_n h0]
                             · (repeat rw [aup_n (by omega)])
                             · have o8 := hR.2.2.2.2.2.1.2; have o0 := hR.1.2
                               (repeat rw [aup_rn (fun z => by rw [z] at hx; omega)])
                             · rw [aup_rn (by decide)]
                             · rw [aup_rn (by decide)]
                             · rw [aup_rn (by decide)]
                             · simp [aup])
                          | (refine ⟨rfl, _, rfl, XR.put (a := a) hR HY HL HN HS HP HF HX hv3 hv4 t0 t1 y1 y2 y3 y4 (fun x j h8 h0 => ?_) (fun x i h5 h0 => ?_) (fun i hi => ?_) (fun j u0 u1 => ?_) ?_⟩
                             · rw [aup_rn h8, aup_n h0]
                             · rw [aup_n h0, aup_rn h5]
                             · rw [aup_rn (by decide), aup_n (by omega)]
                             · by_cases z : j = b
                               · subst z
                                 rw [aup_s, aup_rn (by decide), aup_s, ctF_cu y1]
                               · rw [aup_n (by omega), aup_rn (TRY.rne hR t0 y4).1, aup_rn (by decide), aup_n (by omega)]
                                 exact y5 j u0 u1
                             · rw [aup_rn (fun z => (TRY.rne hR t0 y4).1 z.symm), aup_s, aup_s])
                  · first
                      | (exfalso; omega)
                      | skip
                        refine aK_i ?_
                        refine aw_zreturn dX7_write_40 rfl (by omega) ?_
                        first
                          | (exfalso; omega)
                          | (refine ⟨by first | rfl | (rw [aup_rn (show ct (2 + a) 0 ≠ 0 from fun z => by rw [z] at y4; have := hR.1.2; omega), aup_rn (by decide), y5 b j0 j1]), _, rfl, XR.try hR HY HL HN HS HP HF HX hv3 hv4 (fun x j h8 h0 _ => ?_) (fun x i _ _ _ h0 => ?_) (fun t t0 t1 => TRY.fr (HX.1 t t0 t1) ?_ (fun x j hx => ?_) ?_ ?_ (fun j j0 j1 => ?_)) ?_⟩
                             · (repeat (first | rw [aup_n h0] | rw [aup_rn h8]))
                             · rw [aup_n h0]
                             · (repeat rw [aup_n (by omega)])
                             · have o8 := hR.2.2.2.2.2.1.2; have o0 := hR.1.2
                               (repeat rw [aup_rn (fun z => by rw [z] at hx; omega)])
                             · rw [aup_rn (by decide)]
                             · rw [aup_rn (by decide)]
                             · rw [aup_rn (by decide)]
                             · simp [aup])
                          | (refine ⟨rfl, _, rfl, XR.put (a := a) hR HY HL HN HS HP HF HX hv3 hv4 t0 t1 y1 y2 y3 y4 (fun x j h8 h0 => ?_) (fun x i h5 h0 => ?_) (fun i hi => ?_) (fun j u0 u1 => ?_) ?_⟩
                             · rw [aup_rn h8, aup_n h0]
                             · rw [aup_n h0, aup_rn h5]
                             · rw [aup_rn (by decide), aup_n (by omega)]
                             · by_cases z : j = b
                               · subst z
                                 rw [aup_s, aup_rn (by decide), aup_s, ctF_cu y1]
                               · rw [aup_n (by omega), aup_rn (TRY.rne hR t0 y4).1, aup_rn (by decide), aup_n (by omega)]
                                 exact y5 j u0 u1
                             · rw [aup_rn (fun z => (TRY.rne hR t0 y4).1 z.symm), aup_s, aup_s])
      · first
          | (exfalso; omega)
          | skip
            refine aK_i ?_
            refine aw_istore5 dX7_write_6 (by decide) rfl ?_
            refine aw_iload dX7_write_8 rfl ?_
            refine aw_ifne (tgt := 34) dX7_write_10 (by decide) (fun h10 => ?_) (fun h10 => ?_)
            · first
                | (exfalso; omega)
                | skip
                  refine aw_aload_n dX7_write_34 rfl ?_
                  refine aw_iload dX7_write_35 rfl ?_
                  refine c_X7_79 rfl dX7_write_37 m_ob (Nat.le_of_ble_eq_true rfl) (by omega) (C_m_is (fun hz => ?_) (fun hz => ?_))
                  · first
                      | (exfalso; omega)
                      | skip
                        refine aK_i ?_
                        refine aw_zreturn dX7_write_40 rfl (by omega) ?_
                        first
                          | (exfalso; omega)
                          | (refine ⟨by first | rfl | (rw [aup_rn (show ct (2 + a) 0 ≠ 0 from fun z => by rw [z] at y4; have := hR.1.2; omega), aup_rn (by decide), y5 b j0 j1]), _, rfl, XR.try hR HY HL HN HS HP HF HX hv3 hv4 (fun x j h8 h0 _ => ?_) (fun x i _ _ _ h0 => ?_) (fun t t0 t1 => TRY.fr (HX.1 t t0 t1) ?_ (fun x j hx => ?_) ?_ ?_ (fun j j0 j1 => ?_)) ?_⟩
                             · (repeat (first | rw [aup_n h0] | rw [aup_rn h8]))
                             · rw [aup_n h0]
                             · (repeat rw [aup_n (by omega)])
                             · have o8 := hR.2.2.2.2.2.1.2; have o0 := hR.1.2
                               (repeat rw [aup_rn (fun z => by rw [z] at hx; omega)])
                             · rw [aup_rn (by decide)]
                             · rw [aup_rn (by decide)]
                             · rw [aup_rn (by decide)]
                             · simp [aup])
                          | (refine ⟨rfl, _, rfl, XR.put (a := a) hR HY HL HN HS HP HF HX hv3 hv4 t0 t1 y1 y2 y3 y4 (fun x j h8 h0 => ?_) (fun x i h5 h0 => ?_) (fun i hi => ?_) (fun j u0 u1 => ?_) ?_⟩
                             · rw [aup_rn h8, aup_n h0]
                             · rw [aup_n h0, aup_rn h5]
                             · rw [aup_rn (by decide), aup_n (by omega)]
                             · by_cases z : j = b
                               · subst z
                                 rw [aup_s, aup_rn (by decide), aup_s, ctF_cu y1]
                               · rw [aup_n (by omega), aup_rn (TRY.rne hR t0 y4).1, aup_rn (by decide), aup_n (by omega)]
                                 exact y5 j u0 u1
                             · rw [aup_rn (fun z => (TRY.rne hR t0 y4).1 z.symm), aup_s, aup_s])
                  · first
                      | (exfalso; omega)
                      | skip
                        refine aK_i ?_
                        refine aw_zreturn dX7_write_40 rfl (by omega) ?_
                        first
                          | (exfalso; omega)
                          | (refine ⟨by first | rfl | (rw [aup_rn (show ct (2 + a) 0 ≠ 0 from fun z => by rw [z] at y4; have := hR.1.2; omega), aup_rn (by decide), y5 b j0 j1]), _, rfl, XR.try hR HY HL HN HS HP HF HX hv3 hv4 (fun x j h8 h0 _ => ?_) (fun x i _ _ _ h0 => ?_) (fun t t0 t1 => TRY.fr (HX.1 t t0 t1) ?_ (fun x j hx => ?_) ?_ ?_ (fun j j0 j1 => ?_)) ?_⟩
                             · (repeat (first | rw [aup_n h0] | rw [aup_rn h8]))
                             · rw [aup_n h0]
                             · (repeat rw [aup_n (by omega)])
                             · have o8 := hR.2.2.2.2.2.1.2; have o0 := hR.1.2
                               (repeat rw [aup_rn (fun z => by rw [z] at hx; omega)])
                             · rw [aup_rn (by decide)]
                             · rw [aup_rn (by decide)]
                             · rw [aup_rn (by decide)]
                             · simp [aup])
                          | (refine ⟨rfl, _, rfl, XR.put (a := a) hR HY HL HN HS HP HF HX hv3 hv4 t0 t1 y1 y2 y3 y4 (fun x j h8 h0 => ?_) (fun x i h5 h0 => ?_) (fun i hi => ?_) (fun j u0 u1 => ?_) ?_⟩
                             · rw [aup_rn h8, aup_n h0]
                             · rw [aup_n h0, aup_rn h5]
                             · rw [aup_rn (by decide), aup_n (by omega)]
                             · by_cases z : j = b
                               · subst z
                                 rw [aup_s, aup_rn (by decide), aup_s, ctF_cu y1]
                               · rw [aup_n (by omega), aup_rn (TRY.rne hR t0 y4).1, aup_rn (by decide), aup_n (by omega)]
                                 exact y5 j u0 u1
                             · rw [aup_rn (fun z => (TRY.rne hR t0 y4).1 z.symm), aup_s, aup_s])
            · first
                | (exfalso; omega)
                | skip
                  refine gm_27 rfl dX7_write_13 dX7_write_14 rfl ?_
                  refine aw_bipush dX7_write_17 (by decide) ?_
                  refine aw_iload_n dX7_write_19 rfl ?_
                  refine aw_imulr dX7_write_20 (by omega) ?_
                  refine aw_iload_n dX7_write_21 rfl ?_
                  refine aw_iaddr dX7_write_22 (by omega) ?_
                  refine aw_lload_n dX7_write_23 rfl ?_
                  refine gm_21 rfl dX7_write_24 dX7_write_25 rfl ?_
                  refine aw_iload_n dX7_write_28 rfl ?_
                  refine aw_iaload dX7_write_29 m_a3 (by omega) (by omega) ?_
                  refine c_X7_90 rfl dX7_write_30  (Nat.le_of_ble_eq_true rfl) (by omega) (C_m_cut ?_)
                  refine aK_i ?_
                  refine aw_lastore dX7_write_33 m_a5 (by omega) (by omega) ?_
                  refine aw_aload_n dX7_write_34 rfl ?_
                  refine aw_iload dX7_write_35 rfl ?_
                  refine c_X7_79 rfl dX7_write_37 m_ob (Nat.le_of_ble_eq_true rfl) (by omega) (C_m_is (fun hz => ?_) (fun hz => ?_))
                  · first
                      | (exfalso; omega)
                      | skip
                        refine aK_i ?_
                        refine aw_zreturn dX7_write_40 rfl (by omega) ?_
                        first
                          | (exfalso; omega)
                          | (refine ⟨by first | rfl | (rw [aup_rn (show ct (2 + a) 0 ≠ 0 from fun z => by rw [z] at y4; have := hR.1.2; omega), aup_rn (by decide), y5 b j0 j1]), _, rfl, XR.try hR HY HL HN HS HP HF HX hv3 hv4 (fun x j h8 h0 _ => ?_) (fun x i _ _ _ h0 => ?_) (fun t t0 t1 => TRY.fr (HX.1 t t0 t1) ?_ (fun x j hx => ?_) ?_ ?_ (fun j j0 j1 => ?_)) ?_⟩
                             · (repeat (first | rw [aup_n h0] | rw [aup_rn h8]))
                             · rw [aup_n h0]
                             · (repeat rw [aup_n (by omega)])
                             · have o8 := hR.2.2.2.2.2.1.2; have o0 := hR.1.2
                               (repeat rw [aup_rn (fun z => by rw [z] at hx; omega)])
                             · rw [aup_rn (by decide)]
                             · rw [aup_rn (by decide)]
                             · rw [aup_rn (by decide)]
                             · simp [aup])
                          | (refine ⟨rfl, _, rfl, XR.put (a := a) hR HY HL HN HS HP HF HX hv3 hv4 t0 t1 y1 y2 y3 y4 (fun x j h8 h0 => ?_) (fun x i h5 h0 => ?_) (fun i hi => ?_) (fun j u0 u1 => ?_) ?_⟩
                             · rw [aup_rn h8, aup_n h0]
                             · rw [aup_n h0, aup_rn h5]
                             · rw [aup_rn (by decide), aup_n (by omega)]
                             · by_cases z : j = b
                               · subst z
                                 rw [aup_s, aup_rn (by decide), aup_s, ctF_cu y1]
                               · rw [aup_n (by omega), aup_rn (TRY.rne hR t0 y4).1, aup_rn (by decide), aup_n (by omega)]
                                 exact y5 j u0 u1
                             · rw [aup_rn (fun z => (TRY.rne hR t0 y4).1 z.symm), aup_s, aup_s])
                  · first
                      | (exfalso; omega)
                      | skip
                        refine aK_i ?_
                        refine aw_zreturn dX7_write_40 rfl (by omega) ?_
                        first
                          | (exfalso; omega)
                          | (refine ⟨by first | rfl | (rw [aup_rn (show ct (2 + a) 0 ≠ 0 from fun z => by rw [z] at y4; have := hR.1.2; omega), aup_rn (by decide), y5 b j0 j1]), _, rfl, XR.try hR HY HL HN HS HP HF HX hv3 hv4 (fun x j h8 h0 _ => ?_) (fun x i _ _ _ h0 => ?_) (fun t t0 t1 => TRY.fr (HX.1 t t0 t1) ?_ (fun x j hx => ?_) ?_ ?_ (fun j j0 j1 => ?_)) ?_⟩
                             · (repeat (first | rw [aup_n h0] | rw [aup_rn h8]))
                             · rw [aup_n h0]
                             · (repeat rw [aup_n (by omega)])
                             · have o8 := hR.2.2.2.2.2.1.2; have o0 := hR.1.2
                               (repeat rw [aup_rn (fun z => by rw [z] at hx; omega)])
                             · rw [aup_rn (by decide)]
                             · rw [aup_rn (by decide)]
                             · rw [aup_rn (by decide)]
                             · simp [aup])
                          | (refine ⟨rfl, _, rfl, XR.put (a := a) hR HY HL HN HS HP HF HX hv3 hv4 t0 t1 y1 y2 y3 y4 (fun x j h8 h0 => ?_) (fun x i h5 h0 => ?_) (fun i hi => ?_) (fun j u0 u1 => ?_) ?_⟩
                             · rw [aup_rn h8, aup_n h0]
                             · rw [aup_n h0, aup_rn h5]
                             · rw [aup_rn (by decide), aup_n (by omega)]
                             · by_cases z : j = b
                               · subst z
                                 rw [aup_s, aup_rn (by decide), aup_s, ctF_cu y1]
                               · rw [aup_n (by omega), aup_rn (TRY.rne hR t0 y4).1, aup_rn (by decide), aup_n (by omega)]
                                 exact y5 j u0 u1
                             · rw [aup_rn (fun z => (TRY.rne hR t0 y4).1 z.symm), aup_s, aup_s])
      · first
          | (exfalso; omega)
          | skip
            refine aK_i ?_
            refine aw_istore5 dX7_write_6 (by decide) rfl ?_
            refine aw_iload dX7_write_8 rfl ?_
            refine aw_ifne (tgt := 34) dX7_write_10 (by decide) (fun h10 => ?_) (fun h10 => ?_)
            · first
                | (exfalso; omega)
                | skip
                  refine aw_aload_n dX7_write_34 rfl ?_
                  refine aw_iload dX7_write_35 rfl ?_
                  refine c_X7_79 rfl dX7_write_37 m_ob (Nat.le_of_ble_eq_true rfl) (by omega) (C_m_is (fun hz => ?_) (fun hz => ?_))
                  · first
                      | (exfalso; omega)
                      | skip
                        refine aK_i ?_
                        refine aw_zreturn dX7_write_40 rfl (by omega) ?_
                        first
                          | (exfalso; omega)
                          | (refine ⟨by first | rfl | (rw [aup_rn (show ct (2 + a) 0 ≠ 0 from fun z => by rw [z] at y4; have := hR.1.2; omega), aup_rn (by decide), y5 b j0 j1]), _, rfl, XR.try hR HY HL HN HS HP HF HX hv3 hv4 (fun x j h8 h0 _ => ?_) (fun x i _ _ _ h0 => ?_) (fun t t0 t1 => TRY.fr (HX.1 t t0 t1) ?_ (fun x j hx => ?_) ?_ ?_ (fun j j0 j1 => ?_)) ?_⟩
                             · (repeat (first | rw [aup_n h0] | rw [aup_rn h8]))
                             · rw [aup_n h0]
                             · (repeat rw [aup_n (by omega)])
                             · have o8 := hR.2.2.2.2.2.1.2; have o0 := hR.1.2
                               (repeat rw [aup_rn (fun z => by rw [z] at hx; omega)])
                             · rw [aup_rn (by decide)]
                             · rw [aup_rn (by decide)]
                             · rw [aup_rn (by decide)]
                             · simp [aup])
                          | (refine ⟨rfl, _, rfl, XR.put (a := a) hR HY HL HN HS HP HF HX hv3 hv4 t0 t1 y1 y2 y3 y4 (fun x j h8 h0 => ?_) (fun x i h5 h0 => ?_) (fun i hi => ?_) (fun j u0 u1 => ?_) ?_⟩
                             · rw [aup_rn h8, aup_n h0]
                             · rw [aup_n h0, aup_rn h5]
                             · rw [aup_rn (by decide), aup_n (by omega)]
                             · by_cases z : j = b
                               · subst z
                                 rw [aup_s, aup_rn (by decide), aup_s, ctF_cu y1]
                               · rw [aup_n (by omega), aup_rn (TRY.rne hR t0 y4).1, aup_rn (by decide), aup_n (by omega)]
                                 exact y5 j u0 u1
                             · rw [aup_rn (fun z => (TRY.rne hR t0 y4).1 z.symm), aup_s, aup_s])
                  · first
                      | (exfalso; omega)
                      | skip
                        refine aK_i ?_
                        refine aw_zreturn dX7_write_40 rfl (by omega) ?_
                        first
                          | (exfalso; omega)
                          | (refine ⟨by first | rfl | (rw [aup_rn (show ct (2 + a) 0 ≠ 0 from fun z => by rw [z] at y4; have := hR.1.2; omega), aup_rn (by decide), y5 b j0 j1]), _, rfl, XR.try hR HY HL HN HS HP HF HX hv3 hv4 (fun x j h8 h0 _ => ?_) (fun x i _ _ _ h0 => ?_) (fun t t0 t1 => TRY.fr (HX.1 t t0 t1) ?_ (fun x j hx => ?_) ?_ ?_ (fun j j0 j1 => ?_)) ?_⟩
                             · (repeat (first | rw [aup_n h0] | rw [aup_rn h8]))
                             · rw [aup_n h0]
                             · (repeat rw [aup_n (by omega)])
                             · have o8 := hR.2.2.2.2.2.1.2; have o0 := hR.1.2
                               (repeat rw [aup_rn (fun z => by rw [z] at hx; omega)])
                             · rw [aup_rn (by decide)]
                             · rw [aup_rn (by decide)]
                             · rw [aup_rn (by decide)]
                             · simp [aup])
                          | (refine ⟨rfl, _, rfl, XR.put (a := a) hR HY HL HN HS HP HF HX hv3 hv4 t0 t1 y1 y2 y3 y4 (fun x j h8 h0 => ?_) (fun x i h5 h0 => ?_) (fun i hi => ?_) (fun j u0 u1 => ?_) ?_⟩
                             · rw [aup_rn h8, aup_n h0]
                             · rw [aup_n h0, aup_rn h5]
                             · rw [aup_rn (by decide), aup_n (by omega)]
                             · by_cases z : j = b
                               · subst z
                                 rw [aup_s, aup_rn (by decide), aup_s, ctF_cu y1]
                               · rw [aup_n (by omega), aup_rn (TRY.rne hR t0 y4).1, aup_rn (by decide), aup_n (by omega)]
                                 exact y5 j u0 u1
                             · rw [aup_rn (fun z => (TRY.rne hR t0 y4).1 z.symm), aup_s, aup_s])
            · first
                | (exfalso; omega)
                | skip
                  refine gm_27 rfl dX7_write_13 dX7_write_14 rfl ?_
                  refine aw_bipush dX7_write_17 (by decide) ?_
                  refine aw_iload_n dX7_write_19 rfl ?_
                  refine aw_imulr dX7_write_20 (by omega) ?_
                  refine aw_iload_n dX7_write_21 rfl ?_
                  refine aw_iaddr dX7_write_22 (by omega) ?_
                  refine aw_lload_n dX7_write_23 rfl ?_
                  refine gm_21 rfl dX7_write_24 dX7_write_25 rfl ?_
                  refine aw_iload_n dX7_write_28 rfl ?_
                  refine aw_iaload dX7_write_29 m_a3 (by omega) (by omega) ?_
                  refine c_X7_90 rfl dX7_write_30  (Nat.le_of_ble_eq_true rfl) (by omega) (C_m_cut ?_)
                  refine aK_i ?_
                  refine aw_lastore dX7_write_33 m_a5 (by omega) (by omega) ?_
                  refine aw_aload_n dX7_write_34 rfl ?_
                  refine aw_iload dX7_write_35 rfl ?_
                  refine c_X7_79 rfl dX7_write_37 m_ob (Nat.le_of_ble_eq_true rfl) (by omega) (C_m_is (fun hz => ?_) (fun hz => ?_))
                  · first
                      | (exfalso; omega)
                      | skip
                        refine aK_i ?_
                        refine aw_zreturn dX7_write_40 rfl (by omega) ?_
                        first
                          | (exfalso; omega)
                          | (refine ⟨by first | rfl | (rw [aup_rn (show ct (2 + a) 0 ≠ 0 from fun z => by rw [z] at y4; have := hR.1.2; omega), aup_rn (by decide), y5 b j0 j1]), _, rfl, XR.try hR HY HL HN HS HP HF HX hv3 hv4 (fun x j h8 h0 _ => ?_) (fun x i _ _ _ h0 => ?_) (fun t t0 t1 => TRY.fr (HX.1 t t0 t1) ?_ (fun x j hx => ?_) ?_ ?_ (fun j j0 j1 => ?_)) ?_⟩
                             · (repeat (first | rw [aup_n h0] | rw [aup_rn h8]))
                             · rw [aup_n h0]
                             · (repeat rw [aup_n (by omega)])
                             · have o8 := hR.2.2.2.2.2.1.2; have o0 := hR.1.2
                               (repeat rw [aup_rn (fun z => by rw [z] at hx; omega)])
                             · rw [aup_rn (by decide)]
                             · rw [aup_rn (by decide)]
                             · rw [aup_rn (by decide)]
                             · simp [aup])
                          | (refine ⟨rfl, _, rfl, XR.put (a := a) hR HY HL HN HS HP HF HX hv3 hv4 t0 t1 y1 y2 y3 y4 (fun x j h8 h0 => ?_) (fun x i h5 h0 => ?_) (fun i hi => ?_) (fun j u0 u1 => ?_) ?_⟩
                             · rw [aup_rn h8, aup_n h0]
                             · rw [aup_n h0, aup_rn h5]
                             · rw [aup_rn (by decide), aup_n (by omega)]
                             · by_cases z : j = b
                               · subst z
                                 rw [aup_s, aup_rn (by decide), aup_s, ctF_cu y1]
                               · rw [aup_n (by omega), aup_rn (TRY.rne hR t0 y4).1, aup_rn (by decide), aup_n (by omega)]
                                 exact y5 j u0 u1
                             · rw [aup_rn (fun z => (TRY.rne hR t0 y4).1 z.symm), aup_s, aup_s])
                  · first
                      | (exfalso; omega)
                      | skip
                        refine aK_i ?_
                        refine aw_zreturn dX7_write_40 rfl (by omega) ?_
                        first
                          | (exfalso; omega)
                          | (refine ⟨by first | rfl | (rw [aup_rn (show ct (2 + a) 0 ≠ 0 from fun z => by rw [z] at y4; have := hR.1.2; omega), aup_rn (by decide), y5 b j0 j1]), _, rfl, XR.try hR HY HL HN HS HP HF HX hv3 hv4 (fun x j h8 h0 _ => ?_) (fun x i _ _ _ h0 => ?_) (fun t t0 t1 => TRY.fr (HX.1 t t0 t1) ?_ (fun x j hx => ?_) ?_ ?_ (fun j j0 j1 => ?_)) ?_⟩
                             · (repeat (first | rw [aup_n h0] | rw [aup_rn h8]))
                             · rw [aup_n h0]
                             · (repeat rw [aup_n (by omega)])
                             · have o8 := hR.2.2.2.2.2.1.2; have o0 := hR.1.2
                               (repeat rw [aup_rn (fun z => by rw [z] at hx; omega)])
                             · rw [aup_rn (by decide)]
                             · rw [aup_rn (by decide)]
                             · rw [aup_rn (by decide)]
                             · simp [aup])
                          | (refine ⟨rfl, _, rfl, XR.put (a := a) hR HY HL HN HS HP HF HX hv3 hv4 t0 t1 y1 y2 y3 y4 (fun x j h8 h0 => ?_) (fun x i h5 h0 => ?_) (fun i hi => ?_) (fun j u0 u1 => ?_) ?_⟩
                             · rw [aup_rn h8, aup_n h0]
                             · rw [aup_n h0, aup_rn h5]
                             · rw [aup_rn (by decide), aup_n (by omega)]
                             · by_cases z : j = b
                               · subst z
                                 rw [aup_s, aup_rn (by decide), aup_s, ctF_cu y1]
                               · rw [aup_n (by omega), aup_rn (TRY.rne hR t0 y4).1, aup_rn (by decide), aup_n (by omega)]
                                 exact y5 j u0 u1
                             · rw [aup_rn (fun z => (TRY.rne hR t0 y4).1 z.symm), aup_s, aup_s])
