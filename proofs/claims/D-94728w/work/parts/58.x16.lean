set_option maxRecDepth 100000
/-! operations, 9: lines of descent -/
theorem C_m_mot {ct : Int → Int → Int} {w : Int} {Q : aPost} (h0 : 0 ≤ w ∧ w < 16) (hQ : Q (.inl (some (vI (mot (ct 1) w)))) (gM ct)) : AMet md_X7_motherOf 1 0 0 [vR 0, vI w] (gM ct) Q :=
  C_m_motherOf h0 (fun z => by rw [show mot (ct 1) w = ct 1 (46 + 2 * (w - 8)) by unfold mot; rw [if_neg (by omega)]] at hQ; exact hQ) (fun z => by rw [show mot (ct 1) w = ct 1 (14 + 4 * w + 1) by unfold mot; rw [if_pos (by omega), show 15 + 4 * w = 14 + 4 * w + 1 by omega]] at hQ; exact hQ)
theorem C_m_fat {ct : Int → Int → Int} {w : Int} {Q : aPost} (h0 : 0 ≤ w ∧ w < 16) (h1 : w < 8 → -1 ≤ ct 1 (16 + 4 * w) ∧ ct 1 (16 + 4 * w) < 100) (hQ : Q (.inl (some (vI (fat (ct 1) w)))) (gM ct)) : AMet md_X7_fatherOf 1 0 0 [vR 0, vI w] (gM ct) Q := by
  refine AMet.go (L := [some (vR 0), some (vI w)]) mok_X7_fatherOf (Nat.le_of_ble_eq_true rfl) rfl ?_
  have e16 : 14 + 4 * w + 2 = 16 + 4 * w := by omega
  refine aw_iload_n dX7_fatherOf_0 rfl ?_
  refine aw_bipush dX7_fatherOf_1 (by decide) ?_
  refine aw_icmpge (tgt := 23) dX7_fatherOf_3 (by decide) (fun h3 => ?_) (fun h3 => ?_)
  · refine aw_iconst dX7_fatherOf_23 (by decide) ?_
    refine aw_goto (tgt := 43) dX7_fatherOf_24 (by decide) ?_
    refine aw_ireturn dX7_fatherOf_43 rfl ?_
    first
      | (rw [show fat (ct 1) w = -1 by unfold fat; exact if_pos (by omega)] at hQ; exact hQ)
      | (rw [show fat (ct 1) w = 8 + ct 1 (16 + 4 * w) by unfold fat; exact if_neg (by omega)] at hQ; exact hQ)
  · refine gm_7 rfl dX7_fatherOf_6 dX7_fatherOf_7 rfl ?_
    refine aw_bipush dX7_fatherOf_10 (by decide) ?_
    refine aw_iconst dX7_fatherOf_12 (by decide) ?_
    refine aw_iload_n dX7_fatherOf_13 rfl ?_
    refine aw_imulr dX7_fatherOf_14 (by omega) ?_
    refine aw_iaddr dX7_fatherOf_15 (by omega) ?_
    refine aw_iconst dX7_fatherOf_16 (by decide) ?_
    refine aw_iaddr dX7_fatherOf_17 (by omega) ?_
    refine aw_iaload dX7_fatherOf_18 m_a1 (by omega) (by omega) ?_
    rw [e16]
    refine aw_iconst dX7_fatherOf_19 (by decide) ?_
    refine aw_icmpne (tgt := 27) dX7_fatherOf_20 (by decide) (fun h20 => ?_) (fun h20 => ?_)
    · refine aw_bipush dX7_fatherOf_27 (by decide) ?_
      refine gm_7 rfl dX7_fatherOf_29 dX7_fatherOf_30 rfl ?_
      refine aw_bipush dX7_fatherOf_33 (by decide) ?_
      refine aw_iconst dX7_fatherOf_35 (by decide) ?_
      refine aw_iload_n dX7_fatherOf_36 rfl ?_
      refine aw_imulr dX7_fatherOf_37 (by omega) ?_
      refine aw_iaddr dX7_fatherOf_38 (by omega) ?_
      refine aw_iconst dX7_fatherOf_39 (by decide) ?_
      refine aw_iaddr dX7_fatherOf_40 (by omega) ?_
      refine aw_iaload dX7_fatherOf_41 m_a1 (by omega) (by omega) ?_
      rw [e16]
      refine aw_iaddr dX7_fatherOf_42 (by omega) ?_
      refine aw_ireturn dX7_fatherOf_43 rfl ?_
      first
        | (rw [show fat (ct 1) w = -1 by unfold fat; exact if_pos (by omega)] at hQ; exact hQ)
        | (rw [show fat (ct 1) w = 8 + ct 1 (16 + 4 * w) by unfold fat; exact if_neg (by omega)] at hQ; exact hQ)
    · refine aw_iconst dX7_fatherOf_23 (by decide) ?_
      refine aw_goto (tgt := 43) dX7_fatherOf_24 (by decide) ?_
      refine aw_ireturn dX7_fatherOf_43 rfl ?_
      first
        | (rw [show fat (ct 1) w = -1 by unfold fat; exact if_pos (by omega)] at hQ; exact hQ)
        | (rw [show fat (ct 1) w = 8 + ct 1 (16 + 4 * w) by unfold fat; exact if_neg (by omega)] at hQ; exact hQ)
theorem L_x_moth {own : Int → Int} {sz : Int} {im : Int → aIm} {ct ct0 ct2 : Int → Int → Int} {a la dd : Int} {s N : Int → Int} {Q : aPost} {d kc ks : Nat} (hd : 3 ≤ d) (hR : RT own sz im ct0) (HY : YR own 0 sz im ct2 10 s dd N) (hl : ct 10 0 = la) (HL : LR own sz im ct la s N) (hPQ : PQ s) {T : Int} (K : ∀ k : Int, AW (mq Q) md_X0_mothers d kc ks 61 [some (vR 0), some (vI a), some (vI T), some (vI k)] [] (sz, im, ct)) : ∀ (f : Nat) (k n : Int), chn s f k → n + momN s f k = T → 0 ≤ n → n + f ≤ 1000 → AW (mq Q) md_X0_mothers d kc ks 41 [some (vR 0), some (vI a), some (vI n), some (vI k)] [] (sz, im, ct) := by
  intro f
  induction f with
  | zero =>
    intro k n h1 h2 h3 h4
    have e := chn.zero hPQ h1
    subst e
    rw [momN_n, Int.add_zero] at h2
    subst h2
    refine aw_iload_n dX0_mothers_41 rfl ?_
    refine aw_iflt (tgt := 61) dX0_mothers_42 (by decide) (fun h42 => ?_) (fun h42 => ?_)
    · exact K _
    · exfalso; omega
  | succ f ih =>
    intro k n h1 h2 h3 h4
    rcases h1 with h1 | ⟨h1, h5⟩
    · subst h1
      rw [momN_n, Int.add_zero] at h2
      subst h2
      refine aw_iload_n dX0_mothers_41 rfl ?_
      refine aw_iflt (tgt := 61) dX0_mothers_42 (by decide) (fun h42 => ?_) (fun h42 => ?_)
      · exact K _
      · exfalso; omega
    · have hb := one_bd hPQ.1 h1
      simp only [momN, if_neg (show ¬ k = -1 by omega)] at h2
      refine aw_iload_n dX0_mothers_41 rfl ?_
      refine aw_iflt (tgt := 61) dX0_mothers_42 (by decide) (fun h42 => ?_) (fun h42 => ?_)
      · exfalso; omega
      · refine aw_iinc2r dX0_mothers_45 (by decide) (by decide) rfl (by omega) ?_
        refine aw_aload_n dX0_mothers_48 rfl ?_
        refine c_X0_182 rfl dX0_mothers_49 hR.o0 (Nat.le_of_ble_eq_true rfl) (by omega) (C_x_lines hR HY ?_)
        rw [hl]
        refine aK_i ?_
        refine g_X0_295_6 rfl dX0_mothers_52 HL.1 ?_
        refine aw_iload_n dX0_mothers_55 rfl ?_
        refine aw_iaload dX0_mothers_56 HL.2.1.2.1 (by omega) (by omega) ?_
        rw [HL.motE h1]
        refine aw_istore3 dX0_mothers_57 (by decide) rfl ?_
        refine aw_goto (tgt := 41) dX0_mothers_58 (by decide) ?_
        exact ih _ _ (chn.step hPQ h1 h5) (by omega) (by omega) (by omega)
theorem L_m_moth {ct : Int → Int → Int} {a : Int} {Q : aPost} {d kc ks : Nat} (hd : 2 ≤ d) (hPQ : PQ (ct 1)) {T : Int} (K : ∀ k : Int, AW (mq Q) md_X7_mothers d kc ks 39 [some (vR 0), some (vI a), some (vI T), some (vI k)] [] (gM ct)) : ∀ (f : Nat) (k n : Int), chn (ct 1) f k → n + momN (ct 1) f k = T → 0 ≤ n → n + f ≤ 1000 → AW (mq Q) md_X7_mothers d kc ks 22 [some (vR 0), some (vI a), some (vI n), some (vI k)] [] (gM ct) := by
  intro f
  induction f with
  | zero =>
    intro k n h1 h2 h3 h4
    have e := chn.zero hPQ h1
    subst e
    rw [momN_n, Int.add_zero] at h2
    subst h2
    refine aw_iload_n dX7_mothers_22 rfl ?_
    refine aw_iconst dX7_mothers_23 (by decide) ?_
    refine aw_icmpeq (tgt := 39) dX7_mothers_24 (by decide) (fun h24 => ?_) (fun h24 => ?_)
    · exact K _
    · exfalso; omega
  | succ f ih =>
    intro k n h1 h2 h3 h4
    rcases h1 with h1 | ⟨h1, h5⟩
    · subst h1
      rw [momN_n, Int.add_zero] at h2
      subst h2
      refine aw_iload_n dX7_mothers_22 rfl ?_
      refine aw_iconst dX7_mothers_23 (by decide) ?_
      refine aw_icmpeq (tgt := 39) dX7_mothers_24 (by decide) (fun h24 => ?_) (fun h24 => ?_)
      · exact K _
      · exfalso; omega
    · have hb := one_bd hPQ.1 h1
      simp only [momN, if_neg (show ¬ k = -1 by omega)] at h2
      refine aw_iload_n dX7_mothers_22 rfl ?_
      refine aw_iconst dX7_mothers_23 (by decide) ?_
      refine aw_icmpeq (tgt := 39) dX7_mothers_24 (by decide) (fun h24 => ?_) (fun h24 => ?_)
      · exfalso; omega
      · refine aw_iinc2r dX7_mothers_27 (by decide) (by decide) rfl (by omega) ?_
        refine aw_aload_n dX7_mothers_30 rfl ?_
        refine aw_iload_n dX7_mothers_31 rfl ?_
        refine c_X7_289 rfl dX7_mothers_32 m_ob (Nat.le_of_ble_eq_true rfl) (by omega) (C_m_mot (by omega) ?_)
        refine aK_i ?_
        refine aw_istore3 dX7_mothers_35 (by decide) rfl ?_
        refine aw_goto (tgt := 22) dX7_mothers_36 (by decide) ?_
        exact ih _ _ (chn.step hPQ h1 h5) (by omega) (by omega) (by omega)
theorem OP_mothers {sz : Int} {im : Int → aIm} {ct cm : Int → Int → Int} (h : XR (sz, im, ct) cm) {a : Int} (r0 : -2147483648 ≤ a ∧ a < 2147483648)  : AMet md_X0_mothers 3 0 0 [vR 0, vI a] (sz, im, ct) (XQ md_X7_mothers 4 [vR 0, vI a] cm) := by
  obtain ⟨own, N, hR, HY, HL, HN, HS, HP, HF, HX, hv2, hv3, hv4⟩ := id h
  dsimp only at hR HY HL HS HX hv2 hv3 hv4
  have hp0 := HP.1
  have hp3 := HP.2.1
  have hpq := HP.2.2.2.1.1
  have hps := HP.2.2.2.2.2
  have hlt : ct 10 0 ≠ 0 := fun e => by have q1 := HL.2.2.1.1; rw [e] at q1; have q2 := hR.1.2; omega
  have hPQ := HP.2.2.2.1
  have HL1 := HL.up0 (j := 7) (v := 0) hR.1.2
  refine AMet.go (L := [some (vR 0), some (vI a), none, none]) mok_X0_mothers (Nat.le_of_ble_eq_true rfl) rfl ?_
  refine aw_aload_n dX0_mothers_0 rfl ?_
  refine aw_aload_n dX0_mothers_1 rfl ?_
  refine c_X0_182 rfl dX0_mothers_2 hR.o0 (Nat.le_of_ble_eq_true rfl) (by omega) (C_x_lines hR HY ?_)
  repeat (first | rw [aup_s] | rw [aup_n (by omega)])
  refine aK_i ?_
  refine aw_iload_n dX0_mothers_5 rfl ?_
  refine c_X0_287 rfl dX0_mothers_6 HL.1 (Nat.le_of_ble_eq_true rfl) (by omega) (C_x_isThere HL (fun xo => ?_) (fun xo => ?_))
  · have xoo := xo
    have hpa := hPQ.2.2.2.1 _ xoo
    unfold one at xo
    refine aK_i ?_
    refine aw_ifeq (tgt := 16) dX0_mothers_9 (by decide) (fun h => absurd h (by decide)) (fun _ => ?_)
    refine aw_iconst dX0_mothers_12 (by decide) ?_
    refine aw_goto (tgt := 17) dX0_mothers_13 (by decide) ?_
    refine p_X0_73_0 rfl dX0_mothers_17 hR.o0 ?_
    refine aw_aload_n dX0_mothers_20 rfl ?_
    refine g_X0_73_0 rfl dX0_mothers_21 hR.o0 ?_
    repeat (first | rw [aup_s] | rw [aup_n (by omega)])
    refine aw_ifle (tgt := 29) dX0_mothers_24 (by decide) (fun _ => ?_) (fun h => absurd h (by decide))
    refine aw_iconst dX0_mothers_29 (by decide) ?_
    refine aw_istore2 dX0_mothers_30 (by decide) rfl ?_
    skip
    refine aw_aload_n dX0_mothers_31 rfl ?_
    refine c_X0_182 rfl dX0_mothers_32 hR.o0 (Nat.le_of_ble_eq_true rfl) (by omega) (C_x_lines hR HY ?_)
    repeat (first | rw [aup_s] | rw [aup_n (by omega)])
    refine aK_i ?_
    refine g_X0_295_6 rfl dX0_mothers_35 HL.1 ?_
    skip
    refine aw_iload_n dX0_mothers_38 rfl ?_
    refine aw_iaload dX0_mothers_39 HL.2.1.2.1 (by omega) (by omega) ?_
    rw [HL1.motE xoo]
    refine aw_istore3 dX0_mothers_40 (by decide) rfl ?_
    refine L_x_moth (a := a) (by omega) hR HY (aup_n (by omega)) HL1 hPQ (fun k => ?_) 15 _ 0 (chn.step hPQ xoo (by have q1 := (hPQ.2.2.2.1 a xoo).1; have q2 := hPQ.2.1; omega)) rfl (by omega) (by omega)
    refine aw_iload_n dX0_mothers_61 rfl ?_
    refine aw_ireturn dX0_mothers_62 rfl ?_
    refine ⟨_, rfl, ?_⟩
    refine AMet.go (L := [some (vR 0), some (vI a), none, none]) mok_X7_mothers (Nat.le_of_ble_eq_true rfl) rfl ?_
    refine aw_aload_n dX7_mothers_0 rfl ?_
    refine aw_iload_n dX7_mothers_1 rfl ?_
    refine c_X7_286 rfl dX7_mothers_2 m_ob (Nat.le_of_ble_eq_true rfl) (by omega) (C_m_isOne (by omega) (fun ho => ?_) (fun ho => ?_))
    · first
        | (exfalso; omega)
        | skip
          refine aK_i ?_
          refine aw_ifne (tgt := 14) dX7_mothers_5 (by decide) (fun _ => ?_) (fun h => absurd h (by decide))
          refine aw_iconst dX7_mothers_14 (by decide) ?_
          refine aw_istore2 dX7_mothers_15 (by decide) rfl ?_
          refine aw_aload_n dX7_mothers_16 rfl ?_
          refine aw_iload_n dX7_mothers_17 rfl ?_
          refine c_X7_289 rfl dX7_mothers_18 m_ob (Nat.le_of_ble_eq_true rfl) (by omega) (C_m_mot (by omega) ?_)
          refine aK_i ?_
          refine aw_istore3 dX7_mothers_21 (by decide) rfl ?_
          refine L_m_moth (a := a) (by omega) hPQ (fun k => ?_) 15 _ 0 (chn.step hPQ xoo (by have q1 := (hPQ.2.2.2.1 a xoo).1; have q2 := hPQ.2.1; omega)) rfl (by omega) (by omega)
          refine aw_aload_n dX7_mothers_39 rfl ?_
          refine aw_iload_n dX7_mothers_40 rfl ?_
          refine c_X7_76 rfl dX7_mothers_41 m_ob (Nat.le_of_ble_eq_true rfl) (by omega) (C_m_gives ?_)
          refine aK_i ?_
          refine aw_ireturn dX7_mothers_44 rfl ?_
          first
            | (exfalso; omega)
            | (refine XR.sameE h ?_ ?_ ?_ ?_ ?_ ?_
               · first
                   | rfl
                   | omega
               · repeat (first | exact xs.rf | refine xs.up ?_ (by decide))
               · repeat (first | exact mss.rf | refine mss.up0 ?_ (by decide))
               · first
                   | (simp [aup, hv2, hv3, hv4]; done)
                   | (simp [aup, hv2, hv3, hv4]; omega)
               · simp [aup, hv2, hv3, hv4]
               · simp [aup, hv2, hv3, hv4])
    · first
        | (exfalso; omega)
        | skip
          refine aK_i ?_
          refine aw_ifne (tgt := 14) dX7_mothers_5 (by decide) (fun h => absurd h (by decide)) (fun _ => ?_)
          refine aw_aload_n dX7_mothers_8 rfl ?_
          refine aw_iconst dX7_mothers_9 (by decide) ?_
          refine c_X7_72 rfl dX7_mothers_10 m_ob (Nat.le_of_ble_eq_true rfl) (by omega) (C_m_refuse ?_)
          refine aK_i ?_
          refine aw_ireturn dX7_mothers_13 rfl ?_
          first
            | (exfalso; omega)
            | (refine XR.sameE h ?_ ?_ ?_ ?_ ?_ ?_
               · first
                   | rfl
                   | omega
               · repeat (first | exact xs.rf | refine xs.up ?_ (by decide))
               · repeat (first | exact mss.rf | refine mss.up0 ?_ (by decide))
               · first
                   | (simp [aup, hv2, hv3, hv4]; done)
                   | (simp [aup, hv2, hv3, hv4]; omega)
               · simp [aup, hv2, hv3, hv4]
               · simp [aup, hv2, hv3, hv4])
  · have xoo := xo
    unfold one at xo
    refine aK_i ?_
    refine aw_ifeq (tgt := 16) dX0_mothers_9 (by decide) (fun _ => ?_) (fun h => absurd h (by decide))
    refine aw_iconst dX0_mothers_16 (by decide) ?_
    refine p_X0_73_0 rfl dX0_mothers_17 hR.o0 ?_
    refine aw_aload_n dX0_mothers_20 rfl ?_
    refine g_X0_73_0 rfl dX0_mothers_21 hR.o0 ?_
    repeat (first | rw [aup_s] | rw [aup_n (by omega)])
    refine aw_ifle (tgt := 29) dX0_mothers_24 (by decide) (fun h => absurd h (by decide)) (fun _ => ?_)
    refine aw_iconst dX0_mothers_27 (by decide) ?_
    refine aw_ireturn dX0_mothers_28 rfl ?_
    refine ⟨_, rfl, ?_⟩
    refine AMet.go (L := [some (vR 0), some (vI a), none, none]) mok_X7_mothers (Nat.le_of_ble_eq_true rfl) rfl ?_
    refine aw_aload_n dX7_mothers_0 rfl ?_
    refine aw_iload_n dX7_mothers_1 rfl ?_
    refine c_X7_286 rfl dX7_mothers_2 m_ob (Nat.le_of_ble_eq_true rfl) (by omega) (C_m_isOne (by omega) (fun ho => ?_) (fun ho => ?_))
    · first
        | (exfalso; omega)
        | skip
          refine aK_i ?_
          refine aw_ifne (tgt := 14) dX7_mothers_5 (by decide) (fun _ => ?_) (fun h => absurd h (by decide))
          refine aw_iconst dX7_mothers_14 (by decide) ?_
          refine aw_istore2 dX7_mothers_15 (by decide) rfl ?_
          refine aw_aload_n dX7_mothers_16 rfl ?_
          refine aw_iload_n dX7_mothers_17 rfl ?_
          refine c_X7_289 rfl dX7_mothers_18 m_ob (Nat.le_of_ble_eq_true rfl) (by omega) (C_m_mot (by omega) ?_)
          refine aK_i ?_
          refine aw_istore3 dX7_mothers_21 (by decide) rfl ?_
          refine L_m_moth (a := a) (by omega) hPQ (fun k => ?_) 15 _ 0 (chn.step hPQ xoo (by have q1 := (hPQ.2.2.2.1 a xoo).1; have q2 := hPQ.2.1; omega)) rfl (by omega) (by omega)
          refine aw_aload_n dX7_mothers_39 rfl ?_
          refine aw_iload_n dX7_mothers_40 rfl ?_
          refine c_X7_76 rfl dX7_mothers_41 m_ob (Nat.le_of_ble_eq_true rfl) (by omega) (C_m_gives ?_)
          refine aK_i ?_
          refine aw_ireturn dX7_mothers_44 rfl ?_
          first
            | (exfalso; omega)
            | (refine XR.sameE h ?_ ?_ ?_ ?_ ?_ ?_
               · first
                   | rfl
                   | omega
               · repeat (first | exact xs.rf | refine xs.up ?_ (by decide))
               · repeat (first | exact mss.rf | refine mss.up0 ?_ (by decide))
               · first
                   | (simp [aup, hv2, hv3, hv4]; done)
                   | (simp [aup, hv2, hv3, hv4]; omega)
               · simp [aup, hv2, hv3, hv4]
               · simp [aup, hv2, hv3, hv4])
    · first
        | (exfalso; omega)
        | skip
          refine aK_i ?_
          refine aw_ifne (tgt := 14) dX7_mothers_5 (by decide) (fun h => absurd h (by decide)) (fun _ => ?_)
          refine aw_aload_n dX7_mothers_8 rfl ?_
          refine aw_iconst dX7_mothers_9 (by decide) ?_
          refine c_X7_72 rfl dX7_mothers_10 m_ob (Nat.le_of_ble_eq_true rfl) (by omega) (C_m_refuse ?_)
          refine aK_i ?_
          refine aw_ireturn dX7_mothers_13 rfl ?_
          first
            | (exfalso; omega)
            | (refine XR.sameE h ?_ ?_ ?_ ?_ ?_ ?_
               · first
                   | rfl
                   | omega
               · repeat (first | exact xs.rf | refine xs.up ?_ (by decide))
               · repeat (first | exact mss.rf | refine mss.up0 ?_ (by decide))
               · first
                   | (simp [aup, hv2, hv3, hv4]; done)
                   | (simp [aup, hv2, hv3, hv4]; omega)
               · simp [aup, hv2, hv3, hv4]
               · simp [aup, hv2, hv3, hv4])
set_option maxHeartbeats 2000000 in
theorem OP_line {sz : Int} {im : Int → aIm} {ct cm : Int → Int → Int} (h : XR (sz, im, ct) cm) {a b : Int} (r0 : -2147483648 ≤ a ∧ a < 2147483648) (r1 : -2147483648 ≤ b ∧ b < 2147483648)  : AMet md_X0_line 3 0 0 [vR 0, vI a, vI b] (sz, im, ct) (XQ md_X7_line 3 [vR 0, vI a, vI b] cm) := by
  obtain ⟨own, N, hR, HY, HL, HN, HS, HP, HF, HX, hv2, hv3, hv4⟩ := id h
  dsimp only at hR HY HL HS HX hv2 hv3 hv4
  have hp0 := HP.1
  have hp3 := HP.2.1
  have hpq := HP.2.2.2.1.1
  have hps := HP.2.2.2.2.2
  have hlt : ct 10 0 ≠ 0 := fun e => by have q1 := HL.2.2.1.1; rw [e] at q1; have q2 := hR.1.2; omega
  have hPQ := HP.2.2.2.1
  have HL1 := HL.up0 (j := 7) (v := 0) hR.1.2
  refine AMet.go (L := [some (vR 0), some (vI a), some (vI b)]) mok_X0_line (Nat.le_of_ble_eq_true rfl) rfl ?_
  refine aw_aload_n dX0_line_0 rfl ?_
  refine aw_aload_n dX0_line_1 rfl ?_
  refine c_X0_182 rfl dX0_line_2 hR.o0 (Nat.le_of_ble_eq_true rfl) (by omega) (C_x_lines hR HY ?_)
  repeat (first | rw [aup_s] | rw [aup_n (by omega)])
  refine aK_i ?_
  refine aw_iload_n dX0_line_5 rfl ?_
  refine c_X0_287 rfl dX0_line_6 HL.1 (Nat.le_of_ble_eq_true rfl) (by omega) (C_x_isThere HL (fun xo => ?_) (fun xo => ?_))
  · have xoo := xo
    have hpa := hPQ.2.2.2.1 _ xoo
    unfold one at xo
    refine aK_i ?_
    refine aw_ifeq (tgt := 28) dX0_line_9 (by decide) (fun h => absurd h (by decide)) (fun _ => ?_)
    refine aw_iload_n dX0_line_12 rfl ?_
    refine aw_i2l dX0_line_13 ?_
    refine aw_lconst0 dX0_line_14 ?_
    refine aw_ldc2 (x := 2) dX0_line_15 q1039 (by decide) ?_
    refine c_X0_164 rfl dX0_line_18  (Nat.le_of_ble_eq_true rfl) (by omega) (C_x_isIn (fun hi => ?_) (fun hi => ?_))
    · refine aK_i ?_
      refine aw_ifeq (tgt := 28) dX0_line_21 (by decide) (fun h => absurd h (by decide)) (fun _ => ?_)
      refine aw_iconst dX0_line_24 (by decide) ?_
      refine aw_goto (tgt := 29) dX0_line_25 (by decide) ?_
      refine p_X0_73_0 rfl dX0_line_29 hR.o0 ?_
      refine aw_aload_n dX0_line_32 rfl ?_
      refine g_X0_73_0 rfl dX0_line_33 hR.o0 ?_
      repeat (first | rw [aup_s] | rw [aup_n (by omega)])
      refine aw_ifle (tgt := 41) dX0_line_36 (by decide) (fun _ => ?_) (fun h => absurd h (by decide))
      refine aw_iload_n dX0_line_41 rfl ?_
      refine aw_iconst dX0_line_42 (by decide) ?_
      refine aw_icmpne (tgt := 69) dX0_line_43 (by decide) (fun h43 => ?_) (fun h43 => ?_)
      · refine aw_aload_n dX0_line_69 rfl ?_
        refine aw_iload_n dX0_line_70 rfl ?_
        refine aw_ifne (tgt := 86) dX0_line_71 (by decide) (fun h71 => ?_) (fun h71 => ?_)
        · refine aw_aload_n dX0_line_86 rfl ?_
          refine c_X0_182 rfl dX0_line_87 hR.o0 (Nat.le_of_ble_eq_true rfl) (by omega) (C_x_lines hR HY ?_)
          repeat (first | rw [aup_s] | rw [aup_n (by omega)])
          refine aK_i ?_
          refine g_X0_298_6 rfl dX0_line_90 HL.1 ?_
          refine aw_iload_n dX0_line_93 rfl ?_
          refine aw_iaload dX0_line_94 HL.2.1.2.2.1 (by omega) (by omega) ?_
          try rw [HL1.fatE xoo]
          refine c_X0_283 rfl dX0_line_95 hR.o0 (Nat.le_of_ble_eq_true rfl) (by omega) (C_x_answer (hR.up0 (j := 7) (v := 0)) (fun u hu => ?_))
          refine aK_i ?_
          refine aw_ireturn dX0_line_98 rfl ?_
          refine ⟨_, rfl, ?_⟩
          refine AMet.go (L := [some (vR 0), some (vI a), some (vI b)]) mok_X7_line (Nat.le_of_ble_eq_true rfl) rfl ?_
          refine aw_aload_n dX7_line_0 rfl ?_
          refine aw_iload_n dX7_line_1 rfl ?_
          refine c_X7_286 rfl dX7_line_2 m_ob (Nat.le_of_ble_eq_true rfl) (by omega) (C_m_isOne (by omega) (fun ho => ?_) (fun ho => ?_))
          · first
              | (exfalso; omega)
              | exact absurd b2 (hno _ b0 b1)
              | exact absurd a2 (mno _ a0 a1)
              | skip
                refine aK_i ?_
                refine aw_ifeq (tgt := 17) dX7_line_5 (by decide) (fun h => absurd h (by decide)) (fun _ => ?_)
                refine aw_iload_n dX7_line_8 rfl ?_
                refine aw_iflt (tgt := 17) dX7_line_9 (by decide) (fun h9 => ?_) (fun h9 => ?_)
                · first
                    | (exfalso; omega)
                    | exact absurd b2 (hno _ b0 b1)
                    | exact absurd a2 (mno _ a0 a1)
                    | skip
                      refine aw_aload_n dX7_line_17 rfl ?_
                      refine aw_iconst dX7_line_18 (by decide) ?_
                      refine c_X7_72 rfl dX7_line_19 m_ob (Nat.le_of_ble_eq_true rfl) (by omega) (C_m_refuse ?_)
                      refine aK_i ?_
                      refine aw_ireturn dX7_line_22 rfl ?_
                      first
                        | (exfalso; omega)
                        | (refine XR.sameE h ?_ ?_ ?_ ?_ ?_ ?_
                           · first
                               | rfl
                               | (have z9 : k9 = m9 := by
                                    rcases (by omega : k9 < m9 ∨ k9 = m9 ∨ m9 < k9) with z | z | z
                                    · exact absurd a2 (b3 _ a0 z)
                                    · exact z
                                    · exact absurd b2 (a3 _ b0 z)
                                  exact z9)
                               | (have z9 : m9 = k9 := by
                                    rcases (by omega : k9 < m9 ∨ k9 = m9 ∨ m9 < k9) with z | z | z
                                    · exact absurd a2 (b3 _ a0 z)
                                    · exact z.symm
                                    · exact absurd b2 (a3 _ b0 z)
                                  exact z9)
                               | omega
                           · repeat (first | exact xs.rf | refine xs.up ?_ (by decide))
                           · repeat (first | exact mss.rf | refine mss.up0 ?_ (by decide))
                           · first
                               | (simp [aup, hv2, hv3, hv4]; done)
                               | (simp [aup, hv2, hv3, hv4]; omega)
                               | (rw [aup_s, aup_s, hu]; split <;> omega)
                           · simp [aup, hv2, hv3, hv4]
                           · simp [aup, hv2, hv3, hv4])
                · first
                    | (exfalso; omega)
                    | exact absurd b2 (hno _ b0 b1)
                    | exact absurd a2 (mno _ a0 a1)
                    | skip
                      refine aw_iload_n dX7_line_12 rfl ?_
                      refine aw_iconst dX7_line_13 (by decide) ?_
                      refine aw_icmple (tgt := 23) dX7_line_14 (by decide) (fun h14 => ?_) (fun h14 => ?_)
                      · first
                          | (exfalso; omega)
                          | exact absurd b2 (hno _ b0 b1)
                          | exact absurd a2 (mno _ a0 a1)
                          | skip
                            refine aw_aload_n dX7_line_23 rfl ?_
                            refine aw_iload_n dX7_line_24 rfl ?_
                            refine aw_ifne (tgt := 36) dX7_line_25 (by decide) (fun h25 => ?_) (fun h25 => ?_)
                            · first
                                | (exfalso; omega)
                                | exact absurd b2 (hno _ b0 b1)
                                | exact absurd a2 (mno _ a0 a1)
                                | skip
                                  refine aw_iload_n dX7_line_36 rfl ?_
                                  refine aw_iconst dX7_line_37 (by decide) ?_
                                  refine aw_icmpne (tgt := 49) dX7_line_38 (by decide) (fun h38 => ?_) (fun h38 => ?_)
                                  · first
                                      | (exfalso; omega)
                                      | exact absurd b2 (hno _ b0 b1)
                                      | exact absurd a2 (mno _ a0 a1)
                                      | skip
                                        refine aw_iload_n dX7_line_49 rfl ?_
                                        refine aw_bipush dX7_line_50 (by decide) ?_
                                        refine aw_icmplt (tgt := 59) dX7_line_52 (by decide) (fun h52 => ?_) (fun h52 => ?_)
                                        · first
                                            | (exfalso; omega)
                                            | exact absurd b2 (hno _ b0 b1)
                                            | exact absurd a2 (mno _ a0 a1)
                                            | skip
                                              refine aw_aload_n dX7_line_59 rfl ?_
                                              refine aw_iload_n dX7_line_60 rfl ?_
                                              refine c_X7_295 rfl dX7_line_61 m_ob (Nat.le_of_ble_eq_true rfl) (by omega) (C_m_hiveOf hp0 (fun m9 b0 b1 b2 b3 => ?_) (fun mno => ?_))
                                              · first
                                                  | (exfalso; omega)
                                                  | exact absurd b2 (hno _ b0 b1)
                                                  | exact absurd a2 (mno _ a0 a1)
                                                  | skip
                                                    refine aK_i ?_
                                                    refine c_X7_280 rfl dX7_line_64 m_ob (Nat.le_of_ble_eq_true rfl) (by omega) (C_m_orNone (fun hz => ?_) (fun hz => ?_))
                                                    · first
                                                        | (exfalso; omega)
                                                        | exact absurd b2 (hno _ b0 b1)
                                                        | exact absurd a2 (mno _ a0 a1)
                                                        | skip
                                                          refine aK_i ?_
                                                          refine aw_ireturn dX7_line_67 rfl ?_
                                                          first
                                                            | (exfalso; omega)
                                                            | (refine XR.sameE h ?_ ?_ ?_ ?_ ?_ ?_
                                                               · first
                                                                   | rfl
                                                                   | (have z9 : k9 = m9 := by
                                                                        rcases (by omega : k9 < m9 ∨ k9 = m9 ∨ m9 < k9) with z | z | z
                                                                        · exact absurd a2 (b3 _ a0 z)
                                                                        · exact z
                                                                        · exact absurd b2 (a3 _ b0 z)
                                                                      exact z9)
                                                                   | (have z9 : m9 = k9 := by
                                                                        rcases (by omega : k9 < m9 ∨ k9 = m9 ∨ m9 < k9) with z | z | z
                                                                        · exact absurd a2 (b3 _ a0 z)
                                                                        · exact z.symm
                                                                        · exact absurd b2 (a3 _ b0 z)
                                                                      exact z9)
                                                                   | omega
                                                               · repeat (first | exact xs.rf | refine xs.up ?_ (by decide))
                                                               · repeat (first | exact mss.rf | refine mss.up0 ?_ (by decide))
                                                               · first
                                                                   | (simp [aup, hv2, hv3, hv4]; done)
                                                                   | (simp [aup, hv2, hv3, hv4]; omega)
                                                                   | (rw [aup_s, aup_s, hu]; split <;> omega)
                                                               · simp [aup, hv2, hv3, hv4]
                                                               · simp [aup, hv2, hv3, hv4])
                                                    · first
                                                        | (exfalso; omega)
                                                        | exact absurd b2 (hno _ b0 b1)
                                                        | exact absurd a2 (mno _ a0 a1)
                                                        | skip
                                                          refine aK_i ?_
                                                          refine aw_ireturn dX7_line_67 rfl ?_
                                                          first
                                                            | (exfalso; omega)
                                                            | (refine XR.sameE h ?_ ?_ ?_ ?_ ?_ ?_
                                                               · first
                                                                   | rfl
                                                                   | (have z9 : k9 = m9 := by
                                                                        rcases (by omega : k9 < m9 ∨ k9 = m9 ∨ m9 < k9) with z | z | z
                                                                        · exact absurd a2 (b3 _ a0 z)
                                                                        · exact z
                                                                        · exact absurd b2 (a3 _ b0 z)
                                                                      exact z9)
                                                                   | (have z9 : m9 = k9 := by
                                                                        rcases (by omega : k9 < m9 ∨ k9 = m9 ∨ m9 < k9) with z | z | z
                                                                        · exact absurd a2 (b3 _ a0 z)
                                                                        · exact z.symm
                                                                        · exact absurd b2 (a3 _ b0 z)
                                                                      exact z9)
                                                                   | omega
                                                               · repeat (first | exact xs.rf | refine xs.up ?_ (by decide))
                                                               · repeat (first | exact mss.rf | refine mss.up0 ?_ (by decide))
                                                               · first
                                                                   | (simp [aup, hv2, hv3, hv4]; done)
                                                                   | (simp [aup, hv2, hv3, hv4]; omega)
                                                                   | (rw [aup_s, aup_s, hu]; split <;> omega)
                                                               · simp [aup, hv2, hv3, hv4]
                                                               · simp [aup, hv2, hv3, hv4])
                                              · first
                                                  | (exfalso; omega)
                                                  | exact absurd b2 (hno _ b0 b1)
                                                  | exact absurd a2 (mno _ a0 a1)
                                                  | skip
                                                    refine aK_i ?_
                                                    refine c_X7_280 rfl dX7_line_64 m_ob (Nat.le_of_ble_eq_true rfl) (by omega) (C_m_orNone (fun hz => ?_) (fun hz => ?_))
                                                    · first
                                                        | (exfalso; omega)
                                                        | exact absurd b2 (hno _ b0 b1)
                                                        | exact absurd a2 (mno _ a0 a1)
                                                        | skip
                                                          refine aK_i ?_
                                                          refine aw_ireturn dX7_line_67 rfl ?_
                                                          first
                                                            | (exfalso; omega)
                                                            | (refine XR.sameE h ?_ ?_ ?_ ?_ ?_ ?_
                                                               · first
                                                                   | rfl
                                                                   | (have z9 : k9 = m9 := by
                                                                        rcases (by omega : k9 < m9 ∨ k9 = m9 ∨ m9 < k9) with z | z | z
                                                                        · exact absurd a2 (b3 _ a0 z)
                                                                        · exact z
                                                                        · exact absurd b2 (a3 _ b0 z)
                                                                      exact z9)
                                                                   | (have z9 : m9 = k9 := by
                                                                        rcases (by omega : k9 < m9 ∨ k9 = m9 ∨ m9 < k9) with z | z | z
                                                                        · exact absurd a2 (b3 _ a0 z)
                                                                        · exact z.symm
                                                                        · exact absurd b2 (a3 _ b0 z)
                                                                      exact z9)
                                                                   | omega
                                                               · repeat (first | exact xs.rf | refine xs.up ?_ (by decide))
                                                               · repeat (first | exact mss.rf | refine mss.up0 ?_ (by decide))
                                                               · first
                                                                   | (simp [aup, hv2, hv3, hv4]; done)
                                                                   | (simp [aup, hv2, hv3, hv4]; omega)
                                                                   | (rw [aup_s, aup_s, hu]; split <;> omega)
                                                               · simp [aup, hv2, hv3, hv4]
                                                               · simp [aup, hv2, hv3, hv4])
                                                    · first
                                                        | (exfalso; omega)
                                                        | exact absurd b2 (hno _ b0 b1)
                                                        | exact absurd a2 (mno _ a0 a1)
                                                        | skip
                                                          refine aK_i ?_
                                                          refine aw_ireturn dX7_line_67 rfl ?_
                                                          first
                                                            | (exfalso; omega)
                                                            | (refine XR.sameE h ?_ ?_ ?_ ?_ ?_ ?_
                                                               · first
                                                                   | rfl
                                                                   | (have z9 : k9 = m9 := by
                                                                        rcases (by omega : k9 < m9 ∨ k9 = m9 ∨ m9 < k9) with z | z | z
                                                                        · exact absurd a2 (b3 _ a0 z)
                                                                        · exact z
                                                                        · exact absurd b2 (a3 _ b0 z)
                                                                      exact z9)
                                                                   | (have z9 : m9 = k9 := by
                                                                        rcases (by omega : k9 < m9 ∨ k9 = m9 ∨ m9 < k9) with z | z | z
                                                                        · exact absurd a2 (b3 _ a0 z)
                                                                        · exact z.symm
                                                                        · exact absurd b2 (a3 _ b0 z)
                                                                      exact z9)
                                                                   | omega
                                                               · repeat (first | exact xs.rf | refine xs.up ?_ (by decide))
                                                               · repeat (first | exact mss.rf | refine mss.up0 ?_ (by decide))
                                                               · first
                                                                   | (simp [aup, hv2, hv3, hv4]; done)
                                                                   | (simp [aup, hv2, hv3, hv4]; omega)
                                                                   | (rw [aup_s, aup_s, hu]; split <;> omega)
                                                               · simp [aup, hv2, hv3, hv4]
                                                               · simp [aup, hv2, hv3, hv4])
                                        · first
                                            | (exfalso; omega)
                                            | exact absurd b2 (hno _ b0 b1)
                                            | exact absurd a2 (mno _ a0 a1)
                                            | skip
                                              refine aw_iconst dX7_line_55 (by decide) ?_
                                              refine aw_goto (tgt := 64) dX7_line_56 (by decide) ?_
                                              refine c_X7_280 rfl dX7_line_64 m_ob (Nat.le_of_ble_eq_true rfl) (by omega) (C_m_orNone (fun hz => ?_) (fun hz => ?_))
                                              · first
                                                  | (exfalso; omega)
                                                  | exact absurd b2 (hno _ b0 b1)
                                                  | exact absurd a2 (mno _ a0 a1)
                                                  | skip
                                                    refine aK_i ?_
                                                    refine aw_ireturn dX7_line_67 rfl ?_
                                                    first
                                                      | (exfalso; omega)
                                                      | (refine XR.sameE h ?_ ?_ ?_ ?_ ?_ ?_
                                                         · first
                                                             | rfl
                                                             | (have z9 : k9 = m9 := by
                                                                  rcases (by omega : k9 < m9 ∨ k9 = m9 ∨ m9 < k9) with z | z | z
                                                                  · exact absurd a2 (b3 _ a0 z)
                                                                  · exact z
                                                                  · exact absurd b2 (a3 _ b0 z)
                                                                exact z9)
                                                             | (have z9 : m9 = k9 := by
                                                                  rcases (by omega : k9 < m9 ∨ k9 = m9 ∨ m9 < k9) with z | z | z
                                                                  · exact absurd a2 (b3 _ a0 z)
                                                                  · exact z.symm
                                                                  · exact absurd b2 (a3 _ b0 z)
                                                                exact z9)
                                                             | omega
                                                         · repeat (first | exact xs.rf | refine xs.up ?_ (by decide))
                                                         · repeat (first | exact mss.rf | refine mss.up0 ?_ (by decide))
                                                         · first
                                                             | (simp [aup, hv2, hv3, hv4]; done)
                                                             | (simp [aup, hv2, hv3, hv4]; omega)
                                                             | (rw [aup_s, aup_s, hu]; split <;> omega)
                                                         · simp [aup, hv2, hv3, hv4]
                                                         · simp [aup, hv2, hv3, hv4])
                                              · first
                                                  | (exfalso; omega)
                                                  | exact absurd b2 (hno _ b0 b1)
                                                  | exact absurd a2 (mno _ a0 a1)
                                                  | skip
                                                    refine aK_i ?_
                                                    refine aw_ireturn dX7_line_67 rfl ?_
                                                    first
                                                      | (exfalso; omega)
                                                      | (refine XR.sameE h ?_ ?_ ?_ ?_ ?_ ?_
                                                         · first
                                                             | rfl
                                                             | (have z9 : k9 = m9 := by
                                                                  rcases (by omega : k9 < m9 ∨ k9 = m9 ∨ m9 < k9) with z | z | z
                                                                  · exact absurd a2 (b3 _ a0 z)
                                                                  · exact z
                                                                  · exact absurd b2 (a3 _ b0 z)
                                                                exact z9)
                                                             | (have z9 : m9 = k9 := by
                                                                  rcases (by omega : k9 < m9 ∨ k9 = m9 ∨ m9 < k9) with z | z | z
                                                                  · exact absurd a2 (b3 _ a0 z)
                                                                  · exact z.symm
                                                                  · exact absurd b2 (a3 _ b0 z)
                                                                exact z9)
                                                             | omega
                                                         · repeat (first | exact xs.rf | refine xs.up ?_ (by decide))
                                                         · repeat (first | exact mss.rf | refine mss.up0 ?_ (by decide))
                                                         · first
                                                             | (simp [aup, hv2, hv3, hv4]; done)
                                                             | (simp [aup, hv2, hv3, hv4]; omega)
                                                             | (rw [aup_s, aup_s, hu]; split <;> omega)
                                                         · simp [aup, hv2, hv3, hv4]
                                                         · simp [aup, hv2, hv3, hv4])
                                  · first
                                      | (exfalso; omega)
                                      | exact absurd b2 (hno _ b0 b1)
                                      | exact absurd a2 (mno _ a0 a1)
                                      | skip
                                        refine aw_aload_n dX7_line_41 rfl ?_
                                        refine aw_iload_n dX7_line_42 rfl ?_
                                        refine c_X7_292 rfl dX7_line_43 m_ob (Nat.le_of_ble_eq_true rfl) (by omega) (C_m_fat (by omega) (fun z => by have q9 := PQ.f16 hPQ (q := a) (by omega) (by omega); omega) ?_)
                                        refine aK_i ?_
                                        refine aw_goto (tgt := 64) dX7_line_46 (by decide) ?_
                                        refine c_X7_280 rfl dX7_line_64 m_ob (Nat.le_of_ble_eq_true rfl) (by omega) (C_m_orNone (fun hz => ?_) (fun hz => ?_))
                                        · first
                                            | (exfalso; omega)
                                            | exact absurd b2 (hno _ b0 b1)
                                            | exact absurd a2 (mno _ a0 a1)
                                            | skip
                                              refine aK_i ?_
                                              refine aw_ireturn dX7_line_67 rfl ?_
                                              first
                                                | (exfalso; omega)
                                                | (refine XR.sameE h ?_ ?_ ?_ ?_ ?_ ?_
                                                   · first
                                                       | rfl
                                                       | (have z9 : k9 = m9 := by
                                                            rcases (by omega : k9 < m9 ∨ k9 = m9 ∨ m9 < k9) with z | z | z
                                                            · exact absurd a2 (b3 _ a0 z)
                                                            · exact z
                                                            · exact absurd b2 (a3 _ b0 z)
                                                          exact z9)
                                                       | (have z9 : m9 = k9 := by
                                                            rcases (by omega : k9 < m9 ∨ k9 = m9 ∨ m9 < k9) with z | z | z
                                                            · exact absurd a2 (b3 _ a0 z)
                                                            · exact z.symm
                                                            · exact absurd b2 (a3 _ b0 z)
                                                          exact z9)
                                                       | omega
                                                   · repeat (first | exact xs.rf | refine xs.up ?_ (by decide))
                                                   · repeat (first | exact mss.rf | refine mss.up0 ?_ (by decide))
                                                   · first
                                                       | (simp [aup, hv2, hv3, hv4]; done)
                                                       | (simp [aup, hv2, hv3, hv4]; omega)
                                                       | (rw [aup_s, aup_s, hu]; split <;> omega)
                                                   · simp [aup, hv2, hv3, hv4]
                                                   · simp [aup, hv2, hv3, hv4])
                                        · first
                                            | (exfalso; omega)
                                            | exact absurd b2 (hno _ b0 b1)
                                            | exact absurd a2 (mno _ a0 a1)
                                            | skip
                                              refine aK_i ?_
                                              refine aw_ireturn dX7_line_67 rfl ?_
                                              first
                                                | (exfalso; omega)
                                                | (refine XR.sameE h ?_ ?_ ?_ ?_ ?_ ?_
                                                   · first
                                                       | rfl
                                                       | (have z9 : k9 = m9 := by
                                                            rcases (by omega : k9 < m9 ∨ k9 = m9 ∨ m9 < k9) with z | z | z
                                                            · exact absurd a2 (b3 _ a0 z)
                                                            · exact z
                                                            · exact absurd b2 (a3 _ b0 z)
                                                          exact z9)
                                                       | (have z9 : m9 = k9 := by
                                                            rcases (by omega : k9 < m9 ∨ k9 = m9 ∨ m9 < k9) with z | z | z
                                                            · exact absurd a2 (b3 _ a0 z)
                                                            · exact z.symm
                                                            · exact absurd b2 (a3 _ b0 z)
                                                          exact z9)
                                                       | omega
                                                   · repeat (first | exact xs.rf | refine xs.up ?_ (by decide))
                                                   · repeat (first | exact mss.rf | refine mss.up0 ?_ (by decide))
                                                   · first
                                                       | (simp [aup, hv2, hv3, hv4]; done)
                                                       | (simp [aup, hv2, hv3, hv4]; omega)
                                                       | (rw [aup_s, aup_s, hu]; split <;> omega)
                                                   · simp [aup, hv2, hv3, hv4]
                                                   · simp [aup, hv2, hv3, hv4])
                            · first
                                | (exfalso; omega)
                                | exact absurd b2 (hno _ b0 b1)
                                | exact absurd a2 (mno _ a0 a1)
                                | skip
                                  refine aw_aload_n dX7_line_28 rfl ?_
                                  refine aw_iload_n dX7_line_29 rfl ?_
                                  refine c_X7_289 rfl dX7_line_30 m_ob (Nat.le_of_ble_eq_true rfl) (by omega) (C_m_mot (by omega) ?_)
                                  refine aK_i ?_
                                  refine aw_goto (tgt := 64) dX7_line_33 (by decide) ?_
                                  refine c_X7_280 rfl dX7_line_64 m_ob (Nat.le_of_ble_eq_true rfl) (by omega) (C_m_orNone (fun hz => ?_) (fun hz => ?_))
                                  · first
                                      | (exfalso; omega)
                                      | exact absurd b2 (hno _ b0 b1)
                                      | exact absurd a2 (mno _ a0 a1)
                                      | skip
                                        refine aK_i ?_
                                        refine aw_ireturn dX7_line_67 rfl ?_
                                        first
                                          | (exfalso; omega)
                                          | (refine XR.sameE h ?_ ?_ ?_ ?_ ?_ ?_
                                             · first
                                                 | rfl
                                                 | (have z9 : k9 = m9 := by
                                                      rcases (by omega : k9 < m9 ∨ k9 = m9 ∨ m9 < k9) with z | z | z
                                                      · exact absurd a2 (b3 _ a0 z)
                                                      · exact z
                                                      · exact absurd b2 (a3 _ b0 z)
                                                    exact z9)
                                                 | (have z9 : m9 = k9 := by
                                                      rcases (by omega : k9 < m9 ∨ k9 = m9 ∨ m9 < k9) with z | z | z
                                                      · exact absurd a2 (b3 _ a0 z)
                                                      · exact z.symm
                                                      · exact absurd b2 (a3 _ b0 z)
                                                    exact z9)
                                                 | omega
                                             · repeat (first | exact xs.rf | refine xs.up ?_ (by decide))
                                             · repeat (first | exact mss.rf | refine mss.up0 ?_ (by decide))
                                             · first
                                                 | (simp [aup, hv2, hv3, hv4]; done)
                                                 | (simp [aup, hv2, hv3, hv4]; omega)
                                                 | (rw [aup_s, aup_s, hu]; split <;> omega)
                                             · simp [aup, hv2, hv3, hv4]
                                             · simp [aup, hv2, hv3, hv4])
                                  · first
                                      | (exfalso; omega)
                                      | exact absurd b2 (hno _ b0 b1)
                                      | exact absurd a2 (mno _ a0 a1)
                                      | skip
                                        refine aK_i ?_
                                        refine aw_ireturn dX7_line_67 rfl ?_
                                        first
                                          | (exfalso; omega)
                                          | (refine XR.sameE h ?_ ?_ ?_ ?_ ?_ ?_
                                             · first
                                                 | rfl
                                                 | (have z9 : k9 = m9 := by
                                                      rcases (by omega : k9 < m9 ∨ k9 = m9 ∨ m9 < k9) with z | z | z
                                                      · exact absurd a2 (b3 _ a0 z)
                                                      · exact z
                                                      · exact absurd b2 (a3 _ b0 z)
                                                    exact z9)
                                                 | (have z9 : m9 = k9 := by
                                                      rcases (by omega : k9 < m9 ∨ k9 = m9 ∨ m9 < k9) with z | z | z
                                                      · exact absurd a2 (b3 _ a0 z)
                                                      · exact z.symm
                                                      · exact absurd b2 (a3 _ b0 z)
                                                    exact z9)
                                                 | omega
                                             · repeat (first | exact xs.rf | refine xs.up ?_ (by decide))
                                             · repeat (first | exact mss.rf | refine mss.up0 ?_ (by decide))
                                             · first
                                                 | (simp [aup, hv2, hv3, hv4]; done)
                                                 | (simp [aup, hv2, hv3, hv4]; omega)
                                                 | (rw [aup_s, aup_s, hu]; split <;> omega)
                                             · simp [aup, hv2, hv3, hv4]
                                             · simp [aup, hv2, hv3, hv4])
                      · first
                          | (exfalso; omega)
                          | exact absurd b2 (hno _ b0 b1)
                          | exact absurd a2 (mno _ a0 a1)
                          | skip
                            refine aw_aload_n dX7_line_17 rfl ?_
                            refine aw_iconst dX7_line_18 (by decide) ?_
                            refine c_X7_72 rfl dX7_line_19 m_ob (Nat.le_of_ble_eq_true rfl) (by omega) (C_m_refuse ?_)
                            refine aK_i ?_
                            refine aw_ireturn dX7_line_22 rfl ?_
                            first
                              | (exfalso; omega)
                              | (refine XR.sameE h ?_ ?_ ?_ ?_ ?_ ?_
                                 · first
                                     | rfl
                                     | (have z9 : k9 = m9 := by
                                          rcases (by omega : k9 < m9 ∨ k9 = m9 ∨ m9 < k9) with z | z | z
                                          · exact absurd a2 (b3 _ a0 z)
                                          · exact z
                                          · exact absurd b2 (a3 _ b0 z)
                                        exact z9)
                                     | (have z9 : m9 = k9 := by
                                          rcases (by omega : k9 < m9 ∨ k9 = m9 ∨ m9 < k9) with z | z | z
                                          · exact absurd a2 (b3 _ a0 z)
                                          · exact z.symm
                                          · exact absurd b2 (a3 _ b0 z)
                                        exact z9)
                                     | omega
                                 · repeat (first | exact xs.rf | refine xs.up ?_ (by decide))
                                 · repeat (first | exact mss.rf | refine mss.up0 ?_ (by decide))
                                 · first
                                     | (simp [aup, hv2, hv3, hv4]; done)
                                     | (simp [aup, hv2, hv3, hv4]; omega)
                                     | (rw [aup_s, aup_s, hu]; split <;> omega)
                                 · simp [aup, hv2, hv3, hv4]
                                 · simp [aup, hv2, hv3, hv4])
          · first
              | (exfalso; omega)
              | exact absurd b2 (hno _ b0 b1)
              | exact absurd a2 (mno _ a0 a1)
              | skip
                refine aK_i ?_
                refine aw_ifeq (tgt := 17) dX7_line_5 (by decide) (fun _ => ?_) (fun h => absurd h (by decide))
                refine aw_aload_n dX7_line_17 rfl ?_
                refine aw_iconst dX7_line_18 (by decide) ?_
                refine c_X7_72 rfl dX7_line_19 m_ob (Nat.le_of_ble_eq_true rfl) (by omega) (C_m_refuse ?_)
                refine aK_i ?_
                refine aw_ireturn dX7_line_22 rfl ?_
                first
                  | (exfalso; omega)
                  | (refine XR.sameE h ?_ ?_ ?_ ?_ ?_ ?_
                     · first
                         | rfl
                         | (have z9 : k9 = m9 := by
                              rcases (by omega : k9 < m9 ∨ k9 = m9 ∨ m9 < k9) with z | z | z
                              · exact absurd a2 (b3 _ a0 z)
                              · exact z
                              · exact absurd b2 (a3 _ b0 z)
                            exact z9)
                         | (have z9 : m9 = k9 := by
                              rcases (by omega : k9 < m9 ∨ k9 = m9 ∨ m9 < k9) with z | z | z
                              · exact absurd a2 (b3 _ a0 z)
                              · exact z.symm
                              · exact absurd b2 (a3 _ b0 z)
                            exact z9)
                         | omega
                     · repeat (first | exact xs.rf | refine xs.up ?_ (by decide))
                     · repeat (first | exact mss.rf | refine mss.up0 ?_ (by decide))
                     · first
                         | (simp [aup, hv2, hv3, hv4]; done)
                         | (simp [aup, hv2, hv3, hv4]; omega)
                         | (rw [aup_s, aup_s, hu]; split <;> omega)
                     · simp [aup, hv2, hv3, hv4]
                     · simp [aup, hv2, hv3, hv4])
        · refine aw_aload_n dX0_line_74 rfl ?_
          refine c_X0_182 rfl dX0_line_75 hR.o0 (Nat.le_of_ble_eq_true rfl) (by omega) (C_x_lines hR HY ?_)
          repeat (first | rw [aup_s] | rw [aup_n (by omega)])
          refine aK_i ?_
          refine g_X0_295_6 rfl dX0_line_78 HL.1 ?_
          skip
          refine aw_iload_n dX0_line_81 rfl ?_
          refine aw_iaload dX0_line_82 HL.2.1.2.1 (by omega) (by omega) ?_
          rw [HL1.motE xoo]
          refine aw_goto (tgt := 95) dX0_line_83 (by decide) ?_
          try rw [HL1.fatE xoo]
          refine c_X0_283 rfl dX0_line_95 hR.o0 (Nat.le_of_ble_eq_true rfl) (by omega) (C_x_answer (hR.up0 (j := 7) (v := 0)) (fun u hu => ?_))
          refine aK_i ?_
          refine aw_ireturn dX0_line_98 rfl ?_
          refine ⟨_, rfl, ?_⟩
          refine AMet.go (L := [some (vR 0), some (vI a), some (vI b)]) mok_X7_line (Nat.le_of_ble_eq_true rfl) rfl ?_
          refine aw_aload_n dX7_line_0 rfl ?_
          refine aw_iload_n dX7_line_1 rfl ?_
          refine c_X7_286 rfl dX7_line_2 m_ob (Nat.le_of_ble_eq_true rfl) (by omega) (C_m_isOne (by omega) (fun ho => ?_) (fun ho => ?_))
          · first
              | (exfalso; omega)
              | exact absurd b2 (hno _ b0 b1)
              | exact absurd a2 (mno _ a0 a1)
              | skip
                refine aK_i ?_
                refine aw_ifeq (tgt := 17) dX7_line_5 (by decide) (fun h => absurd h (by decide)) (fun _ => ?_)
                refine aw_iload_n dX7_line_8 rfl ?_
                refine aw_iflt (tgt := 17) dX7_line_9 (by decide) (fun h9 => ?_) (fun h9 => ?_)
                · first
                    | (exfalso; omega)
                    | exact absurd b2 (hno _ b0 b1)
                    | exact absurd a2 (mno _ a0 a1)
                    | skip
                      refine aw_aload_n dX7_line_17 rfl ?_
                      refine aw_iconst dX7_line_18 (by decide) ?_
                      refine c_X7_72 rfl dX7_line_19 m_ob (Nat.le_of_ble_eq_true rfl) (by omega) (C_m_refuse ?_)
                      refine aK_i ?_
                      refine aw_ireturn dX7_line_22 rfl ?_
                      first
                        | (exfalso; omega)
                        | (refine XR.sameE h ?_ ?_ ?_ ?_ ?_ ?_
                           · first
                               | rfl
                               | (have z9 : k9 = m9 := by
                                    rcases (by omega : k9 < m9 ∨ k9 = m9 ∨ m9 < k9) with z | z | z
                                    · exact absurd a2 (b3 _ a0 z)
                                    · exact z
                                    · exact absurd b2 (a3 _ b0 z)
                                  exact z9)
                               | (have z9 : m9 = k9 := by
                                    rcases (by omega : k9 < m9 ∨ k9 = m9 ∨ m9 < k9) with z | z | z
                                    · exact absurd a2 (b3 _ a0 z)
                                    · exact z.symm
                                    · exact absurd b2 (a3 _ b0 z)
                                  exact z9)
                               | omega
                           · repeat (first | exact xs.rf | refine xs.up ?_ (by decide))
                           · repeat (first | exact mss.rf | refine mss.up0 ?_ (by decide))
                           · first
                               | (simp [aup, hv2, hv3, hv4]; done)
                               | (simp [aup, hv2, hv3, hv4]; omega)
                               | (rw [aup_s, aup_s, hu]; split <;> omega)
                           · simp [aup, hv2, hv3, hv4]
                           · simp [aup, hv2, hv3, hv4])
                · first
                    | (exfalso; omega)
                    | exact absurd b2 (hno _ b0 b1)
                    | exact absurd a2 (mno _ a0 a1)
                    | skip
                      refine aw_iload_n dX7_line_12 rfl ?_
                      refine aw_iconst dX7_line_13 (by decide) ?_
                      refine aw_icmple (tgt := 23) dX7_line_14 (by decide) (fun h14 => ?_) (fun h14 => ?_)
                      · first
                          | (exfalso; omega)
                          | exact absurd b2 (hno _ b0 b1)
                          | exact absurd a2 (mno _ a0 a1)
                          | skip
                            refine aw_aload_n dX7_line_23 rfl ?_
                            refine aw_iload_n dX7_line_24 rfl ?_
                            refine aw_ifne (tgt := 36) dX7_line_25 (by decide) (fun h25 => ?_) (fun h25 => ?_)
                            · first
                                | (exfalso; omega)
                                | exact absurd b2 (hno _ b0 b1)
                                | exact absurd a2 (mno _ a0 a1)
                                | skip
                                  refine aw_iload_n dX7_line_36 rfl ?_
                                  refine aw_iconst dX7_line_37 (by decide) ?_
                                  refine aw_icmpne (tgt := 49) dX7_line_38 (by decide) (fun h38 => ?_) (fun h38 => ?_)
                                  · first
                                      | (exfalso; omega)
                                      | exact absurd b2 (hno _ b0 b1)
                                      | exact absurd a2 (mno _ a0 a1)
                                      | skip
                                        refine aw_iload_n dX7_line_49 rfl ?_
                                        refine aw_bipush dX7_line_50 (by decide) ?_
                                        refine aw_icmplt (tgt := 59) dX7_line_52 (by decide) (fun h52 => ?_) (fun h52 => ?_)
                                        · first
                                            | (exfalso; omega)
                                            | exact absurd b2 (hno _ b0 b1)
                                            | exact absurd a2 (mno _ a0 a1)
                                            | skip
                                              refine aw_aload_n dX7_line_59 rfl ?_
                                              refine aw_iload_n dX7_line_60 rfl ?_
                                              refine c_X7_295 rfl dX7_line_61 m_ob (Nat.le_of_ble_eq_true rfl) (by omega) (C_m_hiveOf hp0 (fun m9 b0 b1 b2 b3 => ?_) (fun mno => ?_))
                                              · first
                                                  | (exfalso; omega)
                                                  | exact absurd b2 (hno _ b0 b1)
                                                  | exact absurd a2 (mno _ a0 a1)
                                                  | skip
                                                    refine aK_i ?_
                                                    refine c_X7_280 rfl dX7_line_64 m_ob (Nat.le_of_ble_eq_true rfl) (by omega) (C_m_orNone (fun hz => ?_) (fun hz => ?_))
                                                    · first
                                                        | (exfalso; omega)
                                                        | exact absurd b2 (hno _ b0 b1)
                                                        | exact absurd a2 (mno _ a0 a1)
                                                        | skip
                                                          refine aK_i ?_
                                                          refine aw_ireturn dX7_line_67 rfl ?_
                                                          first
                                                            | (exfalso; omega)
                                                            | (refine XR.sameE h ?_ ?_ ?_ ?_ ?_ ?_
                                                               · first
                                                                   | rfl
                                                                   | (have z9 : k9 = m9 := by
                                                                        rcases (by omega : k9 < m9 ∨ k9 = m9 ∨ m9 < k9) with z | z | z
                                                                        · exact absurd a2 (b3 _ a0 z)
                                                                        · exact z
                                                                        · exact absurd b2 (a3 _ b0 z)
                                                                      exact z9)
                                                                   | (have z9 : m9 = k9 := by
                                                                        rcases (by omega : k9 < m9 ∨ k9 = m9 ∨ m9 < k9) with z | z | z
                                                                        · exact absurd a2 (b3 _ a0 z)
                                                                        · exact z.symm
                                                                        · exact absurd b2 (a3 _ b0 z)
                                                                      exact z9)
                                                                   | omega
                                                               · repeat (first | exact xs.rf | refine xs.up ?_ (by decide))
                                                               · repeat (first | exact mss.rf | refine mss.up0 ?_ (by decide))
                                                               · first
                                                                   | (simp [aup, hv2, hv3, hv4]; done)
                                                                   | (simp [aup, hv2, hv3, hv4]; omega)
                                                                   | (rw [aup_s, aup_s, hu]; split <;> omega)
                                                               · simp [aup, hv2, hv3, hv4]
                                                               · simp [aup, hv2, hv3, hv4])
                                                    · first
                                                        | (exfalso; omega)
                                                        | exact absurd b2 (hno _ b0 b1)
                                                        | exact absurd a2 (mno _ a0 a1)
                                                        | skip
                                                          refine aK_i ?_
                                                          refine aw_ireturn dX7_line_67 rfl ?_
                                                          first
                                                            | (exfalso; omega)
                                                            | (refine XR.sameE h ?_ ?_ ?_ ?_ ?_ ?_
                                                               · first
                                                                   | rfl
                                                                   | (have z9 : k9 = m9 := by
                                                                        rcases (by omega : k9 < m9 ∨ k9 = m9 ∨ m9 < k9) with z | z | z
                                                                        · exact absurd a2 (b3 _ a0 z)
                                                                        · exact z
                                                                        · exact absurd b2 (a3 _ b0 z)
                                                                      exact z9)
                                                                   | (have z9 : m9 = k9 := by
                                                                        rcases (by omega : k9 < m9 ∨ k9 = m9 ∨ m9 < k9) with z | z | z
                                                                        · exact absurd a2 (b3 _ a0 z)
                                                                        · exact z.symm
                                                                        · exact absurd b2 (a3 _ b0 z)
                                                                      exact z9)
                                                                   | omega
                                                               · repeat (first | exact xs.rf | refine xs.up ?_ (by decide))
                                                               · repeat (first | exact mss.rf | refine mss.up0 ?_ (by decide))
                                                               · first
                                                                   | (simp [aup, hv2, hv3, hv4]; done)
                                                                   | (simp [aup, hv2, hv3, hv4]; omega)
                                                                   | (rw [aup_s, aup_s, hu]; split <;> omega)
                                                               · simp [aup, hv2, hv3, hv4]
                                                               · simp [aup, hv2, hv3, hv4])
                                              · first
                                                  | (exfalso; omega)
                                                  | exact absurd b2 (hno _ b0 b1)
                                                  | exact absurd a2 (mno _ a0 a1)
                                                  | skip
                                                    refine aK_i ?_
                                                    refine c_X7_280 rfl dX7_line_64 m_ob (Nat.le_of_ble_eq_true rfl) (by omega) (C_m_orNone (fun hz => ?_) (fun hz => ?_))
                                                    · first
                                                        | (exfalso; omega)
                                                        | exact absurd b2 (hno _ b0 b1)
                                                        | exact absurd a2 (mno _ a0 a1)
                                                        | skip
                                                          refine aK_i ?_
                                                          refine aw_ireturn dX7_line_67 rfl ?_
                                                          first
                                                            | (exfalso; omega)
                                                            | (refine XR.sameE h ?_ ?_ ?_ ?_ ?_ ?_
                                                               · first
                                                                   | rfl
                                                                   | (have z9 : k9 = m9 := by
                                                                        rcases (by omega : k9 < m9 ∨ k9 = m9 ∨ m9 < k9) with z | z | z
                                                                        · exact absurd a2 (b3 _ a0 z)
                                                                        · exact z
                                                                        · exact absurd b2 (a3 _ b0 z)
                                                                      exact z9)
                                                                   | (have z9 : m9 = k9 := by
                                                                        rcases (by omega : k9 < m9 ∨ k9 = m9 ∨ m9 < k9) with z | z | z
                                                                        · exact absurd a2 (b3 _ a0 z)
                                                                        · exact z.symm
                                                                        · exact absurd b2 (a3 _ b0 z)
                                                                      exact z9)
                                                                   | omega
                                                               · repeat (first | exact xs.rf | refine xs.up ?_ (by decide))
                                                               · repeat (first | exact mss.rf | refine mss.up0 ?_ (by decide))
                                                               · first
                                                                   | (simp [aup, hv2, hv3, hv4]; done)
                                                                   | (simp [aup, hv2, hv3, hv4]; omega)
                                                                   | (rw [aup_s, aup_s, hu]; split <;> omega)
                                                               · simp [aup, hv2, hv3, hv4]
                                                               · simp [aup, hv2, hv3, hv4])
                                                    · first
                                                        | (exfalso; omega)
                                                        | exact absurd b2 (hno _ b0 b1)
                                                        | exact absurd a2 (mno _ a0 a1)
                                                        | skip
                                                          refine aK_i ?_
                                                          refine aw_ireturn dX7_line_67 rfl ?_
                                                          first
                                                            | (exfalso; omega)
                                                            | (refine XR.sameE h ?_ ?_ ?_ ?_ ?_ ?_
                                                               · first
                                                                   | rfl
                                                                   | (have z9 : k9 = m9 := by
                                                                        rcases (by omega : k9 < m9 ∨ k9 = m9 ∨ m9 < k9) with z | z | z
                                                                        · exact absurd a2 (b3 _ a0 z)
                                                                        · exact z
                                                                        · exact absurd b2 (a3 _ b0 z)
                                                                      exact z9)
                                                                   | (have z9 : m9 = k9 := by
                                                                        rcases (by omega : k9 < m9 ∨ k9 = m9 ∨ m9 < k9) with z | z | z
                                                                        · exact absurd a2 (b3 _ a0 z)
                                                                        · exact z.symm
                                                                        · exact absurd b2 (a3 _ b0 z)
                                                                      exact z9)
                                                                   | omega
                                                               · repeat (first | exact xs.rf | refine xs.up ?_ (by decide))
                                                               · repeat (first | exact mss.rf | refine mss.up0 ?_ (by decide))
                                                               · first
                                                                   | (simp [aup, hv2, hv3, hv4]; done)
                                                                   | (simp [aup, hv2, hv3, hv4]; omega)
                                                                   | (rw [aup_s, aup_s, hu]; split <;> omega)
                                                               · simp [aup, hv2, hv3, hv4]
                                                               · simp [aup, hv2, hv3, hv4])
                                        · first
                                            | (exfalso; omega)
                                            | exact absurd b2 (hno _ b0 b1)
                                            | exact absurd a2 (mno _ a0 a1)
                                            | skip
                                              refine aw_iconst dX7_line_55 (by decide) ?_
                                              refine aw_goto (tgt := 64) dX7_line_56 (by decide) ?_
                                              refine c_X7_280 rfl dX7_line_64 m_ob (Nat.le_of_ble_eq_true rfl) (by omega) (C_m_orNone (fun hz => ?_) (fun hz => ?_))
                                              · first
                                                  | (exfalso; omega)
                                                  | exact absurd b2 (hno _ b0 b1)
                                                  | exact absurd a2 (mno _ a0 a1)
                                                  | skip
                                                    refine aK_i ?_
                                                    refine aw_ireturn dX7_line_67 rfl ?_
                                                    first
                                                      | (exfalso; omega)
                                                      | (refine XR.sameE h ?_ ?_ ?_ ?_ ?_ ?_
                                                         · first
                                                             | rfl
                                                             | (have z9 : k9 = m9 := by
                                                                  rcases (by omega : k9 < m9 ∨ k9 = m9 ∨ m9 < k9) with z | z | z
                                                                  · exact absurd a2 (b3 _ a0 z)
                                                                  · exact z
                                                                  · exact absurd b2 (a3 _ b0 z)
                                                                exact z9)
                                                             | (have z9 : m9 = k9 := by
                                                                  rcases (by omega : k9 < m9 ∨ k9 = m9 ∨ m9 < k9) with z | z | z
                                                                  · exact absurd a2 (b3 _ a0 z)
                                                                  · exact z.symm
                                                                  · exact absurd b2 (a3 _ b0 z)
                                                                exact z9)
                                                             | omega
                                                         · repeat (first | exact xs.rf | refine xs.up ?_ (by decide))
                                                         · repeat (first | exact mss.rf | refine mss.up0 ?_ (by decide))
                                                         · first
                                                             | (simp [aup, hv2, hv3, hv4]; done)
                                                             | (simp [aup, hv2, hv3, hv4]; omega)
                                                             | (rw [aup_s, aup_s, hu]; split <;> omega)
                                                         · simp [aup, hv2, hv3, hv4]
                                                         · simp [aup, hv2, hv3, hv4])
                                              · first
                                                  | (exfalso; omega)
                                                  | exact absurd b2 (hno _ b0 b1)
                                                  | exact absurd a2 (mno _ a0 a1)
                                                  | skip
                                                    refine aK_i ?_
                                                    refine aw_ireturn dX7_line_67 rfl ?_
                                                    first
                                                      | (exfalso; omega)
                                                      | (refine XR.sameE h ?_ ?_ ?_ ?_ ?_ ?_
                                                         · first
                                                             | rfl
                                                             | (have z9 : k9 = m9 := by
                                                                  rcases (by omega : k9 < m9 ∨ k9 = m9 ∨ m9 < k9) with z | z | z
                                                                  · exact absurd a2 (b3 _ a0 z)
                                                                  · exact z
                                                                  · exact absurd b2 (a3 _ b0 z)
                                                                exact z9)
                                                             | (have z9 : m9 = k9 := by
                                                                  rcases (by omega : k9 < m9 ∨ k9 = m9 ∨ m9 < k9) with z | z | z
                                                                  · exact absurd a2 (b3 _ a0 z)
                                                                  · exact z.symm
                                                                  · exact absurd b2 (a3 _ b0 z)
                                                                exact z9)
                                                             | omega
                                                         · repeat (first | exact xs.rf | refine xs.up ?_ (by decide))
                                                         · repeat (first | exact mss.rf | refine mss.up0 ?_ (by decide))
                                                         · first
                                                             | (simp [aup, hv2, hv3, hv4]; done)
                                                             | (simp [aup, hv2, hv3, hv4]; omega)
                                                             | (rw [aup_s, aup_s, hu]; split <;> omega)
                                                         · simp [aup, hv2, hv3, hv4]
                                                         · simp [aup, hv2, hv3, hv4])
                                  · first
                                      | (exfalso; omega)
                                      | exact absurd b2 (hno _ b0 b1)
                                      | exact absurd a2 (mno _ a0 a1)
                                      | skip
                                        refine aw_aload_n dX7_line_41 rfl ?_
                                        refine aw_iload_n dX7_line_42 rfl ?_
                                        refine c_X7_292 rfl dX7_line_43 m_ob (Nat.le_of_ble_eq_true rfl) (by omega) (C_m_fat (by omega) (fun z => by have q9 := PQ.f16 hPQ (q := a) (by omega) (by omega); omega) ?_)
                                        refine aK_i ?_
                                        refine aw_goto (tgt := 64) dX7_line_46 (by decide) ?_
                                        refine c_X7_280 rfl dX7_line_64 m_ob (Nat.le_of_ble_eq_true rfl) (by omega) (C_m_orNone (fun hz => ?_) (fun hz => ?_))
                                        · first
                                            | (exfalso; omega)
                                            | exact absurd b2 (hno _ b0 b1)
                                            | exact absurd a2 (mno _ a0 a1)
                                            | skip
                                              refine aK_i ?_
                                              refine aw_ireturn dX7_line_67 rfl ?_
                                              first
                                                | (exfalso; omega)
                                                | (refine XR.sameE h ?_ ?_ ?_ ?_ ?_ ?_
                                                   · first
                                                       | rfl
                                                       | (have z9 : k9 = m9 := by
                                                            rcases (by omega : k9 < m9 ∨ k9 = m9 ∨ m9 < k9) with z | z | z
                                                            · exact absurd a2 (b3 _ a0 z)
                                                            · exact z
                                                            · exact absurd b2 (a3 _ b0 z)
                                                          exact z9)
                                                       | (have z9 : m9 = k9 := by
                                                            rcases (by omega : k9 < m9 ∨ k9 = m9 ∨ m9 < k9) with z | z | z
                                                            · exact absurd a2 (b3 _ a0 z)
                                                            · exact z.symm
                                                            · exact absurd b2 (a3 _ b0 z)
                                                          exact z9)
                                                       | omega
                                                   · repeat (first | exact xs.rf | refine xs.up ?_ (by decide))
                                                   · repeat (first | exact mss.rf | refine mss.up0 ?_ (by decide))
                                                   · first
                                                       | (simp [aup, hv2, hv3, hv4]; done)
                                                       | (simp [aup, hv2, hv3, hv4]; omega)
                                                       | (rw [aup_s, aup_s, hu]; split <;> omega)
                                                   · simp [aup, hv2, hv3, hv4]
                                                   · simp [aup, hv2, hv3, hv4])
                                        · first
                                            | (exfalso; omega)
                                            | exact absurd b2 (hno _ b0 b1)
                                            | exact absurd a2 (mno _ a0 a1)
                                            | skip
                                              refine aK_i ?_
                                              refine aw_ireturn dX7_line_67 rfl ?_
                                              first
                                                | (exfalso; omega)
                                                | (refine XR.sameE h ?_ ?_ ?_ ?_ ?_ ?_
                                                   · first
                                                       | rfl
                                                       | (have z9 : k9 = m9 := by
                                                            rcases (by omega : k9 < m9 ∨ k9 = m9 ∨ m9 < k9) with z | z | z
                                                            · exact absurd a2 (b3 _ a0 z)
                                                            · exact z
                                                            · exact absurd b2 (a3 _ b0 z)
                                                          exact z9)
                                                       | (have z9 : m9 = k9 := by
                                                            rcases (by omega : k9 < m9 ∨ k9 = m9 ∨ m9 < k9) with z | z | z
                                                            · exact absurd a2 (b3 _ a0 z)
                                                            · exact z.symm
                                                            · exact absurd b2 (a3 _ b0 z)
                                                          exact z9)
                                                       | omega
                                                   · repeat (first | exact xs.rf | refine xs.up ?_ (by decide))
                                                   · repeat (first | exact mss.rf | refine mss.up0 ?_ (by decide))
                                                   · first
                                                       | (simp [aup, hv2, hv3, hv4]; done)
                                                       | (simp [aup, hv2, hv3, hv4]; omega)
                                                       | (rw [aup_s, aup_s, hu]; split <;> omega)
                                                   · simp [aup, hv2, hv3, hv4]
                                                   · simp [aup, hv2, hv3, hv4])
                            · first
                                | (exfalso; omega)
                                | exact absurd b2 (hno _ b0 b1)
                                | exact absurd a2 (mno _ a0 a1)
                                | skip
                                  refine aw_aload_n dX7_line_28 rfl ?_
                                  refine aw_iload_n dX7_line_29 rfl ?_
                                  refine c_X7_289 rfl dX7_line_30 m_ob (Nat.le_of_ble_eq_true rfl) (by omega) (C_m_mot (by omega) ?_)
                                  refine aK_i ?_
                                  refine aw_goto (tgt := 64) dX7_line_33 (by decide) ?_
                                  refine c_X7_280 rfl dX7_line_64 m_ob (Nat.le_of_ble_eq_true rfl) (by omega) (C_m_orNone (fun hz => ?_) (fun hz => ?_))
                                  · first
                                      | (exfalso; omega)
                                      | exact absurd b2 (hno _ b0 b1)
                                      | exact absurd a2 (mno _ a0 a1)
                                      | skip
                                        refine aK_i ?_
                                        refine aw_ireturn dX7_line_67 rfl ?_
                                        first
                                          | (exfalso; omega)
                                          | (refine XR.sameE h ?_ ?_ ?_ ?_ ?_ ?_
                                             · first
                                                 | rfl
                                                 | (have z9 : k9 = m9 := by
                                                      rcases (by omega : k9 < m9 ∨ k9 = m9 ∨ m9 < k9) with z | z | z
                                                      · exact absurd a2 (b3 _ a0 z)
                                                      · exact z
                                                      · exact absurd b2 (a3 _ b0 z)
                                                    exact z9)
                                                 | (have z9 : m9 = k9 := by
                                                      rcases (by omega : k9 < m9 ∨ k9 = m9 ∨ m9 < k9) with z | z | z
                                                      · exact absurd a2 (b3 _ a0 z)
                                                      · exact z.symm
                                                      · exact absurd b2 (a3 _ b0 z)
                                                    exact z9)
                                                 | omega
                                             · repeat (first | exact xs.rf | refine xs.up ?_ (by decide))
                                             · repeat (first | exact mss.rf | refine mss.up0 ?_ (by decide))
                                             · first
                                                 | (simp [aup, hv2, hv3, hv4]; done)
                                                 | (simp [aup, hv2, hv3, hv4]; omega)
                                                 | (rw [aup_s, aup_s, hu]; split <;> omega)
                                             · simp [aup, hv2, hv3, hv4]
                                             · simp [aup, hv2, hv3, hv4])
                                  · first
                                      | (exfalso; omega)
                                      | exact absurd b2 (hno _ b0 b1)
                                      | exact absurd a2 (mno _ a0 a1)
                                      | skip
                                        refine aK_i ?_
                                        refine aw_ireturn dX7_line_67 rfl ?_
                                        first
                                          | (exfalso; omega)
                                          | (refine XR.sameE h ?_ ?_ ?_ ?_ ?_ ?_
                                             · first
                                                 | rfl
                                                 | (have z9 : k9 = m9 := by
                                                      rcases (by omega : k9 < m9 ∨ k9 = m9 ∨ m9 < k9) with z | z | z
                                                      · exact absurd a2 (b3 _ a0 z)
                                                      · exact z
                                                      · exact absurd b2 (a3 _ b0 z)
                                                    exact z9)
                                                 | (have z9 : m9 = k9 := by
                                                      rcases (by omega : k9 < m9 ∨ k9 = m9 ∨ m9 < k9) with z | z | z
                                                      · exact absurd a2 (b3 _ a0 z)
                                                      · exact z.symm
                                                      · exact absurd b2 (a3 _ b0 z)
                                                    exact z9)
                                                 | omega
                                             · repeat (first | exact xs.rf | refine xs.up ?_ (by decide))
                                             · repeat (first | exact mss.rf | refine mss.up0 ?_ (by decide))
                                             · first
                                                 | (simp [aup, hv2, hv3, hv4]; done)
                                                 | (simp [aup, hv2, hv3, hv4]; omega)
                                                 | (rw [aup_s, aup_s, hu]; split <;> omega)
                                             · simp [aup, hv2, hv3, hv4]
                                             · simp [aup, hv2, hv3, hv4])
                      · first
                          | (exfalso; omega)
                          | exact absurd b2 (hno _ b0 b1)
                          | exact absurd a2 (mno _ a0 a1)
                          | skip
                            refine aw_aload_n dX7_line_17 rfl ?_
                            refine aw_iconst dX7_line_18 (by decide) ?_
                            refine c_X7_72 rfl dX7_line_19 m_ob (Nat.le_of_ble_eq_true rfl) (by omega) (C_m_refuse ?_)
                            refine aK_i ?_
                            refine aw_ireturn dX7_line_22 rfl ?_
                            first
                              | (exfalso; omega)
                              | (refine XR.sameE h ?_ ?_ ?_ ?_ ?_ ?_
                                 · first
                                     | rfl
                                     | (have z9 : k9 = m9 := by
                                          rcases (by omega : k9 < m9 ∨ k9 = m9 ∨ m9 < k9) with z | z | z
                                          · exact absurd a2 (b3 _ a0 z)
                                          · exact z
                                          · exact absurd b2 (a3 _ b0 z)
                                        exact z9)
                                     | (have z9 : m9 = k9 := by
                                          rcases (by omega : k9 < m9 ∨ k9 = m9 ∨ m9 < k9) with z | z | z
                                          · exact absurd a2 (b3 _ a0 z)
                                          · exact z.symm
                                          · exact absurd b2 (a3 _ b0 z)
                                        exact z9)
                                     | omega
                                 · repeat (first | exact xs.rf | refine xs.up ?_ (by decide))
                                 · repeat (first | exact mss.rf | refine mss.up0 ?_ (by decide))
                                 · first
                                     | (simp [aup, hv2, hv3, hv4]; done)
                                     | (simp [aup, hv2, hv3, hv4]; omega)
                                     | (rw [aup_s, aup_s, hu]; split <;> omega)
                                 · simp [aup, hv2, hv3, hv4]
                                 · simp [aup, hv2, hv3, hv4])
          · first
              | (exfalso; omega)
              | exact absurd b2 (hno _ b0 b1)
              | exact absurd a2 (mno _ a0 a1)
              | skip
                refine aK_i ?_
                refine aw_ifeq (tgt := 17) dX7_line_5 (by decide) (fun _ => ?_) (fun h => absurd h (by decide))
                refine aw_aload_n dX7_line_17 rfl ?_
                refine aw_iconst dX7_line_18 (by decide) ?_
                refine c_X7_72 rfl dX7_line_19 m_ob (Nat.le_of_ble_eq_true rfl) (by omega) (C_m_refuse ?_)
                refine aK_i ?_
                refine aw_ireturn dX7_line_22 rfl ?_
                first
                  | (exfalso; omega)
                  | (refine XR.sameE h ?_ ?_ ?_ ?_ ?_ ?_
                     · first
                         | rfl
                         | (have z9 : k9 = m9 := by
                              rcases (by omega : k9 < m9 ∨ k9 = m9 ∨ m9 < k9) with z | z | z
                              · exact absurd a2 (b3 _ a0 z)
                              · exact z
                              · exact absurd b2 (a3 _ b0 z)
                            exact z9)
                         | (have z9 : m9 = k9 := by
                              rcases (by omega : k9 < m9 ∨ k9 = m9 ∨ m9 < k9) with z | z | z
                              · exact absurd a2 (b3 _ a0 z)
                              · exact z.symm
                              · exact absurd b2 (a3 _ b0 z)
                            exact z9)
                         | omega
                     · repeat (first | exact xs.rf | refine xs.up ?_ (by decide))
                     · repeat (first | exact mss.rf | refine mss.up0 ?_ (by decide))
                     · first
                         | (simp [aup, hv2, hv3, hv4]; done)
                         | (simp [aup, hv2, hv3, hv4]; omega)
                         | (rw [aup_s, aup_s, hu]; split <;> omega)
                     · simp [aup, hv2, hv3, hv4]
                     · simp [aup, hv2, hv3, hv4])
      · refine aw_aload_n dX0_line_46 rfl ?_
        refine aw_iload_n dX0_line_47 rfl ?_
        refine aw_bipush dX0_line_48 (by decide) ?_
        refine aw_icmpge (tgt := 64) dX0_line_50 (by decide) (fun h50 => ?_) (fun h50 => ?_)
        · refine aw_iconst dX0_line_64 (by decide) ?_
          refine c_X0_283 rfl dX0_line_65 hR.o0 (Nat.le_of_ble_eq_true rfl) (by omega) (C_x_answer (hR.up0 (j := 7) (v := 0)) (fun u hu => ?_))
          refine aK_i ?_
          refine aw_ireturn dX0_line_68 rfl ?_
          refine ⟨_, rfl, ?_⟩
          refine AMet.go (L := [some (vR 0), some (vI a), some (vI b)]) mok_X7_line (Nat.le_of_ble_eq_true rfl) rfl ?_
          refine aw_aload_n dX7_line_0 rfl ?_
          refine aw_iload_n dX7_line_1 rfl ?_
          refine c_X7_286 rfl dX7_line_2 m_ob (Nat.le_of_ble_eq_true rfl) (by omega) (C_m_isOne (by omega) (fun ho => ?_) (fun ho => ?_))
          · first
              | (exfalso; omega)
              | exact absurd b2 (hno _ b0 b1)
              | exact absurd a2 (mno _ a0 a1)
              | skip
                refine aK_i ?_
                refine aw_ifeq (tgt := 17) dX7_line_5 (by decide) (fun h => absurd h (by decide)) (fun _ => ?_)
                refine aw_iload_n dX7_line_8 rfl ?_
                refine aw_iflt (tgt := 17) dX7_line_9 (by decide) (fun h9 => ?_) (fun h9 => ?_)
                · first
                    | (exfalso; omega)
                    | exact absurd b2 (hno _ b0 b1)
                    | exact absurd a2 (mno _ a0 a1)
                    | skip
                      refine aw_aload_n dX7_line_17 rfl ?_
                      refine aw_iconst dX7_line_18 (by decide) ?_
                      refine c_X7_72 rfl dX7_line_19 m_ob (Nat.le_of_ble_eq_true rfl) (by omega) (C_m_refuse ?_)
                      refine aK_i ?_
                      refine aw_ireturn dX7_line_22 rfl ?_
                      first
                        | (exfalso; omega)
                        | (refine XR.sameE h ?_ ?_ ?_ ?_ ?_ ?_
                           · first
                               | rfl
                               | (have z9 : k9 = m9 := by
                                    rcases (by omega : k9 < m9 ∨ k9 = m9 ∨ m9 < k9) with z | z | z
                                    · exact absurd a2 (b3 _ a0 z)
                                    · exact z
                                    · exact absurd b2 (a3 _ b0 z)
                                  exact z9)
                               | (have z9 : m9 = k9 := by
                                    rcases (by omega : k9 < m9 ∨ k9 = m9 ∨ m9 < k9) with z | z | z
                                    · exact absurd a2 (b3 _ a0 z)
                                    · exact z.symm
                                    · exact absurd b2 (a3 _ b0 z)
                                  exact z9)
                               | omega
                           · repeat (first | exact xs.rf | refine xs.up ?_ (by decide))
                           · repeat (first | exact mss.rf | refine mss.up0 ?_ (by decide))
                           · first
                               | (simp [aup, hv2, hv3, hv4]; done)
                               | (simp [aup, hv2, hv3, hv4]; omega)
                               | (rw [aup_s, aup_s, hu]; split <;> omega)
                           · simp [aup, hv2, hv3, hv4]
                           · simp [aup, hv2, hv3, hv4])
                · first
                    | (exfalso; omega)
                    | exact absurd b2 (hno _ b0 b1)
                    | exact absurd a2 (mno _ a0 a1)
                    | skip
                      refine aw_iload_n dX7_line_12 rfl ?_
                      refine aw_iconst dX7_line_13 (by decide) ?_
                      refine aw_icmple (tgt := 23) dX7_line_14 (by decide) (fun h14 => ?_) (fun h14 => ?_)
                      · first
                          | (exfalso; omega)
                          | exact absurd b2 (hno _ b0 b1)
                          | exact absurd a2 (mno _ a0 a1)
                          | skip
                            refine aw_aload_n dX7_line_23 rfl ?_
                            refine aw_iload_n dX7_line_24 rfl ?_
                            refine aw_ifne (tgt := 36) dX7_line_25 (by decide) (fun h25 => ?_) (fun h25 => ?_)
                            · first
                                | (exfalso; omega)
                                | exact absurd b2 (hno _ b0 b1)
                                | exact absurd a2 (mno _ a0 a1)
                                | skip
                                  refine aw_iload_n dX7_line_36 rfl ?_
                                  refine aw_iconst dX7_line_37 (by decide) ?_
                                  refine aw_icmpne (tgt := 49) dX7_line_38 (by decide) (fun h38 => ?_) (fun h38 => ?_)
                                  · first
                                      | (exfalso; omega)
                                      | exact absurd b2 (hno _ b0 b1)
                                      | exact absurd a2 (mno _ a0 a1)
                                      | skip
                                        refine aw_iload_n dX7_line_49 rfl ?_
                                        refine aw_bipush dX7_line_50 (by decide) ?_
                                        refine aw_icmplt (tgt := 59) dX7_line_52 (by decide) (fun h52 => ?_) (fun h52 => ?_)
                                        · first
                                            | (exfalso; omega)
                                            | exact absurd b2 (hno _ b0 b1)
                                            | exact absurd a2 (mno _ a0 a1)
                                            | skip
                                              refine aw_aload_n dX7_line_59 rfl ?_
                                              refine aw_iload_n dX7_line_60 rfl ?_
                                              refine c_X7_295 rfl dX7_line_61 m_ob (Nat.le_of_ble_eq_true rfl) (by omega) (C_m_hiveOf hp0 (fun m9 b0 b1 b2 b3 => ?_) (fun mno => ?_))
                                              · first
                                                  | (exfalso; omega)
                                                  | exact absurd b2 (hno _ b0 b1)
                                                  | exact absurd a2 (mno _ a0 a1)
                                                  | skip
                                                    refine aK_i ?_
                                                    refine c_X7_280 rfl dX7_line_64 m_ob (Nat.le_of_ble_eq_true rfl) (by omega) (C_m_orNone (fun hz => ?_) (fun hz => ?_))
                                                    · first
                                                        | (exfalso; omega)
                                                        | exact absurd b2 (hno _ b0 b1)
                                                        | exact absurd a2 (mno _ a0 a1)
                                                        | skip
                                                          refine aK_i ?_
                                                          refine aw_ireturn dX7_line_67 rfl ?_
                                                          first
                                                            | (exfalso; omega)
                                                            | (refine XR.sameE h ?_ ?_ ?_ ?_ ?_ ?_
                                                               · first
                                                                   | rfl
                                                                   | (have z9 : k9 = m9 := by
                                                                        rcases (by omega : k9 < m9 ∨ k9 = m9 ∨ m9 < k9) with z | z | z
                                                                        · exact absurd a2 (b3 _ a0 z)
                                                                        · exact z
                                                                        · exact absurd b2 (a3 _ b0 z)
                                                                      exact z9)
                                                                   | (have z9 : m9 = k9 := by
                                                                        rcases (by omega : k9 < m9 ∨ k9 = m9 ∨ m9 < k9) with z | z | z
                                                                        · exact absurd a2 (b3 _ a0 z)
                                                                        · exact z.symm
                                                                        · exact absurd b2 (a3 _ b0 z)
                                                                      exact z9)
                                                                   | omega
                                                               · repeat (first | exact xs.rf | refine xs.up ?_ (by decide))
                                                               · repeat (first | exact mss.rf | refine mss.up0 ?_ (by decide))
                                                               · first
                                                                   | (simp [aup, hv2, hv3, hv4]; done)
                                                                   | (simp [aup, hv2, hv3, hv4]; omega)
                                                                   | (rw [aup_s, aup_s, hu]; split <;> omega)
                                                               · simp [aup, hv2, hv3, hv4]
                                                               · simp [aup, hv2, hv3, hv4])
                                                    · first
                                                        | (exfalso; omega)
                                                        | exact absurd b2 (hno _ b0 b1)
                                                        | exact absurd a2 (mno _ a0 a1)
                                                        | skip
                                                          refine aK_i ?_
                                                          refine aw_ireturn dX7_line_67 rfl ?_
                                                          first
                                                            | (exfalso; omega)
                                                            | (refine XR.sameE h ?_ ?_ ?_ ?_ ?_ ?_
                                                               · first
                                                                   | rfl
                                                                   | (have z9 : k9 = m9 := by
                                                                        rcases (by omega : k9 < m9 ∨ k9 = m9 ∨ m9 < k9) with z | z | z
                                                                        · exact absurd a2 (b3 _ a0 z)
                                                                        · exact z
                                                                        · exact absurd b2 (a3 _ b0 z)
                                                                      exact z9)
                                                                   | (have z9 : m9 = k9 := by
                                                                        rcases (by omega : k9 < m9 ∨ k9 = m9 ∨ m9 < k9) with z | z | z
                                                                        · exact absurd a2 (b3 _ a0 z)
                                                                        · exact z.symm
                                                                        · exact absurd b2 (a3 _ b0 z)
                                                                      exact z9)
                                                                   | omega
                                                               · repeat (first | exact xs.rf | refine xs.up ?_ (by decide))
                                                               · repeat (first | exact mss.rf | refine mss.up0 ?_ (by decide))
                                                               · first
                                                                   | (simp [aup, hv2, hv3, hv4]; done)
                                                                   | (simp [aup, hv2, hv3, hv4]; omega)
                                                                   | (rw [aup_s, aup_s, hu]; split <;> omega)
                                                               · simp [aup, hv2, hv3, hv4]
                                                               · simp [aup, hv2, hv3, hv4])
                                              · first
                                                  | (exfalso; omega)
                                                  | exact absurd b2 (hno _ b0 b1)
                                                  | exact absurd a2 (mno _ a0 a1)
                                                  | skip
                                                    refine aK_i ?_
                                                    refine c_X7_280 rfl dX7_line_64 m_ob (Nat.le_of_ble_eq_true rfl) (by omega) (C_m_orNone (fun hz => ?_) (fun hz => ?_))
                                                    · first
                                                        | (exfalso; omega)
                                                        | exact absurd b2 (hno _ b0 b1)
                                                        | exact absurd a2 (mno _ a0 a1)
                                                        | skip
                                                          refine aK_i ?_
                                                          refine aw_ireturn dX7_line_67 rfl ?_
                                                          first
                                                            | (exfalso; omega)
                                                            | (refine XR.sameE h ?_ ?_ ?_ ?_ ?_ ?_
                                                               · first
                                                                   | rfl
                                                                   | (have z9 : k9 = m9 := by
                                                                        rcases (by omega : k9 < m9 ∨ k9 = m9 ∨ m9 < k9) with z | z | z
                                                                        · exact absurd a2 (b3 _ a0 z)
                                                                        · exact z
                                                                        · exact absurd b2 (a3 _ b0 z)
                                                                      exact z9)
                                                                   | (have z9 : m9 = k9 := by
                                                                        rcases (by omega : k9 < m9 ∨ k9 = m9 ∨ m9 < k9) with z | z | z
                                                                        · exact absurd a2 (b3 _ a0 z)
                                                                        · exact z.symm
                                                                        · exact absurd b2 (a3 _ b0 z)
                                                                      exact z9)
                                                                   | omega
                                                               · repeat (first | exact xs.rf | refine xs.up ?_ (by decide))
                                                               · repeat (first | exact mss.rf | refine mss.up0 ?_ (by decide))
                                                               · first
                                                                   | (simp [aup, hv2, hv3, hv4]; done)
                                                                   | (simp [aup, hv2, hv3, hv4]; omega)
                                                                   | (rw [aup_s, aup_s, hu]; split <;> omega)
                                                               · simp [aup, hv2, hv3, hv4]
                                                               · simp [aup, hv2, hv3, hv4])
                                                    · first
                                                        | (exfalso; omega)
                                                        | exact absurd b2 (hno _ b0 b1)
                                                        | exact absurd a2 (mno _ a0 a1)
                                                        | skip
                                                          refine aK_i ?_
                                                          refine aw_ireturn dX7_line_67 rfl ?_
                                                          first
                                                            | (exfalso; omega)
                                                            | (refine XR.sameE h ?_ ?_ ?_ ?_ ?_ ?_
                                                               · first
                                                                   | rfl
                                                                   | (have z9 : k9 = m9 := by
                                                                        rcases (by omega : k9 < m9 ∨ k9 = m9 ∨ m9 < k9) with z | z | z
                                                                        · exact absurd a2 (b3 _ a0 z)
                                                                        · exact z
                                                                        · exact absurd b2 (a3 _ b0 z)
                                                                      exact z9)
                                                                   | (have z9 : m9 = k9 := by
                                                                        rcases (by omega : k9 < m9 ∨ k9 = m9 ∨ m9 < k9) with z | z | z
                                                                        · exact absurd a2 (b3 _ a0 z)
                                                                        · exact z.symm
                                                                        · exact absurd b2 (a3 _ b0 z)
                                                                      exact z9)
                                                                   | omega
                                                               · repeat (first | exact xs.rf | refine xs.up ?_ (by decide))
                                                               · repeat (first | exact mss.rf | refine mss.up0 ?_ (by decide))
                                                               · first
                                                                   | (simp [aup, hv2, hv3, hv4]; done)
                                                                   | (simp [aup, hv2, hv3, hv4]; omega)
                                                                   | (rw [aup_s, aup_s, hu]; split <;> omega)
                                                               · simp [aup, hv2, hv3, hv4]
                                                               · simp [aup, hv2, hv3, hv4])
                                        · first
                                            | (exfalso; omega)
                                            | exact absurd b2 (hno _ b0 b1)
                                            | exact absurd a2 (mno _ a0 a1)
                                            | skip
                                              refine aw_iconst dX7_line_55 (by decide) ?_
                                              refine aw_goto (tgt := 64) dX7_line_56 (by decide) ?_
                                              refine c_X7_280 rfl dX7_line_64 m_ob (Nat.le_of_ble_eq_true rfl) (by omega) (C_m_orNone (fun hz => ?_) (fun hz => ?_))
                                              · first
                                                  | (exfalso; omega)
                                                  | exact absurd b2 (hno _ b0 b1)
                                                  | exact absurd a2 (mno _ a0 a1)
                                                  | skip
                                                    refine aK_i ?_
                                                    refine aw_ireturn dX7_line_67 rfl ?_
                                                    first
                                                      | (exfalso; omega)
                                                      | (refine XR.sameE h ?_ ?_ ?_ ?_ ?_ ?_
                                                         · first
                                                             | rfl
                                                             | (have z9 : k9 = m9 := by
                                                                  rcases (by omega : k9 < m9 ∨ k9 = m9 ∨ m9 < k9) with z | z | z
                                                                  · exact absurd a2 (b3 _ a0 z)
                                                                  · exact z
                                                                  · exact absurd b2 (a3 _ b0 z)
                                                                exact z9)
                                                             | (have z9 : m9 = k9 := by
                                                                  rcases (by omega : k9 < m9 ∨ k9 = m9 ∨ m9 < k9) with z | z | z
                                                                  · exact absurd a2 (b3 _ a0 z)
                                                                  · exact z.symm
                                                                  · exact absurd b2 (a3 _ b0 z)
                                                                exact z9)
                                                             | omega
                                                         · repeat (first | exact xs.rf | refine xs.up ?_ (by decide))
                                                         · repeat (first | exact mss.rf | refine mss.up0 ?_ (by decide))
                                                         · first
                                                             | (simp [aup, hv2, hv3, hv4]; done)
                                                             | (simp [aup, hv2, hv3, hv4]; omega)
                                                             | (rw [aup_s, aup_s, hu]; split <;> omega)
                                                         · simp [aup, hv2, hv3, hv4]
                                                         · simp [aup, hv2, hv3, hv4])
                                              · first
                                                  | (exfalso; omega)
                                                  | exact absurd b2 (hno _ b0 b1)
                                                  | exact absurd a2 (mno _ a0 a1)
                                                  | skip
                                                    refine aK_i ?_
                                                    refine aw_ireturn dX7_line_67 rfl ?_
                                                    first
                                                      | (exfalso; omega)
                                                      | (refine XR.sameE h ?_ ?_ ?_ ?_ ?_ ?_
                                                         · first
                                                             | rfl
                                                             | (have z9 : k9 = m9 := by
                                                                  rcases (by omega : k9 < m9 ∨ k9 = m9 ∨ m9 < k9) with z | z | z
                                                                  · exact absurd a2 (b3 _ a0 z)
                                                                  · exact z
                                                                  · exact absurd b2 (a3 _ b0 z)
                                                                exact z9)
                                                             | (have z9 : m9 = k9 := by
                                                                  rcases (by omega : k9 < m9 ∨ k9 = m9 ∨ m9 < k9) with z | z | z
                                                                  · exact absurd a2 (b3 _ a0 z)
                                                                  · exact z.symm
                                                                  · exact absurd b2 (a3 _ b0 z)
                                                                exact z9)
                                                             | omega
                                                         · repeat (first | exact xs.rf | refine xs.up ?_ (by decide))
                                                         · repeat (first | exact mss.rf | refine mss.up0 ?_ (by decide))
                                                         · first
                                                             | (simp [aup, hv2, hv3, hv4]; done)
                                                             | (simp [aup, hv2, hv3, hv4]; omega)
                                                             | (rw [aup_s, aup_s, hu]; split <;> omega)
                                                         · simp [aup, hv2, hv3, hv4]
                                                         · simp [aup, hv2, hv3, hv4])
                                  · first
                                      | (exfalso; omega)
                                      | exact absurd b2 (hno _ b0 b1)
                                      | exact absurd a2 (mno _ a0 a1)
                                      | skip
                                        refine aw_aload_n dX7_line_41 rfl ?_
                                        refine aw_iload_n dX7_line_42 rfl ?_
                                        refine c_X7_292 rfl dX7_line_43 m_ob (Nat.le_of_ble_eq_true rfl) (by omega) (C_m_fat (by omega) (fun z => by have q9 := PQ.f16 hPQ (q := a) (by omega) (by omega); omega) ?_)
                                        refine aK_i ?_
                                        refine aw_goto (tgt := 64) dX7_line_46 (by decide) ?_
                                        refine c_X7_280 rfl dX7_line_64 m_ob (Nat.le_of_ble_eq_true rfl) (by omega) (C_m_orNone (fun hz => ?_) (fun hz => ?_))
                                        · first
                                            | (exfalso; omega)
                                            | exact absurd b2 (hno _ b0 b1)
                                            | exact absurd a2 (mno _ a0 a1)
                                            | skip
                                              refine aK_i ?_
                                              refine aw_ireturn dX7_line_67 rfl ?_
                                              first
                                                | (exfalso; omega)
                                                | (refine XR.sameE h ?_ ?_ ?_ ?_ ?_ ?_
                                                   · first
                                                       | rfl
                                                       | (have z9 : k9 = m9 := by
                                                            rcases (by omega : k9 < m9 ∨ k9 = m9 ∨ m9 < k9) with z | z | z
                                                            · exact absurd a2 (b3 _ a0 z)
                                                            · exact z
                                                            · exact absurd b2 (a3 _ b0 z)
                                                          exact z9)
                                                       | (have z9 : m9 = k9 := by
                                                            rcases (by omega : k9 < m9 ∨ k9 = m9 ∨ m9 < k9) with z | z | z
                                                            · exact absurd a2 (b3 _ a0 z)
                                                            · exact z.symm
                                                            · exact absurd b2 (a3 _ b0 z)
                                                          exact z9)
                                                       | omega
                                                   · repeat (first | exact xs.rf | refine xs.up ?_ (by decide))
                                                   · repeat (first | exact mss.rf | refine mss.up0 ?_ (by decide))
                                                   · first
                                                       | (simp [aup, hv2, hv3, hv4]; done)
                                                       | (simp [aup, hv2, hv3, hv4]; omega)
                                                       | (rw [aup_s, aup_s, hu]; split <;> omega)
                                                   · simp [aup, hv2, hv3, hv4]
                                                   · simp [aup, hv2, hv3, hv4])
                                        · first
                                            | (exfalso; omega)
                                            | exact absurd b2 (hno _ b0 b1)
                                            | exact absurd a2 (mno _ a0 a1)
                                            | skip
                                              refine aK_i ?_
                                              refine aw_ireturn dX7_line_67 rfl ?_
                                              first
                                                | (exfalso; omega)
                                                | (refine XR.sameE h ?_ ?_ ?_ ?_ ?_ ?_
                                                   · first
                                                       | rfl
                                                       | (have z9 : k9 = m9 := by
                                                            rcases (by omega : k9 < m9 ∨ k9 = m9 ∨ m9 < k9) with z | z | z
                                                            · exact absurd a2 (b3 _ a0 z)
                                                            · exact z
                                                            · exact absurd b2 (a3 _ b0 z)
                                                          exact z9)
                                                       | (have z9 : m9 = k9 := by
                                                            rcases (by omega : k9 < m9 ∨ k9 = m9 ∨ m9 < k9) with z | z | z
                                                            · exact absurd a2 (b3 _ a0 z)
                                                            · exact z.symm
                                                            · exact absurd b2 (a3 _ b0 z)
                                                          exact z9)
                                                       | omega
                                                   · repeat (first | exact xs.rf | refine xs.up ?_ (by decide))
                                                   · repeat (first | exact mss.rf | refine mss.up0 ?_ (by decide))
                                                   · first
                                                       | (simp [aup, hv2, hv3, hv4]; done)
                                                       | (simp [aup, hv2, hv3, hv4]; omega)
                                                       | (rw [aup_s, aup_s, hu]; split <;> omega)
                                                   · simp [aup, hv2, hv3, hv4]
                                                   · simp [aup, hv2, hv3, hv4])
                            · first
                                | (exfalso; omega)
                                | exact absurd b2 (hno _ b0 b1)
                                | exact absurd a2 (mno _ a0 a1)
                                | skip
                                  refine aw_aload_n dX7_line_28 rfl ?_
                                  refine aw_iload_n dX7_line_29 rfl ?_
                                  refine c_X7_289 rfl dX7_line_30 m_ob (Nat.le_of_ble_eq_true rfl) (by omega) (C_m_mot (by omega) ?_)
                                  refine aK_i ?_
                                  refine aw_goto (tgt := 64) dX7_line_33 (by decide) ?_
                                  refine c_X7_280 rfl dX7_line_64 m_ob (Nat.le_of_ble_eq_true rfl) (by omega) (C_m_orNone (fun hz => ?_) (fun hz => ?_))
                                  · first
                                      | (exfalso; omega)
                                      | exact absurd b2 (hno _ b0 b1)
                                      | exact absurd a2 (mno _ a0 a1)
                                      | skip
                                        refine aK_i ?_
                                        refine aw_ireturn dX7_line_67 rfl ?_
                                        first
                                          | (exfalso; omega)
                                          | (refine XR.sameE h ?_ ?_ ?_ ?_ ?_ ?_
                                             · first
                                                 | rfl
                                                 | (have z9 : k9 = m9 := by
                                                      rcases (by omega : k9 < m9 ∨ k9 = m9 ∨ m9 < k9) with z | z | z
                                                      · exact absurd a2 (b3 _ a0 z)
                                                      · exact z
                                                      · exact absurd b2 (a3 _ b0 z)
                                                    exact z9)
                                                 | (have z9 : m9 = k9 := by
                                                      rcases (by omega : k9 < m9 ∨ k9 = m9 ∨ m9 < k9) with z | z | z
                                                      · exact absurd a2 (b3 _ a0 z)
                                                      · exact z.symm
                                                      · exact absurd b2 (a3 _ b0 z)
                                                    exact z9)
                                                 | omega
                                             · repeat (first | exact xs.rf | refine xs.up ?_ (by decide))
                                             · repeat (first | exact mss.rf | refine mss.up0 ?_ (by decide))
                                             · first
                                                 | (simp [aup, hv2, hv3, hv4]; done)
                                                 | (simp [aup, hv2, hv3, hv4]; omega)
                                                 | (rw [aup_s, aup_s, hu]; split <;> omega)
                                             · simp [aup, hv2, hv3, hv4]
                                             · simp [aup, hv2, hv3, hv4])
                                  · first
                                      | (exfalso; omega)
                                      | exact absurd b2 (hno _ b0 b1)
                                      | exact absurd a2 (mno _ a0 a1)
                                      | skip
                                        refine aK_i ?_
                                        refine aw_ireturn dX7_line_67 rfl ?_
                                        first
                                          | (exfalso; omega)
                                          | (refine XR.sameE h ?_ ?_ ?_ ?_ ?_ ?_
                                             · first
                                                 | rfl
                                                 | (have z9 : k9 = m9 := by
                                                      rcases (by omega : k9 < m9 ∨ k9 = m9 ∨ m9 < k9) with z | z | z
                                                      · exact absurd a2 (b3 _ a0 z)
                                                      · exact z
                                                      · exact absurd b2 (a3 _ b0 z)
                                                    exact z9)
                                                 | (have z9 : m9 = k9 := by
                                                      rcases (by omega : k9 < m9 ∨ k9 = m9 ∨ m9 < k9) with z | z | z
                                                      · exact absurd a2 (b3 _ a0 z)
                                                      · exact z.symm
                                                      · exact absurd b2 (a3 _ b0 z)
                                                    exact z9)
                                                 | omega
                                             · repeat (first | exact xs.rf | refine xs.up ?_ (by decide))
                                             · repeat (first | exact mss.rf | refine mss.up0 ?_ (by decide))
                                             · first
                                                 | (simp [aup, hv2, hv3, hv4]; done)
                                                 | (simp [aup, hv2, hv3, hv4]; omega)
                                                 | (rw [aup_s, aup_s, hu]; split <;> omega)
                                             · simp [aup, hv2, hv3, hv4]
                                             · simp [aup, hv2, hv3, hv4])
                      · first
                          | (exfalso; omega)
                          | exact absurd b2 (hno _ b0 b1)
                          | exact absurd a2 (mno _ a0 a1)
                          | skip
                            refine aw_aload_n dX7_line_17 rfl ?_
                            refine aw_iconst dX7_line_18 (by decide) ?_
                            refine c_X7_72 rfl dX7_line_19 m_ob (Nat.le_of_ble_eq_true rfl) (by omega) (C_m_refuse ?_)
                            refine aK_i ?_
                            refine aw_ireturn dX7_line_22 rfl ?_
                            first
                              | (exfalso; omega)
                              | (refine XR.sameE h ?_ ?_ ?_ ?_ ?_ ?_
                                 · first
                                     | rfl
                                     | (have z9 : k9 = m9 := by
                                          rcases (by omega : k9 < m9 ∨ k9 = m9 ∨ m9 < k9) with z | z | z
                                          · exact absurd a2 (b3 _ a0 z)
                                          · exact z
                                          · exact absurd b2 (a3 _ b0 z)
                                        exact z9)
                                     | (have z9 : m9 = k9 := by
                                          rcases (by omega : k9 < m9 ∨ k9 = m9 ∨ m9 < k9) with z | z | z
                                          · exact absurd a2 (b3 _ a0 z)
                                          · exact z.symm
                                          · exact absurd b2 (a3 _ b0 z)
                                        exact z9)
                                     | omega
                                 · repeat (first | exact xs.rf | refine xs.up ?_ (by decide))
                                 · repeat (first | exact mss.rf | refine mss.up0 ?_ (by decide))
                                 · first
                                     | (simp [aup, hv2, hv3, hv4]; done)
                                     | (simp [aup, hv2, hv3, hv4]; omega)
                                     | (rw [aup_s, aup_s, hu]; split <;> omega)
                                 · simp [aup, hv2, hv3, hv4]
                                 · simp [aup, hv2, hv3, hv4])
          · first
              | (exfalso; omega)
              | exact absurd b2 (hno _ b0 b1)
              | exact absurd a2 (mno _ a0 a1)
              | skip
                refine aK_i ?_
                refine aw_ifeq (tgt := 17) dX7_line_5 (by decide) (fun _ => ?_) (fun h => absurd h (by decide))
                refine aw_aload_n dX7_line_17 rfl ?_
                refine aw_iconst dX7_line_18 (by decide) ?_
                refine c_X7_72 rfl dX7_line_19 m_ob (Nat.le_of_ble_eq_true rfl) (by omega) (C_m_refuse ?_)
                refine aK_i ?_
                refine aw_ireturn dX7_line_22 rfl ?_
                first
                  | (exfalso; omega)
                  | (refine XR.sameE h ?_ ?_ ?_ ?_ ?_ ?_
                     · first
                         | rfl
                         | (have z9 : k9 = m9 := by
                              rcases (by omega : k9 < m9 ∨ k9 = m9 ∨ m9 < k9) with z | z | z
                              · exact absurd a2 (b3 _ a0 z)
                              · exact z
                              · exact absurd b2 (a3 _ b0 z)
                            exact z9)
                         | (have z9 : m9 = k9 := by
                              rcases (by omega : k9 < m9 ∨ k9 = m9 ∨ m9 < k9) with z | z | z
                              · exact absurd a2 (b3 _ a0 z)
                              · exact z.symm
                              · exact absurd b2 (a3 _ b0 z)
                            exact z9)
                         | omega
                     · repeat (first | exact xs.rf | refine xs.up ?_ (by decide))
                     · repeat (first | exact mss.rf | refine mss.up0 ?_ (by decide))
                     · first
                         | (simp [aup, hv2, hv3, hv4]; done)
                         | (simp [aup, hv2, hv3, hv4]; omega)
                         | (rw [aup_s, aup_s, hu]; split <;> omega)
                     · simp [aup, hv2, hv3, hv4]
                     · simp [aup, hv2, hv3, hv4])
        · refine aw_aload_n dX0_line_53 rfl ?_
          refine c_X0_158 rfl dX0_line_54 hR.o0 (Nat.le_of_ble_eq_true rfl) (by omega) (C_x_yard2 hR ?_)
          refine aK_i ?_
          refine aw_iload_n dX0_line_57 rfl ?_
          refine c_X0_292 rfl dX0_line_58 HY.1 (Nat.le_of_ble_eq_true rfl) (by omega) (C_x_homeOf (HY.up0 (j := 7) (v := 0) hR.1.2 (by decide)) (fun k9 a0 a1 a2 a3 => ?_) (fun hno => ?_))
          · refine aK_i ?_
            refine aw_goto (tgt := 65) dX0_line_61 (by decide) ?_
            refine c_X0_283 rfl dX0_line_65 hR.o0 (Nat.le_of_ble_eq_true rfl) (by omega) (C_x_answer (hR.up0 (j := 7) (v := 0)) (fun u hu => ?_))
            refine aK_i ?_
            refine aw_ireturn dX0_line_68 rfl ?_
            refine ⟨_, rfl, ?_⟩
            refine AMet.go (L := [some (vR 0), some (vI a), some (vI b)]) mok_X7_line (Nat.le_of_ble_eq_true rfl) rfl ?_
            refine aw_aload_n dX7_line_0 rfl ?_
            refine aw_iload_n dX7_line_1 rfl ?_
            refine c_X7_286 rfl dX7_line_2 m_ob (Nat.le_of_ble_eq_true rfl) (by omega) (C_m_isOne (by omega) (fun ho => ?_) (fun ho => ?_))
            · first
                | (exfalso; omega)
                | exact absurd b2 (hno _ b0 b1)
                | exact absurd a2 (mno _ a0 a1)
                | skip
                  refine aK_i ?_
                  refine aw_ifeq (tgt := 17) dX7_line_5 (by decide) (fun h => absurd h (by decide)) (fun _ => ?_)
                  refine aw_iload_n dX7_line_8 rfl ?_
                  refine aw_iflt (tgt := 17) dX7_line_9 (by decide) (fun h9 => ?_) (fun h9 => ?_)
                  · first
                      | (exfalso; omega)
                      | exact absurd b2 (hno _ b0 b1)
                      | exact absurd a2 (mno _ a0 a1)
                      | skip
                        refine aw_aload_n dX7_line_17 rfl ?_
                        refine aw_iconst dX7_line_18 (by decide) ?_
                        refine c_X7_72 rfl dX7_line_19 m_ob (Nat.le_of_ble_eq_true rfl) (by omega) (C_m_refuse ?_)
                        refine aK_i ?_
                        refine aw_ireturn dX7_line_22 rfl ?_
                        first
                          | (exfalso; omega)
                          | (refine XR.sameE h ?_ ?_ ?_ ?_ ?_ ?_
                             · first
                                 | rfl
                                 | (have z9 : k9 = m9 := by
                                      rcases (by omega : k9 < m9 ∨ k9 = m9 ∨ m9 < k9) with z | z | z
                                      · exact absurd a2 (b3 _ a0 z)
                                      · exact z
                                      · exact absurd b2 (a3 _ b0 z)
                                    exact z9)
                                 | (have z9 : m9 = k9 := by
                                      rcases (by omega : k9 < m9 ∨ k9 = m9 ∨ m9 < k9) with z | z | z
                                      · exact absurd a2 (b3 _ a0 z)
                                      · exact z.symm
                                      · exact absurd b2 (a3 _ b0 z)
                                    exact z9)
                                 | omega
                             · repeat (first | exact xs.rf | refine xs.up ?_ (by decide))
                             · repeat (first | exact mss.rf | refine mss.up0 ?_ (by decide))
                             · first
                                 | (simp [aup, hv2, hv3, hv4]; done)
                                 | (simp [aup, hv2, hv3, hv4]; omega)
                                 | (rw [aup_s, aup_s, hu]; split <;> omega)
                             · simp [aup, hv2, hv3, hv4]
                             · simp [aup, hv2, hv3, hv4])
                  · first
                      | (exfalso; omega)
                      | exact absurd b2 (hno _ b0 b1)
                      | exact absurd a2 (mno _ a0 a1)
                      | skip
                        refine aw_iload_n dX7_line_12 rfl ?_
                        refine aw_iconst dX7_line_13 (by decide) ?_
                        refine aw_icmple (tgt := 23) dX7_line_14 (by decide) (fun h14 => ?_) (fun h14 => ?_)
                        · first
                            | (exfalso; omega)
                            | exact absurd b2 (hno _ b0 b1)
                            | exact absurd a2 (mno _ a0 a1)
                            | skip
                              refine aw_aload_n dX7_line_23 rfl ?_
                              refine aw_iload_n dX7_line_24 rfl ?_
                              refine aw_ifne (tgt := 36) dX7_line_25 (by decide) (fun h25 => ?_) (fun h25 => ?_)
                              · first
                                  | (exfalso; omega)
                                  | exact absurd b2 (hno _ b0 b1)
                                  | exact absurd a2 (mno _ a0 a1)
                                  | skip
                                    refine aw_iload_n dX7_line_36 rfl ?_
                                    refine aw_iconst dX7_line_37 (by decide) ?_
                                    refine aw_icmpne (tgt := 49) dX7_line_38 (by decide) (fun h38 => ?_) (fun h38 => ?_)
                                    · first
                                        | (exfalso; omega)
                                        | exact absurd b2 (hno _ b0 b1)
                                        | exact absurd a2 (mno _ a0 a1)
                                        | skip
                                          refine aw_iload_n dX7_line_49 rfl ?_
                                          refine aw_bipush dX7_line_50 (by decide) ?_
                                          refine aw_icmplt (tgt := 59) dX7_line_52 (by decide) (fun h52 => ?_) (fun h52 => ?_)
                                          · first
                                              | (exfalso; omega)
                                              | exact absurd b2 (hno _ b0 b1)
                                              | exact absurd a2 (mno _ a0 a1)
                                              | skip
                                                refine aw_aload_n dX7_line_59 rfl ?_
                                                refine aw_iload_n dX7_line_60 rfl ?_
                                                refine c_X7_295 rfl dX7_line_61 m_ob (Nat.le_of_ble_eq_true rfl) (by omega) (C_m_hiveOf hp0 (fun m9 b0 b1 b2 b3 => ?_) (fun mno => ?_))
                                                · first
                                                    | (exfalso; omega)
                                                    | exact absurd b2 (hno _ b0 b1)
                                                    | exact absurd a2 (mno _ a0 a1)
                                                    | skip
                                                      refine aK_i ?_
                                                      refine c_X7_280 rfl dX7_line_64 m_ob (Nat.le_of_ble_eq_true rfl) (by omega) (C_m_orNone (fun hz => ?_) (fun hz => ?_))
                                                      · first
                                                          | (exfalso; omega)
                                                          | exact absurd b2 (hno _ b0 b1)
                                                          | exact absurd a2 (mno _ a0 a1)
                                                          | skip
                                                            refine aK_i ?_
                                                            refine aw_ireturn dX7_line_67 rfl ?_
                                                            first
                                                              | (exfalso; omega)
                                                              | (refine XR.sameE h ?_ ?_ ?_ ?_ ?_ ?_
                                                                 · first
                                                                     | rfl
                                                                     | (have z9 : k9 = m9 := by
                                                                          rcases (by omega : k9 < m9 ∨ k9 = m9 ∨ m9 < k9) with z | z | z
                                                                          · exact absurd a2 (b3 _ a0 z)
                                                                          · exact z
                                                                          · exact absurd b2 (a3 _ b0 z)
                                                                        exact z9)
                                                                     | (have z9 : m9 = k9 := by
                                                                          rcases (by omega : k9 < m9 ∨ k9 = m9 ∨ m9 < k9) with z | z | z
                                                                          · exact absurd a2 (b3 _ a0 z)
                                                                          · exact z.symm
                                                                          · exact absurd b2 (a3 _ b0 z)
                                                                        exact z9)
                                                                     | omega
                                                                 · repeat (first | exact xs.rf | refine xs.up ?_ (by decide))
                                                                 · repeat (first | exact mss.rf | refine mss.up0 ?_ (by decide))
                                                                 · first
                                                                     | (simp [aup, hv2, hv3, hv4]; done)
                                                                     | (simp [aup, hv2, hv3, hv4]; omega)
                                                                     | (rw [aup_s, aup_s, hu]; split <;> omega)
                                                                 · simp [aup, hv2, hv3, hv4]
                                                                 · simp [aup, hv2, hv3, hv4])
                                                      · first
                                                          | (exfalso; omega)
                                                          | exact absurd b2 (hno _ b0 b1)
                                                          | exact absurd a2 (mno _ a0 a1)
                                                          | skip
                                                            refine aK_i ?_
                                                            refine aw_ireturn dX7_line_67 rfl ?_
                                                            first
                                                              | (exfalso; omega)
                                                              | (refine XR.sameE h ?_ ?_ ?_ ?_ ?_ ?_
                                                                 · first
                                                                     | rfl
                                                                     | (have z9 : k9 = m9 := by
                                                                          rcases (by omega : k9 < m9 ∨ k9 = m9 ∨ m9 < k9) with z | z | z
                                                                          · exact absurd a2 (b3 _ a0 z)
                                                                          · exact z
                                                                          · exact absurd b2 (a3 _ b0 z)
                                                                        exact z9)
                                                                     | (have z9 : m9 = k9 := by
                                                                          rcases (by omega : k9 < m9 ∨ k9 = m9 ∨ m9 < k9) with z | z | z
                                                                          · exact absurd a2 (b3 _ a0 z)
                                                                          · exact z.symm
                                                                          · exact absurd b2 (a3 _ b0 z)
                                                                        exact z9)
                                                                     | omega
                                                                 · repeat (first | exact xs.rf | refine xs.up ?_ (by decide))
                                                                 · repeat (first | exact mss.rf | refine mss.up0 ?_ (by decide))
                                                                 · first
                                                                     | (simp [aup, hv2, hv3, hv4]; done)
                                                                     | (simp [aup, hv2, hv3, hv4]; omega)
                                                                     | (rw [aup_s, aup_s, hu]; split <;> omega)
                                                                 · simp [aup, hv2, hv3, hv4]
                                                                 · simp [aup, hv2, hv3, hv4])
                                                · first
                                                    | (exfalso; omega)
                                                    | exact absurd b2 (hno _ b0 b1)
                                                    | exact absurd a2 (mno _ a0 a1)
                                                    | skip
                                                      refine aK_i ?_
                                                      refine c_X7_280 rfl dX7_line_64 m_ob (Nat.le_of_ble_eq_true rfl) (by omega) (C_m_orNone (fun hz => ?_) (fun hz => ?_))
                                                      · first
                                                          | (exfalso; omega)
                                                          | exact absurd b2 (hno _ b0 b1)
                                                          | exact absurd a2 (mno _ a0 a1)
                                                          | skip
                                                            refine aK_i ?_
                                                            refine aw_ireturn dX7_line_67 rfl ?_
                                                            first
                                                              | (exfalso; omega)
                                                              | (refine XR.sameE h ?_ ?_ ?_ ?_ ?_ ?_
                                                                 · first
                                                                     | rfl
                                                                     | (have z9 : k9 = m9 := by
                                                                          rcases (by omega : k9 < m9 ∨ k9 = m9 ∨ m9 < k9) with z | z | z
                                                                          · exact absurd a2 (b3 _ a0 z)
                                                                          · exact z
                                                                          · exact absurd b2 (a3 _ b0 z)
                                                                        exact z9)
                                                                     | (have z9 : m9 = k9 := by
                                                                          rcases (by omega : k9 < m9 ∨ k9 = m9 ∨ m9 < k9) with z | z | z
                                                                          · exact absurd a2 (b3 _ a0 z)
                                                                          · exact z.symm
                                                                          · exact absurd b2 (a3 _ b0 z)
                                                                        exact z9)
                                                                     | omega
                                                                 · repeat (first | exact xs.rf | refine xs.up ?_ (by decide))
                                                                 · repeat (first | exact mss.rf | refine mss.up0 ?_ (by decide))
                                                                 · first
                                                                     | (simp [aup, hv2, hv3, hv4]; done)
                                                                     | (simp [aup, hv2, hv3, hv4]; omega)
                                                                     | (rw [aup_s, aup_s, hu]; split <;> omega)
                                                                 · simp [aup, hv2, hv3, hv4]
                                                                 · simp [aup, hv2, hv3, hv4])
                                                      · first
                                                          | (exfalso; omega)
                                                          | exact absurd b2 (hno _ b0 b1)
                                                          | exact absurd a2 (mno _ a0 a1)
                                                          | skip
                                                            refine aK_i ?_
                                                            refine aw_ireturn dX7_line_67 rfl ?_
                                                            first
                                                              | (exfalso; omega)
                                                              | (refine XR.sameE h ?_ ?_ ?_ ?_ ?_ ?_
                                                                 · first
                                                                     | rfl
                                                                     | (have z9 : k9 = m9 := by
                                                                          rcases (by omega : k9 < m9 ∨ k9 = m9 ∨ m9 < k9) with z | z | z
                                                                          · exact absurd a2 (b3 _ a0 z)
                                                                          · exact z
                                                                          · exact absurd b2 (a3 _ b0 z)
                                                                        exact z9)
                                                                     | (have z9 : m9 = k9 := by
                                                                          rcases (by omega : k9 < m9 ∨ k9 = m9 ∨ m9 < k9) with z | z | z
                                                                          · exact absurd a2 (b3 _ a0 z)
                                                                          · exact z.symm
                                                                          · exact absurd b2 (a3 _ b0 z)
                                                                        exact z9)
                                                                     | omega
                                                                 · repeat (first | exact xs.rf | refine xs.up ?_ (by decide))
                                                                 · repeat (first | exact mss.rf | refine mss.up0 ?_ (by decide))
                                                                 · first
                                                                     | (simp [aup, hv2, hv3, hv4]; done)
                                                                     | (simp [aup, hv2, hv3, hv4]; omega)
                                                                     | (rw [aup_s, aup_s, hu]; split <;> omega)
                                                                 · simp [aup, hv2, hv3, hv4]
                                                                 · simp [aup, hv2, hv3, hv4])
                                          · first
                                              | (exfalso; omega)
                                              | exact absurd b2 (hno _ b0 b1)
                                              | exact absurd a2 (mno _ a0 a1)
                                              | skip
                                                refine aw_iconst dX7_line_55 (by decide) ?_
                                                refine aw_goto (tgt := 64) dX7_line_56 (by decide) ?_
                                                refine c_X7_280 rfl dX7_line_64 m_ob (Nat.le_of_ble_eq_true rfl) (by omega) (C_m_orNone (fun hz => ?_) (fun hz => ?_))
                                                · first
                                                    | (exfalso; omega)
                                                    | exact absurd b2 (hno _ b0 b1)
                                                    | exact absurd a2 (mno _ a0 a1)
                                                    | skip
                                                      refine aK_i ?_
                                                      refine aw_ireturn dX7_line_67 rfl ?_
                                                      first
                                                        | (exfalso; omega)
                                                        | (refine XR.sameE h ?_ ?_ ?_ ?_ ?_ ?_
                                                           · first
                                                               | rfl
                                                               | (have z9 : k9 = m9 := by
                                                                    rcases (by omega : k9 < m9 ∨ k9 = m9 ∨ m9 < k9) with z | z | z
                                                                    · exact absurd a2 (b3 _ a0 z)
                                                                    · exact z
                                                                    · exact absurd b2 (a3 _ b0 z)
                                                                  exact z9)
                                                               | (have z9 : m9 = k9 := by
                                                                    rcases (by omega : k9 < m9 ∨ k9 = m9 ∨ m9 < k9) with z | z | z
                                                                    · exact absurd a2 (b3 _ a0 z)
                                                                    · exact z.symm
                                                                    · exact absurd b2 (a3 _ b0 z)
                                                                  exact z9)
                                                               | omega
                                                           · repeat (first | exact xs.rf | refine xs.up ?_ (by decide))
                                                           · repeat (first | exact mss.rf | refine mss.up0 ?_ (by decide))
                                                           · first
                                                               | (simp [aup, hv2, hv3, hv4]; done)
                                                               | (simp [aup, hv2, hv3, hv4]; omega)
                                                               | (rw [aup_s, aup_s, hu]; split <;> omega)
                                                           · simp [aup, hv2, hv3, hv4]
                                                           · simp [aup, hv2, hv3, hv4])
                                                · first
                                                    | (exfalso; omega)
                                                    | exact absurd b2 (hno _ b0 b1)
                                                    | exact absurd a2 (mno _ a0 a1)
                                                    | skip
                                                      refine aK_i ?_
                                                      refine aw_ireturn dX7_line_67 rfl ?_
                                                      first
                                                        | (exfalso; omega)
                                                        | (refine XR.sameE h ?_ ?_ ?_ ?_ ?_ ?_
                                                           · first
                                                               | rfl
                                                               | (have z9 : k9 = m9 := by
                                                                    rcases (by omega : k9 < m9 ∨ k9 = m9 ∨ m9 < k9) with z | z | z
                                                                    · exact absurd a2 (b3 _ a0 z)
                                                                    · exact z
                                                                    · exact absurd b2 (a3 _ b0 z)
                                                                  exact z9)
                                                               | (have z9 : m9 = k9 := by
                                                                    rcases (by omega : k9 < m9 ∨ k9 = m9 ∨ m9 < k9) with z | z | z
                                                                    · exact absurd a2 (b3 _ a0 z)
                                                                    · exact z.symm
                                                                    · exact absurd b2 (a3 _ b0 z)
                                                                  exact z9)
                                                               | omega
                                                           · repeat (first | exact xs.rf | refine xs.up ?_ (by decide))
                                                           · repeat (first | exact mss.rf | refine mss.up0 ?_ (by decide))
                                                           · first
                                                               | (simp [aup, hv2, hv3, hv4]; done)
                                                               | (simp [aup, hv2, hv3, hv4]; omega)
                                                               | (rw [aup_s, aup_s, hu]; split <;> omega)
                                                           · simp [aup, hv2, hv3, hv4]
                                                           · simp [aup, hv2, hv3, hv4])
                                    · first
                                        | (exfalso; omega)
                                        | exact absurd b2 (hno _ b0 b1)
                                        | exact absurd a2 (mno _ a0 a1)
                                        | skip
                                          refine aw_aload_n dX7_line_41 rfl ?_
                                          refine aw_iload_n dX7_line_42 rfl ?_
                                          refine c_X7_292 rfl dX7_line_43 m_ob (Nat.le_of_ble_eq_true rfl) (by omega) (C_m_fat (by omega) (fun z => by have q9 := PQ.f16 hPQ (q := a) (by omega) (by omega); omega) ?_)
                                          refine aK_i ?_
                                          refine aw_goto (tgt := 64) dX7_line_46 (by decide) ?_
                                          refine c_X7_280 rfl dX7_line_64 m_ob (Nat.le_of_ble_eq_true rfl) (by omega) (C_m_orNone (fun hz => ?_) (fun hz => ?_))
                                          · first
                                              | (exfalso; omega)
                                              | exact absurd b2 (hno _ b0 b1)
                                              | exact absurd a2 (mno _ a0 a1)
                                              | skip
                                                refine aK_i ?_
                                                refine aw_ireturn dX7_line_67 rfl ?_
                                                first
                                                  | (exfalso; omega)
                                                  | (refine XR.sameE h ?_ ?_ ?_ ?_ ?_ ?_
                                                     · first
                                                         | rfl
                                                         | (have z9 : k9 = m9 := by
                                                              rcases (by omega : k9 < m9 ∨ k9 = m9 ∨ m9 < k9) with z | z | z
                                                              · exact absurd a2 (b3 _ a0 z)
                                                              · exact z
                                                              · exact absurd b2 (a3 _ b0 z)
                                                            exact z9)
                                                         | (have z9 : m9 = k9 := by
                                                              rcases (by omega : k9 < m9 ∨ k9 = m9 ∨ m9 < k9) with z | z | z
                                                              · exact absurd a2 (b3 _ a0 z)
                                                              · exact z.symm
                                                              · exact absurd b2 (a3 _ b0 z)
                                                            exact z9)
                                                         | omega
                                                     · repeat (first | exact xs.rf | refine xs.up ?_ (by decide))
                                                     · repeat (first | exact mss.rf | refine mss.up0 ?_ (by decide))
                                                     · first
                                                         | (simp [aup, hv2, hv3, hv4]; done)
                                                         | (simp [aup, hv2, hv3, hv4]; omega)
                                                         | (rw [aup_s, aup_s, hu]; split <;> omega)
                                                     · simp [aup, hv2, hv3, hv4]
                                                     · simp [aup, hv2, hv3, hv4])
                                          · first
                                              | (exfalso; omega)
                                              | exact absurd b2 (hno _ b0 b1)
                                              | exact absurd a2 (mno _ a0 a1)
                                              | skip
                                                refine aK_i ?_
                                                refine aw_ireturn dX7_line_67 rfl ?_
                                                first
                                                  | (exfalso; omega)
                                                  | (refine XR.sameE h ?_ ?_ ?_ ?_ ?_ ?_
                                                     · first
                                                         | rfl
                                                         | (have z9 : k9 = m9 := by
                                                              rcases (by omega : k9 < m9 ∨ k9 = m9 ∨ m9 < k9) with z | z | z
                                                              · exact absurd a2 (b3 _ a0 z)
                                                              · exact z
                                                              · exact absurd b2 (a3 _ b0 z)
                                                            exact z9)
                                                         | (have z9 : m9 = k9 := by
                                                              rcases (by omega : k9 < m9 ∨ k9 = m9 ∨ m9 < k9) with z | z | z
                                                              · exact absurd a2 (b3 _ a0 z)
                                                              · exact z.symm
                                                              · exact absurd b2 (a3 _ b0 z)
                                                            exact z9)
                                                         | omega
                                                     · repeat (first | exact xs.rf | refine xs.up ?_ (by decide))
                                                     · repeat (first | exact mss.rf | refine mss.up0 ?_ (by decide))
                                                     · first
                                                         | (simp [aup, hv2, hv3, hv4]; done)
                                                         | (simp [aup, hv2, hv3, hv4]; omega)
                                                         | (rw [aup_s, aup_s, hu]; split <;> omega)
                                                     · simp [aup, hv2, hv3, hv4]
                                                     · simp [aup, hv2, hv3, hv4])
                              · first
                                  | (exfalso; omega)
                                  | exact absurd b2 (hno _ b0 b1)
                                  | exact absurd a2 (mno _ a0 a1)
                                  | skip
                                    refine aw_aload_n dX7_line_28 rfl ?_
                                    refine aw_iload_n dX7_line_29 rfl ?_
                                    refine c_X7_289 rfl dX7_line_30 m_ob (Nat.le_of_ble_eq_true rfl) (by omega) (C_m_mot (by omega) ?_)
                                    refine aK_i ?_
                                    refine aw_goto (tgt := 64) dX7_line_33 (by decide) ?_
                                    refine c_X7_280 rfl dX7_line_64 m_ob (Nat.le_of_ble_eq_true rfl) (by omega) (C_m_orNone (fun hz => ?_) (fun hz => ?_))
                                    · first
                                        | (exfalso; omega)
                                        | exact absurd b2 (hno _ b0 b1)
                                        | exact absurd a2 (mno _ a0 a1)
                                        | skip
                                          refine aK_i ?_
                                          refine aw_ireturn dX7_line_67 rfl ?_
                                          first
                                            | (exfalso; omega)
                                            | (refine XR.sameE h ?_ ?_ ?_ ?_ ?_ ?_
                                               · first
                                                   | rfl
                                                   | (have z9 : k9 = m9 := by
                                                        rcases (by omega : k9 < m9 ∨ k9 = m9 ∨ m9 < k9) with z | z | z
                                                        · exact absurd a2 (b3 _ a0 z)
                                                        · exact z
                                                        · exact absurd b2 (a3 _ b0 z)
                                                      exact z9)
                                                   | (have z9 : m9 = k9 := by
                                                        rcases (by omega : k9 < m9 ∨ k9 = m9 ∨ m9 < k9) with z | z | z
                                                        · exact absurd a2 (b3 _ a0 z)
                                                        · exact z.symm
                                                        · exact absurd b2 (a3 _ b0 z)
                                                      exact z9)
                                                   | omega
                                               · repeat (first | exact xs.rf | refine xs.up ?_ (by decide))
                                               · repeat (first | exact mss.rf | refine mss.up0 ?_ (by decide))
                                               · first
                                                   | (simp [aup, hv2, hv3, hv4]; done)
                                                   | (simp [aup, hv2, hv3, hv4]; omega)
                                                   | (rw [aup_s, aup_s, hu]; split <;> omega)
                                               · simp [aup, hv2, hv3, hv4]
                                               · simp [aup, hv2, hv3, hv4])
                                    · first
                                        | (exfalso; omega)
                                        | exact absurd b2 (hno _ b0 b1)
                                        | exact absurd a2 (mno _ a0 a1)
                                        | skip
                                          refine aK_i ?_
                                          refine aw_ireturn dX7_line_67 rfl ?_
                                          first
                                            | (exfalso; omega)
                                            | (refine XR.sameE h ?_ ?_ ?_ ?_ ?_ ?_
                                               · first
                                                   | rfl
                                                   | (have z9 : k9 = m9 := by
                                                        rcases (by omega : k9 < m9 ∨ k9 = m9 ∨ m9 < k9) with z | z | z
                                                        · exact absurd a2 (b3 _ a0 z)
                                                        · exact z
                                                        · exact absurd b2 (a3 _ b0 z)
                                                      exact z9)
                                                   | (have z9 : m9 = k9 := by
                                                        rcases (by omega : k9 < m9 ∨ k9 = m9 ∨ m9 < k9) with z | z | z
                                                        · exact absurd a2 (b3 _ a0 z)
                                                        · exact z.symm
                                                        · exact absurd b2 (a3 _ b0 z)
                                                      exact z9)
                                                   | omega
                                               · repeat (first | exact xs.rf | refine xs.up ?_ (by decide))
                                               · repeat (first | exact mss.rf | refine mss.up0 ?_ (by decide))
                                               · first
                                                   | (simp [aup, hv2, hv3, hv4]; done)
                                                   | (simp [aup, hv2, hv3, hv4]; omega)
                                                   | (rw [aup_s, aup_s, hu]; split <;> omega)
                                               · simp [aup, hv2, hv3, hv4]
                                               · simp [aup, hv2, hv3, hv4])
                        · first
                            | (exfalso; omega)
                            | exact absurd b2 (hno _ b0 b1)
                            | exact absurd a2 (mno _ a0 a1)
                            | skip
                              refine aw_aload_n dX7_line_17 rfl ?_
                              refine aw_iconst dX7_line_18 (by decide) ?_
                              refine c_X7_72 rfl dX7_line_19 m_ob (Nat.le_of_ble_eq_true rfl) (by omega) (C_m_refuse ?_)
                              refine aK_i ?_
                              refine aw_ireturn dX7_line_22 rfl ?_
                              first
                                | (exfalso; omega)
                                | (refine XR.sameE h ?_ ?_ ?_ ?_ ?_ ?_
                                   · first
                                       | rfl
                                       | (have z9 : k9 = m9 := by
                                            rcases (by omega : k9 < m9 ∨ k9 = m9 ∨ m9 < k9) with z | z | z
                                            · exact absurd a2 (b3 _ a0 z)
                                            · exact z
                                            · exact absurd b2 (a3 _ b0 z)
                                          exact z9)
                                       | (have z9 : m9 = k9 := by
                                            rcases (by omega : k9 < m9 ∨ k9 = m9 ∨ m9 < k9) with z | z | z
                                            · exact absurd a2 (b3 _ a0 z)
                                            · exact z.symm
                                            · exact absurd b2 (a3 _ b0 z)
                                          exact z9)
                                       | omega
                                   · repeat (first | exact xs.rf | refine xs.up ?_ (by decide))
                                   · repeat (first | exact mss.rf | refine mss.up0 ?_ (by decide))
                                   · first
                                       | (simp [aup, hv2, hv3, hv4]; done)
                                       | (simp [aup, hv2, hv3, hv4]; omega)
                                       | (rw [aup_s, aup_s, hu]; split <;> omega)
                                   · simp [aup, hv2, hv3, hv4]
                                   · simp [aup, hv2, hv3, hv4])
            · first
                | (exfalso; omega)
                | exact absurd b2 (hno _ b0 b1)
                | exact absurd a2 (mno _ a0 a1)
                | skip
                  refine aK_i ?_
                  refine aw_ifeq (tgt := 17) dX7_line_5 (by decide) (fun _ => ?_) (fun h => absurd h (by decide))
                  refine aw_aload_n dX7_line_17 rfl ?_
                  refine aw_iconst dX7_line_18 (by decide) ?_
                  refine c_X7_72 rfl dX7_line_19 m_ob (Nat.le_of_ble_eq_true rfl) (by omega) (C_m_refuse ?_)
                  refine aK_i ?_
                  refine aw_ireturn dX7_line_22 rfl ?_
                  first
                    | (exfalso; omega)
                    | (refine XR.sameE h ?_ ?_ ?_ ?_ ?_ ?_
                       · first
                           | rfl
                           | (have z9 : k9 = m9 := by
                                rcases (by omega : k9 < m9 ∨ k9 = m9 ∨ m9 < k9) with z | z | z
                                · exact absurd a2 (b3 _ a0 z)
                                · exact z
                                · exact absurd b2 (a3 _ b0 z)
                              exact z9)
                           | (have z9 : m9 = k9 := by
                                rcases (by omega : k9 < m9 ∨ k9 = m9 ∨ m9 < k9) with z | z | z
                                · exact absurd a2 (b3 _ a0 z)
                                · exact z.symm
                                · exact absurd b2 (a3 _ b0 z)
                              exact z9)
                           | omega
                       · repeat (first | exact xs.rf | refine xs.up ?_ (by decide))
                       · repeat (first | exact mss.rf | refine mss.up0 ?_ (by decide))
                       · first
                           | (simp [aup, hv2, hv3, hv4]; done)
                           | (simp [aup, hv2, hv3, hv4]; omega)
                           | (rw [aup_s, aup_s, hu]; split <;> omega)
                       · simp [aup, hv2, hv3, hv4]
                       · simp [aup, hv2, hv3, hv4])
          · refine aK_i ?_
            refine aw_goto (tgt := 65) dX0_line_61 (by decide) ?_
            refine c_X0_283 rfl dX0_line_65 hR.o0 (Nat.le_of_ble_eq_true rfl) (by omega) (C_x_answer (hR.up0 (j := 7) (v := 0)) (fun u hu => ?_))
            refine aK_i ?_
            refine aw_ireturn dX0_line_68 rfl ?_
            refine ⟨_, rfl, ?_⟩
            refine AMet.go (L := [some (vR 0), some (vI a), some (vI b)]) mok_X7_line (Nat.le_of_ble_eq_true rfl) rfl ?_
            refine aw_aload_n dX7_line_0 rfl ?_
            refine aw_iload_n dX7_line_1 rfl ?_
            refine c_X7_286 rfl dX7_line_2 m_ob (Nat.le_of_ble_eq_true rfl) (by omega) (C_m_isOne (by omega) (fun ho => ?_) (fun ho => ?_))
            · first
                | (exfalso; omega)
                | exact absurd b2 (hno _ b0 b1)
                | exact absurd a2 (mno _ a0 a1)
                | skip
                  refine aK_i ?_
                  refine aw_ifeq (tgt := 17) dX7_line_5 (by decide) (fun h => absurd h (by decide)) (fun _ => ?_)
                  refine aw_iload_n dX7_line_8 rfl ?_
                  refine aw_iflt (tgt := 17) dX7_line_9 (by decide) (fun h9 => ?_) (fun h9 => ?_)
                  · first
                      | (exfalso; omega)
                      | exact absurd b2 (hno _ b0 b1)
                      | exact absurd a2 (mno _ a0 a1)
                      | skip
                        refine aw_aload_n dX7_line_17 rfl ?_
                        refine aw_iconst dX7_line_18 (by decide) ?_
                        refine c_X7_72 rfl dX7_line_19 m_ob (Nat.le_of_ble_eq_true rfl) (by omega) (C_m_refuse ?_)
                        refine aK_i ?_
                        refine aw_ireturn dX7_line_22 rfl ?_
                        first
                          | (exfalso; omega)
                          | (refine XR.sameE h ?_ ?_ ?_ ?_ ?_ ?_
                             · first
                                 | rfl
                                 | (have z9 : k9 = m9 := by
                                      rcases (by omega : k9 < m9 ∨ k9 = m9 ∨ m9 < k9) with z | z | z
                                      · exact absurd a2 (b3 _ a0 z)
                                      · exact z
                                      · exact absurd b2 (a3 _ b0 z)
                                    exact z9)
                                 | (have z9 : m9 = k9 := by
                                      rcases (by omega : k9 < m9 ∨ k9 = m9 ∨ m9 < k9) with z | z | z
                                      · exact absurd a2 (b3 _ a0 z)
                                      · exact z.symm
                                      · exact absurd b2 (a3 _ b0 z)
                                    exact z9)
                                 | omega
                             · repeat (first | exact xs.rf | refine xs.up ?_ (by decide))
                             · repeat (first | exact mss.rf | refine mss.up0 ?_ (by decide))
                             · first
                                 | (simp [aup, hv2, hv3, hv4]; done)
                                 | (simp [aup, hv2, hv3, hv4]; omega)
                                 | (rw [aup_s, aup_s, hu]; split <;> omega)
                             · simp [aup, hv2, hv3, hv4]
                             · simp [aup, hv2, hv3, hv4])
                  · first
                      | (exfalso; omega)
                      | exact absurd b2 (hno _ b0 b1)
                      | exact absurd a2 (mno _ a0 a1)
                      | skip
                        refine aw_iload_n dX7_line_12 rfl ?_
                        refine aw_iconst dX7_line_13 (by decide) ?_
                        refine aw_icmple (tgt := 23) dX7_line_14 (by decide) (fun h14 => ?_) (fun h14 => ?_)
                        · first
                            | (exfalso; omega)
                            | exact absurd b2 (hno _ b0 b1)
                            | exact absurd a2 (mno _ a0 a1)
                            | skip
                              refine aw_aload_n dX7_line_23 rfl ?_
                              refine aw_iload_n dX7_line_24 rfl ?_
                              refine aw_ifne (tgt := 36) dX7_line_25 (by decide) (fun h25 => ?_) (fun h25 => ?_)
                              · first
                                  | (exfalso; omega)
                                  | exact absurd b2 (hno _ b0 b1)
                                  | exact absurd a2 (mno _ a0 a1)
                                  | skip
                                    refine aw_iload_n dX7_line_36 rfl ?_
                                    refine aw_iconst dX7_line_37 (by decide) ?_
                                    refine aw_icmpne (tgt := 49) dX7_line_38 (by decide) (fun h38 => ?_) (fun h38 => ?_)
                                    · first
                                        | (exfalso; omega)
                                        | exact absurd b2 (hno _ b0 b1)
                                        | exact absurd a2 (mno _ a0 a1)
                                        | skip
                                          refine aw_iload_n dX7_line_49 rfl ?_
                                          refine aw_bipush dX7_line_50 (by decide) ?_
                                          refine aw_icmplt (tgt := 59) dX7_line_52 (by decide) (fun h52 => ?_) (fun h52 => ?_)
                                          · first
                                              | (exfalso; omega)
                                              | exact absurd b2 (hno _ b0 b1)
                                              | exact absurd a2 (mno _ a0 a1)
                                              | skip
                                                refine aw_aload_n dX7_line_59 rfl ?_
                                                refine aw_iload_n dX7_line_60 rfl ?_
                                                refine c_X7_295 rfl dX7_line_61 m_ob (Nat.le_of_ble_eq_true rfl) (by omega) (C_m_hiveOf hp0 (fun m9 b0 b1 b2 b3 => ?_) (fun mno => ?_))
                                                · first
                                                    | (exfalso; omega)
                                                    | exact absurd b2 (hno _ b0 b1)
                                                    | exact absurd a2 (mno _ a0 a1)
                                                    | skip
                                                      refine aK_i ?_
                                                      refine c_X7_280 rfl dX7_line_64 m_ob (Nat.le_of_ble_eq_true rfl) (by omega) (C_m_orNone (fun hz => ?_) (fun hz => ?_))
                                                      · first
                                                          | (exfalso; omega)
                                                          | exact absurd b2 (hno _ b0 b1)
                                                          | exact absurd a2 (mno _ a0 a1)
                                                          | skip
                                                            refine aK_i ?_
                                                            refine aw_ireturn dX7_line_67 rfl ?_
                                                            first
                                                              | (exfalso; omega)
                                                              | (refine XR.sameE h ?_ ?_ ?_ ?_ ?_ ?_
                                                                 · first
                                                                     | rfl
                                                                     | (have z9 : k9 = m9 := by
                                                                          rcases (by omega : k9 < m9 ∨ k9 = m9 ∨ m9 < k9) with z | z | z
                                                                          · exact absurd a2 (b3 _ a0 z)
                                                                          · exact z
                                                                          · exact absurd b2 (a3 _ b0 z)
                                                                        exact z9)
                                                                     | (have z9 : m9 = k9 := by
                                                                          rcases (by omega : k9 < m9 ∨ k9 = m9 ∨ m9 < k9) with z | z | z
                                                                          · exact absurd a2 (b3 _ a0 z)
                                                                          · exact z.symm
                                                                          · exact absurd b2 (a3 _ b0 z)
                                                                        exact z9)
                                                                     | omega
                                                                 · repeat (first | exact xs.rf | refine xs.up ?_ (by decide))
                                                                 · repeat (first | exact mss.rf | refine mss.up0 ?_ (by decide))
                                                                 · first
                                                                     | (simp [aup, hv2, hv3, hv4]; done)
                                                                     | (simp [aup, hv2, hv3, hv4]; omega)
                                                                     | (rw [aup_s, aup_s, hu]; split <;> omega)
                                                                 · simp [aup, hv2, hv3, hv4]
                                                                 · simp [aup, hv2, hv3, hv4])
                                                      · first
                                                          | (exfalso; omega)
                                                          | exact absurd b2 (hno _ b0 b1)
                                                          | exact absurd a2 (mno _ a0 a1)
                                                          | skip
                                                            refine aK_i ?_
                                                            refine aw_ireturn dX7_line_67 rfl ?_
                                                            first
                                                              | (exfalso; omega)
                                                              | (refine XR.sameE h ?_ ?_ ?_ ?_ ?_ ?_
                                                                 · first
                                                                     | rfl
                                                                     | (have z9 : k9 = m9 := by
                                                                          rcases (by omega : k9 < m9 ∨ k9 = m9 ∨ m9 < k9) with z | z | z
                                                                          · exact absurd a2 (b3 _ a0 z)
                                                                          · exact z
                                                                          · exact absurd b2 (a3 _ b0 z)
                                                                        exact z9)
                                                                     | (have z9 : m9 = k9 := by
                                                                          rcases (by omega : k9 < m9 ∨ k9 = m9 ∨ m9 < k9) with z | z | z
                                                                          · exact absurd a2 (b3 _ a0 z)
                                                                          · exact z.symm
                                                                          · exact absurd b2 (a3 _ b0 z)
                                                                        exact z9)
                                                                     | omega
                                                                 · repeat (first | exact xs.rf | refine xs.up ?_ (by decide))
                                                                 · repeat (first | exact mss.rf | refine mss.up0 ?_ (by decide))
                                                                 · first
                                                                     | (simp [aup, hv2, hv3, hv4]; done)
                                                                     | (simp [aup, hv2, hv3, hv4]; omega)
                                                                     | (rw [aup_s, aup_s, hu]; split <;> omega)
                                                                 · simp [aup, hv2, hv3, hv4]
                                                                 · simp [aup, hv2, hv3, hv4])
                                                · first
                                                    | (exfalso; omega)
                                                    | exact absurd b2 (hno _ b0 b1)
                                                    | exact absurd a2 (mno _ a0 a1)
                                                    | skip
                                                      refine aK_i ?_
                                                      refine c_X7_280 rfl dX7_line_64 m_ob (Nat.le_of_ble_eq_true rfl) (by omega) (C_m_orNone (fun hz => ?_) (fun hz => ?_))
                                                      · first
                                                          | (exfalso; omega)
                                                          | exact absurd b2 (hno _ b0 b1)
                                                          | exact absurd a2 (mno _ a0 a1)
                                                          | skip
                                                            refine aK_i ?_
                                                            refine aw_ireturn dX7_line_67 rfl ?_
                                                            first
                                                              | (exfalso; omega)
                                                              | (refine XR.sameE h ?_ ?_ ?_ ?_ ?_ ?_
                                                                 · first
                                                                     | rfl
                                                                     | (have z9 : k9 = m9 := by
                                                                          rcases (by omega : k9 < m9 ∨ k9 = m9 ∨ m9 < k9) with z | z | z
                                                                          · exact absurd a2 (b3 _ a0 z)
                                                                          · exact z
                                                                          · exact absurd b2 (a3 _ b0 z)
                                                                        exact z9)
                                                                     | (have z9 : m9 = k9 := by
                                                                          rcases (by omega : k9 < m9 ∨ k9 = m9 ∨ m9 < k9) with z | z | z
                                                                          · exact absurd a2 (b3 _ a0 z)
                                                                          · exact z.symm
                                                                          · exact absurd b2 (a3 _ b0 z)
                                                                        exact z9)
                                                                     | omega
                                                                 · repeat (first | exact xs.rf | refine xs.up ?_ (by decide))
                                                                 · repeat (first | exact mss.rf | refine mss.up0 ?_ (by decide))
                                                                 · first
                                                                     | (simp [aup, hv2, hv3, hv4]; done)
                                                                     | (simp [aup, hv2, hv3, hv4]; omega)
                                                                     | (rw [aup_s, aup_s, hu]; split <;> omega)
                                                                 · simp [aup, hv2, hv3, hv4]
                                                                 · simp [aup, hv2, hv3, hv4])
                                                      · first
                                                          | (exfalso; omega)
                                                          | exact absurd b2 (hno _ b0 b1)
                                                          | exact absurd a2 (mno _ a0 a1)
                                                          | skip
                                                            refine aK_i ?_
                                                            refine aw_ireturn dX7_line_67 rfl ?_
                                                            first
                                                              | (exfalso; omega)
                                                              | (refine XR.sameE h ?_ ?_ ?_ ?_ ?_ ?_
                                                                 · first
                                                                     | rfl
                                                                     | (have z9 : k9 = m9 := by
                                                                          rcases (by omega : k9 < m9 ∨ k9 = m9 ∨ m9 < k9) with z | z | z
                                                                          · exact absurd a2 (b3 _ a0 z)
                                                                          · exact z
                                                                          · exact absurd b2 (a3 _ b0 z)
                                                                        exact z9)
                                                                     | (have z9 : m9 = k9 := by
                                                                          rcases (by omega : k9 < m9 ∨ k9 = m9 ∨ m9 < k9) with z | z | z
                                                                          · exact absurd a2 (b3 _ a0 z)
                                                                          · exact z.symm
                                                                          · exact absurd b2 (a3 _ b0 z)
                                                                        exact z9)
                                                                     | omega
                                                                 · repeat (first | exact xs.rf | refine xs.up ?_ (by decide))
                                                                 · repeat (first | exact mss.rf | refine mss.up0 ?_ (by decide))
                                                                 · first
                                                                     | (simp [aup, hv2, hv3, hv4]; done)
                                                                     | (simp [aup, hv2, hv3, hv4]; omega)
                                                                     | (rw [aup_s, aup_s, hu]; split <;> omega)
                                                                 · simp [aup, hv2, hv3, hv4]
                                                                 · simp [aup, hv2, hv3, hv4])
                                          · first
                                              | (exfalso; omega)
                                              | exact absurd b2 (hno _ b0 b1)
                                              | exact absurd a2 (mno _ a0 a1)
                                              | skip
                                                refine aw_iconst dX7_line_55 (by decide) ?_
                                                refine aw_goto (tgt := 64) dX7_line_56 (by decide) ?_
                                                refine c_X7_280 rfl dX7_line_64 m_ob (Nat.le_of_ble_eq_true rfl) (by omega) (C_m_orNone (fun hz => ?_) (fun hz => ?_))
                                                · first
                                                    | (exfalso; omega)
                                                    | exact absurd b2 (hno _ b0 b1)
                                                    | exact absurd a2 (mno _ a0 a1)
                                                    | skip
                                                      refine aK_i ?_
                                                      refine aw_ireturn dX7_line_67 rfl ?_
                                                      first
                                                        | (exfalso; omega)
                                                        | (refine XR.sameE h ?_ ?_ ?_ ?_ ?_ ?_
                                                           · first
                                                               | rfl
                                                               | (have z9 : k9 = m9 := by
                                                                    rcases (by omega : k9 < m9 ∨ k9 = m9 ∨ m9 < k9) with z | z | z
                                                                    · exact absurd a2 (b3 _ a0 z)
                                                                    · exact z
                                                                    · exact absurd b2 (a3 _ b0 z)
                                                                  exact z9)
                                                               | (have z9 : m9 = k9 := by
                                                                    rcases (by omega : k9 < m9 ∨ k9 = m9 ∨ m9 < k9) with z | z | z
                                                                    · exact absurd a2 (b3 _ a0 z)
                                                                    · exact z.symm
                                                                    · exact absurd b2 (a3 _ b0 z)
                                                                  exact z9)
                                                               | omega
                                                           · repeat (first | exact xs.rf | refine xs.up ?_ (by decide))
                                                           · repeat (first | exact mss.rf | refine mss.up0 ?_ (by decide))
                                                           · first
                                                               | (simp [aup, hv2, hv3, hv4]; done)
                                                               | (simp [aup, hv2, hv3, hv4]; omega)
                                                               | (rw [aup_s, aup_s, hu]; split <;> omega)
                                                           · simp [aup, hv2, hv3, hv4]
                                                           · simp [aup, hv2, hv3, hv4])
                                                · first
                                                    | (exfalso; omega)
                                                    | exact absurd b2 (hno _ b0 b1)
                                                    | exact absurd a2 (mno _ a0 a1)
                                                    | skip
                                                      refine aK_i ?_
                                                      refine aw_ireturn dX7_line_67 rfl ?_
                                                      first
                                                        | (exfalso; omega)
                                                        | (refine XR.sameE h ?_ ?_ ?_ ?_ ?_ ?_
                                                           · first
                                                               | rfl
                                                               | (have z9 : k9 = m9 := by
                                                                    rcases (by omega : k9 < m9 ∨ k9 = m9 ∨ m9 < k9) with z | z | z
                                                                    · exact absurd a2 (b3 _ a0 z)
                                                                    · exact z
                                                                    · exact absurd b2 (a3 _ b0 z)
                                                                  exact z9)
                                                               | (have z9 : m9 = k9 := by
                                                                    rcases (by omega : k9 < m9 ∨ k9 = m9 ∨ m9 < k9) with z | z | z
                                                                    · exact absurd a2 (b3 _ a0 z)
                                                                    · exact z.symm
                                                                    · exact absurd b2 (a3 _ b0 z)
                                                                  exact z9)
                                                               | omega
                                                           · repeat (first | exact xs.rf | refine xs.up ?_ (by decide))
                                                           · repeat (first | exact mss.rf | refine mss.up0 ?_ (by decide))
                                                           · first
                                                               | (simp [aup, hv2, hv3, hv4]; done)
                                                               | (simp [aup, hv2, hv3, hv4]; omega)
                                                               | (rw [aup_s, aup_s, hu]; split <;> omega)
                                                           · simp [aup, hv2, hv3, hv4]
                                                           · simp [aup, hv2, hv3, hv4])
                                    · first
                                        | (exfalso; omega)
                                        | exact absurd b2 (hno _ b0 b1)
                                        | exact absurd a2 (mno _ a0 a1)
                                        | skip
                                          refine aw_aload_n dX7_line_41 rfl ?_
                                          refine aw_iload_n dX7_line_42 rfl ?_
                                          refine c_X7_292 rfl dX7_line_43 m_ob (Nat.le_of_ble_eq_true rfl) (by omega) (C_m_fat (by omega) (fun z => by have q9 := PQ.f16 hPQ (q := a) (by omega) (by omega); omega) ?_)
                                          refine aK_i ?_
                                          refine aw_goto (tgt := 64) dX7_line_46 (by decide) ?_
                                          refine c_X7_280 rfl dX7_line_64 m_ob (Nat.le_of_ble_eq_true rfl) (by omega) (C_m_orNone (fun hz => ?_) (fun hz => ?_))
                                          · first
                                              | (exfalso; omega)
                                              | exact absurd b2 (hno _ b0 b1)
                                              | exact absurd a2 (mno _ a0 a1)
                                              | skip
                                                refine aK_i ?_
                                                refine aw_ireturn dX7_line_67 rfl ?_
                                                first
                                                  | (exfalso; omega)
                                                  | (refine XR.sameE h ?_ ?_ ?_ ?_ ?_ ?_
                                                     · first
                                                         | rfl
                                                         | (have z9 : k9 = m9 := by
                                                              rcases (by omega : k9 < m9 ∨ k9 = m9 ∨ m9 < k9) with z | z | z
                                                              · exact absurd a2 (b3 _ a0 z)
                                                              · exact z
                                                              · exact absurd b2 (a3 _ b0 z)
                                                            exact z9)
                                                         | (have z9 : m9 = k9 := by
                                                              rcases (by omega : k9 < m9 ∨ k9 = m9 ∨ m9 < k9) with z | z | z
                                                              · exact absurd a2 (b3 _ a0 z)
                                                              · exact z.symm
                                                              · exact absurd b2 (a3 _ b0 z)
                                                            exact z9)
                                                         | omega
                                                     · repeat (first | exact xs.rf | refine xs.up ?_ (by decide))
                                                     · repeat (first | exact mss.rf | refine mss.up0 ?_ (by decide))
                                                     · first
                                                         | (simp [aup, hv2, hv3, hv4]; done)
                                                         | (simp [aup, hv2, hv3, hv4]; omega)
                                                         | (rw [aup_s, aup_s, hu]; split <;> omega)
                                                     · simp [aup, hv2, hv3, hv4]
                                                     · simp [aup, hv2, hv3, hv4])
                                          · first
                                              | (exfalso; omega)
                                              | exact absurd b2 (hno _ b0 b1)
                                              | exact absurd a2 (mno _ a0 a1)
                                              | skip
                                                refine aK_i ?_
                                                refine aw_ireturn dX7_line_67 rfl ?_
                                                first
                                                  | (exfalso; omega)
                                                  | (refine XR.sameE h ?_ ?_ ?_ ?_ ?_ ?_
                                                     · first
                                                         | rfl
                                                         | (have z9 : k9 = m9 := by
                                                              rcases (by omega : k9 < m9 ∨ k9 = m9 ∨ m9 < k9) with z | z | z
                                                              · exact absurd a2 (b3 _ a0 z)
                                                              · exact z
                                                              · exact absurd b2 (a3 _ b0 z)
                                                            exact z9)
                                                         | (have z9 : m9 = k9 := by
                                                              rcases (by omega : k9 < m9 ∨ k9 = m9 ∨ m9 < k9) with z | z | z
                                                              · exact absurd a2 (b3 _ a0 z)
                                                              · exact z.symm
                                                              · exact absurd b2 (a3 _ b0 z)
                                                            exact z9)
                                                         | omega
                                                     · repeat (first | exact xs.rf | refine xs.up ?_ (by decide))
                                                     · repeat (first | exact mss.rf | refine mss.up0 ?_ (by decide))
                                                     · first
                                                         | (simp [aup, hv2, hv3, hv4]; done)
                                                         | (simp [aup, hv2, hv3, hv4]; omega)
                                                         | (rw [aup_s, aup_s, hu]; split <;> omega)
                                                     · simp [aup, hv2, hv3, hv4]
                                                     · simp [aup, hv2, hv3, hv4])
                              · first
                                  | (exfalso; omega)
                                  | exact absurd b2 (hno _ b0 b1)
                                  | exact absurd a2 (mno _ a0 a1)
                                  | skip
                                    refine aw_aload_n dX7_line_28 rfl ?_
                                    refine aw_iload_n dX7_line_29 rfl ?_
                                    refine c_X7_289 rfl dX7_line_30 m_ob (Nat.le_of_ble_eq_true rfl) (by omega) (C_m_mot (by omega) ?_)
                                    refine aK_i ?_
                                    refine aw_goto (tgt := 64) dX7_line_33 (by decide) ?_
                                    refine c_X7_280 rfl dX7_line_64 m_ob (Nat.le_of_ble_eq_true rfl) (by omega) (C_m_orNone (fun hz => ?_) (fun hz => ?_))
                                    · first
                                        | (exfalso; omega)
                                        | exact absurd b2 (hno _ b0 b1)
                                        | exact absurd a2 (mno _ a0 a1)
                                        | skip
                                          refine aK_i ?_
                                          refine aw_ireturn dX7_line_67 rfl ?_
                                          first
                                            | (exfalso; omega)
                                            | (refine XR.sameE h ?_ ?_ ?_ ?_ ?_ ?_
                                               · first
                                                   | rfl
                                                   | (have z9 : k9 = m9 := by
                                                        rcases (by omega : k9 < m9 ∨ k9 = m9 ∨ m9 < k9) with z | z | z
                                                        · exact absurd a2 (b3 _ a0 z)
                                                        · exact z
                                                        · exact absurd b2 (a3 _ b0 z)
                                                      exact z9)
                                                   | (have z9 : m9 = k9 := by
                                                        rcases (by omega : k9 < m9 ∨ k9 = m9 ∨ m9 < k9) with z | z | z
                                                        · exact absurd a2 (b3 _ a0 z)
                                                        · exact z.symm
                                                        · exact absurd b2 (a3 _ b0 z)
                                                      exact z9)
                                                   | omega
                                               · repeat (first | exact xs.rf | refine xs.up ?_ (by decide))
                                               · repeat (first | exact mss.rf | refine mss.up0 ?_ (by decide))
                                               · first
                                                   | (simp [aup, hv2, hv3, hv4]; done)
                                                   | (simp [aup, hv2, hv3, hv4]; omega)
                                                   | (rw [aup_s, aup_s, hu]; split <;> omega)
                                               · simp [aup, hv2, hv3, hv4]
                                               · simp [aup, hv2, hv3, hv4])
                                    · first
                                        | (exfalso; omega)
                                        | exact absurd b2 (hno _ b0 b1)
                                        | exact absurd a2 (mno _ a0 a1)
                                        | skip
                                          refine aK_i ?_
                                          refine aw_ireturn dX7_line_67 rfl ?_
                                          first
                                            | (exfalso; omega)
                                            | (refine XR.sameE h ?_ ?_ ?_ ?_ ?_ ?_
                                               · first
                                                   | rfl
                                                   | (have z9 : k9 = m9 := by
                                                        rcases (by omega : k9 < m9 ∨ k9 = m9 ∨ m9 < k9) with z | z | z
                                                        · exact absurd a2 (b3 _ a0 z)
                                                        · exact z
                                                        · exact absurd b2 (a3 _ b0 z)
                                                      exact z9)
                                                   | (have z9 : m9 = k9 := by
                                                        rcases (by omega : k9 < m9 ∨ k9 = m9 ∨ m9 < k9) with z | z | z
                                                        · exact absurd a2 (b3 _ a0 z)
                                                        · exact z.symm
                                                        · exact absurd b2 (a3 _ b0 z)
                                                      exact z9)
                                                   | omega
                                               · repeat (first | exact xs.rf | refine xs.up ?_ (by decide))
                                               · repeat (first | exact mss.rf | refine mss.up0 ?_ (by decide))
                                               · first
                                                   | (simp [aup, hv2, hv3, hv4]; done)
                                                   | (simp [aup, hv2, hv3, hv4]; omega)
                                                   | (rw [aup_s, aup_s, hu]; split <;> omega)
                                               · simp [aup, hv2, hv3, hv4]
                                               · simp [aup, hv2, hv3, hv4])
                        · first
                            | (exfalso; omega)
                            | exact absurd b2 (hno _ b0 b1)
                            | exact absurd a2 (mno _ a0 a1)
                            | skip
                              refine aw_aload_n dX7_line_17 rfl ?_
                              refine aw_iconst dX7_line_18 (by decide) ?_
                              refine c_X7_72 rfl dX7_line_19 m_ob (Nat.le_of_ble_eq_true rfl) (by omega) (C_m_refuse ?_)
                              refine aK_i ?_
                              refine aw_ireturn dX7_line_22 rfl ?_
                              first
                                | (exfalso; omega)
                                | (refine XR.sameE h ?_ ?_ ?_ ?_ ?_ ?_
                                   · first
                                       | rfl
                                       | (have z9 : k9 = m9 := by
                                            rcases (by omega : k9 < m9 ∨ k9 = m9 ∨ m9 < k9) with z | z | z
                                            · exact absurd a2 (b3 _ a0 z)
                                            · exact z
                                            · exact absurd b2 (a3 _ b0 z)
                                          exact z9)
                                       | (have z9 : m9 = k9 := by
                                            rcases (by omega : k9 < m9 ∨ k9 = m9 ∨ m9 < k9) with z | z | z
                                            · exact absurd a2 (b3 _ a0 z)
                                            · exact z.symm
                                            · exact absurd b2 (a3 _ b0 z)
                                          exact z9)
                                       | omega
                                   · repeat (first | exact xs.rf | refine xs.up ?_ (by decide))
                                   · repeat (first | exact mss.rf | refine mss.up0 ?_ (by decide))
                                   · first
                                       | (simp [aup, hv2, hv3, hv4]; done)
                                       | (simp [aup, hv2, hv3, hv4]; omega)
                                       | (rw [aup_s, aup_s, hu]; split <;> omega)
                                   · simp [aup, hv2, hv3, hv4]
                                   · simp [aup, hv2, hv3, hv4])
            · first
                | (exfalso; omega)
                | exact absurd b2 (hno _ b0 b1)
                | exact absurd a2 (mno _ a0 a1)
                | skip
                  refine aK_i ?_
                  refine aw_ifeq (tgt := 17) dX7_line_5 (by decide) (fun _ => ?_) (fun h => absurd h (by decide))
                  refine aw_aload_n dX7_line_17 rfl ?_
                  refine aw_iconst dX7_line_18 (by decide) ?_
                  refine c_X7_72 rfl dX7_line_19 m_ob (Nat.le_of_ble_eq_true rfl) (by omega) (C_m_refuse ?_)
                  refine aK_i ?_
                  refine aw_ireturn dX7_line_22 rfl ?_
                  first
                    | (exfalso; omega)
                    | (refine XR.sameE h ?_ ?_ ?_ ?_ ?_ ?_
                       · first
                           | rfl
                           | (have z9 : k9 = m9 := by
                                rcases (by omega : k9 < m9 ∨ k9 = m9 ∨ m9 < k9) with z | z | z
                                · exact absurd a2 (b3 _ a0 z)
                                · exact z
                                · exact absurd b2 (a3 _ b0 z)
                              exact z9)
                           | (have z9 : m9 = k9 := by
                                rcases (by omega : k9 < m9 ∨ k9 = m9 ∨ m9 < k9) with z | z | z
                                · exact absurd a2 (b3 _ a0 z)
                                · exact z.symm
                                · exact absurd b2 (a3 _ b0 z)
                              exact z9)
                           | omega
                       · repeat (first | exact xs.rf | refine xs.up ?_ (by decide))
                       · repeat (first | exact mss.rf | refine mss.up0 ?_ (by decide))
                       · first
                           | (simp [aup, hv2, hv3, hv4]; done)
                           | (simp [aup, hv2, hv3, hv4]; omega)
                           | (rw [aup_s, aup_s, hu]; split <;> omega)
                       · simp [aup, hv2, hv3, hv4]
                       · simp [aup, hv2, hv3, hv4])
    · refine aK_i ?_
      refine aw_ifeq (tgt := 28) dX0_line_21 (by decide) (fun _ => ?_) (fun h => absurd h (by decide))
      refine aw_iconst dX0_line_28 (by decide) ?_
      refine p_X0_73_0 rfl dX0_line_29 hR.o0 ?_
      refine aw_aload_n dX0_line_32 rfl ?_
      refine g_X0_73_0 rfl dX0_line_33 hR.o0 ?_
      repeat (first | rw [aup_s] | rw [aup_n (by omega)])
      refine aw_ifle (tgt := 41) dX0_line_36 (by decide) (fun h => absurd h (by decide)) (fun _ => ?_)
      refine aw_iconst dX0_line_39 (by decide) ?_
      refine aw_ireturn dX0_line_40 rfl ?_
      refine ⟨_, rfl, ?_⟩
      refine AMet.go (L := [some (vR 0), some (vI a), some (vI b)]) mok_X7_line (Nat.le_of_ble_eq_true rfl) rfl ?_
      refine aw_aload_n dX7_line_0 rfl ?_
      refine aw_iload_n dX7_line_1 rfl ?_
      refine c_X7_286 rfl dX7_line_2 m_ob (Nat.le_of_ble_eq_true rfl) (by omega) (C_m_isOne (by omega) (fun ho => ?_) (fun ho => ?_))
      · first
          | (exfalso; omega)
          | exact absurd b2 (hno _ b0 b1)
          | exact absurd a2 (mno _ a0 a1)
          | skip
            refine aK_i ?_
            refine aw_ifeq (tgt := 17) dX7_line_5 (by decide) (fun h => absurd h (by decide)) (fun _ => ?_)
            refine aw_iload_n dX7_line_8 rfl ?_
            refine aw_iflt (tgt := 17) dX7_line_9 (by decide) (fun h9 => ?_) (fun h9 => ?_)
            · first
                | (exfalso; omega)
                | exact absurd b2 (hno _ b0 b1)
                | exact absurd a2 (mno _ a0 a1)
                | skip
                  refine aw_aload_n dX7_line_17 rfl ?_
                  refine aw_iconst dX7_line_18 (by decide) ?_
                  refine c_X7_72 rfl dX7_line_19 m_ob (Nat.le_of_ble_eq_true rfl) (by omega) (C_m_refuse ?_)
                  refine aK_i ?_
                  refine aw_ireturn dX7_line_22 rfl ?_
                  first
                    | (exfalso; omega)
                    | (refine XR.sameE h ?_ ?_ ?_ ?_ ?_ ?_
                       · first
                           | rfl
                           | (have z9 : k9 = m9 := by
                                rcases (by omega : k9 < m9 ∨ k9 = m9 ∨ m9 < k9) with z | z | z
                                · exact absurd a2 (b3 _ a0 z)
                                · exact z
                                · exact absurd b2 (a3 _ b0 z)
                              exact z9)
                           | (have z9 : m9 = k9 := by
                                rcases (by omega : k9 < m9 ∨ k9 = m9 ∨ m9 < k9) with z | z | z
                                · exact absurd a2 (b3 _ a0 z)
                                · exact z.symm
                                · exact absurd b2 (a3 _ b0 z)
                              exact z9)
                           | omega
                       · repeat (first | exact xs.rf | refine xs.up ?_ (by decide))
                       · repeat (first | exact mss.rf | refine mss.up0 ?_ (by decide))
                       · first
                           | (simp [aup, hv2, hv3, hv4]; done)
                           | (simp [aup, hv2, hv3, hv4]; omega)
                           | (rw [aup_s, aup_s, hu]; split <;> omega)
                       · simp [aup, hv2, hv3, hv4]
                       · simp [aup, hv2, hv3, hv4])
            · first
                | (exfalso; omega)
                | exact absurd b2 (hno _ b0 b1)
                | exact absurd a2 (mno _ a0 a1)
                | skip
                  refine aw_iload_n dX7_line_12 rfl ?_
                  refine aw_iconst dX7_line_13 (by decide) ?_
                  refine aw_icmple (tgt := 23) dX7_line_14 (by decide) (fun h14 => ?_) (fun h14 => ?_)
                  · first
                      | (exfalso; omega)
                      | exact absurd b2 (hno _ b0 b1)
                      | exact absurd a2 (mno _ a0 a1)
                      | skip
                        refine aw_aload_n dX7_line_23 rfl ?_
                        refine aw_iload_n dX7_line_24 rfl ?_
                        refine aw_ifne (tgt := 36) dX7_line_25 (by decide) (fun h25 => ?_) (fun h25 => ?_)
                        · first
                            | (exfalso; omega)
                            | exact absurd b2 (hno _ b0 b1)
                            | exact absurd a2 (mno _ a0 a1)
                            | skip
                              refine aw_iload_n dX7_line_36 rfl ?_
                              refine aw_iconst dX7_line_37 (by decide) ?_
                              refine aw_icmpne (tgt := 49) dX7_line_38 (by decide) (fun h38 => ?_) (fun h38 => ?_)
                              · first
                                  | (exfalso; omega)
                                  | exact absurd b2 (hno _ b0 b1)
                                  | exact absurd a2 (mno _ a0 a1)
                                  | skip
                                    refine aw_iload_n dX7_line_49 rfl ?_
                                    refine aw_bipush dX7_line_50 (by decide) ?_
                                    refine aw_icmplt (tgt := 59) dX7_line_52 (by decide) (fun h52 => ?_) (fun h52 => ?_)
                                    · first
                                        | (exfalso; omega)
                                        | exact absurd b2 (hno _ b0 b1)
                                        | exact absurd a2 (mno _ a0 a1)
                                        | skip
                                          refine aw_aload_n dX7_line_59 rfl ?_
                                          refine aw_iload_n dX7_line_60 rfl ?_
                                          refine c_X7_295 rfl dX7_line_61 m_ob (Nat.le_of_ble_eq_true rfl) (by omega) (C_m_hiveOf hp0 (fun m9 b0 b1 b2 b3 => ?_) (fun mno => ?_))
                                          · first
                                              | (exfalso; omega)
                                              | exact absurd b2 (hno _ b0 b1)
                                              | exact absurd a2 (mno _ a0 a1)
                                              | skip
                                                refine aK_i ?_
                                                refine c_X7_280 rfl dX7_line_64 m_ob (Nat.le_of_ble_eq_true rfl) (by omega) (C_m_orNone (fun hz => ?_) (fun hz => ?_))
                                                · first
                                                    | (exfalso; omega)
                                                    | exact absurd b2 (hno _ b0 b1)
                                                    | exact absurd a2 (mno _ a0 a1)
                                                    | skip
                                                      refine aK_i ?_
                                                      refine aw_ireturn dX7_line_67 rfl ?_
                                                      first
                                                        | (exfalso; omega)
                                                        | (refine XR.sameE h ?_ ?_ ?_ ?_ ?_ ?_
                                                           · first
                                                               | rfl
                                                               | (have z9 : k9 = m9 := by
                                                                    rcases (by omega : k9 < m9 ∨ k9 = m9 ∨ m9 < k9) with z | z | z
                                                                    · exact absurd a2 (b3 _ a0 z)
                                                                    · exact z
                                                                    · exact absurd b2 (a3 _ b0 z)
                                                                  exact z9)
                                                               | (have z9 : m9 = k9 := by
                                                                    rcases (by omega : k9 < m9 ∨ k9 = m9 ∨ m9 < k9) with z | z | z
                                                                    · exact absurd a2 (b3 _ a0 z)
                                                                    · exact z.symm
                                                                    · exact absurd b2 (a3 _ b0 z)
                                                                  exact z9)
                                                               | omega
                                                           · repeat (first | exact xs.rf | refine xs.up ?_ (by decide))
                                                           · repeat (first | exact mss.rf | refine mss.up0 ?_ (by decide))
                                                           · first
                                                               | (simp [aup, hv2, hv3, hv4]; done)
                                                               | (simp [aup, hv2, hv3, hv4]; omega)
                                                               | (rw [aup_s, aup_s, hu]; split <;> omega)
                                                           · simp [aup, hv2, hv3, hv4]
                                                           · simp [aup, hv2, hv3, hv4])
                                                · first
                                                    | (exfalso; omega)
                                                    | exact absurd b2 (hno _ b0 b1)
                                                    | exact absurd a2 (mno _ a0 a1)
                                                    | skip
                                                      refine aK_i ?_
                                                      refine aw_ireturn dX7_line_67 rfl ?_
                                                      first
                                                        | (exfalso; omega)
                                                        | (refine XR.sameE h ?_ ?_ ?_ ?_ ?_ ?_
                                                           · first
                                                               | rfl
                                                               | (have z9 : k9 = m9 := by
                                                                    rcases (by omega : k9 < m9 ∨ k9 = m9 ∨ m9 < k9) with z | z | z
                                                                    · exact absurd a2 (b3 _ a0 z)
                                                                    · exact z
                                                                    · exact absurd b2 (a3 _ b0 z)
                                                                  exact z9)
                                                               | (have z9 : m9 = k9 := by
                                                                    rcases (by omega : k9 < m9 ∨ k9 = m9 ∨ m9 < k9) with z | z | z
                                                                    · exact absurd a2 (b3 _ a0 z)
                                                                    · exact z.symm
                                                                    · exact absurd b2 (a3 _ b0 z)
                                                                  exact z9)
                                                               | omega
                                                           · repeat (first | exact xs.rf | refine xs.up ?_ (by decide))
                                                           · repeat (first | exact mss.rf | refine mss.up0 ?_ (by decide))
                                                           · first
                                                               | (simp [aup, hv2, hv3, hv4]; done)
                                                               | (simp [aup, hv2, hv3, hv4]; omega)
                                                               | (rw [aup_s, aup_s, hu]; split <;> omega)
                                                           · simp [aup, hv2, hv3, hv4]
                                                           · simp [aup, hv2, hv3, hv4])
                                          · first
                                              | (exfalso; omega)
                                              | exact absurd b2 (hno _ b0 b1)
                                              | exact absurd a2 (mno _ a0 a1)
                                              | skip
                                                refine aK_i ?_
                                                refine c_X7_280 rfl dX7_line_64 m_ob (Nat.le_of_ble_eq_true rfl) (by omega) (C_m_orNone (fun hz => ?_) (fun hz => ?_))
                                                · first
                                                    | (exfalso; omega)
                                                    | exact absurd b2 (hno _ b0 b1)
                                                    | exact absurd a2 (mno _ a0 a1)
                                                    | skip
                                                      refine aK_i ?_
                                                      refine aw_ireturn dX7_line_67 rfl ?_
                                                      first
                                                        | (exfalso; omega)
                                                        | (refine XR.sameE h ?_ ?_ ?_ ?_ ?_ ?_
                                                           · first
                                                               | rfl
                                                               | (have z9 : k9 = m9 := by
                                                                    rcases (by omega : k9 < m9 ∨ k9 = m9 ∨ m9 < k9) with z | z | z
                                                                    · exact absurd a2 (b3 _ a0 z)
                                                                    · exact z
                                                                    · exact absurd b2 (a3 _ b0 z)
                                                                  exact z9)
                                                               | (have z9 : m9 = k9 := by
                                                                    rcases (by omega : k9 < m9 ∨ k9 = m9 ∨ m9 < k9) with z | z | z
                                                                    · exact absurd a2 (b3 _ a0 z)
                                                                    · exact z.symm
                                                                    · exact absurd b2 (a3 _ b0 z)
                                                                  exact z9)
                                                               | omega
                                                           · repeat (first | exact xs.rf | refine xs.up ?_ (by decide))
                                                           · repeat (first | exact mss.rf | refine mss.up0 ?_ (by decide))
                                                           · first
                                                               | (simp [aup, hv2, hv3, hv4]; done)
                                                               | (simp [aup, hv2, hv3, hv4]; omega)
                                                               | (rw [aup_s, aup_s, hu]; split <;> omega)
                                                           · simp [aup, hv2, hv3, hv4]
                                                           · simp [aup, hv2, hv3, hv4])
                                                · first
                                                    | (exfalso; omega)
                                                    | exact absurd b2 (hno _ b0 b1)
                                                    | exact absurd a2 (mno _ a0 a1)
                                                    | skip
                                                      refine aK_i ?_
                                                      refine aw_ireturn dX7_line_67 rfl ?_
                                                      first
                                                        | (exfalso; omega)
                                                        | (refine XR.sameE h ?_ ?_ ?_ ?_ ?_ ?_
                                                           · first
                                                               | rfl
                                                               | (have z9 : k9 = m9 := by
                                                                    rcases (by omega : k9 < m9 ∨ k9 = m9 ∨ m9 < k9) with z | z | z
                                                                    · exact absurd a2 (b3 _ a0 z)
                                                                    · exact z
                                                                    · exact absurd b2 (a3 _ b0 z)
                                                                  exact z9)
                                                               | (have z9 : m9 = k9 := by
                                                                    rcases (by omega : k9 < m9 ∨ k9 = m9 ∨ m9 < k9) with z | z | z
                                                                    · exact absurd a2 (b3 _ a0 z)
                                                                    · exact z.symm
                                                                    · exact absurd b2 (a3 _ b0 z)
                                                                  exact z9)
                                                               | omega
                                                           · repeat (first | exact xs.rf | refine xs.up ?_ (by decide))
                                                           · repeat (first | exact mss.rf | refine mss.up0 ?_ (by decide))
                                                           · first
                                                               | (simp [aup, hv2, hv3, hv4]; done)
                                                               | (simp [aup, hv2, hv3, hv4]; omega)
                                                               | (rw [aup_s, aup_s, hu]; split <;> omega)
                                                           · simp [aup, hv2, hv3, hv4]
                                                           · simp [aup, hv2, hv3, hv4])
                                    · first
                                        | (exfalso; omega)
                                        | exact absurd b2 (hno _ b0 b1)
                                        | exact absurd a2 (mno _ a0 a1)
                                        | skip
                                          refine aw_iconst dX7_line_55 (by decide) ?_
                                          refine aw_goto (tgt := 64) dX7_line_56 (by decide) ?_
                                          refine c_X7_280 rfl dX7_line_64 m_ob (Nat.le_of_ble_eq_true rfl) (by omega) (C_m_orNone (fun hz => ?_) (fun hz => ?_))
                                          · first
                                              | (exfalso; omega)
                                              | exact absurd b2 (hno _ b0 b1)
                                              | exact absurd a2 (mno _ a0 a1)
                                              | skip
                                                refine aK_i ?_
                                                refine aw_ireturn dX7_line_67 rfl ?_
                                                first
                                                  | (exfalso; omega)
                                                  | (refine XR.sameE h ?_ ?_ ?_ ?_ ?_ ?_
                                                     · first
                                                         | rfl
                                                         | (have z9 : k9 = m9 := by
                                                              rcases (by omega : k9 < m9 ∨ k9 = m9 ∨ m9 < k9) with z | z | z
                                                              · exact absurd a2 (b3 _ a0 z)
                                                              · exact z
                                                              · exact absurd b2 (a3 _ b0 z)
                                                            exact z9)
                                                         | (have z9 : m9 = k9 := by
                                                              rcases (by omega : k9 < m9 ∨ k9 = m9 ∨ m9 < k9) with z | z | z
                                                              · exact absurd a2 (b3 _ a0 z)
                                                              · exact z.symm
                                                              · exact absurd b2 (a3 _ b0 z)
                                                            exact z9)
                                                         | omega
                                                     · repeat (first | exact xs.rf | refine xs.up ?_ (by decide))
                                                     · repeat (first | exact mss.rf | refine mss.up0 ?_ (by decide))
                                                     · first
                                                         | (simp [aup, hv2, hv3, hv4]; done)
                                                         | (simp [aup, hv2, hv3, hv4]; omega)
                                                         | (rw [aup_s, aup_s, hu]; split <;> omega)
                                                     · simp [aup, hv2, hv3, hv4]
                                                     · simp [aup, hv2, hv3, hv4])
                                          · first
                                              | (exfalso; omega)
                                              | exact absurd b2 (hno _ b0 b1)
                                              | exact absurd a2 (mno _ a0 a1)
                                              | skip
                                                refine aK_i ?_
                                                refine aw_ireturn dX7_line_67 rfl ?_
                                                first
                                                  | (exfalso; omega)
                                                  | (refine XR.sameE h ?_ ?_ ?_ ?_ ?_ ?_
                                                     · first
                                                         | rfl
                                                         | (have z9 : k9 = m9 := by
                                                              rcases (by omega : k9 < m9 ∨ k9 = m9 ∨ m9 < k9) with z | z | z
                                                              · exact absurd a2 (b3 _ a0 z)
                                                              · exact z
                                                              · exact absurd b2 (a3 _ b0 z)
                                                            exact z9)
                                                         | (have z9 : m9 = k9 := by
                                                              rcases (by omega : k9 < m9 ∨ k9 = m9 ∨ m9 < k9) with z | z | z
                                                              · exact absurd a2 (b3 _ a0 z)
                                                              · exact z.symm
                                                              · exact absurd b2 (a3 _ b0 z)
                                                            exact z9)
                                                         | omega
                                                     · repeat (first | exact xs.rf | refine xs.up ?_ (by decide))
                                                     · repeat (first | exact mss.rf | refine mss.up0 ?_ (by decide))
                                                     · first
                                                         | (simp [aup, hv2, hv3, hv4]; done)
                                                         | (simp [aup, hv2, hv3, hv4]; omega)
                                                         | (rw [aup_s, aup_s, hu]; split <;> omega)
                                                     · simp [aup, hv2, hv3, hv4]
                                                     · simp [aup, hv2, hv3, hv4])
                              · first
                                  | (exfalso; omega)
                                  | exact absurd b2 (hno _ b0 b1)
                                  | exact absurd a2 (mno _ a0 a1)
                                  | skip
                                    refine aw_aload_n dX7_line_41 rfl ?_
                                    refine aw_iload_n dX7_line_42 rfl ?_
                                    refine c_X7_292 rfl dX7_line_43 m_ob (Nat.le_of_ble_eq_true rfl) (by omega) (C_m_fat (by omega) (fun z => by have q9 := PQ.f16 hPQ (q := a) (by omega) (by omega); omega) ?_)
                                    refine aK_i ?_
                                    refine aw_goto (tgt := 64) dX7_line_46 (by decide) ?_
                                    refine c_X7_280 rfl dX7_line_64 m_ob (Nat.le_of_ble_eq_true rfl) (by omega) (C_m_orNone (fun hz => ?_) (fun hz => ?_))
                                    · first
                                        | (exfalso; omega)
                                        | exact absurd b2 (hno _ b0 b1)
                                        | exact absurd a2 (mno _ a0 a1)
                                        | skip
                                          refine aK_i ?_
                                          refine aw_ireturn dX7_line_67 rfl ?_
                                          first
                                            | (exfalso; omega)
                                            | (refine XR.sameE h ?_ ?_ ?_ ?_ ?_ ?_
                                               · first
                                                   | rfl
                                                   | (have z9 : k9 = m9 := by
                                                        rcases (by omega : k9 < m9 ∨ k9 = m9 ∨ m9 < k9) with z | z | z
                                                        · exact absurd a2 (b3 _ a0 z)
                                                        · exact z
                                                        · exact absurd b2 (a3 _ b0 z)
                                                      exact z9)
                                                   | (have z9 : m9 = k9 := by
                                                        rcases (by omega : k9 < m9 ∨ k9 = m9 ∨ m9 < k9) with z | z | z
                                                        · exact absurd a2 (b3 _ a0 z)
                                                        · exact z.symm
                                                        · exact absurd b2 (a3 _ b0 z)
                                                      exact z9)
                                                   | omega
                                               · repeat (first | exact xs.rf | refine xs.up ?_ (by decide))
                                               · repeat (first | exact mss.rf | refine mss.up0 ?_ (by decide))
                                               · first
                                                   | (simp [aup, hv2, hv3, hv4]; done)
                                                   | (simp [aup, hv2, hv3, hv4]; omega)
                                                   | (rw [aup_s, aup_s, hu]; split <;> omega)
                                               · simp [aup, hv2, hv3, hv4]
                                               · simp [aup, hv2, hv3, hv4])
                                    · first
                                        | (exfalso; omega)
                                        | exact absurd b2 (hno _ b0 b1)
                                        | exact absurd a2 (mno _ a0 a1)
                                        | skip
                                          refine aK_i ?_
                                          refine aw_ireturn dX7_line_67 rfl ?_
                                          first
                                            | (exfalso; omega)
                                            | (refine XR.sameE h ?_ ?_ ?_ ?_ ?_ ?_
                                               · first
                                                   | rfl
                                                   | (have z9 : k9 = m9 := by
                                                        rcases (by omega : k9 < m9 ∨ k9 = m9 ∨ m9 < k9) with z | z | z
                                                        · exact absurd a2 (b3 _ a0 z)
                                                        · exact z
                                                        · exact absurd b2 (a3 _ b0 z)
                                                      exact z9)
                                                   | (have z9 : m9 = k9 := by
                                                        rcases (by omega : k9 < m9 ∨ k9 = m9 ∨ m9 < k9) with z | z | z
                                                        · exact absurd a2 (b3 _ a0 z)
                                                        · exact z.symm
                                                        · exact absurd b2 (a3 _ b0 z)
                                                      exact z9)
                                                   | omega
                                               · repeat (first | exact xs.rf | refine xs.up ?_ (by decide))
                                               · repeat (first | exact mss.rf | refine mss.up0 ?_ (by decide))
                                               · first
                                                   | (simp [aup, hv2, hv3, hv4]; done)
                                                   | (simp [aup, hv2, hv3, hv4]; omega)
                                                   | (rw [aup_s, aup_s, hu]; split <;> omega)
                                               · simp [aup, hv2, hv3, hv4]
                                               · simp [aup, hv2, hv3, hv4])
                        · first
                            | (exfalso; omega)
                            | exact absurd b2 (hno _ b0 b1)
                            | exact absurd a2 (mno _ a0 a1)
                            | skip
                              refine aw_aload_n dX7_line_28 rfl ?_
                              refine aw_iload_n dX7_line_29 rfl ?_
                              refine c_X7_289 rfl dX7_line_30 m_ob (Nat.le_of_ble_eq_true rfl) (by omega) (C_m_mot (by omega) ?_)
                              refine aK_i ?_
                              refine aw_goto (tgt := 64) dX7_line_33 (by decide) ?_
                              refine c_X7_280 rfl dX7_line_64 m_ob (Nat.le_of_ble_eq_true rfl) (by omega) (C_m_orNone (fun hz => ?_) (fun hz => ?_))
                              · first
                                  | (exfalso; omega)
                                  | exact absurd b2 (hno _ b0 b1)
                                  | exact absurd a2 (mno _ a0 a1)
                                  | skip
                                    refine aK_i ?_
                                    refine aw_ireturn dX7_line_67 rfl ?_
                                    first
                                      | (exfalso; omega)
                                      | (refine XR.sameE h ?_ ?_ ?_ ?_ ?_ ?_
                                         · first
                                             | rfl
                                             | (have z9 : k9 = m9 := by
                                                  rcases (by omega : k9 < m9 ∨ k9 = m9 ∨ m9 < k9) with z | z | z
                                                  · exact absurd a2 (b3 _ a0 z)
                                                  · exact z
                                                  · exact absurd b2 (a3 _ b0 z)
                                                exact z9)
                                             | (have z9 : m9 = k9 := by
                                                  rcases (by omega : k9 < m9 ∨ k9 = m9 ∨ m9 < k9) with z | z | z
                                                  · exact absurd a2 (b3 _ a0 z)
                                                  · exact z.symm
                                                  · exact absurd b2 (a3 _ b0 z)
                                                exact z9)
                                             | omega
                                         · repeat (first | exact xs.rf | refine xs.up ?_ (by decide))
                                         · repeat (first | exact mss.rf | refine mss.up0 ?_ (by decide))
                                         · first
                                             | (simp [aup, hv2, hv3, hv4]; done)
                                             | (simp [aup, hv2, hv3, hv4]; omega)
                                             | (rw [aup_s, aup_s, hu]; split <;> omega)
                                         · simp [aup, hv2, hv3, hv4]
                                         · simp [aup, hv2, hv3, hv4])
                              · first
                                  | (exfalso; omega)
                                  | exact absurd b2 (hno _ b0 b1)
                                  | exact absurd a2 (mno _ a0 a1)
                                  | skip
                                    refine aK_i ?_
                                    refine aw_ireturn dX7_line_67 rfl ?_
                                    first
                                      | (exfalso; omega)
                                      | (refine XR.sameE h ?_ ?_ ?_ ?_ ?_ ?_
                                         · first
                                             | rfl
                                             | (have z9 : k9 = m9 := by
                                                  rcases (by omega : k9 < m9 ∨ k9 = m9 ∨ m9 < k9) with z | z | z
                                                  · exact absurd a2 (b3 _ a0 z)
                                                  · exact z
                                                  · exact absurd b2 (a3 _ b0 z)
                                                exact z9)
                                             | (have z9 : m9 = k9 := by
                                                  rcases (by omega : k9 < m9 ∨ k9 = m9 ∨ m9 < k9) with z | z | z
                                                  · exact absurd a2 (b3 _ a0 z)
                                                  · exact z.symm
                                                  · exact absurd b2 (a3 _ b0 z)
                                                exact z9)
                                             | omega
                                         · repeat (first | exact xs.rf | refine xs.up ?_ (by decide))
                                         · repeat (first | exact mss.rf | refine mss.up0 ?_ (by decide))
                                         · first
                                             | (simp [aup, hv2, hv3, hv4]; done)
                                             | (simp [aup, hv2, hv3, hv4]; omega)
                                             | (rw [aup_s, aup_s, hu]; split <;> omega)
                                         · simp [aup, hv2, hv3, hv4]
                                         · simp [aup, hv2, hv3, hv4])
                  · first
                      | (exfalso; omega)
                      | exact absurd b2 (hno _ b0 b1)
                      | exact absurd a2 (mno _ a0 a1)
                      | skip
                        refine aw_aload_n dX7_line_17 rfl ?_
                        refine aw_iconst dX7_line_18 (by decide) ?_
                        refine c_X7_72 rfl dX7_line_19 m_ob (Nat.le_of_ble_eq_true rfl) (by omega) (C_m_refuse ?_)
                        refine aK_i ?_
                        refine aw_ireturn dX7_line_22 rfl ?_
                        first
                          | (exfalso; omega)
                          | (refine XR.sameE h ?_ ?_ ?_ ?_ ?_ ?_
                             · first
                                 | rfl
                                 | (have z9 : k9 = m9 := by
                                      rcases (by omega : k9 < m9 ∨ k9 = m9 ∨ m9 < k9) with z | z | z
                                      · exact absurd a2 (b3 _ a0 z)
                                      · exact z
                                      · exact absurd b2 (a3 _ b0 z)
                                    exact z9)
                                 | (have z9 : m9 = k9 := by
                                      rcases (by omega : k9 < m9 ∨ k9 = m9 ∨ m9 < k9) with z | z | z
                                      · exact absurd a2 (b3 _ a0 z)
                                      · exact z.symm
                                      · exact absurd b2 (a3 _ b0 z)
                                    exact z9)
                                 | omega
                             · repeat (first | exact xs.rf | refine xs.up ?_ (by decide))
                             · repeat (first | exact mss.rf | refine mss.up0 ?_ (by decide))
                             · first
                                 | (simp [aup, hv2, hv3, hv4]; done)
                                 | (simp [aup, hv2, hv3, hv4]; omega)
                                 | (rw [aup_s, aup_s, hu]; split <;> omega)
                             · simp [aup, hv2, hv3, hv4]
                             · simp [aup, hv2, hv3, hv4])
      · first
          | (exfalso; omega)
          | exact absurd b2 (hno _ b0 b1)
          | exact absurd a2 (mno _ a0 a1)
          | skip
            refine aK_i ?_
            refine aw_ifeq (tgt := 17) dX7_line_5 (by decide) (fun _ => ?_) (fun h => absurd h (by decide))
            refine aw_aload_n dX7_line_17 rfl ?_
            refine aw_iconst dX7_line_18 (by decide) ?_
            refine c_X7_72 rfl dX7_line_19 m_ob (Nat.le_of_ble_eq_true rfl) (by omega) (C_m_refuse ?_)
            refine aK_i ?_
            refine aw_ireturn dX7_line_22 rfl ?_
            first
              | (exfalso; omega)
              | (refine XR.sameE h ?_ ?_ ?_ ?_ ?_ ?_
                 · first
                     | rfl
                     | (have z9 : k9 = m9 := by
                          rcases (by omega : k9 < m9 ∨ k9 = m9 ∨ m9 < k9) with z | z | z
                          · exact absurd a2 (b3 _ a0 z)
                          · exact z
                          · exact absurd b2 (a3 _ b0 z)
                        exact z9)
                     | (have z9 : m9 = k9 := by
                          rcases (by omega : k9 < m9 ∨ k9 = m9 ∨ m9 < k9) with z | z | z
                          · exact absurd a2 (b3 _ a0 z)
                          · exact z.symm
                          · exact absurd b2 (a3 _ b0 z)
                        exact z9)
                     | omega
                 · repeat (first | exact xs.rf | refine xs.up ?_ (by decide))
                 · repeat (first | exact mss.rf | refine mss.up0 ?_ (by decide))
                 · first
                     | (simp [aup, hv2, hv3, hv4]; done)
                     | (simp [aup, hv2, hv3, hv4]; omega)
                     | (rw [aup_s, aup_s, hu]; split <;> omega)
                 · simp [aup, hv2, hv3, hv4]
                 · simp [aup, hv2, hv3, hv4])
  · have xoo := xo
    unfold one at xo
    refine aK_i ?_
    refine aw_ifeq (tgt := 28) dX0_line_9 (by decide) (fun _ => ?_) (fun h => absurd h (by decide))
    refine aw_iconst dX0_line_28 (by decide) ?_
    refine p_X0_73_0 rfl dX0_line_29 hR.o0 ?_
    refine aw_aload_n dX0_line_32 rfl ?_
    refine g_X0_73_0 rfl dX0_line_33 hR.o0 ?_
    repeat (first | rw [aup_s] | rw [aup_n (by omega)])
    refine aw_ifle (tgt := 41) dX0_line_36 (by decide) (fun h => absurd h (by decide)) (fun _ => ?_)
    refine aw_iconst dX0_line_39 (by decide) ?_
    refine aw_ireturn dX0_line_40 rfl ?_
    refine ⟨_, rfl, ?_⟩
    refine AMet.go (L := [some (vR 0), some (vI a), some (vI b)]) mok_X7_line (Nat.le_of_ble_eq_true rfl) rfl ?_
    refine aw_aload_n dX7_line_0 rfl ?_
    refine aw_iload_n dX7_line_1 rfl ?_
    refine c_X7_286 rfl dX7_line_2 m_ob (Nat.le_of_ble_eq_true rfl) (by omega) (C_m_isOne (by omega) (fun ho => ?_) (fun ho => ?_))
    · first
        | (exfalso; omega)
        | exact absurd b2 (hno _ b0 b1)
        | exact absurd a2 (mno _ a0 a1)
        | skip
          refine aK_i ?_
          refine aw_ifeq (tgt := 17) dX7_line_5 (by decide) (fun h => absurd h (by decide)) (fun _ => ?_)
          refine aw_iload_n dX7_line_8 rfl ?_
          refine aw_iflt (tgt := 17) dX7_line_9 (by decide) (fun h9 => ?_) (fun h9 => ?_)
          · first
              | (exfalso; omega)
              | exact absurd b2 (hno _ b0 b1)
              | exact absurd a2 (mno _ a0 a1)
              | skip
                refine aw_aload_n dX7_line_17 rfl ?_
                refine aw_iconst dX7_line_18 (by decide) ?_
                refine c_X7_72 rfl dX7_line_19 m_ob (Nat.le_of_ble_eq_true rfl) (by omega) (C_m_refuse ?_)
                refine aK_i ?_
                refine aw_ireturn dX7_line_22 rfl ?_
                first
                  | (exfalso; omega)
                  | (refine XR.sameE h ?_ ?_ ?_ ?_ ?_ ?_
                     · first
                         | rfl
                         | (have z9 : k9 = m9 := by
                              rcases (by omega : k9 < m9 ∨ k9 = m9 ∨ m9 < k9) with z | z | z
                              · exact absurd a2 (b3 _ a0 z)
                              · exact z
                              · exact absurd b2 (a3 _ b0 z)
                            exact z9)
                         | (have z9 : m9 = k9 := by
                              rcases (by omega : k9 < m9 ∨ k9 = m9 ∨ m9 < k9) with z | z | z
                              · exact absurd a2 (b3 _ a0 z)
                              · exact z.symm
                              · exact absurd b2 (a3 _ b0 z)
                            exact z9)
                         | omega
                     · repeat (first | exact xs.rf | refine xs.up ?_ (by decide))
                     · repeat (first | exact mss.rf | refine mss.up0 ?_ (by decide))
                     · first
                         | (simp [aup, hv2, hv3, hv4]; done)
                         | (simp [aup, hv2, hv3, hv4]; omega)
                         | (rw [aup_s, aup_s, hu]; split <;> omega)
                     · simp [aup, hv2, hv3, hv4]
                     · simp [aup, hv2, hv3, hv4])
          · first
              | (exfalso; omega)
              | exact absurd b2 (hno _ b0 b1)
              | exact absurd a2 (mno _ a0 a1)
              | skip
                refine aw_iload_n dX7_line_12 rfl ?_
                refine aw_iconst dX7_line_13 (by decide) ?_
                refine aw_icmple (tgt := 23) dX7_line_14 (by decide) (fun h14 => ?_) (fun h14 => ?_)
                · first
                    | (exfalso; omega)
                    | exact absurd b2 (hno _ b0 b1)
                    | exact absurd a2 (mno _ a0 a1)
                    | skip
                      refine aw_aload_n dX7_line_23 rfl ?_
                      refine aw_iload_n dX7_line_24 rfl ?_
                      refine aw_ifne (tgt := 36) dX7_line_25 (by decide) (fun h25 => ?_) (fun h25 => ?_)
                      · first
                          | (exfalso; omega)
                          | exact absurd b2 (hno _ b0 b1)
                          | exact absurd a2 (mno _ a0 a1)
                          | skip
                            refine aw_iload_n dX7_line_36 rfl ?_
                            refine aw_iconst dX7_line_37 (by decide) ?_
                            refine aw_icmpne (tgt := 49) dX7_line_38 (by decide) (fun h38 => ?_) (fun h38 => ?_)
                            · first
                                | (exfalso; omega)
                                | exact absurd b2 (hno _ b0 b1)
                                | exact absurd a2 (mno _ a0 a1)
                                | skip
                                  refine aw_iload_n dX7_line_49 rfl ?_
                                  refine aw_bipush dX7_line_50 (by decide) ?_
                                  refine aw_icmplt (tgt := 59) dX7_line_52 (by decide) (fun h52 => ?_) (fun h52 => ?_)
                                  · first
                                      | (exfalso; omega)
                                      | exact absurd b2 (hno _ b0 b1)
                                      | exact absurd a2 (mno _ a0 a1)
                                      | skip
                                        refine aw_aload_n dX7_line_59 rfl ?_
                                        refine aw_iload_n dX7_line_60 rfl ?_
                                        refine c_X7_295 rfl dX7_line_61 m_ob (Nat.le_of_ble_eq_true rfl) (by omega) (C_m_hiveOf hp0 (fun m9 b0 b1 b2 b3 => ?_) (fun mno => ?_))
                                        · first
                                            | (exfalso; omega)
                                            | exact absurd b2 (hno _ b0 b1)
                                            | exact absurd a2 (mno _ a0 a1)
                                            | skip
                                              refine aK_i ?_
                                              refine c_X7_280 rfl dX7_line_64 m_ob (Nat.le_of_ble_eq_true rfl) (by omega) (C_m_orNone (fun hz => ?_) (fun hz => ?_))
                                              · first
                                                  | (exfalso; omega)
                                                  | exact absurd b2 (hno _ b0 b1)
                                                  | exact absurd a2 (mno _ a0 a1)
                                                  | skip
                                                    refine aK_i ?_
                                                    refine aw_ireturn dX7_line_67 rfl ?_
                                                    first
                                                      | (exfalso; omega)
                                                      | (refine XR.sameE h ?_ ?_ ?_ ?_ ?_ ?_
                                                         · first
                                                             | rfl
                                                             | (have z9 : k9 = m9 := by
                                                                  rcases (by omega : k9 < m9 ∨ k9 = m9 ∨ m9 < k9) with z | z | z
                                                                  · exact absurd a2 (b3 _ a0 z)
                                                                  · exact z
                                                                  · exact absurd b2 (a3 _ b0 z)
                                                                exact z9)
                                                             | (have z9 : m9 = k9 := by
                                                                  rcases (by omega : k9 < m9 ∨ k9 = m9 ∨ m9 < k9) with z | z | z
                                                                  · exact absurd a2 (b3 _ a0 z)
                                                                  · exact z.symm
                                                                  · exact absurd b2 (a3 _ b0 z)
                                                                exact z9)
                                                             | omega
                                                         · repeat (first | exact xs.rf | refine xs.up ?_ (by decide))
                                                         · repeat (first | exact mss.rf | refine mss.up0 ?_ (by decide))
                                                         · first
                                                             | (simp [aup, hv2, hv3, hv4]; done)
                                                             | (simp [aup, hv2, hv3, hv4]; omega)
                                                             | (rw [aup_s, aup_s, hu]; split <;> omega)
                                                         · simp [aup, hv2, hv3, hv4]
                                                         · simp [aup, hv2, hv3, hv4])
                                              · first
                                                  | (exfalso; omega)
                                                  | exact absurd b2 (hno _ b0 b1)
                                                  | exact absurd a2 (mno _ a0 a1)
                                                  | skip
                                                    refine aK_i ?_
                                                    refine aw_ireturn dX7_line_67 rfl ?_
                                                    first
                                                      | (exfalso; omega)
                                                      | (refine XR.sameE h ?_ ?_ ?_ ?_ ?_ ?_
                                                         · first
                                                             | rfl
                                                             | (have z9 : k9 = m9 := by
                                                                  rcases (by omega : k9 < m9 ∨ k9 = m9 ∨ m9 < k9) with z | z | z
                                                                  · exact absurd a2 (b3 _ a0 z)
                                                                  · exact z
                                                                  · exact absurd b2 (a3 _ b0 z)
                                                                exact z9)
                                                             | (have z9 : m9 = k9 := by
                                                                  rcases (by omega : k9 < m9 ∨ k9 = m9 ∨ m9 < k9) with z | z | z
                                                                  · exact absurd a2 (b3 _ a0 z)
                                                                  · exact z.symm
                                                                  · exact absurd b2 (a3 _ b0 z)
                                                                exact z9)
                                                             | omega
                                                         · repeat (first | exact xs.rf | refine xs.up ?_ (by decide))
                                                         · repeat (first | exact mss.rf | refine mss.up0 ?_ (by decide))
                                                         · first
                                                             | (simp [aup, hv2, hv3, hv4]; done)
                                                             | (simp [aup, hv2, hv3, hv4]; omega)
                                                             | (rw [aup_s, aup_s, hu]; split <;> omega)
                                                         · simp [aup, hv2, hv3, hv4]
                                                         · simp [aup, hv2, hv3, hv4])
                                        · first
                                            | (exfalso; omega)
                                            | exact absurd b2 (hno _ b0 b1)
                                            | exact absurd a2 (mno _ a0 a1)
                                            | skip
                                              refine aK_i ?_
                                              refine c_X7_280 rfl dX7_line_64 m_ob (Nat.le_of_ble_eq_true rfl) (by omega) (C_m_orNone (fun hz => ?_) (fun hz => ?_))
                                              · first
                                                  | (exfalso; omega)
                                                  | exact absurd b2 (hno _ b0 b1)
                                                  | exact absurd a2 (mno _ a0 a1)
                                                  | skip
                                                    refine aK_i ?_
                                                    refine aw_ireturn dX7_line_67 rfl ?_
                                                    first
                                                      | (exfalso; omega)
                                                      | (refine XR.sameE h ?_ ?_ ?_ ?_ ?_ ?_
                                                         · first
                                                             | rfl
                                                             | (have z9 : k9 = m9 := by
                                                                  rcases (by omega : k9 < m9 ∨ k9 = m9 ∨ m9 < k9) with z | z | z
                                                                  · exact absurd a2 (b3 _ a0 z)
                                                                  · exact z
                                                                  · exact absurd b2 (a3 _ b0 z)
                                                                exact z9)
                                                             | (have z9 : m9 = k9 := by
                                                                  rcases (by omega : k9 < m9 ∨ k9 = m9 ∨ m9 < k9) with z | z | z
                                                                  · exact absurd a2 (b3 _ a0 z)
                                                                  · exact z.symm
                                                                  · exact absurd b2 (a3 _ b0 z)
                                                                exact z9)
                                                             | omega
                                                         · repeat (first | exact xs.rf | refine xs.up ?_ (by decide))
                                                         · repeat (first | exact mss.rf | refine mss.up0 ?_ (by decide))
                                                         · first
                                                             | (simp [aup, hv2, hv3, hv4]; done)
                                                             | (simp [aup, hv2, hv3, hv4]; omega)
                                                             | (rw [aup_s, aup_s, hu]; split <;> omega)
                                                         · simp [aup, hv2, hv3, hv4]
                                                         · simp [aup, hv2, hv3, hv4])
                                              · first
                                                  | (exfalso; omega)
                                                  | exact absurd b2 (hno _ b0 b1)
                                                  | exact absurd a2 (mno _ a0 a1)
                                                  | skip
                                                    refine aK_i ?_
                                                    refine aw_ireturn dX7_line_67 rfl ?_
                                                    first
                                                      | (exfalso; omega)
                                                      | (refine XR.sameE h ?_ ?_ ?_ ?_ ?_ ?_
                                                         · first
                                                             | rfl
                                                             | (have z9 : k9 = m9 := by
                                                                  rcases (by omega : k9 < m9 ∨ k9 = m9 ∨ m9 < k9) with z | z | z
                                                                  · exact absurd a2 (b3 _ a0 z)
                                                                  · exact z
                                                                  · exact absurd b2 (a3 _ b0 z)
                                                                exact z9)
                                                             | (have z9 : m9 = k9 := by
                                                                  rcases (by omega : k9 < m9 ∨ k9 = m9 ∨ m9 < k9) with z | z | z
                                                                  · exact absurd a2 (b3 _ a0 z)
                                                                  · exact z.symm
                                                                  · exact absurd b2 (a3 _ b0 z)
                                                                exact z9)
                                                             | omega
                                                         · repeat (first | exact xs.rf | refine xs.up ?_ (by decide))
                                                         · repeat (first | exact mss.rf | refine mss.up0 ?_ (by decide))
                                                         · first
                                                             | (simp [aup, hv2, hv3, hv4]; done)
                                                             | (simp [aup, hv2, hv3, hv4]; omega)
                                                             | (rw [aup_s, aup_s, hu]; split <;> omega)
                                                         · simp [aup, hv2, hv3, hv4]
                                                         · simp [aup, hv2, hv3, hv4])
                                  · first
                                      | (exfalso; omega)
                                      | exact absurd b2 (hno _ b0 b1)
                                      | exact absurd a2 (mno _ a0 a1)
                                      | skip
                                        refine aw_iconst dX7_line_55 (by decide) ?_
                                        refine aw_goto (tgt := 64) dX7_line_56 (by decide) ?_
                                        refine c_X7_280 rfl dX7_line_64 m_ob (Nat.le_of_ble_eq_true rfl) (by omega) (C_m_orNone (fun hz => ?_) (fun hz => ?_))
                                        · first
                                            | (exfalso; omega)
                                            | exact absurd b2 (hno _ b0 b1)
                                            | exact absurd a2 (mno _ a0 a1)
                                            | skip
                                              refine aK_i ?_
                                              refine aw_ireturn dX7_line_67 rfl ?_
                                              first
                                                | (exfalso; omega)
                                                | (refine XR.sameE h ?_ ?_ ?_ ?_ ?_ ?_
                                                   · first
                                                       | rfl
                                                       | (have z9 : k9 = m9 := by
                                                            rcases (by omega : k9 < m9 ∨ k9 = m9 ∨ m9 < k9) with z | z | z
                                                            · exact absurd a2 (b3 _ a0 z)
                                                            · exact z
                                                            · exact absurd b2 (a3 _ b0 z)
                                                          exact z9)
                                                       | (have z9 : m9 = k9 := by
                                                            rcases (by omega : k9 < m9 ∨ k9 = m9 ∨ m9 < k9) with z | z | z
                                                            · exact absurd a2 (b3 _ a0 z)
                                                            · exact z.symm
                                                            · exact absurd b2 (a3 _ b0 z)
                                                          exact z9)
                                                       | omega
                                                   · repeat (first | exact xs.rf | refine xs.up ?_ (by decide))
                                                   · repeat (first | exact mss.rf | refine mss.up0 ?_ (by decide))
                                                   · first
                                                       | (simp [aup, hv2, hv3, hv4]; done)
                                                       | (simp [aup, hv2, hv3, hv4]; omega)
                                                       | (rw [aup_s, aup_s, hu]; split <;> omega)
                                                   · simp [aup, hv2, hv3, hv4]
                                                   · simp [aup, hv2, hv3, hv4])
                                        · first
                                            | (exfalso; omega)
                                            | exact absurd b2 (hno _ b0 b1)
                                            | exact absurd a2 (mno _ a0 a1)
                                            | skip
                                              refine aK_i ?_
                                              refine aw_ireturn dX7_line_67 rfl ?_
                                              first
                                                | (exfalso; omega)
                                                | (refine XR.sameE h ?_ ?_ ?_ ?_ ?_ ?_
                                                   · first
                                                       | rfl
                                                       | (have z9 : k9 = m9 := by
                                                            rcases (by omega : k9 < m9 ∨ k9 = m9 ∨ m9 < k9) with z | z | z
                                                            · exact absurd a2 (b3 _ a0 z)
                                                            · exact z
                                                            · exact absurd b2 (a3 _ b0 z)
                                                          exact z9)
                                                       | (have z9 : m9 = k9 := by
                                                            rcases (by omega : k9 < m9 ∨ k9 = m9 ∨ m9 < k9) with z | z | z
                                                            · exact absurd a2 (b3 _ a0 z)
                                                            · exact z.symm
                                                            · exact absurd b2 (a3 _ b0 z)
                                                          exact z9)
                                                       | omega
                                                   · repeat (first | exact xs.rf | refine xs.up ?_ (by decide))
                                                   · repeat (first | exact mss.rf | refine mss.up0 ?_ (by decide))
                                                   · first
                                                       | (simp [aup, hv2, hv3, hv4]; done)
                                                       | (simp [aup, hv2, hv3, hv4]; omega)
                                                       | (rw [aup_s, aup_s, hu]; split <;> omega)
                                                   · simp [aup, hv2, hv3, hv4]
                                                   · simp [aup, hv2, hv3, hv4])
                            · first
                                | (exfalso; omega)
                                | exact absurd b2 (hno _ b0 b1)
                                | exact absurd a2 (mno _ a0 a1)
                                | skip
                                  refine aw_aload_n dX7_line_41 rfl ?_
                                  refine aw_iload_n dX7_line_42 rfl ?_
                                  refine c_X7_292 rfl dX7_line_43 m_ob (Nat.le_of_ble_eq_true rfl) (by omega) (C_m_fat (by omega) (fun z => by have q9 := PQ.f16 hPQ (q := a) (by omega) (by omega); omega) ?_)
                                  refine aK_i ?_
                                  refine aw_goto (tgt := 64) dX7_line_46 (by decide) ?_
                                  refine c_X7_280 rfl dX7_line_64 m_ob (Nat.le_of_ble_eq_true rfl) (by omega) (C_m_orNone (fun hz => ?_) (fun hz => ?_))
                                  · first
                                      | (exfalso; omega)
                                      | exact absurd b2 (hno _ b0 b1)
                                      | exact absurd a2 (mno _ a0 a1)
                                      | skip
                                        refine aK_i ?_
                                        refine aw_ireturn dX7_line_67 rfl ?_
                                        first
                                          | (exfalso; omega)
                                          | (refine XR.sameE h ?_ ?_ ?_ ?_ ?_ ?_
                                             · first
                                                 | rfl
                                                 | (have z9 : k9 = m9 := by
                                                      rcases (by omega : k9 < m9 ∨ k9 = m9 ∨ m9 < k9) with z | z | z
                                                      · exact absurd a2 (b3 _ a0 z)
                                                      · exact z
                                                      · exact absurd b2 (a3 _ b0 z)
                                                    exact z9)
                                                 | (have z9 : m9 = k9 := by
                                                      rcases (by omega : k9 < m9 ∨ k9 = m9 ∨ m9 < k9) with z | z | z
                                                      · exact absurd a2 (b3 _ a0 z)
                                                      · exact z.symm
                                                      · exact absurd b2 (a3 _ b0 z)
                                                    exact z9)
                                                 | omega
                                             · repeat (first | exact xs.rf | refine xs.up ?_ (by decide))
                                             · repeat (first | exact mss.rf | refine mss.up0 ?_ (by decide))
                                             · first
                                                 | (simp [aup, hv2, hv3, hv4]; done)
                                                 | (simp [aup, hv2, hv3, hv4]; omega)
                                                 | (rw [aup_s, aup_s, hu]; split <;> omega)
                                             · simp [aup, hv2, hv3, hv4]
                                             · simp [aup, hv2, hv3, hv4])
                                  · first
                                      | (exfalso; omega)
                                      | exact absurd b2 (hno _ b0 b1)
                                      | exact absurd a2 (mno _ a0 a1)
                                      | skip
                                        refine aK_i ?_
                                        refine aw_ireturn dX7_line_67 rfl ?_
                                        first
                                          | (exfalso; omega)
                                          | (refine XR.sameE h ?_ ?_ ?_ ?_ ?_ ?_
                                             · first
                                                 | rfl
                                                 | (have z9 : k9 = m9 := by
                                                      rcases (by omega : k9 < m9 ∨ k9 = m9 ∨ m9 < k9) with z | z | z
                                                      · exact absurd a2 (b3 _ a0 z)
                                                      · exact z
                                                      · exact absurd b2 (a3 _ b0 z)
                                                    exact z9)
                                                 | (have z9 : m9 = k9 := by
                                                      rcases (by omega : k9 < m9 ∨ k9 = m9 ∨ m9 < k9) with z | z | z
                                                      · exact absurd a2 (b3 _ a0 z)
                                                      · exact z.symm
                                                      · exact absurd b2 (a3 _ b0 z)
                                                    exact z9)
                                                 | omega
                                             · repeat (first | exact xs.rf | refine xs.up ?_ (by decide))
                                             · repeat (first | exact mss.rf | refine mss.up0 ?_ (by decide))
                                             · first
                                                 | (simp [aup, hv2, hv3, hv4]; done)
                                                 | (simp [aup, hv2, hv3, hv4]; omega)
                                                 | (rw [aup_s, aup_s, hu]; split <;> omega)
                                             · simp [aup, hv2, hv3, hv4]
                                             · simp [aup, hv2, hv3, hv4])
                      · first
                          | (exfalso; omega)
                          | exact absurd b2 (hno _ b0 b1)
                          | exact absurd a2 (mno _ a0 a1)
                          | skip
                            refine aw_aload_n dX7_line_28 rfl ?_
                            refine aw_iload_n dX7_line_29 rfl ?_
                            refine c_X7_289 rfl dX7_line_30 m_ob (Nat.le_of_ble_eq_true rfl) (by omega) (C_m_mot (by omega) ?_)
                            refine aK_i ?_
                            refine aw_goto (tgt := 64) dX7_line_33 (by decide) ?_
                            refine c_X7_280 rfl dX7_line_64 m_ob (Nat.le_of_ble_eq_true rfl) (by omega) (C_m_orNone (fun hz => ?_) (fun hz => ?_))
                            · first
                                | (exfalso; omega)
                                | exact absurd b2 (hno _ b0 b1)
                                | exact absurd a2 (mno _ a0 a1)
                                | skip
                                  refine aK_i ?_
                                  refine aw_ireturn dX7_line_67 rfl ?_
                                  first
                                    | (exfalso; omega)
                                    | (refine XR.sameE h ?_ ?_ ?_ ?_ ?_ ?_
                                       · first
                                           | rfl
                                           | (have z9 : k9 = m9 := by
                                                rcases (by omega : k9 < m9 ∨ k9 = m9 ∨ m9 < k9) with z | z | z
                                                · exact absurd a2 (b3 _ a0 z)
                                                · exact z
                                                · exact absurd b2 (a3 _ b0 z)
                                              exact z9)
                                           | (have z9 : m9 = k9 := by
                                                rcases (by omega : k9 < m9 ∨ k9 = m9 ∨ m9 < k9) with z | z | z
                                                · exact absurd a2 (b3 _ a0 z)
                                                · exact z.symm
                                                · exact absurd b2 (a3 _ b0 z)
                                              exact z9)
                                           | omega
                                       · repeat (first | exact xs.rf | refine xs.up ?_ (by decide))
                                       · repeat (first | exact mss.rf | refine mss.up0 ?_ (by decide))
                                       · first
                                           | (simp [aup, hv2, hv3, hv4]; done)
                                           | (simp [aup, hv2, hv3, hv4]; omega)
                                           | (rw [aup_s, aup_s, hu]; split <;> omega)
                                       · simp [aup, hv2, hv3, hv4]
                                       · simp [aup, hv2, hv3, hv4])
                            · first
                                | (exfalso; omega)
                                | exact absurd b2 (hno _ b0 b1)
                                | exact absurd a2 (mno _ a0 a1)
                                | skip
                                  refine aK_i ?_
                                  refine aw_ireturn dX7_line_67 rfl ?_
                                  first
                                    | (exfalso; omega)
                                    | (refine XR.sameE h ?_ ?_ ?_ ?_ ?_ ?_
                                       · first
                                           | rfl
                                           | (have z9 : k9 = m9 := by
                                                rcases (by omega : k9 < m9 ∨ k9 = m9 ∨ m9 < k9) with z | z | z
                                                · exact absurd a2 (b3 _ a0 z)
                                                · exact z
                                                · exact absurd b2 (a3 _ b0 z)
                                              exact z9)
                                           | (have z9 : m9 = k9 := by
                                                rcases (by omega : k9 < m9 ∨ k9 = m9 ∨ m9 < k9) with z | z | z
                                                · exact absurd a2 (b3 _ a0 z)
                                                · exact z.symm
                                                · exact absurd b2 (a3 _ b0 z)
                                              exact z9)
                                           | omega
                                       · repeat (first | exact xs.rf | refine xs.up ?_ (by decide))
                                       · repeat (first | exact mss.rf | refine mss.up0 ?_ (by decide))
                                       · first
                                           | (simp [aup, hv2, hv3, hv4]; done)
                                           | (simp [aup, hv2, hv3, hv4]; omega)
                                           | (rw [aup_s, aup_s, hu]; split <;> omega)
                                       · simp [aup, hv2, hv3, hv4]
                                       · simp [aup, hv2, hv3, hv4])
                · first
                    | (exfalso; omega)
                    | exact absurd b2 (hno _ b0 b1)
                    | exact absurd a2 (mno _ a0 a1)
                    | skip
                      refine aw_aload_n dX7_line_17 rfl ?_
                      refine aw_iconst dX7_line_18 (by decide) ?_
                      refine c_X7_72 rfl dX7_line_19 m_ob (Nat.le_of_ble_eq_true rfl) (by omega) (C_m_refuse ?_)
                      refine aK_i ?_
                      refine aw_ireturn dX7_line_22 rfl ?_
                      first
                        | (exfalso; omega)
                        | (refine XR.sameE h ?_ ?_ ?_ ?_ ?_ ?_
                           · first
                               | rfl
                               | (have z9 : k9 = m9 := by
                                    rcases (by omega : k9 < m9 ∨ k9 = m9 ∨ m9 < k9) with z | z | z
                                    · exact absurd a2 (b3 _ a0 z)
                                    · exact z
                                    · exact absurd b2 (a3 _ b0 z)
                                  exact z9)
                               | (have z9 : m9 = k9 := by
                                    rcases (by omega : k9 < m9 ∨ k9 = m9 ∨ m9 < k9) with z | z | z
                                    · exact absurd a2 (b3 _ a0 z)
                                    · exact z.symm
                                    · exact absurd b2 (a3 _ b0 z)
                                  exact z9)
                               | omega
                           · repeat (first | exact xs.rf | refine xs.up ?_ (by decide))
                           · repeat (first | exact mss.rf | refine mss.up0 ?_ (by decide))
                           · first
                               | (simp [aup, hv2, hv3, hv4]; done)
                               | (simp [aup, hv2, hv3, hv4]; omega)
                               | (rw [aup_s, aup_s, hu]; split <;> omega)
                           · simp [aup, hv2, hv3, hv4]
                           · simp [aup, hv2, hv3, hv4])
    · first
        | (exfalso; omega)
        | exact absurd b2 (hno _ b0 b1)
        | exact absurd a2 (mno _ a0 a1)
        | skip
          refine aK_i ?_
          refine aw_ifeq (tgt := 17) dX7_line_5 (by decide) (fun _ => ?_) (fun h => absurd h (by decide))
          refine aw_aload_n dX7_line_17 rfl ?_
          refine aw_iconst dX7_line_18 (by decide) ?_
          refine c_X7_72 rfl dX7_line_19 m_ob (Nat.le_of_ble_eq_true rfl) (by omega) (C_m_refuse ?_)
          refine aK_i ?_
          refine aw_ireturn dX7_line_22 rfl ?_
          first
            | (exfalso; omega)
            | (refine XR.sameE h ?_ ?_ ?_ ?_ ?_ ?_
               · first
                   | rfl
                   | (have z9 : k9 = m9 := by
                        rcases (by omega : k9 < m9 ∨ k9 = m9 ∨ m9 < k9) with z | z | z
                        · exact absurd a2 (b3 _ a0 z)
                        · exact z
                        · exact absurd b2 (a3 _ b0 z)
                      exact z9)
                   | (have z9 : m9 = k9 := by
                        rcases (by omega : k9 < m9 ∨ k9 = m9 ∨ m9 < k9) with z | z | z
                        · exact absurd a2 (b3 _ a0 z)
                        · exact z.symm
                        · exact absurd b2 (a3 _ b0 z)
                      exact z9)
                   | omega
               · repeat (first | exact xs.rf | refine xs.up ?_ (by decide))
               · repeat (first | exact mss.rf | refine mss.up0 ?_ (by decide))
               · first
                   | (simp [aup, hv2, hv3, hv4]; done)
                   | (simp [aup, hv2, hv3, hv4]; omega)
                   | (rw [aup_s, aup_s, hu]; split <;> omega)
               · simp [aup, hv2, hv3, hv4]
               · simp [aup, hv2, hv3, hv4])
