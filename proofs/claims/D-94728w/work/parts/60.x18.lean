set_option maxRecDepth 100000
/-! operations, 11: nearest, take, frame -/
theorem L_m_inL {ct : Int → Int → Int} {a b i R : Int} {Q : aPost} {d kc ks : Nat} (hd : 2 ≤ d) (hPQ : PQ (ct 1)) (hi : one (ct 1) i) (K1 : R = 1 → ∀ k : Int, AW (mq Q) md_X7_nearest d kc ks 44 [some (vR 0), some (vI a), some (vI b), some (vI i), some (vI k)] [] (gM ct)) (K0 : R = 0 → ∀ k : Int, AW (mq Q) md_X7_nearest d kc ks 61 [some (vR 0), some (vI a), some (vI b), some (vI i), some (vI k)] [] (gM ct)) : ∀ (f : Nat) (k : Int), chn (ct 1) f k → inL (ct 1) i f k = R → AW (mq Q) md_X7_nearest d kc ks 32 [some (vR 0), some (vI a), some (vI b), some (vI i), some (vI k)] [] (gM ct) := by
  have hib := one_bd hPQ.1 hi
  intro f
  induction f with
  | zero =>
    intro k h1 h2
    have e := chn.zero hPQ h1
    subst e
    rw [inL_n] at h2
    refine aw_iload dX7_nearest_32 rfl ?_
    refine aw_iconst dX7_nearest_34 (by decide) ?_
    refine aw_icmpeq (tgt := 61) dX7_nearest_35 (by decide) (fun h35 => ?_) (fun h35 => ?_)
    · exact K0 h2.symm _
    · exfalso; omega
  | succ f ih =>
    intro k h1 h2
    rcases h1 with h1 | ⟨h1, h5⟩
    · subst h1
      rw [inL_n] at h2
      refine aw_iload dX7_nearest_32 rfl ?_
      refine aw_iconst dX7_nearest_34 (by decide) ?_
      refine aw_icmpeq (tgt := 61) dX7_nearest_35 (by decide) (fun h35 => ?_) (fun h35 => ?_)
      · exact K0 h2.symm _
      · exfalso; omega
    · have hb := one_bd hPQ.1 h1
      simp only [inL, if_neg (show ¬ k = -1 by omega)] at h2
      refine aw_iload dX7_nearest_32 rfl ?_
      refine aw_iconst dX7_nearest_34 (by decide) ?_
      refine aw_icmpeq (tgt := 61) dX7_nearest_35 (by decide) (fun h35 => ?_) (fun h35 => ?_)
      · exfalso; omega
      · refine aw_iload_n dX7_nearest_38 rfl ?_
        refine aw_iload dX7_nearest_39 rfl ?_
        refine aw_icmpne (tgt := 50) dX7_nearest_41 (by decide) (fun h41 => ?_) (fun h41 => ?_)
        · refine aw_aload_n dX7_nearest_50 rfl ?_
          refine aw_iload dX7_nearest_51 rfl ?_
          refine c_X7_289 rfl dX7_nearest_53 m_ob (Nat.le_of_ble_eq_true rfl) (by omega) (C_m_mot (by omega) ?_)
          refine aK_i ?_
          refine aw_istore4 dX7_nearest_56 (by decide) rfl ?_
          refine aw_goto (tgt := 32) dX7_nearest_58 (by decide) ?_
          exact ih _ (chn.step hPQ h1 h5) (by rw [if_neg (by omega)] at h2; exact h2)
        · rw [if_pos (by omega)] at h2
          exact K1 h2.symm _
theorem L_m_near {ct : Int → Int → Int} {a b R : Int} {Q : aPost} {d kc ks : Nat} (hd : 2 ≤ d) (hPQ : PQ (ct 1)) (hb : one (ct 1) b) (K1 : R ≠ -1 → Q (.inl (some (vI R))) (gM (aup ct 0 2 0))) (K0 : R = -1 → Q (.inl (some (vI (-1)))) (gM (aup ct 0 2 6))) : ∀ (f : Nat) (i : Int) (x4 : Option aV), chn (ct 1) f i → neaF (ct 1) b f i = R → AW (mq Q) md_X7_nearest d kc ks 24 [some (vR 0), some (vI a), some (vI b), some (vI i), x4] [] (gM ct) := by
  have hbb := one_bd hPQ.1 hb
  intro f
  induction f with
  | zero =>
    intro i x4 h1 h2
    have e := chn.zero hPQ h1
    subst e
    rw [neaF_n] at h2
    refine aw_iload_n dX7_nearest_24 rfl ?_
    refine aw_iconst dX7_nearest_25 (by decide) ?_
    refine aw_icmpeq (tgt := 70) dX7_nearest_26 (by decide) (fun h26 => ?_) (fun h26 => ?_)
    · refine aw_aload_n dX7_nearest_70 rfl ?_
      refine aw_bipush dX7_nearest_71 (by decide) ?_
      refine c_X7_72 rfl dX7_nearest_73 m_ob (Nat.le_of_ble_eq_true rfl) (by omega) (C_m_refuse ?_)
      refine aK_i ?_
      refine aw_ireturn dX7_nearest_76 rfl ?_
      exact K0 h2.symm
    · exfalso; omega
  | succ f ih =>
    intro i x4 h1 h2
    rcases h1 with h1 | ⟨h1, h5⟩
    · subst h1
      rw [neaF_n] at h2
      refine aw_iload_n dX7_nearest_24 rfl ?_
      refine aw_iconst dX7_nearest_25 (by decide) ?_
      refine aw_icmpeq (tgt := 70) dX7_nearest_26 (by decide) (fun h26 => ?_) (fun h26 => ?_)
      · refine aw_aload_n dX7_nearest_70 rfl ?_
        refine aw_bipush dX7_nearest_71 (by decide) ?_
        refine c_X7_72 rfl dX7_nearest_73 m_ob (Nat.le_of_ble_eq_true rfl) (by omega) (C_m_refuse ?_)
        refine aK_i ?_
        refine aw_ireturn dX7_nearest_76 rfl ?_
        exact K0 h2.symm
      · exfalso; omega
    · have hib := one_bd hPQ.1 h1
      have h01 := inL_01 (s := ct 1) (w := i) (f := 16) (k := b)
      simp only [neaF, if_neg (show ¬ i = -1 by omega)] at h2
      refine aw_iload_n dX7_nearest_24 rfl ?_
      refine aw_iconst dX7_nearest_25 (by decide) ?_
      refine aw_icmpeq (tgt := 70) dX7_nearest_26 (by decide) (fun h26 => ?_) (fun h26 => ?_)
      · exfalso; omega
      · refine aw_iload_n dX7_nearest_29 rfl ?_
        refine aw_istore4 dX7_nearest_30 (by decide) rfl ?_
        refine L_m_inL (a := a) (by omega) hPQ h1 (fun e k => ?_) (fun e k => ?_) 16 b (chn.of hPQ hb) rfl
        · rw [if_pos e] at h2
          refine aw_aload_n dX7_nearest_44 rfl ?_
          refine aw_iload_n dX7_nearest_45 rfl ?_
          refine c_X7_76 rfl dX7_nearest_46 m_ob (Nat.le_of_ble_eq_true rfl) (by omega) (C_m_gives ?_)
          refine aK_i ?_
          refine aw_ireturn dX7_nearest_49 rfl ?_
          subst h2
          exact K1 (by omega)
        · rw [if_neg (by omega)] at h2
          refine aw_aload_n dX7_nearest_61 rfl ?_
          refine aw_iload_n dX7_nearest_62 rfl ?_
          refine c_X7_289 rfl dX7_nearest_63 m_ob (Nat.le_of_ble_eq_true rfl) (by omega) (C_m_mot (by omega) ?_)
          refine aK_i ?_
          refine aw_istore3 dX7_nearest_66 (by decide) rfl ?_
          refine aw_goto (tgt := 24) dX7_nearest_67 (by decide) ?_
          exact ih _ _ (chn.step hPQ h1 h5) h2
theorem OP_nearest {sz : Int} {im : Int → aIm} {ct cm : Int → Int → Int} (h : XR (sz, im, ct) cm) {a b : Int} (r0 : -2147483648 ≤ a ∧ a < 2147483648) (r1 : -2147483648 ≤ b ∧ b < 2147483648)  : AMet md_X0_nearest 5 0 0 [vR 0, vI a, vI b] (sz, im, ct) (XQ md_X7_nearest 4 [vR 0, vI a, vI b] cm) := by
  obtain ⟨own, N, hR, HY, HL, HN, HS, HP, HF, HX, hv2, hv3, hv4⟩ := id h
  dsimp only at hR HY HL HS HX hv2 hv3 hv4
  have hp0 := HP.1
  have hp3 := HP.2.1
  have hpq := HP.2.2.2.1.1
  have hps := HP.2.2.2.2.2
  have hlt : ct 10 0 ≠ 0 := fun e => by have q1 := HL.2.2.1.1; rw [e] at q1; have q2 := hR.1.2; omega
  have hPQ := HP.2.2.2.1
  have HL1 := HL.up0 (j := 7) (v := 0) hR.1.2
  refine AMet.go (L := [some (vR 0), some (vI a), some (vI b), none]) mok_X0_nearest (Nat.le_of_ble_eq_true rfl) rfl ?_
  refine aw_aload_n dX0_nearest_0 rfl ?_
  refine aw_aload_n dX0_nearest_1 rfl ?_
  refine c_X0_182 rfl dX0_nearest_2 hR.o0 (Nat.le_of_ble_eq_true rfl) (by omega) (C_x_lines hR HY ?_)
  repeat (first | rw [aup_s] | rw [aup_n (by omega)])
  refine aK_i ?_
  refine aw_iload_n dX0_nearest_5 rfl ?_
  refine c_X0_287 rfl dX0_nearest_6 HL.1 (Nat.le_of_ble_eq_true rfl) (by omega) (C_x_isThere HL (fun xo => ?_) (fun xo => ?_))
  · have xoo := xo
    have hpa := hPQ.2.2.2.1 _ xoo
    unfold one at xo
    refine aK_i ?_
    refine aw_ifeq (tgt := 27) dX0_nearest_9 (by decide) (fun h => absurd h (by decide)) (fun _ => ?_)
    refine aw_aload_n dX0_nearest_12 rfl ?_
    refine c_X0_182 rfl dX0_nearest_13 hR.o0 (Nat.le_of_ble_eq_true rfl) (by omega) (C_x_lines hR HY ?_)
    repeat (first | rw [aup_s] | rw [aup_n (by omega)])
    refine aK_i ?_
    refine aw_iload_n dX0_nearest_16 rfl ?_
    refine c_X0_287 rfl dX0_nearest_17 HL.1 (Nat.le_of_ble_eq_true rfl) (by omega) (C_x_isThere HL (fun xo2 => ?_) (fun xo2 => ?_))
    · have xoo2 := xo2
      unfold one at xo2
      refine aK_i ?_
      refine aw_ifeq (tgt := 27) dX0_nearest_20 (by decide) (fun h => absurd h (by decide)) (fun _ => ?_)
      refine aw_iconst dX0_nearest_23 (by decide) ?_
      refine aw_goto (tgt := 28) dX0_nearest_24 (by decide) ?_
      refine p_X0_73_0 rfl dX0_nearest_28 hR.o0 ?_
      refine aw_aload_n dX0_nearest_31 rfl ?_
      refine g_X0_73_0 rfl dX0_nearest_32 hR.o0 ?_
      repeat (first | rw [aup_s] | rw [aup_n (by omega)])
      refine aw_ifle (tgt := 40) dX0_nearest_35 (by decide) (fun _ => ?_) (fun h => absurd h (by decide))
      refine aw_iload_n dX0_nearest_40 rfl ?_
      refine aw_istore3 dX0_nearest_41 (by decide) rfl ?_
      have hnb := neaF_bd (b := b) hPQ (chn.of hPQ xoo)
      refine L_x_near (a := a) (b := b) (R := neaF (cm 1) b 16 a) (by omega) hR HY (aup_n (by omega)) HL1 hPQ (by omega) xoo2 ?_ 16 a (chn.of hPQ xoo) rfl
      refine aw_aload_n dX0_nearest_68 rfl ?_
      refine aw_iload_n dX0_nearest_69 rfl ?_
      refine c_X0_283 rfl dX0_nearest_70 hR.o0 (Nat.le_of_ble_eq_true rfl) (by omega) (C_x_answer (hR.up0 (j := 7) (v := 0)) (fun u hu => ?_))
      refine aK_i ?_
      refine aw_ireturn dX0_nearest_73 rfl ?_
      refine ⟨_, rfl, ?_⟩
      refine AMet.go (L := [some (vR 0), some (vI a), some (vI b), none, none]) mok_X7_nearest (Nat.le_of_ble_eq_true rfl) rfl ?_
      refine aw_aload_n dX7_nearest_0 rfl ?_
      refine aw_iload_n dX7_nearest_1 rfl ?_
      refine c_X7_286 rfl dX7_nearest_2 m_ob (Nat.le_of_ble_eq_true rfl) (by omega) (C_m_isOne (by omega) (fun ho => ?_) (fun ho => ?_))
      · first
          | (exfalso; omega)
          | skip
            refine aK_i ?_
            refine aw_ifeq (tgt := 16) dX7_nearest_5 (by decide) (fun h => absurd h (by decide)) (fun _ => ?_)
            refine aw_aload_n dX7_nearest_8 rfl ?_
            refine aw_iload_n dX7_nearest_9 rfl ?_
            refine c_X7_286 rfl dX7_nearest_10 m_ob (Nat.le_of_ble_eq_true rfl) (by omega) (C_m_isOne (by omega) (fun ho => ?_) (fun ho => ?_))
            · first
                | (exfalso; omega)
                | skip
                  refine aK_i ?_
                  refine aw_ifne (tgt := 22) dX7_nearest_13 (by decide) (fun _ => ?_) (fun h => absurd h (by decide))
                  refine aw_iload_n dX7_nearest_22 rfl ?_
                  refine aw_istore3 dX7_nearest_23 (by decide) rfl ?_
                  refine L_m_near (a := a) (b := b) (by omega) hPQ xoo2 (fun e9 => ?_) (fun e9 => ?_) 16 a _ (chn.of hPQ xoo) rfl
                  · first
                      | (exfalso; omega)
                      | (refine XR.sameE h ?_ ?_ ?_ ?_ ?_ ?_
                         · first
                             | rfl
                             | omega
                         · repeat (first | exact xs.rf | refine xs.up ?_ (by decide))
                         · repeat (first | exact mss.rf | refine mss.up0 ?_ (by decide))
                         · first
                             | (simp [aup, hv2, hv3, hv4]; done)
                             | (simp [aup, hv2, hv3, hv4]; omega)
                             | (rw [aup_s, aup_s, hu]; split <;> omega)
                         · simp [aup, hv2, hv3, hv4]
                         · simp [aup, hv2, hv3, hv4])
                  · first
                      | (exfalso; omega)
                      | (refine XR.sameE h ?_ ?_ ?_ ?_ ?_ ?_
                         · first
                             | rfl
                             | omega
                         · repeat (first | exact xs.rf | refine xs.up ?_ (by decide))
                         · repeat (first | exact mss.rf | refine mss.up0 ?_ (by decide))
                         · first
                             | (simp [aup, hv2, hv3, hv4]; done)
                             | (simp [aup, hv2, hv3, hv4]; omega)
                             | (rw [aup_s, aup_s, hu]; split <;> omega)
                         · simp [aup, hv2, hv3, hv4]
                         · simp [aup, hv2, hv3, hv4])
            · first
                | (exfalso; omega)
                | skip
                  refine aK_i ?_
                  refine aw_ifne (tgt := 22) dX7_nearest_13 (by decide) (fun h => absurd h (by decide)) (fun _ => ?_)
                  refine aw_aload_n dX7_nearest_16 rfl ?_
                  refine aw_iconst dX7_nearest_17 (by decide) ?_
                  refine c_X7_72 rfl dX7_nearest_18 m_ob (Nat.le_of_ble_eq_true rfl) (by omega) (C_m_refuse ?_)
                  refine aK_i ?_
                  refine aw_ireturn dX7_nearest_21 rfl ?_
                  first
                    | (exfalso; omega)
                    | (refine XR.sameE h ?_ ?_ ?_ ?_ ?_ ?_
                       · first
                           | rfl
                           | omega
                       · repeat (first | exact xs.rf | refine xs.up ?_ (by decide))
                       · repeat (first | exact mss.rf | refine mss.up0 ?_ (by decide))
                       · first
                           | (simp [aup, hv2, hv3, hv4]; done)
                           | (simp [aup, hv2, hv3, hv4]; omega)
                           | (rw [aup_s, aup_s, hu]; split <;> omega)
                       · simp [aup, hv2, hv3, hv4]
                       · simp [aup, hv2, hv3, hv4])
      · first
          | (exfalso; omega)
          | skip
            refine aK_i ?_
            refine aw_ifeq (tgt := 16) dX7_nearest_5 (by decide) (fun _ => ?_) (fun h => absurd h (by decide))
            refine aw_aload_n dX7_nearest_16 rfl ?_
            refine aw_iconst dX7_nearest_17 (by decide) ?_
            refine c_X7_72 rfl dX7_nearest_18 m_ob (Nat.le_of_ble_eq_true rfl) (by omega) (C_m_refuse ?_)
            refine aK_i ?_
            refine aw_ireturn dX7_nearest_21 rfl ?_
            first
              | (exfalso; omega)
              | (refine XR.sameE h ?_ ?_ ?_ ?_ ?_ ?_
                 · first
                     | rfl
                     | omega
                 · repeat (first | exact xs.rf | refine xs.up ?_ (by decide))
                 · repeat (first | exact mss.rf | refine mss.up0 ?_ (by decide))
                 · first
                     | (simp [aup, hv2, hv3, hv4]; done)
                     | (simp [aup, hv2, hv3, hv4]; omega)
                     | (rw [aup_s, aup_s, hu]; split <;> omega)
                 · simp [aup, hv2, hv3, hv4]
                 · simp [aup, hv2, hv3, hv4])
    · have xoo2 := xo2
      unfold one at xo2
      refine aK_i ?_
      refine aw_ifeq (tgt := 27) dX0_nearest_20 (by decide) (fun _ => ?_) (fun h => absurd h (by decide))
      refine aw_iconst dX0_nearest_27 (by decide) ?_
      refine p_X0_73_0 rfl dX0_nearest_28 hR.o0 ?_
      refine aw_aload_n dX0_nearest_31 rfl ?_
      refine g_X0_73_0 rfl dX0_nearest_32 hR.o0 ?_
      repeat (first | rw [aup_s] | rw [aup_n (by omega)])
      refine aw_ifle (tgt := 40) dX0_nearest_35 (by decide) (fun h => absurd h (by decide)) (fun _ => ?_)
      refine aw_iconst dX0_nearest_38 (by decide) ?_
      refine aw_ireturn dX0_nearest_39 rfl ?_
      refine ⟨_, rfl, ?_⟩
      refine AMet.go (L := [some (vR 0), some (vI a), some (vI b), none, none]) mok_X7_nearest (Nat.le_of_ble_eq_true rfl) rfl ?_
      refine aw_aload_n dX7_nearest_0 rfl ?_
      refine aw_iload_n dX7_nearest_1 rfl ?_
      refine c_X7_286 rfl dX7_nearest_2 m_ob (Nat.le_of_ble_eq_true rfl) (by omega) (C_m_isOne (by omega) (fun ho => ?_) (fun ho => ?_))
      · first
          | (exfalso; omega)
          | skip
            refine aK_i ?_
            refine aw_ifeq (tgt := 16) dX7_nearest_5 (by decide) (fun h => absurd h (by decide)) (fun _ => ?_)
            refine aw_aload_n dX7_nearest_8 rfl ?_
            refine aw_iload_n dX7_nearest_9 rfl ?_
            refine c_X7_286 rfl dX7_nearest_10 m_ob (Nat.le_of_ble_eq_true rfl) (by omega) (C_m_isOne (by omega) (fun ho => ?_) (fun ho => ?_))
            · first
                | (exfalso; omega)
                | skip
                  refine aK_i ?_
                  refine aw_ifne (tgt := 22) dX7_nearest_13 (by decide) (fun _ => ?_) (fun h => absurd h (by decide))
                  refine aw_iload_n dX7_nearest_22 rfl ?_
                  refine aw_istore3 dX7_nearest_23 (by decide) rfl ?_
                  refine L_m_near (a := a) (b := b) (by omega) hPQ xoo2 (fun e9 => ?_) (fun e9 => ?_) 16 a _ (chn.of hPQ xoo) rfl
                  · first
                      | (exfalso; omega)
                      | (refine XR.sameE h ?_ ?_ ?_ ?_ ?_ ?_
                         · first
                             | rfl
                             | omega
                         · repeat (first | exact xs.rf | refine xs.up ?_ (by decide))
                         · repeat (first | exact mss.rf | refine mss.up0 ?_ (by decide))
                         · first
                             | (simp [aup, hv2, hv3, hv4]; done)
                             | (simp [aup, hv2, hv3, hv4]; omega)
                             | (rw [aup_s, aup_s, hu]; split <;> omega)
                         · simp [aup, hv2, hv3, hv4]
                         · simp [aup, hv2, hv3, hv4])
                  · first
                      | (exfalso; omega)
                      | (refine XR.sameE h ?_ ?_ ?_ ?_ ?_ ?_
                         · first
                             | rfl
                             | omega
                         · repeat (first | exact xs.rf | refine xs.up ?_ (by decide))
                         · repeat (first | exact mss.rf | refine mss.up0 ?_ (by decide))
                         · first
                             | (simp [aup, hv2, hv3, hv4]; done)
                             | (simp [aup, hv2, hv3, hv4]; omega)
                             | (rw [aup_s, aup_s, hu]; split <;> omega)
                         · simp [aup, hv2, hv3, hv4]
                         · simp [aup, hv2, hv3, hv4])
            · first
                | (exfalso; omega)
                | skip
                  refine aK_i ?_
                  refine aw_ifne (tgt := 22) dX7_nearest_13 (by decide) (fun h => absurd h (by decide)) (fun _ => ?_)
                  refine aw_aload_n dX7_nearest_16 rfl ?_
                  refine aw_iconst dX7_nearest_17 (by decide) ?_
                  refine c_X7_72 rfl dX7_nearest_18 m_ob (Nat.le_of_ble_eq_true rfl) (by omega) (C_m_refuse ?_)
                  refine aK_i ?_
                  refine aw_ireturn dX7_nearest_21 rfl ?_
                  first
                    | (exfalso; omega)
                    | (refine XR.sameE h ?_ ?_ ?_ ?_ ?_ ?_
                       · first
                           | rfl
                           | omega
                       · repeat (first | exact xs.rf | refine xs.up ?_ (by decide))
                       · repeat (first | exact mss.rf | refine mss.up0 ?_ (by decide))
                       · first
                           | (simp [aup, hv2, hv3, hv4]; done)
                           | (simp [aup, hv2, hv3, hv4]; omega)
                           | (rw [aup_s, aup_s, hu]; split <;> omega)
                       · simp [aup, hv2, hv3, hv4]
                       · simp [aup, hv2, hv3, hv4])
      · first
          | (exfalso; omega)
          | skip
            refine aK_i ?_
            refine aw_ifeq (tgt := 16) dX7_nearest_5 (by decide) (fun _ => ?_) (fun h => absurd h (by decide))
            refine aw_aload_n dX7_nearest_16 rfl ?_
            refine aw_iconst dX7_nearest_17 (by decide) ?_
            refine c_X7_72 rfl dX7_nearest_18 m_ob (Nat.le_of_ble_eq_true rfl) (by omega) (C_m_refuse ?_)
            refine aK_i ?_
            refine aw_ireturn dX7_nearest_21 rfl ?_
            first
              | (exfalso; omega)
              | (refine XR.sameE h ?_ ?_ ?_ ?_ ?_ ?_
                 · first
                     | rfl
                     | omega
                 · repeat (first | exact xs.rf | refine xs.up ?_ (by decide))
                 · repeat (first | exact mss.rf | refine mss.up0 ?_ (by decide))
                 · first
                     | (simp [aup, hv2, hv3, hv4]; done)
                     | (simp [aup, hv2, hv3, hv4]; omega)
                     | (rw [aup_s, aup_s, hu]; split <;> omega)
                 · simp [aup, hv2, hv3, hv4]
                 · simp [aup, hv2, hv3, hv4])
  · have xoo := xo
    unfold one at xo
    refine aK_i ?_
    refine aw_ifeq (tgt := 27) dX0_nearest_9 (by decide) (fun _ => ?_) (fun h => absurd h (by decide))
    refine aw_iconst dX0_nearest_27 (by decide) ?_
    refine p_X0_73_0 rfl dX0_nearest_28 hR.o0 ?_
    refine aw_aload_n dX0_nearest_31 rfl ?_
    refine g_X0_73_0 rfl dX0_nearest_32 hR.o0 ?_
    repeat (first | rw [aup_s] | rw [aup_n (by omega)])
    refine aw_ifle (tgt := 40) dX0_nearest_35 (by decide) (fun h => absurd h (by decide)) (fun _ => ?_)
    refine aw_iconst dX0_nearest_38 (by decide) ?_
    refine aw_ireturn dX0_nearest_39 rfl ?_
    refine ⟨_, rfl, ?_⟩
    refine AMet.go (L := [some (vR 0), some (vI a), some (vI b), none, none]) mok_X7_nearest (Nat.le_of_ble_eq_true rfl) rfl ?_
    refine aw_aload_n dX7_nearest_0 rfl ?_
    refine aw_iload_n dX7_nearest_1 rfl ?_
    refine c_X7_286 rfl dX7_nearest_2 m_ob (Nat.le_of_ble_eq_true rfl) (by omega) (C_m_isOne (by omega) (fun ho => ?_) (fun ho => ?_))
    · first
        | (exfalso; omega)
        | skip
          refine aK_i ?_
          refine aw_ifeq (tgt := 16) dX7_nearest_5 (by decide) (fun h => absurd h (by decide)) (fun _ => ?_)
          refine aw_aload_n dX7_nearest_8 rfl ?_
          refine aw_iload_n dX7_nearest_9 rfl ?_
          refine c_X7_286 rfl dX7_nearest_10 m_ob (Nat.le_of_ble_eq_true rfl) (by omega) (C_m_isOne (by omega) (fun ho => ?_) (fun ho => ?_))
          · first
              | (exfalso; omega)
              | skip
                refine aK_i ?_
                refine aw_ifne (tgt := 22) dX7_nearest_13 (by decide) (fun _ => ?_) (fun h => absurd h (by decide))
                refine aw_iload_n dX7_nearest_22 rfl ?_
                refine aw_istore3 dX7_nearest_23 (by decide) rfl ?_
                refine L_m_near (a := a) (b := b) (by omega) hPQ xoo2 (fun e9 => ?_) (fun e9 => ?_) 16 a _ (chn.of hPQ xoo) rfl
                · first
                    | (exfalso; omega)
                    | (refine XR.sameE h ?_ ?_ ?_ ?_ ?_ ?_
                       · first
                           | rfl
                           | omega
                       · repeat (first | exact xs.rf | refine xs.up ?_ (by decide))
                       · repeat (first | exact mss.rf | refine mss.up0 ?_ (by decide))
                       · first
                           | (simp [aup, hv2, hv3, hv4]; done)
                           | (simp [aup, hv2, hv3, hv4]; omega)
                           | (rw [aup_s, aup_s, hu]; split <;> omega)
                       · simp [aup, hv2, hv3, hv4]
                       · simp [aup, hv2, hv3, hv4])
                · first
                    | (exfalso; omega)
                    | (refine XR.sameE h ?_ ?_ ?_ ?_ ?_ ?_
                       · first
                           | rfl
                           | omega
                       · repeat (first | exact xs.rf | refine xs.up ?_ (by decide))
                       · repeat (first | exact mss.rf | refine mss.up0 ?_ (by decide))
                       · first
                           | (simp [aup, hv2, hv3, hv4]; done)
                           | (simp [aup, hv2, hv3, hv4]; omega)
                           | (rw [aup_s, aup_s, hu]; split <;> omega)
                       · simp [aup, hv2, hv3, hv4]
                       · simp [aup, hv2, hv3, hv4])
          · first
              | (exfalso; omega)
              | skip
                refine aK_i ?_
                refine aw_ifne (tgt := 22) dX7_nearest_13 (by decide) (fun h => absurd h (by decide)) (fun _ => ?_)
                refine aw_aload_n dX7_nearest_16 rfl ?_
                refine aw_iconst dX7_nearest_17 (by decide) ?_
                refine c_X7_72 rfl dX7_nearest_18 m_ob (Nat.le_of_ble_eq_true rfl) (by omega) (C_m_refuse ?_)
                refine aK_i ?_
                refine aw_ireturn dX7_nearest_21 rfl ?_
                first
                  | (exfalso; omega)
                  | (refine XR.sameE h ?_ ?_ ?_ ?_ ?_ ?_
                     · first
                         | rfl
                         | omega
                     · repeat (first | exact xs.rf | refine xs.up ?_ (by decide))
                     · repeat (first | exact mss.rf | refine mss.up0 ?_ (by decide))
                     · first
                         | (simp [aup, hv2, hv3, hv4]; done)
                         | (simp [aup, hv2, hv3, hv4]; omega)
                         | (rw [aup_s, aup_s, hu]; split <;> omega)
                     · simp [aup, hv2, hv3, hv4]
                     · simp [aup, hv2, hv3, hv4])
    · first
        | (exfalso; omega)
        | skip
          refine aK_i ?_
          refine aw_ifeq (tgt := 16) dX7_nearest_5 (by decide) (fun _ => ?_) (fun h => absurd h (by decide))
          refine aw_aload_n dX7_nearest_16 rfl ?_
          refine aw_iconst dX7_nearest_17 (by decide) ?_
          refine c_X7_72 rfl dX7_nearest_18 m_ob (Nat.le_of_ble_eq_true rfl) (by omega) (C_m_refuse ?_)
          refine aK_i ?_
          refine aw_ireturn dX7_nearest_21 rfl ?_
          first
            | (exfalso; omega)
            | (refine XR.sameE h ?_ ?_ ?_ ?_ ?_ ?_
               · first
                   | rfl
                   | omega
               · repeat (first | exact xs.rf | refine xs.up ?_ (by decide))
               · repeat (first | exact mss.rf | refine mss.up0 ?_ (by decide))
               · first
                   | (simp [aup, hv2, hv3, hv4]; done)
                   | (simp [aup, hv2, hv3, hv4]; omega)
                   | (rw [aup_s, aup_s, hu]; split <;> omega)
               · simp [aup, hv2, hv3, hv4]
               · simp [aup, hv2, hv3, hv4])
theorem OP_take {sz : Int} {im : Int → aIm} {ct cm : Int → Int → Int} (h : XR (sz, im, ct) cm) {a : Int} (r0 : -2147483648 ≤ a ∧ a < 2147483648)  : AMet md_X0_take 3 0 0 [vR 0, vI a] (sz, im, ct) (XQ md_X7_take 2 [vR 0, vI a] cm) := by
  obtain ⟨own, N, hR, HY, HL, HN, HS, HP, HF, HX, hv2, hv3, hv4⟩ := id h
  dsimp only at hR HY HL HS HX hv2 hv3 hv4
  have hp0 := HP.1
  have hp3 := HP.2.1
  have hpq := HP.2.2.2.1.1
  have hps := HP.2.2.2.2.2
  refine AMet.go (L := [some (vR 0), some (vI a)]) mok_X0_take (Nat.le_of_ble_eq_true rfl) rfl ?_
  refine aw_aload_n dX0_take_0 rfl ?_
  refine aw_aload_n dX0_take_1 rfl ?_
  refine aw_iload_n dX0_take_2 rfl ?_
  refine c_X0_168 rfl dX0_take_3 hR.o0 (Nat.le_of_ble_eq_true rfl) (by omega) (C_x_isHive hR HY (fun xh => ?_) (fun xh => ?_))
  · refine aK_i ?_
    refine aw_ifne (tgt := 13) dX0_take_6 (by decide) (fun _ => ?_) (fun h => absurd h (by decide))
    refine aw_aload_n dX0_take_13 rfl ?_
    refine c_X0_158 rfl dX0_take_14 hR.o0 (Nat.le_of_ble_eq_true rfl) (by omega) (C_x_yard2 hR ?_)
    refine aK_i ?_
    refine g_X0_367_5 rfl dX0_take_17 HY.1 ?_
    repeat (first | rw [aup_s] | rw [aup_n (by omega)])
    try rw [HY.2.2.2.2.2.2.1.1]
    refine aw_ifge (tgt := 28) dX0_take_20 (by decide) (fun h20 => ?_) (fun h20 => ?_)
    · obtain ⟨hv, ehv, ⟨g1, g2, ⟨g3, g4, g5, g6, g7⟩, g8, g9, -⟩, nhv0, nhv10, nhv9, nv0, nvhv, nv10, ohv⟩ := HY.hv hR (k := a) (by omega) (by omega)
      have gn := g1.2.2.2
      have gh := HP.2.2.1 a (by omega) (by omega)
      have gq := gh.2.2.2.2.1
      have gp := HP.pd.2.1 a (by omega) (by omega)
      refine aw_aload_n dX0_take_28 rfl ?_
      refine aw_iload_n dX0_take_29 rfl ?_
      refine c_X0_172 rfl dX0_take_30 hR.o0 (Nat.le_of_ble_eq_true rfl) (by omega) (C_x_xat2 (a := hv) hR HY (by omega) (by repeat (first | exact ehv | rw [aup_rn nvhv] | rw [aup_rn nv10] | rw [aup_rn nv0])) ?_)
      refine aK_i ?_
      refine g_X0_280_9 rfl dX0_take_33 g1.1 ?_
      repeat (first | rw [aup_s] | rw [aup_n (by omega)])
      try rw [g5]
      refine aw_iflt (tgt := 44) dX0_take_36 (by decide) (fun h36 => ?_) (fun h36 => ?_)
      · refine aw_iconst dX0_take_44 (by decide) ?_
        refine p_X0_73_0 rfl dX0_take_45 hR.o0 ?_
        refine aw_aload_n dX0_take_48 rfl ?_
        refine g_X0_73_0 rfl dX0_take_49 hR.o0 ?_
        repeat (first | rw [aup_s] | rw [aup_n (by omega)])
        refine aw_ifle (tgt := 57) dX0_take_52 (by decide) (fun _ => ?_) (fun h => absurd h (by decide))
        have hB9 := HP.2.2.2.2.1.1
        have hsB : cm 1 (64 + 198 * a + 1) ≤ sumB (cm 1) := sumB_ge HP (by omega) (by omega)
        refine aw_aload_n dX0_take_57 rfl ?_
        refine aw_iload_n dX0_take_58 rfl ?_
        refine c_X0_172 rfl dX0_take_59 hR.o0 (Nat.le_of_ble_eq_true rfl) (by omega) (C_x_xat2 (a := hv) hR HY (by omega) (by repeat (first | exact ehv | rw [aup_rn nvhv] | rw [aup_rn nv10] | rw [aup_rn nv0])) ?_)
        refine aK_i ?_
        refine aw_dup dX0_take_62 rfl ?_
        refine g_X0_264_9 rfl dX0_take_63 g1.1 ?_
        repeat (first | rw [aup_s] | rw [aup_n (by omega)])
        try rw [g3]
        refine aw_aload_n dX0_take_66 rfl ?_
        refine c_X0_158 rfl dX0_take_67 hR.o0 (Nat.le_of_ble_eq_true rfl) (by omega) (C_x_yard2 hR ?_)
        refine aK_i ?_
        refine g_X0_370_5 rfl dX0_take_70 HY.1 ?_
        repeat (first | rw [aup_s] | rw [aup_n (by omega)])
        try rw [HY.2.2.2.2.2.2.1.2 (by omega)]
        refine aw_iaddr dX0_take_73 (by omega) ?_
        refine p_X0_264_9 rfl dX0_take_74 g1.1 ?_
        refine aw_aload_n dX0_take_77 rfl ?_
        refine aw_iload_n dX0_take_78 rfl ?_
        refine c_X0_172 rfl dX0_take_79 hR.o0 (Nat.le_of_ble_eq_true rfl) (by omega) (C_x_xat2 (a := hv) hR HY (by omega) (by repeat (first | exact ehv | rw [aup_rn nvhv] | rw [aup_rn nv10] | rw [aup_rn nv0])) ?_)
        refine aK_i ?_
        refine aw_aload_n dX0_take_82 rfl ?_
        refine c_X0_158 rfl dX0_take_83 hR.o0 (Nat.le_of_ble_eq_true rfl) (by omega) (C_x_yard2 hR ?_)
        refine aK_i ?_
        refine g_X0_367_5 rfl dX0_take_86 HY.1 ?_
        repeat (first | rw [aup_s] | rw [aup_n (by omega)])
        try rw [HY.2.2.2.2.2.2.1.1]
        refine p_X0_280_9 rfl dX0_take_89 g1.1 ?_
        refine aw_aload_n dX0_take_92 rfl ?_
        refine c_X0_158 rfl dX0_take_93 hR.o0 (Nat.le_of_ble_eq_true rfl) (by omega) (C_x_yard2 hR ?_)
        refine aK_i ?_
        refine aw_iconst dX0_take_96 (by decide) ?_
        refine p_X0_367_5 rfl dX0_take_97 HY.1 ?_
        refine aw_aload_n dX0_take_100 rfl ?_
        refine c_X0_158 rfl dX0_take_101 hR.o0 (Nat.le_of_ble_eq_true rfl) (by omega) (C_x_yard2 hR ?_)
        refine aK_i ?_
        refine aw_iconst dX0_take_104 (by decide) ?_
        refine p_X0_370_5 rfl dX0_take_105 HY.1 ?_
        refine aw_aload_n dX0_take_108 rfl ?_
        refine aw_iload_n dX0_take_109 rfl ?_
        refine c_X0_172 rfl dX0_take_110 hR.o0 (Nat.le_of_ble_eq_true rfl) (by omega) (C_x_xat2 (a := hv) hR HY (by omega) (by repeat (first | exact ehv | rw [aup_rn nvhv] | rw [aup_rn nv10] | rw [aup_rn nv0])) ?_)
        refine aK_i ?_
        refine g_X0_264_9 rfl dX0_take_113 g1.1 ?_
        repeat (first | rw [aup_s] | rw [aup_n (by omega)])
        try rw [g3]
        refine aw_ireturn dX0_take_116 rfl ?_
        refine ⟨_, rfl, ?_⟩
        refine AMet.go (L := [some (vR 0), some (vI a), none]) mok_X7_take (Nat.le_of_ble_eq_true rfl) rfl ?_
        refine aw_aload_n dX7_take_0 rfl ?_
        refine aw_iload_n dX7_take_1 rfl ?_
        refine c_X7_274 rfl dX7_take_2 m_ob (Nat.le_of_ble_eq_true rfl) (by omega) (C_m_isHive (fun hh => ?_) (fun hh => ?_))
        · first
            | (exfalso; omega)
            | skip
              refine aK_i ?_
              refine aw_ifne (tgt := 14) dX7_take_5 (by decide) (fun _ => ?_) (fun h => absurd h (by decide))
              refine gm_7 rfl dX7_take_14 dX7_take_15 rfl ?_
              refine aw_bipush dX7_take_18 (by decide) ?_
              refine aw_iaload dX7_take_20 m_a1 (by omega) (by omega) ?_
              refine aw_iconst dX7_take_21 (by decide) ?_
              refine aw_icmpne (tgt := 32) dX7_take_22 (by decide) (fun h22 => ?_) (fun h22 => ?_)
              · first
                  | (exfalso; omega)
                  | skip
                    refine aw_iload_n dX7_take_32 rfl ?_
                    refine c_X7_217 rfl dX7_take_33  (Nat.le_of_ble_eq_true rfl) (by omega) (C_m_hiveRow (by omega) ?_)
                    refine aK_i ?_
                    refine aw_istore2 dX7_take_36 (by decide) rfl ?_
                    refine gm_7 rfl dX7_take_37 dX7_take_38 rfl ?_
                    refine aw_iload_n dX7_take_41 rfl ?_
                    refine aw_iconst dX7_take_42 (by decide) ?_
                    refine aw_iaddr dX7_take_43 (by omega) ?_
                    refine aw_iaload dX7_take_44 m_a1 (by omega) (by omega) ?_
                    refine aw_iconst dX7_take_45 (by decide) ?_
                    refine aw_icmpeq (tgt := 56) dX7_take_46 (by decide) (fun h46 => ?_) (fun h46 => ?_)
                    · first
                        | (exfalso; omega)
                        | skip
                          refine gm_7 rfl dX7_take_56 dX7_take_57 rfl ?_
                          refine aw_iload_n dX7_take_60 rfl ?_
                          refine aw_iconst dX7_take_61 (by decide) ?_
                          refine aw_iaddr dX7_take_62 (by omega) ?_
                          refine aw_dup2 dX7_take_63 rfl rfl ?_
                          repeat (first | rw [aup_s] | rw [aup_n (by omega)])
                          refine aw_iaload dX7_take_64 m_a1 (by omega) (by omega) ?_
                          refine gm_7 rfl dX7_take_65 dX7_take_66 rfl ?_
                          refine aw_bipush dX7_take_69 (by decide) ?_
                          refine aw_iaload dX7_take_71 m_a1 (by omega) (by omega) ?_
                          repeat (first | rw [aup_s] | rw [aup_n (by omega)])
                          refine aw_iaddr dX7_take_72 (by omega) ?_
                          refine aw_iastore dX7_take_73 m_a1 (by omega) (by omega) ?_
                          refine gm_7 rfl dX7_take_74 dX7_take_75 rfl ?_
                          refine aw_iload_n dX7_take_78 rfl ?_
                          refine aw_iconst dX7_take_79 (by decide) ?_
                          refine aw_iaddr dX7_take_80 (by omega) ?_
                          refine gm_7 rfl dX7_take_81 dX7_take_82 rfl ?_
                          refine aw_bipush dX7_take_85 (by decide) ?_
                          refine aw_iaload dX7_take_87 m_a1 (by omega) (by omega) ?_
                          repeat (first | rw [aup_s] | rw [aup_n (by omega)])
                          refine aw_iastore dX7_take_88 m_a1 (by omega) (by omega) ?_
                          refine gm_7 rfl dX7_take_89 dX7_take_90 rfl ?_
                          refine aw_bipush dX7_take_93 (by decide) ?_
                          refine aw_iconst dX7_take_95 (by decide) ?_
                          refine aw_iastore dX7_take_96 m_a1 (by omega) (by omega) ?_
                          refine gm_7 rfl dX7_take_97 dX7_take_98 rfl ?_
                          refine aw_bipush dX7_take_101 (by decide) ?_
                          refine aw_iconst dX7_take_103 (by decide) ?_
                          refine aw_iastore dX7_take_104 m_a1 (by omega) (by omega) ?_
                          refine aw_aload_n dX7_take_105 rfl ?_
                          refine gm_7 rfl dX7_take_106 dX7_take_107 rfl ?_
                          refine aw_iload_n dX7_take_110 rfl ?_
                          refine aw_iconst dX7_take_111 (by decide) ?_
                          refine aw_iaddr dX7_take_112 (by omega) ?_
                          refine aw_iaload dX7_take_113 m_a1 (by omega) (by omega) ?_
                          repeat (first | rw [aup_s] | rw [aup_n (by omega)])
                          refine c_X7_76 rfl dX7_take_114 m_ob (Nat.le_of_ble_eq_true rfl) (by omega) (C_m_gives ?_)
                          refine aK_i ?_
                          refine aw_ireturn dX7_take_117 rfl ?_
                          first
                            | (exfalso; omega)
                            | (refine XR.sameE h ?_ ?_ ?_ ?_ ?_ ?_
                               · first
                                   | rfl
                                   | omega
                               · repeat (first | exact xs.rf | refine xs.up ?_ (by decide))
                               · repeat (first | exact mss.rf | refine mss.up0 ?_ (by decide))
                               · first
                                   | (simp [aup, hv2, hv3, hv4]; done)
                                   | (simp [aup, hv2, hv3, hv4]; omega)
                               · simp [aup, hv2, hv3, hv4]
                               · simp [aup, hv2, hv3, hv4])
                            | (refine ⟨vI_eq (by first | rfl | omega), _, rfl, XR.yd (upA (upA (upA (upA (cm 1) (64 + 198 * a + 1) (cm 1 (64 + 198 * a + 1) + cm 1 11)) (64 + 198 * a + 3) (cm 1 12)) 11 (-1)) 12 (-1)) hR HX HL HN HS HP ?_ ?_ ?_ ?_ ?_ ?_ ?_ ?_ ?_ ?_ ?_ ?_ ?_⟩
                               · rw [aup_rn (by decide), aup_r, aup_r, aup_r, aup_r]
                               · rw [show (upA (upA (upA (upA (cm 1) (64 + 198 * a + 1) (cm 1 (64 + 198 * a + 1) + cm 1 11)) (64 + 198 * a + 3) (cm 1 12)) 11 (-1)) 12 (-1)) 3 = cm 1 3 by repeat rw [upA_n (by omega)]]
                                 refine YR.swq (b := -1) (q := -1) (YR.hfld (a := hv) (k := a) (j := 5) (v := cm 1 12) (YR.hfld (a := hv) (k := a) (j := 3) (v := cm 1 (64 + 198 * a + 1) + cm 1 11) (HY.up0 (j := 7) (v := 0) hR.1.2 (by decide)) (by omega) (by omega) (by rw [aup_rn nv0]; exact ehv) (by omega)) (by omega) (by rw [upA_n (by omega)]; omega) (by rw [aup_rn nvhv, aup_rn nv0]; exact ehv) (by omega)) (fun x j hz => ?_) ?_ (fun e9 => absurd rfl e9)
                                 · rw [aup_n (fun z => hz ⟨z.1, Or.inl z.2⟩), aup_n (fun z => hz ⟨z.1, Or.inr z.2⟩)]
                                 · rw [aup_n (by omega), aup_s]
                               · intro i hi
                                 repeat rw [upA_n (by omega)]
                               · intro k k0 k1
                                 repeat rw [upA_n (by omega)]
                               · obtain ⟨q1, q2, q3, q4, q5, q6, q7⟩ := gh
                                 refine PI.one HP (k := a) (by omega) (by omega) (fun i hi i1 i2 => ?_) ?_ ?_ ?_ ?_ ?_ ?_ ?_ ?_
                                 · repeat rw [upA_n (by omega)]
                                 all_goals (repeat (first | rw [upA_s] | rw [upA_n (by omega)]))
                                 all_goals omega
                               · repeat (first | exact HF | refine FC.ok (FC.up0 ?_ (by decide)) | refine FC.ok (FC.up1 ?_))
                               · intro x j hx hz
                                 have hx1 : x ≠ hv := fun e => hx (by rw [e]; exact ohv)
                                 have hx2 : x ≠ 10 := fun e => hx (by rw [e, HY.2.1]; decide)
                                 repeat (first | rw [aup_rn hx1] | rw [aup_rn hx2] | rw [aup_n (fun z => hz ⟨z.1, Or.inl z.2⟩)])
                               · repeat rw [aup_n (by omega)]
                               · intro b b0 b1 b9
                                 rw [aup_rn b0]
                                 repeat rw [aup_rn b1]
                               · intro i hi
                                 rw [aup_n (by omega)]
                                 repeat rw [aup_rn (by decide)]
                               · repeat rw [aup_n (by omega)]
                                 rw [aup_s, aup_s]
                               · repeat rw [aup_n (by omega)]
                                 repeat rw [aup_rn (by decide)]
                                 exact hv3
                               · repeat rw [aup_n (by omega)]
                                 repeat rw [aup_rn (by decide)]
                                 exact hv4)
                    · first
                        | (exfalso; omega)
                        | skip
                          refine aw_aload_n dX7_take_49 rfl ?_
                          refine aw_bipush dX7_take_50 (by decide) ?_
                          refine c_X7_72 rfl dX7_take_52 m_ob (Nat.le_of_ble_eq_true rfl) (by omega) (C_m_refuse ?_)
                          refine aK_i ?_
                          refine aw_ireturn dX7_take_55 rfl ?_
                          first
                            | (exfalso; omega)
                            | (refine XR.sameE h ?_ ?_ ?_ ?_ ?_ ?_
                               · first
                                   | rfl
                                   | omega
                               · repeat (first | exact xs.rf | refine xs.up ?_ (by decide))
                               · repeat (first | exact mss.rf | refine mss.up0 ?_ (by decide))
                               · first
                                   | (simp [aup, hv2, hv3, hv4]; done)
                                   | (simp [aup, hv2, hv3, hv4]; omega)
                               · simp [aup, hv2, hv3, hv4]
                               · simp [aup, hv2, hv3, hv4])
                            | (refine ⟨vI_eq (by first | rfl | omega), _, rfl, XR.yd (upA (upA (upA (upA (cm 1) (64 + 198 * a + 1) (cm 1 (64 + 198 * a + 1) + cm 1 11)) (64 + 198 * a + 3) (cm 1 12)) 11 (-1)) 12 (-1)) hR HX HL HN HS HP ?_ ?_ ?_ ?_ ?_ ?_ ?_ ?_ ?_ ?_ ?_ ?_ ?_⟩
                               · rw [aup_rn (by decide), aup_r, aup_r, aup_r, aup_r]
                               · rw [show (upA (upA (upA (upA (cm 1) (64 + 198 * a + 1) (cm 1 (64 + 198 * a + 1) + cm 1 11)) (64 + 198 * a + 3) (cm 1 12)) 11 (-1)) 12 (-1)) 3 = cm 1 3 by repeat rw [upA_n (by omega)]]
                                 refine YR.swq (b := -1) (q := -1) (YR.hfld (a := hv) (k := a) (j := 5) (v := cm 1 12) (YR.hfld (a := hv) (k := a) (j := 3) (v := cm 1 (64 + 198 * a + 1) + cm 1 11) (HY.up0 (j := 7) (v := 0) hR.1.2 (by decide)) (by omega) (by omega) (by rw [aup_rn nv0]; exact ehv) (by omega)) (by omega) (by rw [upA_n (by omega)]; omega) (by rw [aup_rn nvhv, aup_rn nv0]; exact ehv) (by omega)) (fun x j hz => ?_) ?_ (fun e9 => absurd rfl e9)
                                 · rw [aup_n (fun z => hz ⟨z.1, Or.inl z.2⟩), aup_n (fun z => hz ⟨z.1, Or.inr z.2⟩)]
                                 · rw [aup_n (by omega), aup_s]
                               · intro i hi
                                 repeat rw [upA_n (by omega)]
                               · intro k k0 k1
                                 repeat rw [upA_n (by omega)]
                               · obtain ⟨q1, q2, q3, q4, q5, q6, q7⟩ := gh
                                 refine PI.one HP (k := a) (by omega) (by omega) (fun i hi i1 i2 => ?_) ?_ ?_ ?_ ?_ ?_ ?_ ?_ ?_
                                 · repeat rw [upA_n (by omega)]
                                 all_goals (repeat (first | rw [upA_s] | rw [upA_n (by omega)]))
                                 all_goals omega
                               · repeat (first | exact HF | refine FC.ok (FC.up0 ?_ (by decide)) | refine FC.ok (FC.up1 ?_))
                               · intro x j hx hz
                                 have hx1 : x ≠ hv := fun e => hx (by rw [e]; exact ohv)
                                 have hx2 : x ≠ 10 := fun e => hx (by rw [e, HY.2.1]; decide)
                                 repeat (first | rw [aup_rn hx1] | rw [aup_rn hx2] | rw [aup_n (fun z => hz ⟨z.1, Or.inl z.2⟩)])
                               · repeat rw [aup_n (by omega)]
                               · intro b b0 b1 b9
                                 rw [aup_rn b0]
                                 repeat rw [aup_rn b1]
                               · intro i hi
                                 rw [aup_n (by omega)]
                                 repeat rw [aup_rn (by decide)]
                               · repeat rw [aup_n (by omega)]
                                 rw [aup_s, aup_s]
                               · repeat rw [aup_n (by omega)]
                                 repeat rw [aup_rn (by decide)]
                                 exact hv3
                               · repeat rw [aup_n (by omega)]
                                 repeat rw [aup_rn (by decide)]
                                 exact hv4)
              · first
                  | (exfalso; omega)
                  | skip
                    refine aw_aload_n dX7_take_25 rfl ?_
                    refine aw_bipush dX7_take_26 (by decide) ?_
                    refine c_X7_72 rfl dX7_take_28 m_ob (Nat.le_of_ble_eq_true rfl) (by omega) (C_m_refuse ?_)
                    refine aK_i ?_
                    refine aw_ireturn dX7_take_31 rfl ?_
                    first
                      | (exfalso; omega)
                      | (refine XR.sameE h ?_ ?_ ?_ ?_ ?_ ?_
                         · first
                             | rfl
                             | omega
                         · repeat (first | exact xs.rf | refine xs.up ?_ (by decide))
                         · repeat (first | exact mss.rf | refine mss.up0 ?_ (by decide))
                         · first
                             | (simp [aup, hv2, hv3, hv4]; done)
                             | (simp [aup, hv2, hv3, hv4]; omega)
                         · simp [aup, hv2, hv3, hv4]
                         · simp [aup, hv2, hv3, hv4])
                      | (refine ⟨vI_eq (by first | rfl | omega), _, rfl, XR.yd (upA (upA (upA (upA (cm 1) (64 + 198 * a + 1) (cm 1 (64 + 198 * a + 1) + cm 1 11)) (64 + 198 * a + 3) (cm 1 12)) 11 (-1)) 12 (-1)) hR HX HL HN HS HP ?_ ?_ ?_ ?_ ?_ ?_ ?_ ?_ ?_ ?_ ?_ ?_ ?_⟩
                         · rw [aup_rn (by decide), aup_r, aup_r, aup_r, aup_r]
                         · rw [show (upA (upA (upA (upA (cm 1) (64 + 198 * a + 1) (cm 1 (64 + 198 * a + 1) + cm 1 11)) (64 + 198 * a + 3) (cm 1 12)) 11 (-1)) 12 (-1)) 3 = cm 1 3 by repeat rw [upA_n (by omega)]]
                           refine YR.swq (b := -1) (q := -1) (YR.hfld (a := hv) (k := a) (j := 5) (v := cm 1 12) (YR.hfld (a := hv) (k := a) (j := 3) (v := cm 1 (64 + 198 * a + 1) + cm 1 11) (HY.up0 (j := 7) (v := 0) hR.1.2 (by decide)) (by omega) (by omega) (by rw [aup_rn nv0]; exact ehv) (by omega)) (by omega) (by rw [upA_n (by omega)]; omega) (by rw [aup_rn nvhv, aup_rn nv0]; exact ehv) (by omega)) (fun x j hz => ?_) ?_ (fun e9 => absurd rfl e9)
                           · rw [aup_n (fun z => hz ⟨z.1, Or.inl z.2⟩), aup_n (fun z => hz ⟨z.1, Or.inr z.2⟩)]
                           · rw [aup_n (by omega), aup_s]
                         · intro i hi
                           repeat rw [upA_n (by omega)]
                         · intro k k0 k1
                           repeat rw [upA_n (by omega)]
                         · obtain ⟨q1, q2, q3, q4, q5, q6, q7⟩ := gh
                           refine PI.one HP (k := a) (by omega) (by omega) (fun i hi i1 i2 => ?_) ?_ ?_ ?_ ?_ ?_ ?_ ?_ ?_
                           · repeat rw [upA_n (by omega)]
                           all_goals (repeat (first | rw [upA_s] | rw [upA_n (by omega)]))
                           all_goals omega
                         · repeat (first | exact HF | refine FC.ok (FC.up0 ?_ (by decide)) | refine FC.ok (FC.up1 ?_))
                         · intro x j hx hz
                           have hx1 : x ≠ hv := fun e => hx (by rw [e]; exact ohv)
                           have hx2 : x ≠ 10 := fun e => hx (by rw [e, HY.2.1]; decide)
                           repeat (first | rw [aup_rn hx1] | rw [aup_rn hx2] | rw [aup_n (fun z => hz ⟨z.1, Or.inl z.2⟩)])
                         · repeat rw [aup_n (by omega)]
                         · intro b b0 b1 b9
                           rw [aup_rn b0]
                           repeat rw [aup_rn b1]
                         · intro i hi
                           rw [aup_n (by omega)]
                           repeat rw [aup_rn (by decide)]
                         · repeat rw [aup_n (by omega)]
                           rw [aup_s, aup_s]
                         · repeat rw [aup_n (by omega)]
                           repeat rw [aup_rn (by decide)]
                           exact hv3
                         · repeat rw [aup_n (by omega)]
                           repeat rw [aup_rn (by decide)]
                           exact hv4)
        · first
            | (exfalso; omega)
            | skip
              refine aK_i ?_
              refine aw_ifne (tgt := 14) dX7_take_5 (by decide) (fun h => absurd h (by decide)) (fun _ => ?_)
              refine aw_aload_n dX7_take_8 rfl ?_
              refine aw_iconst dX7_take_9 (by decide) ?_
              refine c_X7_72 rfl dX7_take_10 m_ob (Nat.le_of_ble_eq_true rfl) (by omega) (C_m_refuse ?_)
              refine aK_i ?_
              refine aw_ireturn dX7_take_13 rfl ?_
              first
                | (exfalso; omega)
                | (refine XR.sameE h ?_ ?_ ?_ ?_ ?_ ?_
                   · first
                       | rfl
                       | omega
                   · repeat (first | exact xs.rf | refine xs.up ?_ (by decide))
                   · repeat (first | exact mss.rf | refine mss.up0 ?_ (by decide))
                   · first
                       | (simp [aup, hv2, hv3, hv4]; done)
                       | (simp [aup, hv2, hv3, hv4]; omega)
                   · simp [aup, hv2, hv3, hv4]
                   · simp [aup, hv2, hv3, hv4])
                | (refine ⟨vI_eq (by first | rfl | omega), _, rfl, XR.yd (upA (upA (upA (upA (cm 1) (64 + 198 * a + 1) (cm 1 (64 + 198 * a + 1) + cm 1 11)) (64 + 198 * a + 3) (cm 1 12)) 11 (-1)) 12 (-1)) hR HX HL HN HS HP ?_ ?_ ?_ ?_ ?_ ?_ ?_ ?_ ?_ ?_ ?_ ?_ ?_⟩
                   · rw [aup_rn (by decide), aup_r, aup_r, aup_r, aup_r]
                   · rw [show (upA (upA (upA (upA (cm 1) (64 + 198 * a + 1) (cm 1 (64 + 198 * a + 1) + cm 1 11)) (64 + 198 * a + 3) (cm 1 12)) 11 (-1)) 12 (-1)) 3 = cm 1 3 by repeat rw [upA_n (by omega)]]
                     refine YR.swq (b := -1) (q := -1) (YR.hfld (a := hv) (k := a) (j := 5) (v := cm 1 12) (YR.hfld (a := hv) (k := a) (j := 3) (v := cm 1 (64 + 198 * a + 1) + cm 1 11) (HY.up0 (j := 7) (v := 0) hR.1.2 (by decide)) (by omega) (by omega) (by rw [aup_rn nv0]; exact ehv) (by omega)) (by omega) (by rw [upA_n (by omega)]; omega) (by rw [aup_rn nvhv, aup_rn nv0]; exact ehv) (by omega)) (fun x j hz => ?_) ?_ (fun e9 => absurd rfl e9)
                     · rw [aup_n (fun z => hz ⟨z.1, Or.inl z.2⟩), aup_n (fun z => hz ⟨z.1, Or.inr z.2⟩)]
                     · rw [aup_n (by omega), aup_s]
                   · intro i hi
                     repeat rw [upA_n (by omega)]
                   · intro k k0 k1
                     repeat rw [upA_n (by omega)]
                   · obtain ⟨q1, q2, q3, q4, q5, q6, q7⟩ := gh
                     refine PI.one HP (k := a) (by omega) (by omega) (fun i hi i1 i2 => ?_) ?_ ?_ ?_ ?_ ?_ ?_ ?_ ?_
                     · repeat rw [upA_n (by omega)]
                     all_goals (repeat (first | rw [upA_s] | rw [upA_n (by omega)]))
                     all_goals omega
                   · repeat (first | exact HF | refine FC.ok (FC.up0 ?_ (by decide)) | refine FC.ok (FC.up1 ?_))
                   · intro x j hx hz
                     have hx1 : x ≠ hv := fun e => hx (by rw [e]; exact ohv)
                     have hx2 : x ≠ 10 := fun e => hx (by rw [e, HY.2.1]; decide)
                     repeat (first | rw [aup_rn hx1] | rw [aup_rn hx2] | rw [aup_n (fun z => hz ⟨z.1, Or.inl z.2⟩)])
                   · repeat rw [aup_n (by omega)]
                   · intro b b0 b1 b9
                     rw [aup_rn b0]
                     repeat rw [aup_rn b1]
                   · intro i hi
                     rw [aup_n (by omega)]
                     repeat rw [aup_rn (by decide)]
                   · repeat rw [aup_n (by omega)]
                     rw [aup_s, aup_s]
                   · repeat rw [aup_n (by omega)]
                     repeat rw [aup_rn (by decide)]
                     exact hv3
                   · repeat rw [aup_n (by omega)]
                     repeat rw [aup_rn (by decide)]
                     exact hv4)
      · refine aw_bipush dX0_take_39 (by decide) ?_
        refine aw_goto (tgt := 45) dX0_take_41 (by decide) ?_
        refine p_X0_73_0 rfl dX0_take_45 hR.o0 ?_
        refine aw_aload_n dX0_take_48 rfl ?_
        refine g_X0_73_0 rfl dX0_take_49 hR.o0 ?_
        repeat (first | rw [aup_s] | rw [aup_n (by omega)])
        refine aw_ifle (tgt := 57) dX0_take_52 (by decide) (fun h => absurd h (by decide)) (fun _ => ?_)
        refine aw_iconst dX0_take_55 (by decide) ?_
        refine aw_ireturn dX0_take_56 rfl ?_
        refine ⟨_, rfl, ?_⟩
        refine AMet.go (L := [some (vR 0), some (vI a), none]) mok_X7_take (Nat.le_of_ble_eq_true rfl) rfl ?_
        refine aw_aload_n dX7_take_0 rfl ?_
        refine aw_iload_n dX7_take_1 rfl ?_
        refine c_X7_274 rfl dX7_take_2 m_ob (Nat.le_of_ble_eq_true rfl) (by omega) (C_m_isHive (fun hh => ?_) (fun hh => ?_))
        · first
            | (exfalso; omega)
            | skip
              refine aK_i ?_
              refine aw_ifne (tgt := 14) dX7_take_5 (by decide) (fun _ => ?_) (fun h => absurd h (by decide))
              refine gm_7 rfl dX7_take_14 dX7_take_15 rfl ?_
              refine aw_bipush dX7_take_18 (by decide) ?_
              refine aw_iaload dX7_take_20 m_a1 (by omega) (by omega) ?_
              refine aw_iconst dX7_take_21 (by decide) ?_
              refine aw_icmpne (tgt := 32) dX7_take_22 (by decide) (fun h22 => ?_) (fun h22 => ?_)
              · first
                  | (exfalso; omega)
                  | skip
                    refine aw_iload_n dX7_take_32 rfl ?_
                    refine c_X7_217 rfl dX7_take_33  (Nat.le_of_ble_eq_true rfl) (by omega) (C_m_hiveRow (by omega) ?_)
                    refine aK_i ?_
                    refine aw_istore2 dX7_take_36 (by decide) rfl ?_
                    refine gm_7 rfl dX7_take_37 dX7_take_38 rfl ?_
                    refine aw_iload_n dX7_take_41 rfl ?_
                    refine aw_iconst dX7_take_42 (by decide) ?_
                    refine aw_iaddr dX7_take_43 (by omega) ?_
                    refine aw_iaload dX7_take_44 m_a1 (by omega) (by omega) ?_
                    refine aw_iconst dX7_take_45 (by decide) ?_
                    refine aw_icmpeq (tgt := 56) dX7_take_46 (by decide) (fun h46 => ?_) (fun h46 => ?_)
                    · first
                        | (exfalso; omega)
                        | skip
                          refine gm_7 rfl dX7_take_56 dX7_take_57 rfl ?_
                          refine aw_iload_n dX7_take_60 rfl ?_
                          refine aw_iconst dX7_take_61 (by decide) ?_
                          refine aw_iaddr dX7_take_62 (by omega) ?_
                          refine aw_dup2 dX7_take_63 rfl rfl ?_
                          repeat (first | rw [aup_s] | rw [aup_n (by omega)])
                          refine aw_iaload dX7_take_64 m_a1 (by omega) (by omega) ?_
                          refine gm_7 rfl dX7_take_65 dX7_take_66 rfl ?_
                          refine aw_bipush dX7_take_69 (by decide) ?_
                          refine aw_iaload dX7_take_71 m_a1 (by omega) (by omega) ?_
                          repeat (first | rw [aup_s] | rw [aup_n (by omega)])
                          refine aw_iaddr dX7_take_72 (by omega) ?_
                          refine aw_iastore dX7_take_73 m_a1 (by omega) (by omega) ?_
                          refine gm_7 rfl dX7_take_74 dX7_take_75 rfl ?_
                          refine aw_iload_n dX7_take_78 rfl ?_
                          refine aw_iconst dX7_take_79 (by decide) ?_
                          refine aw_iaddr dX7_take_80 (by omega) ?_
                          refine gm_7 rfl dX7_take_81 dX7_take_82 rfl ?_
                          refine aw_bipush dX7_take_85 (by decide) ?_
                          refine aw_iaload dX7_take_87 m_a1 (by omega) (by omega) ?_
                          repeat (first | rw [aup_s] | rw [aup_n (by omega)])
                          refine aw_iastore dX7_take_88 m_a1 (by omega) (by omega) ?_
                          refine gm_7 rfl dX7_take_89 dX7_take_90 rfl ?_
                          refine aw_bipush dX7_take_93 (by decide) ?_
                          refine aw_iconst dX7_take_95 (by decide) ?_
                          refine aw_iastore dX7_take_96 m_a1 (by omega) (by omega) ?_
                          refine gm_7 rfl dX7_take_97 dX7_take_98 rfl ?_
                          refine aw_bipush dX7_take_101 (by decide) ?_
                          refine aw_iconst dX7_take_103 (by decide) ?_
                          refine aw_iastore dX7_take_104 m_a1 (by omega) (by omega) ?_
                          refine aw_aload_n dX7_take_105 rfl ?_
                          refine gm_7 rfl dX7_take_106 dX7_take_107 rfl ?_
                          refine aw_iload_n dX7_take_110 rfl ?_
                          refine aw_iconst dX7_take_111 (by decide) ?_
                          refine aw_iaddr dX7_take_112 (by omega) ?_
                          refine aw_iaload dX7_take_113 m_a1 (by omega) (by omega) ?_
                          repeat (first | rw [aup_s] | rw [aup_n (by omega)])
                          refine c_X7_76 rfl dX7_take_114 m_ob (Nat.le_of_ble_eq_true rfl) (by omega) (C_m_gives ?_)
                          refine aK_i ?_
                          refine aw_ireturn dX7_take_117 rfl ?_
                          first
                            | (exfalso; omega)
                            | (refine XR.sameE h ?_ ?_ ?_ ?_ ?_ ?_
                               · first
                                   | rfl
                                   | omega
                               · repeat (first | exact xs.rf | refine xs.up ?_ (by decide))
                               · repeat (first | exact mss.rf | refine mss.up0 ?_ (by decide))
                               · first
                                   | (simp [aup, hv2, hv3, hv4]; done)
                                   | (simp [aup, hv2, hv3, hv4]; omega)
                               · simp [aup, hv2, hv3, hv4]
                               · simp [aup, hv2, hv3, hv4])
                            | (refine ⟨vI_eq (by first | rfl | omega), _, rfl, XR.yd (upA (upA (upA (upA (cm 1) (64 + 198 * a + 1) (cm 1 (64 + 198 * a + 1) + cm 1 11)) (64 + 198 * a + 3) (cm 1 12)) 11 (-1)) 12 (-1)) hR HX HL HN HS HP ?_ ?_ ?_ ?_ ?_ ?_ ?_ ?_ ?_ ?_ ?_ ?_ ?_⟩
                               · rw [aup_rn (by decide), aup_r, aup_r, aup_r, aup_r]
                               · rw [show (upA (upA (upA (upA (cm 1) (64 + 198 * a + 1) (cm 1 (64 + 198 * a + 1) + cm 1 11)) (64 + 198 * a + 3) (cm 1 12)) 11 (-1)) 12 (-1)) 3 = cm 1 3 by repeat rw [upA_n (by omega)]]
                                 refine YR.swq (b := -1) (q := -1) (YR.hfld (a := hv) (k := a) (j := 5) (v := cm 1 12) (YR.hfld (a := hv) (k := a) (j := 3) (v := cm 1 (64 + 198 * a + 1) + cm 1 11) (HY.up0 (j := 7) (v := 0) hR.1.2 (by decide)) (by omega) (by omega) (by rw [aup_rn nv0]; exact ehv) (by omega)) (by omega) (by rw [upA_n (by omega)]; omega) (by rw [aup_rn nvhv, aup_rn nv0]; exact ehv) (by omega)) (fun x j hz => ?_) ?_ (fun e9 => absurd rfl e9)
                                 · rw [aup_n (fun z => hz ⟨z.1, Or.inl z.2⟩), aup_n (fun z => hz ⟨z.1, Or.inr z.2⟩)]
                                 · rw [aup_n (by omega), aup_s]
                               · intro i hi
                                 repeat rw [upA_n (by omega)]
                               · intro k k0 k1
                                 repeat rw [upA_n (by omega)]
                               · obtain ⟨q1, q2, q3, q4, q5, q6, q7⟩ := gh
                                 refine PI.one HP (k := a) (by omega) (by omega) (fun i hi i1 i2 => ?_) ?_ ?_ ?_ ?_ ?_ ?_ ?_ ?_
                                 · repeat rw [upA_n (by omega)]
                                 all_goals (repeat (first | rw [upA_s] | rw [upA_n (by omega)]))
                                 all_goals omega
                               · repeat (first | exact HF | refine FC.ok (FC.up0 ?_ (by decide)) | refine FC.ok (FC.up1 ?_))
                               · intro x j hx hz
                                 have hx1 : x ≠ hv := fun e => hx (by rw [e]; exact ohv)
                                 have hx2 : x ≠ 10 := fun e => hx (by rw [e, HY.2.1]; decide)
                                 repeat (first | rw [aup_rn hx1] | rw [aup_rn hx2] | rw [aup_n (fun z => hz ⟨z.1, Or.inl z.2⟩)])
                               · repeat rw [aup_n (by omega)]
                               · intro b b0 b1 b9
                                 rw [aup_rn b0]
                                 repeat rw [aup_rn b1]
                               · intro i hi
                                 rw [aup_n (by omega)]
                                 repeat rw [aup_rn (by decide)]
                               · repeat rw [aup_n (by omega)]
                                 rw [aup_s, aup_s]
                               · repeat rw [aup_n (by omega)]
                                 repeat rw [aup_rn (by decide)]
                                 exact hv3
                               · repeat rw [aup_n (by omega)]
                                 repeat rw [aup_rn (by decide)]
                                 exact hv4)
                    · first
                        | (exfalso; omega)
                        | skip
                          refine aw_aload_n dX7_take_49 rfl ?_
                          refine aw_bipush dX7_take_50 (by decide) ?_
                          refine c_X7_72 rfl dX7_take_52 m_ob (Nat.le_of_ble_eq_true rfl) (by omega) (C_m_refuse ?_)
                          refine aK_i ?_
                          refine aw_ireturn dX7_take_55 rfl ?_
                          first
                            | (exfalso; omega)
                            | (refine XR.sameE h ?_ ?_ ?_ ?_ ?_ ?_
                               · first
                                   | rfl
                                   | omega
                               · repeat (first | exact xs.rf | refine xs.up ?_ (by decide))
                               · repeat (first | exact mss.rf | refine mss.up0 ?_ (by decide))
                               · first
                                   | (simp [aup, hv2, hv3, hv4]; done)
                                   | (simp [aup, hv2, hv3, hv4]; omega)
                               · simp [aup, hv2, hv3, hv4]
                               · simp [aup, hv2, hv3, hv4])
                            | (refine ⟨vI_eq (by first | rfl | omega), _, rfl, XR.yd (upA (upA (upA (upA (cm 1) (64 + 198 * a + 1) (cm 1 (64 + 198 * a + 1) + cm 1 11)) (64 + 198 * a + 3) (cm 1 12)) 11 (-1)) 12 (-1)) hR HX HL HN HS HP ?_ ?_ ?_ ?_ ?_ ?_ ?_ ?_ ?_ ?_ ?_ ?_ ?_⟩
                               · rw [aup_rn (by decide), aup_r, aup_r, aup_r, aup_r]
                               · rw [show (upA (upA (upA (upA (cm 1) (64 + 198 * a + 1) (cm 1 (64 + 198 * a + 1) + cm 1 11)) (64 + 198 * a + 3) (cm 1 12)) 11 (-1)) 12 (-1)) 3 = cm 1 3 by repeat rw [upA_n (by omega)]]
                                 refine YR.swq (b := -1) (q := -1) (YR.hfld (a := hv) (k := a) (j := 5) (v := cm 1 12) (YR.hfld (a := hv) (k := a) (j := 3) (v := cm 1 (64 + 198 * a + 1) + cm 1 11) (HY.up0 (j := 7) (v := 0) hR.1.2 (by decide)) (by omega) (by omega) (by rw [aup_rn nv0]; exact ehv) (by omega)) (by omega) (by rw [upA_n (by omega)]; omega) (by rw [aup_rn nvhv, aup_rn nv0]; exact ehv) (by omega)) (fun x j hz => ?_) ?_ (fun e9 => absurd rfl e9)
                                 · rw [aup_n (fun z => hz ⟨z.1, Or.inl z.2⟩), aup_n (fun z => hz ⟨z.1, Or.inr z.2⟩)]
                                 · rw [aup_n (by omega), aup_s]
                               · intro i hi
                                 repeat rw [upA_n (by omega)]
                               · intro k k0 k1
                                 repeat rw [upA_n (by omega)]
                               · obtain ⟨q1, q2, q3, q4, q5, q6, q7⟩ := gh
                                 refine PI.one HP (k := a) (by omega) (by omega) (fun i hi i1 i2 => ?_) ?_ ?_ ?_ ?_ ?_ ?_ ?_ ?_
                                 · repeat rw [upA_n (by omega)]
                                 all_goals (repeat (first | rw [upA_s] | rw [upA_n (by omega)]))
                                 all_goals omega
                               · repeat (first | exact HF | refine FC.ok (FC.up0 ?_ (by decide)) | refine FC.ok (FC.up1 ?_))
                               · intro x j hx hz
                                 have hx1 : x ≠ hv := fun e => hx (by rw [e]; exact ohv)
                                 have hx2 : x ≠ 10 := fun e => hx (by rw [e, HY.2.1]; decide)
                                 repeat (first | rw [aup_rn hx1] | rw [aup_rn hx2] | rw [aup_n (fun z => hz ⟨z.1, Or.inl z.2⟩)])
                               · repeat rw [aup_n (by omega)]
                               · intro b b0 b1 b9
                                 rw [aup_rn b0]
                                 repeat rw [aup_rn b1]
                               · intro i hi
                                 rw [aup_n (by omega)]
                                 repeat rw [aup_rn (by decide)]
                               · repeat rw [aup_n (by omega)]
                                 rw [aup_s, aup_s]
                               · repeat rw [aup_n (by omega)]
                                 repeat rw [aup_rn (by decide)]
                                 exact hv3
                               · repeat rw [aup_n (by omega)]
                                 repeat rw [aup_rn (by decide)]
                                 exact hv4)
              · first
                  | (exfalso; omega)
                  | skip
                    refine aw_aload_n dX7_take_25 rfl ?_
                    refine aw_bipush dX7_take_26 (by decide) ?_
                    refine c_X7_72 rfl dX7_take_28 m_ob (Nat.le_of_ble_eq_true rfl) (by omega) (C_m_refuse ?_)
                    refine aK_i ?_
                    refine aw_ireturn dX7_take_31 rfl ?_
                    first
                      | (exfalso; omega)
                      | (refine XR.sameE h ?_ ?_ ?_ ?_ ?_ ?_
                         · first
                             | rfl
                             | omega
                         · repeat (first | exact xs.rf | refine xs.up ?_ (by decide))
                         · repeat (first | exact mss.rf | refine mss.up0 ?_ (by decide))
                         · first
                             | (simp [aup, hv2, hv3, hv4]; done)
                             | (simp [aup, hv2, hv3, hv4]; omega)
                         · simp [aup, hv2, hv3, hv4]
                         · simp [aup, hv2, hv3, hv4])
                      | (refine ⟨vI_eq (by first | rfl | omega), _, rfl, XR.yd (upA (upA (upA (upA (cm 1) (64 + 198 * a + 1) (cm 1 (64 + 198 * a + 1) + cm 1 11)) (64 + 198 * a + 3) (cm 1 12)) 11 (-1)) 12 (-1)) hR HX HL HN HS HP ?_ ?_ ?_ ?_ ?_ ?_ ?_ ?_ ?_ ?_ ?_ ?_ ?_⟩
                         · rw [aup_rn (by decide), aup_r, aup_r, aup_r, aup_r]
                         · rw [show (upA (upA (upA (upA (cm 1) (64 + 198 * a + 1) (cm 1 (64 + 198 * a + 1) + cm 1 11)) (64 + 198 * a + 3) (cm 1 12)) 11 (-1)) 12 (-1)) 3 = cm 1 3 by repeat rw [upA_n (by omega)]]
                           refine YR.swq (b := -1) (q := -1) (YR.hfld (a := hv) (k := a) (j := 5) (v := cm 1 12) (YR.hfld (a := hv) (k := a) (j := 3) (v := cm 1 (64 + 198 * a + 1) + cm 1 11) (HY.up0 (j := 7) (v := 0) hR.1.2 (by decide)) (by omega) (by omega) (by rw [aup_rn nv0]; exact ehv) (by omega)) (by omega) (by rw [upA_n (by omega)]; omega) (by rw [aup_rn nvhv, aup_rn nv0]; exact ehv) (by omega)) (fun x j hz => ?_) ?_ (fun e9 => absurd rfl e9)
                           · rw [aup_n (fun z => hz ⟨z.1, Or.inl z.2⟩), aup_n (fun z => hz ⟨z.1, Or.inr z.2⟩)]
                           · rw [aup_n (by omega), aup_s]
                         · intro i hi
                           repeat rw [upA_n (by omega)]
                         · intro k k0 k1
                           repeat rw [upA_n (by omega)]
                         · obtain ⟨q1, q2, q3, q4, q5, q6, q7⟩ := gh
                           refine PI.one HP (k := a) (by omega) (by omega) (fun i hi i1 i2 => ?_) ?_ ?_ ?_ ?_ ?_ ?_ ?_ ?_
                           · repeat rw [upA_n (by omega)]
                           all_goals (repeat (first | rw [upA_s] | rw [upA_n (by omega)]))
                           all_goals omega
                         · repeat (first | exact HF | refine FC.ok (FC.up0 ?_ (by decide)) | refine FC.ok (FC.up1 ?_))
                         · intro x j hx hz
                           have hx1 : x ≠ hv := fun e => hx (by rw [e]; exact ohv)
                           have hx2 : x ≠ 10 := fun e => hx (by rw [e, HY.2.1]; decide)
                           repeat (first | rw [aup_rn hx1] | rw [aup_rn hx2] | rw [aup_n (fun z => hz ⟨z.1, Or.inl z.2⟩)])
                         · repeat rw [aup_n (by omega)]
                         · intro b b0 b1 b9
                           rw [aup_rn b0]
                           repeat rw [aup_rn b1]
                         · intro i hi
                           rw [aup_n (by omega)]
                           repeat rw [aup_rn (by decide)]
                         · repeat rw [aup_n (by omega)]
                           rw [aup_s, aup_s]
                         · repeat rw [aup_n (by omega)]
                           repeat rw [aup_rn (by decide)]
                           exact hv3
                         · repeat rw [aup_n (by omega)]
                           repeat rw [aup_rn (by decide)]
                           exact hv4)
        · first
            | (exfalso; omega)
            | skip
              refine aK_i ?_
              refine aw_ifne (tgt := 14) dX7_take_5 (by decide) (fun h => absurd h (by decide)) (fun _ => ?_)
              refine aw_aload_n dX7_take_8 rfl ?_
              refine aw_iconst dX7_take_9 (by decide) ?_
              refine c_X7_72 rfl dX7_take_10 m_ob (Nat.le_of_ble_eq_true rfl) (by omega) (C_m_refuse ?_)
              refine aK_i ?_
              refine aw_ireturn dX7_take_13 rfl ?_
              first
                | (exfalso; omega)
                | (refine XR.sameE h ?_ ?_ ?_ ?_ ?_ ?_
                   · first
                       | rfl
                       | omega
                   · repeat (first | exact xs.rf | refine xs.up ?_ (by decide))
                   · repeat (first | exact mss.rf | refine mss.up0 ?_ (by decide))
                   · first
                       | (simp [aup, hv2, hv3, hv4]; done)
                       | (simp [aup, hv2, hv3, hv4]; omega)
                   · simp [aup, hv2, hv3, hv4]
                   · simp [aup, hv2, hv3, hv4])
                | (refine ⟨vI_eq (by first | rfl | omega), _, rfl, XR.yd (upA (upA (upA (upA (cm 1) (64 + 198 * a + 1) (cm 1 (64 + 198 * a + 1) + cm 1 11)) (64 + 198 * a + 3) (cm 1 12)) 11 (-1)) 12 (-1)) hR HX HL HN HS HP ?_ ?_ ?_ ?_ ?_ ?_ ?_ ?_ ?_ ?_ ?_ ?_ ?_⟩
                   · rw [aup_rn (by decide), aup_r, aup_r, aup_r, aup_r]
                   · rw [show (upA (upA (upA (upA (cm 1) (64 + 198 * a + 1) (cm 1 (64 + 198 * a + 1) + cm 1 11)) (64 + 198 * a + 3) (cm 1 12)) 11 (-1)) 12 (-1)) 3 = cm 1 3 by repeat rw [upA_n (by omega)]]
                     refine YR.swq (b := -1) (q := -1) (YR.hfld (a := hv) (k := a) (j := 5) (v := cm 1 12) (YR.hfld (a := hv) (k := a) (j := 3) (v := cm 1 (64 + 198 * a + 1) + cm 1 11) (HY.up0 (j := 7) (v := 0) hR.1.2 (by decide)) (by omega) (by omega) (by rw [aup_rn nv0]; exact ehv) (by omega)) (by omega) (by rw [upA_n (by omega)]; omega) (by rw [aup_rn nvhv, aup_rn nv0]; exact ehv) (by omega)) (fun x j hz => ?_) ?_ (fun e9 => absurd rfl e9)
                     · rw [aup_n (fun z => hz ⟨z.1, Or.inl z.2⟩), aup_n (fun z => hz ⟨z.1, Or.inr z.2⟩)]
                     · rw [aup_n (by omega), aup_s]
                   · intro i hi
                     repeat rw [upA_n (by omega)]
                   · intro k k0 k1
                     repeat rw [upA_n (by omega)]
                   · obtain ⟨q1, q2, q3, q4, q5, q6, q7⟩ := gh
                     refine PI.one HP (k := a) (by omega) (by omega) (fun i hi i1 i2 => ?_) ?_ ?_ ?_ ?_ ?_ ?_ ?_ ?_
                     · repeat rw [upA_n (by omega)]
                     all_goals (repeat (first | rw [upA_s] | rw [upA_n (by omega)]))
                     all_goals omega
                   · repeat (first | exact HF | refine FC.ok (FC.up0 ?_ (by decide)) | refine FC.ok (FC.up1 ?_))
                   · intro x j hx hz
                     have hx1 : x ≠ hv := fun e => hx (by rw [e]; exact ohv)
                     have hx2 : x ≠ 10 := fun e => hx (by rw [e, HY.2.1]; decide)
                     repeat (first | rw [aup_rn hx1] | rw [aup_rn hx2] | rw [aup_n (fun z => hz ⟨z.1, Or.inl z.2⟩)])
                   · repeat rw [aup_n (by omega)]
                   · intro b b0 b1 b9
                     rw [aup_rn b0]
                     repeat rw [aup_rn b1]
                   · intro i hi
                     rw [aup_n (by omega)]
                     repeat rw [aup_rn (by decide)]
                   · repeat rw [aup_n (by omega)]
                     rw [aup_s, aup_s]
                   · repeat rw [aup_n (by omega)]
                     repeat rw [aup_rn (by decide)]
                     exact hv3
                   · repeat rw [aup_n (by omega)]
                     repeat rw [aup_rn (by decide)]
                     exact hv4)
    · refine aw_bipush dX0_take_23 (by decide) ?_
      refine aw_goto (tgt := 45) dX0_take_25 (by decide) ?_
      refine p_X0_73_0 rfl dX0_take_45 hR.o0 ?_
      refine aw_aload_n dX0_take_48 rfl ?_
      refine g_X0_73_0 rfl dX0_take_49 hR.o0 ?_
      repeat (first | rw [aup_s] | rw [aup_n (by omega)])
      refine aw_ifle (tgt := 57) dX0_take_52 (by decide) (fun h => absurd h (by decide)) (fun _ => ?_)
      refine aw_iconst dX0_take_55 (by decide) ?_
      refine aw_ireturn dX0_take_56 rfl ?_
      refine ⟨_, rfl, ?_⟩
      refine AMet.go (L := [some (vR 0), some (vI a), none]) mok_X7_take (Nat.le_of_ble_eq_true rfl) rfl ?_
      refine aw_aload_n dX7_take_0 rfl ?_
      refine aw_iload_n dX7_take_1 rfl ?_
      refine c_X7_274 rfl dX7_take_2 m_ob (Nat.le_of_ble_eq_true rfl) (by omega) (C_m_isHive (fun hh => ?_) (fun hh => ?_))
      · first
          | (exfalso; omega)
          | skip
            refine aK_i ?_
            refine aw_ifne (tgt := 14) dX7_take_5 (by decide) (fun _ => ?_) (fun h => absurd h (by decide))
            refine gm_7 rfl dX7_take_14 dX7_take_15 rfl ?_
            refine aw_bipush dX7_take_18 (by decide) ?_
            refine aw_iaload dX7_take_20 m_a1 (by omega) (by omega) ?_
            refine aw_iconst dX7_take_21 (by decide) ?_
            refine aw_icmpne (tgt := 32) dX7_take_22 (by decide) (fun h22 => ?_) (fun h22 => ?_)
            · first
                | (exfalso; omega)
                | skip
                  refine aw_iload_n dX7_take_32 rfl ?_
                  refine c_X7_217 rfl dX7_take_33  (Nat.le_of_ble_eq_true rfl) (by omega) (C_m_hiveRow (by omega) ?_)
                  refine aK_i ?_
                  refine aw_istore2 dX7_take_36 (by decide) rfl ?_
                  refine gm_7 rfl dX7_take_37 dX7_take_38 rfl ?_
                  refine aw_iload_n dX7_take_41 rfl ?_
                  refine aw_iconst dX7_take_42 (by decide) ?_
                  refine aw_iaddr dX7_take_43 (by omega) ?_
                  refine aw_iaload dX7_take_44 m_a1 (by omega) (by omega) ?_
                  refine aw_iconst dX7_take_45 (by decide) ?_
                  refine aw_icmpeq (tgt := 56) dX7_take_46 (by decide) (fun h46 => ?_) (fun h46 => ?_)
                  · first
                      | (exfalso; omega)
                      | skip
                        refine gm_7 rfl dX7_take_56 dX7_take_57 rfl ?_
                        refine aw_iload_n dX7_take_60 rfl ?_
                        refine aw_iconst dX7_take_61 (by decide) ?_
                        refine aw_iaddr dX7_take_62 (by omega) ?_
                        refine aw_dup2 dX7_take_63 rfl rfl ?_
                        repeat (first | rw [aup_s] | rw [aup_n (by omega)])
                        refine aw_iaload dX7_take_64 m_a1 (by omega) (by omega) ?_
                        refine gm_7 rfl dX7_take_65 dX7_take_66 rfl ?_
                        refine aw_bipush dX7_take_69 (by decide) ?_
                        refine aw_iaload dX7_take_71 m_a1 (by omega) (by omega) ?_
                        repeat (first | rw [aup_s] | rw [aup_n (by omega)])
                        refine aw_iaddr dX7_take_72 (by omega) ?_
                        refine aw_iastore dX7_take_73 m_a1 (by omega) (by omega) ?_
                        refine gm_7 rfl dX7_take_74 dX7_take_75 rfl ?_
                        refine aw_iload_n dX7_take_78 rfl ?_
                        refine aw_iconst dX7_take_79 (by decide) ?_
                        refine aw_iaddr dX7_take_80 (by omega) ?_
                        refine gm_7 rfl dX7_take_81 dX7_take_82 rfl ?_
                        refine aw_bipush dX7_take_85 (by decide) ?_
                        refine aw_iaload dX7_take_87 m_a1 (by omega) (by omega) ?_
                        repeat (first | rw [aup_s] | rw [aup_n (by omega)])
                        refine aw_iastore dX7_take_88 m_a1 (by omega) (by omega) ?_
                        refine gm_7 rfl dX7_take_89 dX7_take_90 rfl ?_
                        refine aw_bipush dX7_take_93 (by decide) ?_
                        refine aw_iconst dX7_take_95 (by decide) ?_
                        refine aw_iastore dX7_take_96 m_a1 (by omega) (by omega) ?_
                        refine gm_7 rfl dX7_take_97 dX7_take_98 rfl ?_
                        refine aw_bipush dX7_take_101 (by decide) ?_
                        refine aw_iconst dX7_take_103 (by decide) ?_
                        refine aw_iastore dX7_take_104 m_a1 (by omega) (by omega) ?_
                        refine aw_aload_n dX7_take_105 rfl ?_
                        refine gm_7 rfl dX7_take_106 dX7_take_107 rfl ?_
                        refine aw_iload_n dX7_take_110 rfl ?_
                        refine aw_iconst dX7_take_111 (by decide) ?_
                        refine aw_iaddr dX7_take_112 (by omega) ?_
                        refine aw_iaload dX7_take_113 m_a1 (by omega) (by omega) ?_
                        repeat (first | rw [aup_s] | rw [aup_n (by omega)])
                        refine c_X7_76 rfl dX7_take_114 m_ob (Nat.le_of_ble_eq_true rfl) (by omega) (C_m_gives ?_)
                        refine aK_i ?_
                        refine aw_ireturn dX7_take_117 rfl ?_
                        first
                          | (exfalso; omega)
                          | (refine XR.sameE h ?_ ?_ ?_ ?_ ?_ ?_
                             · first
                                 | rfl
                                 | omega
                             · repeat (first | exact xs.rf | refine xs.up ?_ (by decide))
                             · repeat (first | exact mss.rf | refine mss.up0 ?_ (by decide))
                             · first
                                 | (simp [aup, hv2, hv3, hv4]; done)
                                 | (simp [aup, hv2, hv3, hv4]; omega)
                             · simp [aup, hv2, hv3, hv4]
                             · simp [aup, hv2, hv3, hv4])
                          | (refine ⟨vI_eq (by first | rfl | omega), _, rfl, XR.yd (upA (upA (upA (upA (cm 1) (64 + 198 * a + 1) (cm 1 (64 + 198 * a + 1) + cm 1 11)) (64 + 198 * a + 3) (cm 1 12)) 11 (-1)) 12 (-1)) hR HX HL HN HS HP ?_ ?_ ?_ ?_ ?_ ?_ ?_ ?_ ?_ ?_ ?_ ?_ ?_⟩
                             · rw [aup_rn (by decide), aup_r, aup_r, aup_r, aup_r]
                             · rw [show (upA (upA (upA (upA (cm 1) (64 + 198 * a + 1) (cm 1 (64 + 198 * a + 1) + cm 1 11)) (64 + 198 * a + 3) (cm 1 12)) 11 (-1)) 12 (-1)) 3 = cm 1 3 by repeat rw [upA_n (by omega)]]
                               refine YR.swq (b := -1) (q := -1) (YR.hfld (a := hv) (k := a) (j := 5) (v := cm 1 12) (YR.hfld (a := hv) (k := a) (j := 3) (v := cm 1 (64 + 198 * a + 1) + cm 1 11) (HY.up0 (j := 7) (v := 0) hR.1.2 (by decide)) (by omega) (by omega) (by rw [aup_rn nv0]; exact ehv) (by omega)) (by omega) (by rw [upA_n (by omega)]; omega) (by rw [aup_rn nvhv, aup_rn nv0]; exact ehv) (by omega)) (fun x j hz => ?_) ?_ (fun e9 => absurd rfl e9)
                               · rw [aup_n (fun z => hz ⟨z.1, Or.inl z.2⟩), aup_n (fun z => hz ⟨z.1, Or.inr z.2⟩)]
                               · rw [aup_n (by omega), aup_s]
                             · intro i hi
                               repeat rw [upA_n (by omega)]
                             · intro k k0 k1
                               repeat rw [upA_n (by omega)]
                             · obtain ⟨q1, q2, q3, q4, q5, q6, q7⟩ := gh
                               refine PI.one HP (k := a) (by omega) (by omega) (fun i hi i1 i2 => ?_) ?_ ?_ ?_ ?_ ?_ ?_ ?_ ?_
                               · repeat rw [upA_n (by omega)]
                               all_goals (repeat (first | rw [upA_s] | rw [upA_n (by omega)]))
                               all_goals omega
                             · repeat (first | exact HF | refine FC.ok (FC.up0 ?_ (by decide)) | refine FC.ok (FC.up1 ?_))
                             · intro x j hx hz
                               have hx1 : x ≠ hv := fun e => hx (by rw [e]; exact ohv)
                               have hx2 : x ≠ 10 := fun e => hx (by rw [e, HY.2.1]; decide)
                               repeat (first | rw [aup_rn hx1] | rw [aup_rn hx2] | rw [aup_n (fun z => hz ⟨z.1, Or.inl z.2⟩)])
                             · repeat rw [aup_n (by omega)]
                             · intro b b0 b1 b9
                               rw [aup_rn b0]
                               repeat rw [aup_rn b1]
                             · intro i hi
                               rw [aup_n (by omega)]
                               repeat rw [aup_rn (by decide)]
                             · repeat rw [aup_n (by omega)]
                               rw [aup_s, aup_s]
                             · repeat rw [aup_n (by omega)]
                               repeat rw [aup_rn (by decide)]
                               exact hv3
                             · repeat rw [aup_n (by omega)]
                               repeat rw [aup_rn (by decide)]
                               exact hv4)
                  · first
                      | (exfalso; omega)
                      | skip
                        refine aw_aload_n dX7_take_49 rfl ?_
                        refine aw_bipush dX7_take_50 (by decide) ?_
                        refine c_X7_72 rfl dX7_take_52 m_ob (Nat.le_of_ble_eq_true rfl) (by omega) (C_m_refuse ?_)
                        refine aK_i ?_
                        refine aw_ireturn dX7_take_55 rfl ?_
                        first
                          | (exfalso; omega)
                          | (refine XR.sameE h ?_ ?_ ?_ ?_ ?_ ?_
                             · first
                                 | rfl
                                 | omega
                             · repeat (first | exact xs.rf | refine xs.up ?_ (by decide))
                             · repeat (first | exact mss.rf | refine mss.up0 ?_ (by decide))
                             · first
                                 | (simp [aup, hv2, hv3, hv4]; done)
                                 | (simp [aup, hv2, hv3, hv4]; omega)
                             · simp [aup, hv2, hv3, hv4]
                             · simp [aup, hv2, hv3, hv4])
                          | (refine ⟨vI_eq (by first | rfl | omega), _, rfl, XR.yd (upA (upA (upA (upA (cm 1) (64 + 198 * a + 1) (cm 1 (64 + 198 * a + 1) + cm 1 11)) (64 + 198 * a + 3) (cm 1 12)) 11 (-1)) 12 (-1)) hR HX HL HN HS HP ?_ ?_ ?_ ?_ ?_ ?_ ?_ ?_ ?_ ?_ ?_ ?_ ?_⟩
                             · rw [aup_rn (by decide), aup_r, aup_r, aup_r, aup_r]
                             · rw [show (upA (upA (upA (upA (cm 1) (64 + 198 * a + 1) (cm 1 (64 + 198 * a + 1) + cm 1 11)) (64 + 198 * a + 3) (cm 1 12)) 11 (-1)) 12 (-1)) 3 = cm 1 3 by repeat rw [upA_n (by omega)]]
                               refine YR.swq (b := -1) (q := -1) (YR.hfld (a := hv) (k := a) (j := 5) (v := cm 1 12) (YR.hfld (a := hv) (k := a) (j := 3) (v := cm 1 (64 + 198 * a + 1) + cm 1 11) (HY.up0 (j := 7) (v := 0) hR.1.2 (by decide)) (by omega) (by omega) (by rw [aup_rn nv0]; exact ehv) (by omega)) (by omega) (by rw [upA_n (by omega)]; omega) (by rw [aup_rn nvhv, aup_rn nv0]; exact ehv) (by omega)) (fun x j hz => ?_) ?_ (fun e9 => absurd rfl e9)
                               · rw [aup_n (fun z => hz ⟨z.1, Or.inl z.2⟩), aup_n (fun z => hz ⟨z.1, Or.inr z.2⟩)]
                               · rw [aup_n (by omega), aup_s]
                             · intro i hi
                               repeat rw [upA_n (by omega)]
                             · intro k k0 k1
                               repeat rw [upA_n (by omega)]
                             · obtain ⟨q1, q2, q3, q4, q5, q6, q7⟩ := gh
                               refine PI.one HP (k := a) (by omega) (by omega) (fun i hi i1 i2 => ?_) ?_ ?_ ?_ ?_ ?_ ?_ ?_ ?_
                               · repeat rw [upA_n (by omega)]
                               all_goals (repeat (first | rw [upA_s] | rw [upA_n (by omega)]))
                               all_goals omega
                             · repeat (first | exact HF | refine FC.ok (FC.up0 ?_ (by decide)) | refine FC.ok (FC.up1 ?_))
                             · intro x j hx hz
                               have hx1 : x ≠ hv := fun e => hx (by rw [e]; exact ohv)
                               have hx2 : x ≠ 10 := fun e => hx (by rw [e, HY.2.1]; decide)
                               repeat (first | rw [aup_rn hx1] | rw [aup_rn hx2] | rw [aup_n (fun z => hz ⟨z.1, Or.inl z.2⟩)])
                             · repeat rw [aup_n (by omega)]
                             · intro b b0 b1 b9
                               rw [aup_rn b0]
                               repeat rw [aup_rn b1]
                             · intro i hi
                               rw [aup_n (by omega)]
                               repeat rw [aup_rn (by decide)]
                             · repeat rw [aup_n (by omega)]
                               rw [aup_s, aup_s]
                             · repeat rw [aup_n (by omega)]
                               repeat rw [aup_rn (by decide)]
                               exact hv3
                             · repeat rw [aup_n (by omega)]
                               repeat rw [aup_rn (by decide)]
                               exact hv4)
            · first
                | (exfalso; omega)
                | skip
                  refine aw_aload_n dX7_take_25 rfl ?_
                  refine aw_bipush dX7_take_26 (by decide) ?_
                  refine c_X7_72 rfl dX7_take_28 m_ob (Nat.le_of_ble_eq_true rfl) (by omega) (C_m_refuse ?_)
                  refine aK_i ?_
                  refine aw_ireturn dX7_take_31 rfl ?_
                  first
                    | (exfalso; omega)
                    | (refine XR.sameE h ?_ ?_ ?_ ?_ ?_ ?_
                       · first
                           | rfl
                           | omega
                       · repeat (first | exact xs.rf | refine xs.up ?_ (by decide))
                       · repeat (first | exact mss.rf | refine mss.up0 ?_ (by decide))
                       · first
                           | (simp [aup, hv2, hv3, hv4]; done)
                           | (simp [aup, hv2, hv3, hv4]; omega)
                       · simp [aup, hv2, hv3, hv4]
                       · simp [aup, hv2, hv3, hv4])
                    | (refine ⟨vI_eq (by first | rfl | omega), _, rfl, XR.yd (upA (upA (upA (upA (cm 1) (64 + 198 * a + 1) (cm 1 (64 + 198 * a + 1) + cm 1 11)) (64 + 198 * a + 3) (cm 1 12)) 11 (-1)) 12 (-1)) hR HX HL HN HS HP ?_ ?_ ?_ ?_ ?_ ?_ ?_ ?_ ?_ ?_ ?_ ?_ ?_⟩
                       · rw [aup_rn (by decide), aup_r, aup_r, aup_r, aup_r]
                       · rw [show (upA (upA (upA (upA (cm 1) (64 + 198 * a + 1) (cm 1 (64 + 198 * a + 1) + cm 1 11)) (64 + 198 * a + 3) (cm 1 12)) 11 (-1)) 12 (-1)) 3 = cm 1 3 by repeat rw [upA_n (by omega)]]
                         refine YR.swq (b := -1) (q := -1) (YR.hfld (a := hv) (k := a) (j := 5) (v := cm 1 12) (YR.hfld (a := hv) (k := a) (j := 3) (v := cm 1 (64 + 198 * a + 1) + cm 1 11) (HY.up0 (j := 7) (v := 0) hR.1.2 (by decide)) (by omega) (by omega) (by rw [aup_rn nv0]; exact ehv) (by omega)) (by omega) (by rw [upA_n (by omega)]; omega) (by rw [aup_rn nvhv, aup_rn nv0]; exact ehv) (by omega)) (fun x j hz => ?_) ?_ (fun e9 => absurd rfl e9)
                         · rw [aup_n (fun z => hz ⟨z.1, Or.inl z.2⟩), aup_n (fun z => hz ⟨z.1, Or.inr z.2⟩)]
                         · rw [aup_n (by omega), aup_s]
                       · intro i hi
                         repeat rw [upA_n (by omega)]
                       · intro k k0 k1
                         repeat rw [upA_n (by omega)]
                       · obtain ⟨q1, q2, q3, q4, q5, q6, q7⟩ := gh
                         refine PI.one HP (k := a) (by omega) (by omega) (fun i hi i1 i2 => ?_) ?_ ?_ ?_ ?_ ?_ ?_ ?_ ?_
                         · repeat rw [upA_n (by omega)]
                         all_goals (repeat (first | rw [upA_s] | rw [upA_n (by omega)]))
                         all_goals omega
                       · repeat (first | exact HF | refine FC.ok (FC.up0 ?_ (by decide)) | refine FC.ok (FC.up1 ?_))
                       · intro x j hx hz
                         have hx1 : x ≠ hv := fun e => hx (by rw [e]; exact ohv)
                         have hx2 : x ≠ 10 := fun e => hx (by rw [e, HY.2.1]; decide)
                         repeat (first | rw [aup_rn hx1] | rw [aup_rn hx2] | rw [aup_n (fun z => hz ⟨z.1, Or.inl z.2⟩)])
                       · repeat rw [aup_n (by omega)]
                       · intro b b0 b1 b9
                         rw [aup_rn b0]
                         repeat rw [aup_rn b1]
                       · intro i hi
                         rw [aup_n (by omega)]
                         repeat rw [aup_rn (by decide)]
                       · repeat rw [aup_n (by omega)]
                         rw [aup_s, aup_s]
                       · repeat rw [aup_n (by omega)]
                         repeat rw [aup_rn (by decide)]
                         exact hv3
                       · repeat rw [aup_n (by omega)]
                         repeat rw [aup_rn (by decide)]
                         exact hv4)
      · first
          | (exfalso; omega)
          | skip
            refine aK_i ?_
            refine aw_ifne (tgt := 14) dX7_take_5 (by decide) (fun h => absurd h (by decide)) (fun _ => ?_)
            refine aw_aload_n dX7_take_8 rfl ?_
            refine aw_iconst dX7_take_9 (by decide) ?_
            refine c_X7_72 rfl dX7_take_10 m_ob (Nat.le_of_ble_eq_true rfl) (by omega) (C_m_refuse ?_)
            refine aK_i ?_
            refine aw_ireturn dX7_take_13 rfl ?_
            first
              | (exfalso; omega)
              | (refine XR.sameE h ?_ ?_ ?_ ?_ ?_ ?_
                 · first
                     | rfl
                     | omega
                 · repeat (first | exact xs.rf | refine xs.up ?_ (by decide))
                 · repeat (first | exact mss.rf | refine mss.up0 ?_ (by decide))
                 · first
                     | (simp [aup, hv2, hv3, hv4]; done)
                     | (simp [aup, hv2, hv3, hv4]; omega)
                 · simp [aup, hv2, hv3, hv4]
                 · simp [aup, hv2, hv3, hv4])
              | (refine ⟨vI_eq (by first | rfl | omega), _, rfl, XR.yd (upA (upA (upA (upA (cm 1) (64 + 198 * a + 1) (cm 1 (64 + 198 * a + 1) + cm 1 11)) (64 + 198 * a + 3) (cm 1 12)) 11 (-1)) 12 (-1)) hR HX HL HN HS HP ?_ ?_ ?_ ?_ ?_ ?_ ?_ ?_ ?_ ?_ ?_ ?_ ?_⟩
                 · rw [aup_rn (by decide), aup_r, aup_r, aup_r, aup_r]
                 · rw [show (upA (upA (upA (upA (cm 1) (64 + 198 * a + 1) (cm 1 (64 + 198 * a + 1) + cm 1 11)) (64 + 198 * a + 3) (cm 1 12)) 11 (-1)) 12 (-1)) 3 = cm 1 3 by repeat rw [upA_n (by omega)]]
                   refine YR.swq (b := -1) (q := -1) (YR.hfld (a := hv) (k := a) (j := 5) (v := cm 1 12) (YR.hfld (a := hv) (k := a) (j := 3) (v := cm 1 (64 + 198 * a + 1) + cm 1 11) (HY.up0 (j := 7) (v := 0) hR.1.2 (by decide)) (by omega) (by omega) (by rw [aup_rn nv0]; exact ehv) (by omega)) (by omega) (by rw [upA_n (by omega)]; omega) (by rw [aup_rn nvhv, aup_rn nv0]; exact ehv) (by omega)) (fun x j hz => ?_) ?_ (fun e9 => absurd rfl e9)
                   · rw [aup_n (fun z => hz ⟨z.1, Or.inl z.2⟩), aup_n (fun z => hz ⟨z.1, Or.inr z.2⟩)]
                   · rw [aup_n (by omega), aup_s]
                 · intro i hi
                   repeat rw [upA_n (by omega)]
                 · intro k k0 k1
                   repeat rw [upA_n (by omega)]
                 · obtain ⟨q1, q2, q3, q4, q5, q6, q7⟩ := gh
                   refine PI.one HP (k := a) (by omega) (by omega) (fun i hi i1 i2 => ?_) ?_ ?_ ?_ ?_ ?_ ?_ ?_ ?_
                   · repeat rw [upA_n (by omega)]
                   all_goals (repeat (first | rw [upA_s] | rw [upA_n (by omega)]))
                   all_goals omega
                 · repeat (first | exact HF | refine FC.ok (FC.up0 ?_ (by decide)) | refine FC.ok (FC.up1 ?_))
                 · intro x j hx hz
                   have hx1 : x ≠ hv := fun e => hx (by rw [e]; exact ohv)
                   have hx2 : x ≠ 10 := fun e => hx (by rw [e, HY.2.1]; decide)
                   repeat (first | rw [aup_rn hx1] | rw [aup_rn hx2] | rw [aup_n (fun z => hz ⟨z.1, Or.inl z.2⟩)])
                 · repeat rw [aup_n (by omega)]
                 · intro b b0 b1 b9
                   rw [aup_rn b0]
                   repeat rw [aup_rn b1]
                 · intro i hi
                   rw [aup_n (by omega)]
                   repeat rw [aup_rn (by decide)]
                 · repeat rw [aup_n (by omega)]
                   rw [aup_s, aup_s]
                 · repeat rw [aup_n (by omega)]
                   repeat rw [aup_rn (by decide)]
                   exact hv3
                 · repeat rw [aup_n (by omega)]
                   repeat rw [aup_rn (by decide)]
                   exact hv4)
  · refine aK_i ?_
    refine aw_ifne (tgt := 13) dX0_take_6 (by decide) (fun h => absurd h (by decide)) (fun _ => ?_)
    refine aw_iconst dX0_take_9 (by decide) ?_
    refine aw_goto (tgt := 45) dX0_take_10 (by decide) ?_
    refine p_X0_73_0 rfl dX0_take_45 hR.o0 ?_
    refine aw_aload_n dX0_take_48 rfl ?_
    refine g_X0_73_0 rfl dX0_take_49 hR.o0 ?_
    repeat (first | rw [aup_s] | rw [aup_n (by omega)])
    refine aw_ifle (tgt := 57) dX0_take_52 (by decide) (fun h => absurd h (by decide)) (fun _ => ?_)
    refine aw_iconst dX0_take_55 (by decide) ?_
    refine aw_ireturn dX0_take_56 rfl ?_
    refine ⟨_, rfl, ?_⟩
    refine AMet.go (L := [some (vR 0), some (vI a), none]) mok_X7_take (Nat.le_of_ble_eq_true rfl) rfl ?_
    refine aw_aload_n dX7_take_0 rfl ?_
    refine aw_iload_n dX7_take_1 rfl ?_
    refine c_X7_274 rfl dX7_take_2 m_ob (Nat.le_of_ble_eq_true rfl) (by omega) (C_m_isHive (fun hh => ?_) (fun hh => ?_))
    · first
        | (exfalso; omega)
        | skip
          refine aK_i ?_
          refine aw_ifne (tgt := 14) dX7_take_5 (by decide) (fun _ => ?_) (fun h => absurd h (by decide))
          refine gm_7 rfl dX7_take_14 dX7_take_15 rfl ?_
          refine aw_bipush dX7_take_18 (by decide) ?_
          refine aw_iaload dX7_take_20 m_a1 (by omega) (by omega) ?_
          refine aw_iconst dX7_take_21 (by decide) ?_
          refine aw_icmpne (tgt := 32) dX7_take_22 (by decide) (fun h22 => ?_) (fun h22 => ?_)
          · first
              | (exfalso; omega)
              | skip
                refine aw_iload_n dX7_take_32 rfl ?_
                refine c_X7_217 rfl dX7_take_33  (Nat.le_of_ble_eq_true rfl) (by omega) (C_m_hiveRow (by omega) ?_)
                refine aK_i ?_
                refine aw_istore2 dX7_take_36 (by decide) rfl ?_
                refine gm_7 rfl dX7_take_37 dX7_take_38 rfl ?_
                refine aw_iload_n dX7_take_41 rfl ?_
                refine aw_iconst dX7_take_42 (by decide) ?_
                refine aw_iaddr dX7_take_43 (by omega) ?_
                refine aw_iaload dX7_take_44 m_a1 (by omega) (by omega) ?_
                refine aw_iconst dX7_take_45 (by decide) ?_
                refine aw_icmpeq (tgt := 56) dX7_take_46 (by decide) (fun h46 => ?_) (fun h46 => ?_)
                · first
                    | (exfalso; omega)
                    | skip
                      refine gm_7 rfl dX7_take_56 dX7_take_57 rfl ?_
                      refine aw_iload_n dX7_take_60 rfl ?_
                      refine aw_iconst dX7_take_61 (by decide) ?_
                      refine aw_iaddr dX7_take_62 (by omega) ?_
                      refine aw_dup2 dX7_take_63 rfl rfl ?_
                      repeat (first | rw [aup_s] | rw [aup_n (by omega)])
                      refine aw_iaload dX7_take_64 m_a1 (by omega) (by omega) ?_
                      refine gm_7 rfl dX7_take_65 dX7_take_66 rfl ?_
                      refine aw_bipush dX7_take_69 (by decide) ?_
                      refine aw_iaload dX7_take_71 m_a1 (by omega) (by omega) ?_
                      repeat (first | rw [aup_s] | rw [aup_n (by omega)])
                      refine aw_iaddr dX7_take_72 (by omega) ?_
                      refine aw_iastore dX7_take_73 m_a1 (by omega) (by omega) ?_
                      refine gm_7 rfl dX7_take_74 dX7_take_75 rfl ?_
                      refine aw_iload_n dX7_take_78 rfl ?_
                      refine aw_iconst dX7_take_79 (by decide) ?_
                      refine aw_iaddr dX7_take_80 (by omega) ?_
                      refine gm_7 rfl dX7_take_81 dX7_take_82 rfl ?_
                      refine aw_bipush dX7_take_85 (by decide) ?_
                      refine aw_iaload dX7_take_87 m_a1 (by omega) (by omega) ?_
                      repeat (first | rw [aup_s] | rw [aup_n (by omega)])
                      refine aw_iastore dX7_take_88 m_a1 (by omega) (by omega) ?_
                      refine gm_7 rfl dX7_take_89 dX7_take_90 rfl ?_
                      refine aw_bipush dX7_take_93 (by decide) ?_
                      refine aw_iconst dX7_take_95 (by decide) ?_
                      refine aw_iastore dX7_take_96 m_a1 (by omega) (by omega) ?_
                      refine gm_7 rfl dX7_take_97 dX7_take_98 rfl ?_
                      refine aw_bipush dX7_take_101 (by decide) ?_
                      refine aw_iconst dX7_take_103 (by decide) ?_
                      refine aw_iastore dX7_take_104 m_a1 (by omega) (by omega) ?_
                      refine aw_aload_n dX7_take_105 rfl ?_
                      refine gm_7 rfl dX7_take_106 dX7_take_107 rfl ?_
                      refine aw_iload_n dX7_take_110 rfl ?_
                      refine aw_iconst dX7_take_111 (by decide) ?_
                      refine aw_iaddr dX7_take_112 (by omega) ?_
                      refine aw_iaload dX7_take_113 m_a1 (by omega) (by omega) ?_
                      repeat (first | rw [aup_s] | rw [aup_n (by omega)])
                      refine c_X7_76 rfl dX7_take_114 m_ob (Nat.le_of_ble_eq_true rfl) (by omega) (C_m_gives ?_)
                      refine aK_i ?_
                      refine aw_ireturn dX7_take_117 rfl ?_
                      first
                        | (exfalso; omega)
                        | (refine XR.sameE h ?_ ?_ ?_ ?_ ?_ ?_
                           · first
                               | rfl
                               | omega
                           · repeat (first | exact xs.rf | refine xs.up ?_ (by decide))
                           · repeat (first | exact mss.rf | refine mss.up0 ?_ (by decide))
                           · first
                               | (simp [aup, hv2, hv3, hv4]; done)
                               | (simp [aup, hv2, hv3, hv4]; omega)
                           · simp [aup, hv2, hv3, hv4]
                           · simp [aup, hv2, hv3, hv4])
                        | (refine ⟨vI_eq (by first | rfl | omega), _, rfl, XR.yd (upA (upA (upA (upA (cm 1) (64 + 198 * a + 1) (cm 1 (64 + 198 * a + 1) + cm 1 11)) (64 + 198 * a + 3) (cm 1 12)) 11 (-1)) 12 (-1)) hR HX HL HN HS HP ?_ ?_ ?_ ?_ ?_ ?_ ?_ ?_ ?_ ?_ ?_ ?_ ?_⟩
                           · rw [aup_rn (by decide), aup_r, aup_r, aup_r, aup_r]
                           · rw [show (upA (upA (upA (upA (cm 1) (64 + 198 * a + 1) (cm 1 (64 + 198 * a + 1) + cm 1 11)) (64 + 198 * a + 3) (cm 1 12)) 11 (-1)) 12 (-1)) 3 = cm 1 3 by repeat rw [upA_n (by omega)]]
                             refine YR.swq (b := -1) (q := -1) (YR.hfld (a := hv) (k := a) (j := 5) (v := cm 1 12) (YR.hfld (a := hv) (k := a) (j := 3) (v := cm 1 (64 + 198 * a + 1) + cm 1 11) (HY.up0 (j := 7) (v := 0) hR.1.2 (by decide)) (by omega) (by omega) (by rw [aup_rn nv0]; exact ehv) (by omega)) (by omega) (by rw [upA_n (by omega)]; omega) (by rw [aup_rn nvhv, aup_rn nv0]; exact ehv) (by omega)) (fun x j hz => ?_) ?_ (fun e9 => absurd rfl e9)
                             · rw [aup_n (fun z => hz ⟨z.1, Or.inl z.2⟩), aup_n (fun z => hz ⟨z.1, Or.inr z.2⟩)]
                             · rw [aup_n (by omega), aup_s]
                           · intro i hi
                             repeat rw [upA_n (by omega)]
                           · intro k k0 k1
                             repeat rw [upA_n (by omega)]
                           · obtain ⟨q1, q2, q3, q4, q5, q6, q7⟩ := gh
                             refine PI.one HP (k := a) (by omega) (by omega) (fun i hi i1 i2 => ?_) ?_ ?_ ?_ ?_ ?_ ?_ ?_ ?_
                             · repeat rw [upA_n (by omega)]
                             all_goals (repeat (first | rw [upA_s] | rw [upA_n (by omega)]))
                             all_goals omega
                           · repeat (first | exact HF | refine FC.ok (FC.up0 ?_ (by decide)) | refine FC.ok (FC.up1 ?_))
                           · intro x j hx hz
                             have hx1 : x ≠ hv := fun e => hx (by rw [e]; exact ohv)
                             have hx2 : x ≠ 10 := fun e => hx (by rw [e, HY.2.1]; decide)
                             repeat (first | rw [aup_rn hx1] | rw [aup_rn hx2] | rw [aup_n (fun z => hz ⟨z.1, Or.inl z.2⟩)])
                           · repeat rw [aup_n (by omega)]
                           · intro b b0 b1 b9
                             rw [aup_rn b0]
                             repeat rw [aup_rn b1]
                           · intro i hi
                             rw [aup_n (by omega)]
                             repeat rw [aup_rn (by decide)]
                           · repeat rw [aup_n (by omega)]
                             rw [aup_s, aup_s]
                           · repeat rw [aup_n (by omega)]
                             repeat rw [aup_rn (by decide)]
                             exact hv3
                           · repeat rw [aup_n (by omega)]
                             repeat rw [aup_rn (by decide)]
                             exact hv4)
                · first
                    | (exfalso; omega)
                    | skip
                      refine aw_aload_n dX7_take_49 rfl ?_
                      refine aw_bipush dX7_take_50 (by decide) ?_
                      refine c_X7_72 rfl dX7_take_52 m_ob (Nat.le_of_ble_eq_true rfl) (by omega) (C_m_refuse ?_)
                      refine aK_i ?_
                      refine aw_ireturn dX7_take_55 rfl ?_
                      first
                        | (exfalso; omega)
                        | (refine XR.sameE h ?_ ?_ ?_ ?_ ?_ ?_
                           · first
                               | rfl
                               | omega
                           · repeat (first | exact xs.rf | refine xs.up ?_ (by decide))
                           · repeat (first | exact mss.rf | refine mss.up0 ?_ (by decide))
                           · first
                               | (simp [aup, hv2, hv3, hv4]; done)
                               | (simp [aup, hv2, hv3, hv4]; omega)
                           · simp [aup, hv2, hv3, hv4]
                           · simp [aup, hv2, hv3, hv4])
                        | (refine ⟨vI_eq (by first | rfl | omega), _, rfl, XR.yd (upA (upA (upA (upA (cm 1) (64 + 198 * a + 1) (cm 1 (64 + 198 * a + 1) + cm 1 11)) (64 + 198 * a + 3) (cm 1 12)) 11 (-1)) 12 (-1)) hR HX HL HN HS HP ?_ ?_ ?_ ?_ ?_ ?_ ?_ ?_ ?_ ?_ ?_ ?_ ?_⟩
                           · rw [aup_rn (by decide), aup_r, aup_r, aup_r, aup_r]
                           · rw [show (upA (upA (upA (upA (cm 1) (64 + 198 * a + 1) (cm 1 (64 + 198 * a + 1) + cm 1 11)) (64 + 198 * a + 3) (cm 1 12)) 11 (-1)) 12 (-1)) 3 = cm 1 3 by repeat rw [upA_n (by omega)]]
                             refine YR.swq (b := -1) (q := -1) (YR.hfld (a := hv) (k := a) (j := 5) (v := cm 1 12) (YR.hfld (a := hv) (k := a) (j := 3) (v := cm 1 (64 + 198 * a + 1) + cm 1 11) (HY.up0 (j := 7) (v := 0) hR.1.2 (by decide)) (by omega) (by omega) (by rw [aup_rn nv0]; exact ehv) (by omega)) (by omega) (by rw [upA_n (by omega)]; omega) (by rw [aup_rn nvhv, aup_rn nv0]; exact ehv) (by omega)) (fun x j hz => ?_) ?_ (fun e9 => absurd rfl e9)
                             · rw [aup_n (fun z => hz ⟨z.1, Or.inl z.2⟩), aup_n (fun z => hz ⟨z.1, Or.inr z.2⟩)]
                             · rw [aup_n (by omega), aup_s]
                           · intro i hi
                             repeat rw [upA_n (by omega)]
                           · intro k k0 k1
                             repeat rw [upA_n (by omega)]
                           · obtain ⟨q1, q2, q3, q4, q5, q6, q7⟩ := gh
                             refine PI.one HP (k := a) (by omega) (by omega) (fun i hi i1 i2 => ?_) ?_ ?_ ?_ ?_ ?_ ?_ ?_ ?_
                             · repeat rw [upA_n (by omega)]
                             all_goals (repeat (first | rw [upA_s] | rw [upA_n (by omega)]))
                             all_goals omega
                           · repeat (first | exact HF | refine FC.ok (FC.up0 ?_ (by decide)) | refine FC.ok (FC.up1 ?_))
                           · intro x j hx hz
                             have hx1 : x ≠ hv := fun e => hx (by rw [e]; exact ohv)
                             have hx2 : x ≠ 10 := fun e => hx (by rw [e, HY.2.1]; decide)
                             repeat (first | rw [aup_rn hx1] | rw [aup_rn hx2] | rw [aup_n (fun z => hz ⟨z.1, Or.inl z.2⟩)])
                           · repeat rw [aup_n (by omega)]
                           · intro b b0 b1 b9
                             rw [aup_rn b0]
                             repeat rw [aup_rn b1]
                           · intro i hi
                             rw [aup_n (by omega)]
                             repeat rw [aup_rn (by decide)]
                           · repeat rw [aup_n (by omega)]
                             rw [aup_s, aup_s]
                           · repeat rw [aup_n (by omega)]
                             repeat rw [aup_rn (by decide)]
                             exact hv3
                           · repeat rw [aup_n (by omega)]
                             repeat rw [aup_rn (by decide)]
                             exact hv4)
          · first
              | (exfalso; omega)
              | skip
                refine aw_aload_n dX7_take_25 rfl ?_
                refine aw_bipush dX7_take_26 (by decide) ?_
                refine c_X7_72 rfl dX7_take_28 m_ob (Nat.le_of_ble_eq_true rfl) (by omega) (C_m_refuse ?_)
                refine aK_i ?_
                refine aw_ireturn dX7_take_31 rfl ?_
                first
                  | (exfalso; omega)
                  | (refine XR.sameE h ?_ ?_ ?_ ?_ ?_ ?_
                     · first
                         | rfl
                         | omega
                     · repeat (first | exact xs.rf | refine xs.up ?_ (by decide))
                     · repeat (first | exact mss.rf | refine mss.up0 ?_ (by decide))
                     · first
                         | (simp [aup, hv2, hv3, hv4]; done)
                         | (simp [aup, hv2, hv3, hv4]; omega)
                     · simp [aup, hv2, hv3, hv4]
                     · simp [aup, hv2, hv3, hv4])
                  | (refine ⟨vI_eq (by first | rfl | omega), _, rfl, XR.yd (upA (upA (upA (upA (cm 1) (64 + 198 * a + 1) (cm 1 (64 + 198 * a + 1) + cm 1 11)) (64 + 198 * a + 3) (cm 1 12)) 11 (-1)) 12 (-1)) hR HX HL HN HS HP ?_ ?_ ?_ ?_ ?_ ?_ ?_ ?_ ?_ ?_ ?_ ?_ ?_⟩
                     · rw [aup_rn (by decide), aup_r, aup_r, aup_r, aup_r]
                     · rw [show (upA (upA (upA (upA (cm 1) (64 + 198 * a + 1) (cm 1 (64 + 198 * a + 1) + cm 1 11)) (64 + 198 * a + 3) (cm 1 12)) 11 (-1)) 12 (-1)) 3 = cm 1 3 by repeat rw [upA_n (by omega)]]
                       refine YR.swq (b := -1) (q := -1) (YR.hfld (a := hv) (k := a) (j := 5) (v := cm 1 12) (YR.hfld (a := hv) (k := a) (j := 3) (v := cm 1 (64 + 198 * a + 1) + cm 1 11) (HY.up0 (j := 7) (v := 0) hR.1.2 (by decide)) (by omega) (by omega) (by rw [aup_rn nv0]; exact ehv) (by omega)) (by omega) (by rw [upA_n (by omega)]; omega) (by rw [aup_rn nvhv, aup_rn nv0]; exact ehv) (by omega)) (fun x j hz => ?_) ?_ (fun e9 => absurd rfl e9)
                       · rw [aup_n (fun z => hz ⟨z.1, Or.inl z.2⟩), aup_n (fun z => hz ⟨z.1, Or.inr z.2⟩)]
                       · rw [aup_n (by omega), aup_s]
                     · intro i hi
                       repeat rw [upA_n (by omega)]
                     · intro k k0 k1
                       repeat rw [upA_n (by omega)]
                     · obtain ⟨q1, q2, q3, q4, q5, q6, q7⟩ := gh
                       refine PI.one HP (k := a) (by omega) (by omega) (fun i hi i1 i2 => ?_) ?_ ?_ ?_ ?_ ?_ ?_ ?_ ?_
                       · repeat rw [upA_n (by omega)]
                       all_goals (repeat (first | rw [upA_s] | rw [upA_n (by omega)]))
                       all_goals omega
                     · repeat (first | exact HF | refine FC.ok (FC.up0 ?_ (by decide)) | refine FC.ok (FC.up1 ?_))
                     · intro x j hx hz
                       have hx1 : x ≠ hv := fun e => hx (by rw [e]; exact ohv)
                       have hx2 : x ≠ 10 := fun e => hx (by rw [e, HY.2.1]; decide)
                       repeat (first | rw [aup_rn hx1] | rw [aup_rn hx2] | rw [aup_n (fun z => hz ⟨z.1, Or.inl z.2⟩)])
                     · repeat rw [aup_n (by omega)]
                     · intro b b0 b1 b9
                       rw [aup_rn b0]
                       repeat rw [aup_rn b1]
                     · intro i hi
                       rw [aup_n (by omega)]
                       repeat rw [aup_rn (by decide)]
                     · repeat rw [aup_n (by omega)]
                       rw [aup_s, aup_s]
                     · repeat rw [aup_n (by omega)]
                       repeat rw [aup_rn (by decide)]
                       exact hv3
                     · repeat rw [aup_n (by omega)]
                       repeat rw [aup_rn (by decide)]
                       exact hv4)
    · first
        | (exfalso; omega)
        | skip
          refine aK_i ?_
          refine aw_ifne (tgt := 14) dX7_take_5 (by decide) (fun h => absurd h (by decide)) (fun _ => ?_)
          refine aw_aload_n dX7_take_8 rfl ?_
          refine aw_iconst dX7_take_9 (by decide) ?_
          refine c_X7_72 rfl dX7_take_10 m_ob (Nat.le_of_ble_eq_true rfl) (by omega) (C_m_refuse ?_)
          refine aK_i ?_
          refine aw_ireturn dX7_take_13 rfl ?_
          first
            | (exfalso; omega)
            | (refine XR.sameE h ?_ ?_ ?_ ?_ ?_ ?_
               · first
                   | rfl
                   | omega
               · repeat (first | exact xs.rf | refine xs.up ?_ (by decide))
               · repeat (first | exact mss.rf | refine mss.up0 ?_ (by decide))
               · first
                   | (simp [aup, hv2, hv3, hv4]; done)
                   | (simp [aup, hv2, hv3, hv4]; omega)
               · simp [aup, hv2, hv3, hv4]
               · simp [aup, hv2, hv3, hv4])
            | (refine ⟨vI_eq (by first | rfl | omega), _, rfl, XR.yd (upA (upA (upA (upA (cm 1) (64 + 198 * a + 1) (cm 1 (64 + 198 * a + 1) + cm 1 11)) (64 + 198 * a + 3) (cm 1 12)) 11 (-1)) 12 (-1)) hR HX HL HN HS HP ?_ ?_ ?_ ?_ ?_ ?_ ?_ ?_ ?_ ?_ ?_ ?_ ?_⟩
               · rw [aup_rn (by decide), aup_r, aup_r, aup_r, aup_r]
               · rw [show (upA (upA (upA (upA (cm 1) (64 + 198 * a + 1) (cm 1 (64 + 198 * a + 1) + cm 1 11)) (64 + 198 * a + 3) (cm 1 12)) 11 (-1)) 12 (-1)) 3 = cm 1 3 by repeat rw [upA_n (by omega)]]
                 refine YR.swq (b := -1) (q := -1) (YR.hfld (a := hv) (k := a) (j := 5) (v := cm 1 12) (YR.hfld (a := hv) (k := a) (j := 3) (v := cm 1 (64 + 198 * a + 1) + cm 1 11) (HY.up0 (j := 7) (v := 0) hR.1.2 (by decide)) (by omega) (by omega) (by rw [aup_rn nv0]; exact ehv) (by omega)) (by omega) (by rw [upA_n (by omega)]; omega) (by rw [aup_rn nvhv, aup_rn nv0]; exact ehv) (by omega)) (fun x j hz => ?_) ?_ (fun e9 => absurd rfl e9)
                 · rw [aup_n (fun z => hz ⟨z.1, Or.inl z.2⟩), aup_n (fun z => hz ⟨z.1, Or.inr z.2⟩)]
                 · rw [aup_n (by omega), aup_s]
               · intro i hi
                 repeat rw [upA_n (by omega)]
               · intro k k0 k1
                 repeat rw [upA_n (by omega)]
               · obtain ⟨q1, q2, q3, q4, q5, q6, q7⟩ := gh
                 refine PI.one HP (k := a) (by omega) (by omega) (fun i hi i1 i2 => ?_) ?_ ?_ ?_ ?_ ?_ ?_ ?_ ?_
                 · repeat rw [upA_n (by omega)]
                 all_goals (repeat (first | rw [upA_s] | rw [upA_n (by omega)]))
                 all_goals omega
               · repeat (first | exact HF | refine FC.ok (FC.up0 ?_ (by decide)) | refine FC.ok (FC.up1 ?_))
               · intro x j hx hz
                 have hx1 : x ≠ hv := fun e => hx (by rw [e]; exact ohv)
                 have hx2 : x ≠ 10 := fun e => hx (by rw [e, HY.2.1]; decide)
                 repeat (first | rw [aup_rn hx1] | rw [aup_rn hx2] | rw [aup_n (fun z => hz ⟨z.1, Or.inl z.2⟩)])
               · repeat rw [aup_n (by omega)]
               · intro b b0 b1 b9
                 rw [aup_rn b0]
                 repeat rw [aup_rn b1]
               · intro i hi
                 rw [aup_n (by omega)]
                 repeat rw [aup_rn (by decide)]
               · repeat rw [aup_n (by omega)]
                 rw [aup_s, aup_s]
               · repeat rw [aup_n (by omega)]
                 repeat rw [aup_rn (by decide)]
                 exact hv3
               · repeat rw [aup_n (by omega)]
                 repeat rw [aup_rn (by decide)]
                 exact hv4)
