set_option maxRecDepth 100000
/-! operations, 14: even -/
theorem L_x_ev1 {own : Int → Int} {sz : Int} {im : Int → aIm} {ct ct0 : Int → Int → Int} {s N : Int → Int} {dd : Int} {Q : aPost} {d kc ks : Nat} (hd : 4 ≤ d) (hR : RT own sz im ct0) (HY : YR own 0 sz im ct 10 s dd N) (hRc : RT own sz im ct) (HP : PI s) (K : AW (mq Q) md_X0_even d kc ks 37 [some (vR 0), some (vI (isum (hoK s) (s 0).toNat)), some (vI (s 0)), none, none, none] [] (sz, im, ct)) : ∀ (r k : Nat), (k : Int) + r = s 0 → AW (mq Q) md_X0_even d kc ks 9 [some (vR 0), some (vI (isum (hoK s) k)), some (vI k), none, none, none] [] (sz, im, ct) := by
  have b0 := HP.1
  intro r
  induction r with
  | zero =>
    intro k h1
    have ek : (s 0).toNat = k := by omega
    have ek2 : s 0 = k := by omega
    rw [ek, ek2] at K
    refine aw_iload_n dX0_even_9 rfl ?_
    refine aw_aload_n dX0_even_10 rfl ?_
    refine c_X0_158 rfl dX0_even_11 hR.o0 (Nat.le_of_ble_eq_true rfl) (by omega) (C_x_yard2 hR ?_)
    refine aK_i ?_
    refine g_X0_161_5 rfl dX0_even_14 HY.1 ?_
    rw [HY.2.2.2.2.2.1.1]
    refine aw_icmpge (tgt := 37) dX0_even_17 (by decide) (fun h17 => ?_) (fun h17 => ?_)
    · exact K
    · exfalso; omega
  | succ r ih =>
    intro k h1
    have hb := (ev_bd (l := 0) (k := k) HP (by omega) (by omega)).1
    obtain ⟨va, eva, ⟨u1, u2, ⟨u3, u4, u5, u6, u7⟩, -⟩, -⟩ := HY.hv hRc (k := k) (by omega) (by omega)
    obtain ⟨qk1, qk2, qk3, qk4, qk5, qk6, qk7⟩ := HP.2.2.1 k (by omega) (by omega)
    have hh := hoK_bd (s := s) (k := k) HP (by omega) (by omega)
    unfold hoK at hh
    have ih := ih (k + 1) (by omega)
    refine aw_iload_n dX0_even_9 rfl ?_
    refine aw_aload_n dX0_even_10 rfl ?_
    refine c_X0_158 rfl dX0_even_11 hR.o0 (Nat.le_of_ble_eq_true rfl) (by omega) (C_x_yard2 hR ?_)
    refine aK_i ?_
    refine g_X0_161_5 rfl dX0_even_14 HY.1 ?_
    rw [HY.2.2.2.2.2.1.1]
    refine aw_icmpge (tgt := 37) dX0_even_17 (by decide) (fun h17 => ?_) (fun h17 => ?_)
    · exfalso; omega
    · refine aw_iload_n dX0_even_20 rfl ?_
      refine aw_aload_n dX0_even_21 rfl ?_
      refine aw_iload_n dX0_even_22 rfl ?_
      refine c_X0_172 rfl dX0_even_23 hR.o0 (Nat.le_of_ble_eq_true rfl) (by omega) (C_x_xat2 (a := va) hR HY (by omega) eva ?_)
      refine aK_i ?_
      refine c_X0_267 rfl dX0_even_26 u1.1 (Nat.le_of_ble_eq_true rfl) (by omega) (C_x_honey u1 u2 qk2 ?_)
      refine aK_i ?_
      refine aw_iaddr dX0_even_29 (by omega) ?_
      refine aw_istore1 dX0_even_30 (by decide) rfl ?_
      refine aw_iinc2r dX0_even_31 (by decide) (by decide) rfl (by omega) ?_
      refine aw_goto (tgt := 9) dX0_even_34 (by decide) ?_
      exact ih
theorem L_x_ev2 {own : Int → Int} {sz : Int} {im : Int → aIm} {ct ct0 : Int → Int → Int} {s N : Int → Int} {dd : Int} {Q : aPost} {d kc ks : Nat} (hd : 4 ≤ d) (hR : RT own sz im ct0) (HY : YR own 0 sz im ct 10 s dd N) (hRc : RT own sz im ct) (HP : PI s) {l tt : Int} (hl : 0 ≤ l ∧ l ≤ 76800) (K : AW (mq Q) md_X0_even d kc ks 126 [some (vR 0), some (vI tt), some (vI l), some (vI (isum (fun k => max 0 (hoK s k - l)) (s 0).toNat)), some (vI (isum (fun k => if l < hoK s k then (1 : Int) else 0) (s 0).toNat)), some (vI (s 0))] [] (sz, im, ct)) : ∀ (r k : Nat), (k : Int) + r = s 0 → AW (mq Q) md_X0_even d kc ks 67 [some (vR 0), some (vI tt), some (vI l), some (vI (isum (fun k => max 0 (hoK s k - l)) k)), some (vI (isum (fun k => if l < hoK s k then (1 : Int) else 0) k)), some (vI k)] [] (sz, im, ct) := by
  have b0 := HP.1
  intro r
  induction r with
  | zero =>
    intro k h1
    have ek : (s 0).toNat = k := by omega
    have ek2 : s 0 = k := by omega
    rw [ek, ek2] at K
    refine aw_iload dX0_even_67 rfl ?_
    refine aw_aload_n dX0_even_69 rfl ?_
    refine c_X0_158 rfl dX0_even_70 hR.o0 (Nat.le_of_ble_eq_true rfl) (by omega) (C_x_yard2 hR ?_)
    refine aK_i ?_
    refine g_X0_161_5 rfl dX0_even_73 HY.1 ?_
    rw [HY.2.2.2.2.2.1.1]
    refine aw_icmpge (tgt := 126) dX0_even_76 (by decide) (fun h76 => ?_) (fun h76 => ?_)
    · exact K
    · exfalso; omega
  | succ r ih =>
    intro k h1
    have hb := (ev_bd (l := l) (k := k) HP (by omega) (by omega)).2
    obtain ⟨va, eva, ⟨u1, u2, ⟨u3, u4, u5, u6, u7⟩, -⟩, -⟩ := HY.hv hRc (k := k) (by omega) (by omega)
    obtain ⟨qk1, qk2, qk3, qk4, qk5, qk6, qk7⟩ := HP.2.2.1 k (by omega) (by omega)
    have hh := hoK_bd (s := s) (k := k) HP (by omega) (by omega)
    unfold hoK at hh
    have ih := ih (k + 1) (by omega)
    have es : isum (fun k => if l < hoK s k then (1 : Int) else 0) (k + 1) = isum (fun k => if l < hoK s k then (1 : Int) else 0) k + (if l < hoK s k then (1 : Int) else 0) := rfl
    rw [es] at ih
    refine aw_iload dX0_even_67 rfl ?_
    refine aw_aload_n dX0_even_69 rfl ?_
    refine c_X0_158 rfl dX0_even_70 hR.o0 (Nat.le_of_ble_eq_true rfl) (by omega) (C_x_yard2 hR ?_)
    refine aK_i ?_
    refine g_X0_161_5 rfl dX0_even_73 HY.1 ?_
    rw [HY.2.2.2.2.2.1.1]
    refine aw_icmpge (tgt := 126) dX0_even_76 (by decide) (fun h76 => ?_) (fun h76 => ?_)
    · exfalso; omega
    · refine aw_iload_n dX0_even_79 rfl ?_
      refine aw_iconst dX0_even_80 (by decide) ?_
      refine aw_aload_n dX0_even_81 rfl ?_
      refine aw_iload dX0_even_82 rfl ?_
      refine c_X0_172 rfl dX0_even_84 hR.o0 (Nat.le_of_ble_eq_true rfl) (by omega) (C_x_xat2 (a := va) hR HY (by omega) eva ?_)
      refine aK_i ?_
      refine c_X0_267 rfl dX0_even_87 u1.1 (Nat.le_of_ble_eq_true rfl) (by omega) (C_x_honey u1 u2 qk2 ?_)
      refine aK_i ?_
      refine aw_iload_n dX0_even_90 rfl ?_
      refine aw_isubr dX0_even_91 (by omega) ?_
      refine aw_mmax dX0_even_92 q1234 q1235 q137 q1236 (Nat.le_of_ble_eq_true rfl) (by omega) ?_
      refine aw_iaddr dX0_even_95 (by omega) ?_
      refine aw_istore3 dX0_even_96 (by decide) rfl ?_
      refine aw_iload dX0_even_97 rfl ?_
      refine aw_aload_n dX0_even_99 rfl ?_
      refine aw_iload dX0_even_100 rfl ?_
      refine c_X0_172 rfl dX0_even_102 hR.o0 (Nat.le_of_ble_eq_true rfl) (by omega) (C_x_xat2 (a := va) hR HY (by omega) eva ?_)
      refine aK_i ?_
      refine c_X0_267 rfl dX0_even_105 u1.1 (Nat.le_of_ble_eq_true rfl) (by omega) (C_x_honey u1 u2 qk2 ?_)
      refine aK_i ?_
      refine aw_iload_n dX0_even_108 rfl ?_
      refine aw_icmple (tgt := 116) dX0_even_109 (by decide) (fun h109 => ?_) (fun h109 => ?_)
      · refine aw_iconst dX0_even_116 (by decide) ?_
        refine aw_iaddr dX0_even_117 (by omega) ?_
        refine aw_istore4 dX0_even_118 (by decide) rfl ?_
        refine aw_iinc5r dX0_even_120 (by decide) (by decide) rfl (by omega) ?_
        refine aw_goto (tgt := 67) dX0_even_123 (by decide) ?_
        first
          | (rw [if_pos (by unfold hoK; omega)] at ih; exact ih)
          | (rw [if_neg (by unfold hoK; omega)] at ih; exact ih)
      · refine aw_iconst dX0_even_112 (by decide) ?_
        refine aw_goto (tgt := 117) dX0_even_113 (by decide) ?_
        refine aw_iaddr dX0_even_117 (by omega) ?_
        refine aw_istore4 dX0_even_118 (by decide) rfl ?_
        refine aw_iinc5r dX0_even_120 (by decide) (by decide) rfl (by omega) ?_
        refine aw_goto (tgt := 67) dX0_even_123 (by decide) ?_
        first
          | (rw [if_pos (by unfold hoK; omega)] at ih; exact ih)
          | (rw [if_neg (by unfold hoK; omega)] at ih; exact ih)
theorem L_m_ev1 {ct : Int → Int → Int} {Q : aPost} {d kc ks : Nat} (hd : 3 ≤ d) (HP : PI (ct 1)) (K : AW (mq Q) md_X7_even d kc ks 44 [some (vR 0), some (vI (ct 1 0)), some (vI (isum (hoK (ct 1)) (ct 1 0).toNat)), some (vI (ct 1 0)), none, none, none, none] [] (gM ct)) : ∀ (r k : Nat), (k : Int) + r = ct 1 0 → AW (mq Q) md_X7_even d kc ks 21 [some (vR 0), some (vI (ct 1 0)), some (vI (isum (hoK (ct 1)) k)), some (vI k), none, none, none, none] [] (gM ct) := by
  have b0 := HP.1
  intro r
  induction r with
  | zero =>
    intro k h1
    have ek : (ct 1 0).toNat = k := by omega
    have ek2 : (k : Int) = ct 1 0 := by omega
    rw [ek] at K
    rw [ek2]
    refine aw_iload_n dX7_even_21 rfl ?_
    refine aw_iload_n dX7_even_22 rfl ?_
    refine aw_icmpge (tgt := 44) dX7_even_23 (by decide) (fun h23 => ?_) (fun h23 => ?_)
    · exact K
    · exfalso; omega
  | succ r ih =>
    intro k h1
    have hb := (ev_bd (l := 0) (k := k) HP (by omega) (by omega)).1
    obtain ⟨qk1, qk2, qk3, qk4, qk5, qk6, qk7⟩ := HP.2.2.1 k (by omega) (by omega)
    have hh := hoK_bd (s := ct 1) (k := k) HP (by omega) (by omega)
    unfold hoK at hh
    have ih := ih (k + 1) (by omega)
    refine aw_iload_n dX7_even_21 rfl ?_
    refine aw_iload_n dX7_even_22 rfl ?_
    refine aw_icmpge (tgt := 44) dX7_even_23 (by decide) (fun h23 => ?_) (fun h23 => ?_)
    · exfalso; omega
    · refine aw_iload_n dX7_even_26 rfl ?_
      refine aw_aload_n dX7_even_27 rfl ?_
      refine aw_iload_n dX7_even_28 rfl ?_
      refine c_X7_217 rfl dX7_even_29  (Nat.le_of_ble_eq_true rfl) (by omega) (C_m_hiveRow (by omega) ?_)
      refine aK_i ?_
      refine aw_iconst dX7_even_32 (by decide) ?_
      refine c_X7_283 rfl dX7_even_33 m_ob (Nat.le_of_ble_eq_true rfl) (by omega) (C_m_sumOf rfl qk1 (by omega) qk2 ?_)
      refine aK_i ?_
      refine aw_iaddr dX7_even_36 (by omega) ?_
      refine aw_istore2 dX7_even_37 (by decide) rfl ?_
      refine aw_iinc3r dX7_even_38 (by decide) (by decide) rfl (by omega) ?_
      refine aw_goto (tgt := 21) dX7_even_41 (by decide) ?_
      exact ih
theorem L_m_ev2 {ct : Int → Int → Int} {Q : aPost} {d kc ks : Nat} (hd : 3 ≤ d) (HP : PI (ct 1)) {l tt : Int} (hl : 0 ≤ l ∧ l ≤ 76800) (K : ∀ x7 : Option aV, AW (mq Q) md_X7_even d kc ks 111 [some (vR 0), some (vI (ct 1 0)), some (vI tt), some (vI l), some (vI (isum (fun k => if l < hoK (ct 1) k then (1 : Int) else 0) (ct 1 0).toNat)), some (vI (isum (fun k => max 0 (hoK (ct 1) k - l - 1)) (ct 1 0).toNat)), some (vI (ct 1 0)), x7] [] (gM ct)) : ∀ (r k : Nat) (x7 : Option aV), (k : Int) + r = ct 1 0 → AW (mq Q) md_X7_even d kc ks 57 [some (vR 0), some (vI (ct 1 0)), some (vI tt), some (vI l), some (vI (isum (fun k => if l < hoK (ct 1) k then (1 : Int) else 0) k)), some (vI (isum (fun k => max 0 (hoK (ct 1) k - l - 1)) k)), some (vI k), x7] [] (gM ct) := by
  have b0 := HP.1
  intro r
  induction r with
  | zero =>
    intro k x7 h1
    have ek : (ct 1 0).toNat = k := by omega
    have ek2 : (k : Int) = ct 1 0 := by omega
    rw [ek] at K
    rw [ek2]
    refine aw_iload dX7_even_57 rfl ?_
    refine aw_iload_n dX7_even_59 rfl ?_
    refine aw_icmpge (tgt := 111) dX7_even_60 (by decide) (fun h60 => ?_) (fun h60 => ?_)
    · exact K _
    · exfalso; omega
  | succ r ih =>
    intro k x7 h1
    have hb := (ev_bd (l := l) (k := k) HP (by omega) (by omega)).2
    obtain ⟨qk1, qk2, qk3, qk4, qk5, qk6, qk7⟩ := HP.2.2.1 k (by omega) (by omega)
    have hh := hoK_bd (s := ct 1) (k := k) HP (by omega) (by omega)
    unfold hoK at hh
    have ih := fun x7 => ih (k + 1) x7 (by omega)
    have es : isum (fun k => if l < hoK (ct 1) k then (1 : Int) else 0) (k + 1) = isum (fun k => if l < hoK (ct 1) k then (1 : Int) else 0) k + (if l < hoK (ct 1) k then (1 : Int) else 0) := rfl
    rw [es] at ih
    refine aw_iload dX7_even_57 rfl ?_
    refine aw_iload_n dX7_even_59 rfl ?_
    refine aw_icmpge (tgt := 111) dX7_even_60 (by decide) (fun h60 => ?_) (fun h60 => ?_)
    · exfalso; omega
    · refine aw_aload_n dX7_even_63 rfl ?_
      refine aw_iload dX7_even_64 rfl ?_
      refine c_X7_217 rfl dX7_even_66  (Nat.le_of_ble_eq_true rfl) (by omega) (C_m_hiveRow (by omega) ?_)
      refine aK_i ?_
      refine aw_iconst dX7_even_69 (by decide) ?_
      refine c_X7_283 rfl dX7_even_70 m_ob (Nat.le_of_ble_eq_true rfl) (by omega) (C_m_sumOf rfl qk1 (by omega) qk2 ?_)
      refine aK_i ?_
      refine aw_iload_n dX7_even_73 rfl ?_
      refine aw_isubr dX7_even_74 (by omega) ?_
      refine aw_istore7 dX7_even_75 (by decide) rfl ?_
      refine aw_iload dX7_even_77 rfl ?_
      refine aw_iload dX7_even_79 rfl ?_
      refine aw_ifle (tgt := 88) dX7_even_81 (by decide) (fun h81 => ?_) (fun h81 => ?_)
      · refine aw_iconst dX7_even_88 (by decide) ?_
        refine aw_iaddr dX7_even_89 (by omega) ?_
        refine aw_istore4 dX7_even_90 (by decide) rfl ?_
        refine aw_iload dX7_even_92 rfl ?_
        refine aw_iconst dX7_even_94 (by decide) ?_
        refine aw_iload dX7_even_95 rfl ?_
        refine aw_iconst dX7_even_97 (by decide) ?_
        refine aw_isubr dX7_even_98 (by omega) ?_
        refine aw_mmax dX7_even_99 q1983 q1235 q137 q1236 (Nat.le_of_ble_eq_true rfl) (by omega) ?_
        refine aw_iaddr dX7_even_102 (by omega) ?_
        refine aw_istore5 dX7_even_103 (by decide) rfl ?_
        refine aw_iinc6r dX7_even_105 (by decide) (by decide) rfl (by omega) ?_
        refine aw_goto (tgt := 57) dX7_even_108 (by decide) ?_
        first
          | (rw [if_pos (by unfold hoK; omega)] at ih; exact ih _)
          | (rw [if_neg (by unfold hoK; omega)] at ih; exact ih _)
      · refine aw_iconst dX7_even_84 (by decide) ?_
        refine aw_goto (tgt := 89) dX7_even_85 (by decide) ?_
        refine aw_iaddr dX7_even_89 (by omega) ?_
        refine aw_istore4 dX7_even_90 (by decide) rfl ?_
        refine aw_iload dX7_even_92 rfl ?_
        refine aw_iconst dX7_even_94 (by decide) ?_
        refine aw_iload dX7_even_95 rfl ?_
        refine aw_iconst dX7_even_97 (by decide) ?_
        refine aw_isubr dX7_even_98 (by omega) ?_
        refine aw_mmax dX7_even_99 q1983 q1235 q137 q1236 (Nat.le_of_ble_eq_true rfl) (by omega) ?_
        refine aw_iaddr dX7_even_102 (by omega) ?_
        refine aw_istore5 dX7_even_103 (by decide) rfl ?_
        refine aw_iinc6r dX7_even_105 (by decide) (by decide) rfl (by omega) ?_
        refine aw_goto (tgt := 57) dX7_even_108 (by decide) ?_
        first
          | (rw [if_pos (by unfold hoK; omega)] at ih; exact ih _)
          | (rw [if_neg (by unfold hoK; omega)] at ih; exact ih _)
theorem OP_even {sz : Int} {im : Int → aIm} {ct cm : Int → Int → Int} (h : XR (sz, im, ct) cm)   : AMet md_X0_even 5 0 0 [vR 0] (sz, im, ct) (XQ md_X7_even 4 [vR 0] cm) := by
  obtain ⟨own, N, hR, HY, HL, HN, HS, HP, HF, HX, hv2, hv3, hv4⟩ := id h
  dsimp only at hR HY HL HS HX hv2 hv3 hv4
  have hp0 := HP.1
  have hp3 := HP.2.1
  have hpq := HP.2.2.2.1.1
  have hps := HP.2.2.2.2.2
  refine AMet.go (L := [some (vR 0), none, none, none, none, none]) mok_X0_even (Nat.le_of_ble_eq_true rfl) rfl ?_
  refine aw_aload_n dX0_even_0 rfl ?_
  refine aw_iconst dX0_even_1 (by decide) ?_
  refine p_X0_73_0 rfl dX0_even_2 hR.o0 ?_
  refine aw_iconst dX0_even_5 (by decide) ?_
  refine aw_istore1 dX0_even_6 (by decide) rfl ?_
  refine aw_iconst dX0_even_7 (by decide) ?_
  refine aw_istore2 dX0_even_8 (by decide) rfl ?_
  have hbt := (ev_bd (s := cm 1) (l := 0) (k := (cm 1 0).toNat) HP (by omega) (by have b0 := HP.1; omega)).1
  refine L_x_ev1 (by omega) hR (HY.up0 (j := 7) (v := 0) hR.1.2 (by decide)) (hR.up0 (j := 7) (v := 0)) HP ?_ (cm 1 0).toNat 0 (by have b0 := HP.1; omega)
  refine aw_aload_n dX0_even_37 rfl ?_
  refine c_X0_158 rfl dX0_even_38 hR.o0 (Nat.le_of_ble_eq_true rfl) (by omega) (C_x_yard2 hR ?_)
  refine aK_i ?_
  refine g_X0_161_5 rfl dX0_even_41 HY.1 ?_
  rw [(HY.up0 (j := 7) (v := 0) hR.1.2 (by decide)).2.2.2.2.2.1.1]
  refine aw_ifne (tgt := 49) dX0_even_44 (by decide) (fun h44 => ?_) (fun h44 => ?_)
  · have b0 := HP.1
    have hdv : 0 ≤ isum (hoK (cm 1)) (cm 1 0).toNat / cm 1 0 ∧ isum (hoK (cm 1)) (cm 1 0).toNat / cm 1 0 ≤ 76800 := ⟨Int.ediv_nonneg hbt.1 (by omega), Int.le_trans (Int.ediv_le_self _ hbt.1) hbt.2⟩
    have hmn := Int.emod_nonneg (isum (hoK (cm 1)) (cm 1 0).toNat) (show cm 1 0 ≠ 0 by omega)
    have hml := Int.emod_lt_of_pos (isum (hoK (cm 1)) (cm 1 0).toNat) (show 0 < cm 1 0 by omega)
    have hb9 := (ev_bd (s := cm 1) (l := isum (hoK (cm 1)) (cm 1 0).toNat / cm 1 0) (k := (cm 1 0).toNat) HP hdv.1 (by omega)).2
    have hes := even_sum (s := cm 1) (l := isum (hoK (cm 1)) (cm 1 0).toNat / cm 1 0) (cm 1 0).toNat
    
    refine aw_iload_n dX0_even_49 rfl ?_
    refine aw_aload_n dX0_even_50 rfl ?_
    refine c_X0_158 rfl dX0_even_51 hR.o0 (Nat.le_of_ble_eq_true rfl) (by omega) (C_x_yard2 hR ?_)
    refine aK_i ?_
    refine g_X0_161_5 rfl dX0_even_54 HY.1 ?_
    rw [(HY.up0 (j := 7) (v := 0) hR.1.2 (by decide)).2.2.2.2.2.1.1]
    refine aw_idivr dX0_even_57 (by omega) (by omega) ?_
    refine aw_istore2 dX0_even_58 (by decide) rfl ?_
    refine aw_iconst dX0_even_59 (by decide) ?_
    refine aw_istore3 dX0_even_60 (by decide) rfl ?_
    refine aw_iconst dX0_even_61 (by decide) ?_
    refine aw_istore4 dX0_even_62 (by decide) rfl ?_
    refine aw_iconst dX0_even_64 (by decide) ?_
    refine aw_istore5 dX0_even_65 (by decide) rfl ?_
    refine L_x_ev2 (by omega) hR (HY.up0 (j := 7) (v := 0) hR.1.2 (by decide)) (hR.up0 (j := 7) (v := 0)) HP hdv ?_ (cm 1 0).toNat 0 (by omega)
    refine aw_iload_n dX0_even_126 rfl ?_
    refine aw_iload dX0_even_127 rfl ?_
    refine aw_iload_n dX0_even_129 rfl ?_
    refine aw_aload_n dX0_even_130 rfl ?_
    refine c_X0_158 rfl dX0_even_131 hR.o0 (Nat.le_of_ble_eq_true rfl) (by omega) (C_x_yard2 hR ?_)
    refine aK_i ?_
    refine g_X0_161_5 rfl dX0_even_134 HY.1 ?_
    rw [(HY.up0 (j := 7) (v := 0) hR.1.2 (by decide)).2.2.2.2.2.1.1]
    refine aw_iremr dX0_even_137 (by omega) (by omega) ?_
    refine aw_mmin dX0_even_138 q1134 q816 q137 q817 (Nat.le_of_ble_eq_true rfl) (by omega) ?_
    refine aw_isubr dX0_even_141 (by omega) ?_
    refine aw_ireturn dX0_even_142 rfl ?_
    refine ⟨_, rfl, ?_⟩
    refine AMet.go (L := [some (vR 0), none, none, none, none, none, none, none]) mok_X7_even (Nat.le_of_ble_eq_true rfl) rfl ?_
    refine gm_7 rfl dX7_even_0 dX7_even_1 rfl ?_
    refine aw_iconst dX7_even_4 (by decide) ?_
    refine aw_iaload dX7_even_5 m_a1 (by omega) (by omega) ?_
    refine aw_istore1 dX7_even_6 (by decide) rfl ?_
    refine aw_iload_n dX7_even_7 rfl ?_
    refine aw_ifne (tgt := 17) dX7_even_8 (by decide) (fun h8 => ?_) (fun h8 => ?_)
    · first
        | (exfalso; omega)
        | skip
          refine aw_iconst dX7_even_17 (by decide) ?_
          refine aw_istore2 dX7_even_18 (by decide) rfl ?_
          refine aw_iconst dX7_even_19 (by decide) ?_
          refine aw_istore3 dX7_even_20 (by decide) rfl ?_
          refine L_m_ev1 (by omega) HP ?_ (cm 1 0).toNat 0 (by omega)
          refine aw_iload_n dX7_even_44 rfl ?_
          refine aw_iload_n dX7_even_45 rfl ?_
          refine aw_idivr dX7_even_46 (by omega) (by omega) ?_
          refine aw_istore3 dX7_even_47 (by decide) rfl ?_
          refine aw_iconst dX7_even_48 (by decide) ?_
          refine aw_istore4 dX7_even_49 (by decide) rfl ?_
          refine aw_iconst dX7_even_51 (by decide) ?_
          refine aw_istore5 dX7_even_52 (by decide) rfl ?_
          refine aw_iconst dX7_even_54 (by decide) ?_
          refine aw_istore6 dX7_even_55 (by decide) rfl ?_
          refine L_m_ev2 (by omega) HP hdv (fun x7 => ?_) (cm 1 0).toNat 0 _ (by omega)
          refine aw_aload_n dX7_even_111 rfl ?_
          refine aw_iload dX7_even_112 rfl ?_
          refine aw_iconst dX7_even_114 (by decide) ?_
          refine aw_iload dX7_even_115 rfl ?_
          refine aw_iload_n dX7_even_117 rfl ?_
          refine aw_iload_n dX7_even_118 rfl ?_
          refine aw_iremr dX7_even_119 (by omega) (by omega) ?_
          refine aw_isubr dX7_even_120 (by omega) ?_
          refine aw_mmax dX7_even_121 q1983 q1235 q137 q1236 (Nat.le_of_ble_eq_true rfl) (by omega) ?_
          refine aw_iaddr dX7_even_124 (by omega) ?_
          refine c_X7_76 rfl dX7_even_125 m_ob (Nat.le_of_ble_eq_true rfl) (by omega) (C_m_gives ?_)
          refine aK_i ?_
          refine aw_ireturn dX7_even_128 rfl ?_
          first
            | (exfalso; omega)
            | (refine XR.sameE h ?_ ?_ ?_ ?_ ?_ ?_
               · first
                   | rfl
                   | omega
               · repeat (first | exact xs.rf | refine xs.up ?_ (by decide))
               · repeat (first | exact mss.rf | refine mss.up0 ?_ (by decide))
               · first
                   | (simp [aup, hv2, hv3, hv4]; done)
                   | (simp [aup, hv2, hv3, hv4]; omega)
               · simp [aup, hv2, hv3, hv4]
               · simp [aup, hv2, hv3, hv4])
    · first
        | (exfalso; omega)
        | skip
          refine aw_aload_n dX7_even_11 rfl ?_
          refine aw_iconst dX7_even_12 (by decide) ?_
          refine c_X7_76 rfl dX7_even_13 m_ob (Nat.le_of_ble_eq_true rfl) (by omega) (C_m_gives ?_)
          refine aK_i ?_
          refine aw_ireturn dX7_even_16 rfl ?_
          first
            | (exfalso; omega)
            | (refine XR.sameE h ?_ ?_ ?_ ?_ ?_ ?_
               · first
                   | rfl
                   | omega
               · repeat (first | exact xs.rf | refine xs.up ?_ (by decide))
               · repeat (first | exact mss.rf | refine mss.up0 ?_ (by decide))
               · first
                   | (simp [aup, hv2, hv3, hv4]; done)
                   | (simp [aup, hv2, hv3, hv4]; omega)
               · simp [aup, hv2, hv3, hv4]
               · simp [aup, hv2, hv3, hv4])
  · refine aw_iconst dX0_even_47 (by decide) ?_
    refine aw_ireturn dX0_even_48 rfl ?_
    refine ⟨_, rfl, ?_⟩
    refine AMet.go (L := [some (vR 0), none, none, none, none, none, none, none]) mok_X7_even (Nat.le_of_ble_eq_true rfl) rfl ?_
    refine gm_7 rfl dX7_even_0 dX7_even_1 rfl ?_
    refine aw_iconst dX7_even_4 (by decide) ?_
    refine aw_iaload dX7_even_5 m_a1 (by omega) (by omega) ?_
    refine aw_istore1 dX7_even_6 (by decide) rfl ?_
    refine aw_iload_n dX7_even_7 rfl ?_
    refine aw_ifne (tgt := 17) dX7_even_8 (by decide) (fun h8 => ?_) (fun h8 => ?_)
    · first
        | (exfalso; omega)
        | skip
          refine aw_iconst dX7_even_17 (by decide) ?_
          refine aw_istore2 dX7_even_18 (by decide) rfl ?_
          refine aw_iconst dX7_even_19 (by decide) ?_
          refine aw_istore3 dX7_even_20 (by decide) rfl ?_
          refine L_m_ev1 (by omega) HP ?_ (cm 1 0).toNat 0 (by omega)
          refine aw_iload_n dX7_even_44 rfl ?_
          refine aw_iload_n dX7_even_45 rfl ?_
          refine aw_idivr dX7_even_46 (by omega) (by omega) ?_
          refine aw_istore3 dX7_even_47 (by decide) rfl ?_
          refine aw_iconst dX7_even_48 (by decide) ?_
          refine aw_istore4 dX7_even_49 (by decide) rfl ?_
          refine aw_iconst dX7_even_51 (by decide) ?_
          refine aw_istore5 dX7_even_52 (by decide) rfl ?_
          refine aw_iconst dX7_even_54 (by decide) ?_
          refine aw_istore6 dX7_even_55 (by decide) rfl ?_
          refine L_m_ev2 (by omega) HP hdv (fun x7 => ?_) (cm 1 0).toNat 0 _ (by omega)
          refine aw_aload_n dX7_even_111 rfl ?_
          refine aw_iload dX7_even_112 rfl ?_
          refine aw_iconst dX7_even_114 (by decide) ?_
          refine aw_iload dX7_even_115 rfl ?_
          refine aw_iload_n dX7_even_117 rfl ?_
          refine aw_iload_n dX7_even_118 rfl ?_
          refine aw_iremr dX7_even_119 (by omega) (by omega) ?_
          refine aw_isubr dX7_even_120 (by omega) ?_
          refine aw_mmax dX7_even_121 q1983 q1235 q137 q1236 (Nat.le_of_ble_eq_true rfl) (by omega) ?_
          refine aw_iaddr dX7_even_124 (by omega) ?_
          refine c_X7_76 rfl dX7_even_125 m_ob (Nat.le_of_ble_eq_true rfl) (by omega) (C_m_gives ?_)
          refine aK_i ?_
          refine aw_ireturn dX7_even_128 rfl ?_
          first
            | (exfalso; omega)
            | (refine XR.sameE h ?_ ?_ ?_ ?_ ?_ ?_
               · first
                   | rfl
                   | omega
               · repeat (first | exact xs.rf | refine xs.up ?_ (by decide))
               · repeat (first | exact mss.rf | refine mss.up0 ?_ (by decide))
               · first
                   | (simp [aup, hv2, hv3, hv4]; done)
                   | (simp [aup, hv2, hv3, hv4]; omega)
               · simp [aup, hv2, hv3, hv4]
               · simp [aup, hv2, hv3, hv4])
    · first
        | (exfalso; omega)
        | skip
          refine aw_aload_n dX7_even_11 rfl ?_
          refine aw_iconst dX7_even_12 (by decide) ?_
          refine c_X7_76 rfl dX7_even_13 m_ob (Nat.le_of_ble_eq_true rfl) (by omega) (C_m_gives ?_)
          refine aK_i ?_
          refine aw_ireturn dX7_even_16 rfl ?_
          first
            | (exfalso; omega)
            | (refine XR.sameE h ?_ ?_ ?_ ?_ ?_ ?_
               · first
                   | rfl
                   | omega
               · repeat (first | exact xs.rf | refine xs.up ?_ (by decide))
               · repeat (first | exact mss.rf | refine mss.up0 ?_ (by decide))
               · first
                   | (simp [aup, hv2, hv3, hv4]; done)
                   | (simp [aup, hv2, hv3, hv4]; omega)
               · simp [aup, hv2, hv3, hv4]
               · simp [aup, hv2, hv3, hv4])
