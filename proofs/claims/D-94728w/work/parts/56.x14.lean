set_option maxRecDepth 100000
/-! operations, 7: fractions; the best of hives -/
theorem C_j_signum {G : aG} {a : Int} {Q : aPost} (hQ : ∀ v, Q (.inl (some (vI v))) G) : AMet md_J11_signum 1 0 0 [vL a] G Q := by
  refine AMet.go (L := [some (vL a), none]) mok_J11_signum (Nat.le_of_ble_eq_true rfl) rfl ?_
  refine aw_lload_n dJ11_signum_0 rfl ?_
  refine aw_bipush dJ11_signum_1 (by decide) ?_
  refine aw_lshr dJ11_signum_3 ?_
  refine aw_lload_n dJ11_signum_4 rfl ?_
  refine aw_lneg dJ11_signum_5 ?_
  refine aw_bipush dJ11_signum_6 (by decide) ?_
  refine aw_lushr dJ11_signum_8 ?_
  refine aw_lor dJ11_signum_9 ?_
  refine aw_l2i dJ11_signum_10 ?_
  refine aw_ireturn dJ11_signum_11 rfl ?_
  exact hQ _
theorem L_x_gcd {own : Int → Int} {sz : Int} {im : Int → aIm} {ct ct0 : Int → Int → Int} {a b : Int} {Q : aPost} {d kc ks : Nat} (hR : RT own sz im ct0) (K : ∀ x9 x10 : Option aV, AW (mq Q) md_X0_fraction d kc ks 34 [some (vR 0), some (vL a), none, some (vL b), none, some (vL (gq a b)), none, some (vL 0), none, x9, x10] [] (sz, im, ct)) : ∀ (r : Nat) (u v : Int) (x9 x10 : Option aV), v.toNat ≤ r → 0 ≤ u → 0 ≤ v → gq u v = gq a b →
    AW (mq Q) md_X0_fraction d kc ks 9 [some (vR 0), some (vL a), none, some (vL b), none, some (vL u), none, some (vL v), none, x9, x10] [] (sz, im, ct) := by
  intro r
  induction r with
  | zero =>
    intro u v x9 x10 h1 h2 h3 h4
    have e : v = 0 := by omega
    subst e
    rw [gq_0 h2] at h4
    refine aw_lload dX0_fraction_9 rfl ?_
    refine aw_lconst0 dX0_fraction_11 ?_
    refine aw_lcmpeq (tgt := 34) dX0_fraction_12 dX0_fraction_13 (by decide) (fun h12 => ?_) (fun h12 => ?_)
    · rw [h4]
      exact K _ _
    · exfalso; omega
  | succ r ih =>
    intro u v x9 x10 h1 h2 h3 h4
    by_cases e : v = 0
    · subst e
      rw [gq_0 h2] at h4
      refine aw_lload dX0_fraction_9 rfl ?_
      refine aw_lconst0 dX0_fraction_11 ?_
      refine aw_lcmpeq (tgt := 34) dX0_fraction_12 dX0_fraction_13 (by decide) (fun h12 => ?_) (fun h12 => ?_)
      · rw [h4]
        exact K _ _
      · exfalso; omega
    · have hm := Int.emod_lt_of_pos u (show 0 < v by omega)
      have hm0 := Int.emod_nonneg u e
      refine aw_lload dX0_fraction_9 rfl ?_
      refine aw_lconst0 dX0_fraction_11 ?_
      refine aw_lcmpeq (tgt := 34) dX0_fraction_12 dX0_fraction_13 (by decide) (fun h12 => ?_) (fun h12 => ?_)
      · exfalso; omega
      · refine aw_lload dX0_fraction_16 rfl ?_
        refine aw_lload dX0_fraction_18 rfl ?_
        refine aw_lremr dX0_fraction_20 (by omega) (by omega) ?_
        refine aw_lstore9 dX0_fraction_21 (by decide) rfl ?_
        refine aw_lload dX0_fraction_23 rfl ?_
        refine aw_lstore5 dX0_fraction_25 (by decide) rfl ?_
        refine aw_lload dX0_fraction_27 rfl ?_
        refine aw_lstore7 dX0_fraction_29 (by decide) rfl ?_
        refine aw_goto (tgt := 9) dX0_fraction_31 (by decide) ?_
        exact ih _ _ _ _ (by omega) (by omega) (by omega) (by rw [gq_step h2 (by omega)]; exact h4)
theorem L_m_gcd {ct : Int → Int → Int} {a b : Int} {Q : aPost} {d kc ks : Nat} (K : ∀ x9 x10 : Option aV, AW (mq Q) md_X7_tellsBy d kc ks 31 [some (vR 0), some (vL a), none, some (vL b), none, some (vL (gq a b)), none, some (vL 0), none, x9, x10] [] (gM ct)) : ∀ (r : Nat) (u v : Int) (x9 x10 : Option aV), v.toNat ≤ r → 0 ≤ u → 0 ≤ v → gq u v = gq a b →
    AW (mq Q) md_X7_tellsBy d kc ks 6 [some (vR 0), some (vL a), none, some (vL b), none, some (vL u), none, some (vL v), none, x9, x10] [] (gM ct) := by
  intro r
  induction r with
  | zero =>
    intro u v x9 x10 h1 h2 h3 h4
    have e : v = 0 := by omega
    subst e
    rw [gq_0 h2] at h4
    refine aw_lload dX7_tellsBy_6 rfl ?_
    refine aw_lconst0 dX7_tellsBy_8 ?_
    refine aw_lcmpeq (tgt := 31) dX7_tellsBy_9 dX7_tellsBy_10 (by decide) (fun h9 => ?_) (fun h9 => ?_)
    · rw [h4]
      exact K _ _
    · exfalso; omega
  | succ r ih =>
    intro u v x9 x10 h1 h2 h3 h4
    by_cases e : v = 0
    · subst e
      rw [gq_0 h2] at h4
      refine aw_lload dX7_tellsBy_6 rfl ?_
      refine aw_lconst0 dX7_tellsBy_8 ?_
      refine aw_lcmpeq (tgt := 31) dX7_tellsBy_9 dX7_tellsBy_10 (by decide) (fun h9 => ?_) (fun h9 => ?_)
      · rw [h4]
        exact K _ _
      · exfalso; omega
    · have hm := Int.emod_lt_of_pos u (show 0 < v by omega)
      have hm0 := Int.emod_nonneg u e
      refine aw_lload dX7_tellsBy_6 rfl ?_
      refine aw_lconst0 dX7_tellsBy_8 ?_
      refine aw_lcmpeq (tgt := 31) dX7_tellsBy_9 dX7_tellsBy_10 (by decide) (fun h9 => ?_) (fun h9 => ?_)
      · exfalso; omega
      · refine aw_lload dX7_tellsBy_13 rfl ?_
        refine aw_lload dX7_tellsBy_15 rfl ?_
        refine aw_lremr dX7_tellsBy_17 (by omega) (by omega) ?_
        refine aw_lstore9 dX7_tellsBy_18 (by decide) rfl ?_
        refine aw_lload dX7_tellsBy_20 rfl ?_
        refine aw_lstore5 dX7_tellsBy_22 (by decide) rfl ?_
        refine aw_lload dX7_tellsBy_24 rfl ?_
        refine aw_lstore7 dX7_tellsBy_26 (by decide) rfl ?_
        refine aw_goto (tgt := 6) dX7_tellsBy_28 (by decide) ?_
        exact ih _ _ _ _ (by omega) (by omega) (by omega) (by rw [gq_step h2 (by omega)]; exact h4)
theorem C_x_fraction {own : Int → Int} {sz : Int} {im : Int → aIm} {ct ct0 : Int → Int → Int} {a b : Int} {Q : aPost} (hR : RT own sz im ct0) (ha : 0 ≤ a ∧ a < 4611686018427387904) (hb : 0 < b ∧ b < 4611686018427387904) (hQ : ∀ v, Q (.inl (some (vI v))) (sz, im, aup (aup ct 0 8 (a / gq a b)) 0 9 (b / gq a b))) : AMet md_X0_fraction 2 0 0 [vR 0, vL a, vL b] (sz, im, ct) Q := by
  refine AMet.go (L := [some (vR 0), some (vL a), none, some (vL b), none, none, none, none, none, none, none]) mok_X0_fraction (Nat.le_of_ble_eq_true rfl) rfl ?_
  have hg := gq_pos (u := a) hb.1
  refine aw_lload_n dX0_fraction_0 rfl ?_
  refine aw_mabsL dX0_fraction_1 q1199 q1200 q137 q1201 (Nat.le_of_ble_eq_true rfl) (by omega) (by omega) ?_
  refine aw_lstore5 dX0_fraction_4 (by decide) rfl ?_
  refine aw_lload_n dX0_fraction_6 rfl ?_
  refine aw_lstore7 dX0_fraction_7 (by decide) rfl ?_
  refine L_x_gcd (a := a) (b := b) hR (fun x9 x10 => ?_) b.toNat a b _ _ (by omega) (by omega) (by omega) rfl
  refine aw_aload_n dX0_fraction_34 rfl ?_
  refine aw_lload_n dX0_fraction_35 rfl ?_
  refine aw_lload dX0_fraction_36 rfl ?_
  refine aw_ldivr dX0_fraction_38 (by omega) (by omega) ?_
  refine p_X0_76_0 rfl dX0_fraction_39 hR.o0 ?_
  refine aw_aload_n dX0_fraction_42 rfl ?_
  refine aw_lload_n dX0_fraction_43 rfl ?_
  refine aw_lload dX0_fraction_44 rfl ?_
  refine aw_ldivr dX0_fraction_46 (by omega) (by omega) ?_
  refine p_X0_48_0 rfl dX0_fraction_47 hR.o0 ?_
  refine aw_lload_n dX0_fraction_50 rfl ?_
  refine c_X0_92 rfl dX0_fraction_51  (Nat.le_of_ble_eq_true rfl) (by omega) (C_j_signum (fun v => ?_))
  refine aK_i ?_
  refine aw_ireturn dX0_fraction_54 rfl ?_
  exact hQ _
theorem C_m_tellsBy {ct : Int → Int → Int} {a b : Int} {Q : aPost} (ha : 0 ≤ a ∧ a < 4611686018427387904) (hb : 0 < b ∧ b < 4611686018427387904) (hQ : Q (.inl (some (vI 1))) (gM (aup (aup (aup ct 0 3 (a / gq a b)) 0 4 (b / gq a b)) 0 2 0))) : AMet md_X7_tellsBy 2 0 0 [vR 0, vL a, vL b] (gM ct) Q := by
  refine AMet.go (L := [some (vR 0), some (vL a), none, some (vL b), none, none, none, none, none, none, none]) mok_X7_tellsBy (Nat.le_of_ble_eq_true rfl) rfl ?_
  have hg := gq_pos (u := a) hb.1
  refine aw_lload_n dX7_tellsBy_0 rfl ?_
  refine aw_lstore5 dX7_tellsBy_1 (by decide) rfl ?_
  refine aw_lload_n dX7_tellsBy_3 rfl ?_
  refine aw_lstore7 dX7_tellsBy_4 (by decide) rfl ?_
  refine L_m_gcd (a := a) (b := b) (fun x9 x10 => ?_) b.toNat a b _ _ (by omega) (by omega) (by omega) rfl
  refine aw_aload_n dX7_tellsBy_31 rfl ?_
  refine aw_lload_n dX7_tellsBy_32 rfl ?_
  refine aw_lload dX7_tellsBy_33 rfl ?_
  refine aw_ldivr dX7_tellsBy_35 (by omega) (by omega) ?_
  refine p_X7_69_7 rfl dX7_tellsBy_36 m_ob ?_
  refine aw_aload_n dX7_tellsBy_39 rfl ?_
  refine aw_lload_n dX7_tellsBy_40 rfl ?_
  refine aw_lload dX7_tellsBy_41 rfl ?_
  refine aw_ldivr dX7_tellsBy_43 (by omega) (by omega) ?_
  refine p_X7_17_7 rfl dX7_tellsBy_44 m_ob ?_
  refine aw_aload_n dX7_tellsBy_47 rfl ?_
  refine aw_iconst dX7_tellsBy_48 (by decide) ?_
  refine c_X7_79 rfl dX7_tellsBy_49 m_ob (Nat.le_of_ble_eq_true rfl) (by omega) (C_m_is (fun hz => ?_) (fun hz => ?_))
  · refine aK_i ?_
    refine aw_zreturn dX7_tellsBy_52 rfl (by omega) ?_
    exact hQ
  · exact absurd rfl hz
theorem L_x_strongest {own : Int → Int} {sz : Int} {im : Int → aIm} {ct : Int → Int → Int} {s N : Int → Int} {dd : Int} {Q : aPost} {d kc ks : Nat} (hd : 3 ≤ d) (hR : RT own sz im ct) (HY : YR own 0 sz im ct 10 s dd N) (HP : PI s) (K : ∀ x2 : Int, AW (mq Q) md_X0_strongest d kc ks 57 [some (vR 0), some (vI (strF s (s 0).toNat)), some (vI x2)] [] (sz, im, ct)) : ∀ (r k : Nat), (k : Int) + r = s 0 → AW (mq Q) md_X0_strongest d kc ks 4 [some (vR 0), some (vI (strF s k)), some (vI k)] [] (sz, im, ct) := by
  have b0 := HP.1
  intro r
  induction r with
  | zero =>
    intro k h1
    have ek : (s 0).toNat = k := by omega
    rw [ek] at K
    refine aw_iload_n dX0_strongest_4 rfl ?_
    refine aw_aload_n dX0_strongest_5 rfl ?_
    refine c_X0_158 rfl dX0_strongest_6 hR.o0 (Nat.le_of_ble_eq_true rfl) (by omega) (C_x_yard2 hR ?_)
    refine aK_i ?_
    refine g_X0_161_5 rfl dX0_strongest_9 HY.1 ?_
    rw [HY.2.2.2.2.2.1.1]
    refine aw_icmpge (tgt := 57) dX0_strongest_12 (by decide) (fun h12 => ?_) (fun h12 => ?_)
    · exact K _
    · exfalso; omega
  | succ r ih =>
    intro k h1
    have hbd := strF_bd (s := s) (k := k)
    obtain ⟨va, eva, ⟨u1, u2, ⟨u3, u4, u5, u6, u7⟩, -⟩, -⟩ := HY.hv hR (k := k) (by omega) (by omega)
    have hbk := HP.2.2.1 k (by omega) (by omega)
    obtain ⟨qk1, qk2, qk3, qk4, qk5, qk6, qk7⟩ := hbk
    have ih := ih (k + 1) (by omega)
    have es : strF s (k + 1) = if s (64 + 198 * k + 3) ≠ -1 ∧ (strF s k = -1 ∨ s (64 + 198 * strF s k + 1) < s (64 + 198 * k + 1)) then (k : Int) else strF s k := rfl
    by_cases hb : strF s k = -1
    · have ut : True := trivial
      refine aw_iload_n dX0_strongest_4 rfl ?_
      refine aw_aload_n dX0_strongest_5 rfl ?_
      refine c_X0_158 rfl dX0_strongest_6 hR.o0 (Nat.le_of_ble_eq_true rfl) (by omega) (C_x_yard2 hR ?_)
      refine aK_i ?_
      refine g_X0_161_5 rfl dX0_strongest_9 HY.1 ?_
      rw [HY.2.2.2.2.2.1.1]
      refine aw_icmpge (tgt := 57) dX0_strongest_12 (by decide) (fun h12 => ?_) (fun h12 => ?_)
      · exfalso; omega
      · first
          | (exfalso; omega)
          | skip
            refine aw_aload_n dX0_strongest_15 rfl ?_
            refine aw_iload_n dX0_strongest_16 rfl ?_
            refine c_X0_172 rfl dX0_strongest_17 hR.o0 (Nat.le_of_ble_eq_true rfl) (by omega) (C_x_xat2 (a := va) hR HY (by omega) eva ?_)
            refine aK_i ?_
            refine g_X0_280_9 rfl dX0_strongest_20 u1.1 ?_
            rw [u5]
            refine aw_iflt (tgt := 51) dX0_strongest_23 (by decide) (fun h23 => ?_) (fun h23 => ?_)
            · first
                | (exfalso; omega)
                | skip
                  refine aw_iinc2r dX0_strongest_51 (by decide) (by decide) rfl (by omega) ?_
                  refine aw_goto (tgt := 4) dX0_strongest_54 (by decide) ?_
                  first
                    | (rw [es, if_pos (by first | omega | (refine ⟨by omega, Or.inl hb⟩))] at ih; exact ih)
                    | (rw [es, if_neg (by omega)] at ih; exact ih)
            · first
                | (exfalso; omega)
                | skip
                  refine aw_iload_n dX0_strongest_26 rfl ?_
                  refine aw_iflt (tgt := 49) dX0_strongest_27 (by decide) (fun h27 => ?_) (fun h27 => ?_)
                  · first
                      | (exfalso; omega)
                      | skip
                        refine aw_iload_n dX0_strongest_49 rfl ?_
                        refine aw_istore1 dX0_strongest_50 (by decide) rfl ?_
                        refine aw_iinc2r dX0_strongest_51 (by decide) (by decide) rfl (by omega) ?_
                        refine aw_goto (tgt := 4) dX0_strongest_54 (by decide) ?_
                        first
                          | (rw [es, if_pos (by first | omega | (refine ⟨by omega, Or.inl hb⟩))] at ih; exact ih)
                          | (rw [es, if_neg (by omega)] at ih; exact ih)
                  · first
                      | (exfalso; omega)
                      | skip
                        skip
                        refine aw_aload_n dX0_strongest_30 rfl ?_
                        refine aw_iload_n dX0_strongest_31 rfl ?_
                        refine c_X0_172 rfl dX0_strongest_32 hR.o0 (Nat.le_of_ble_eq_true rfl) (by omega) (C_x_xat2 (a := va) hR HY (by omega) eva ?_)
                        refine aK_i ?_
                        refine g_X0_264_9 rfl dX0_strongest_35 u1.1 ?_
                        first | rw [u3] | rw [w3]
                        refine aw_aload_n dX0_strongest_38 rfl ?_
                        refine aw_iload_n dX0_strongest_39 rfl ?_
                        refine c_X0_172 rfl dX0_strongest_40 hR.o0 (Nat.le_of_ble_eq_true rfl) (by omega) (C_x_xat2 (a := vb) hR HY (by omega) evb ?_)
                        refine aK_i ?_
                        refine g_X0_264_9 rfl dX0_strongest_43 u1.1 ?_
                        first | rw [u3] | rw [w3]
                        refine aw_icmple (tgt := 51) dX0_strongest_46 (by decide) (fun h46 => ?_) (fun h46 => ?_)
                        · first
                            | (exfalso; omega)
                            | skip
                              refine aw_iinc2r dX0_strongest_51 (by decide) (by decide) rfl (by omega) ?_
                              refine aw_goto (tgt := 4) dX0_strongest_54 (by decide) ?_
                              first
                                | (rw [es, if_pos (by first | omega | (refine ⟨by omega, Or.inl hb⟩))] at ih; exact ih)
                                | (rw [es, if_neg (by omega)] at ih; exact ih)
                        · first
                            | (exfalso; omega)
                            | skip
                              refine aw_iload_n dX0_strongest_49 rfl ?_
                              refine aw_istore1 dX0_strongest_50 (by decide) rfl ?_
                              refine aw_iinc2r dX0_strongest_51 (by decide) (by decide) rfl (by omega) ?_
                              refine aw_goto (tgt := 4) dX0_strongest_54 (by decide) ?_
                              first
                                | (rw [es, if_pos (by first | omega | (refine ⟨by omega, Or.inl hb⟩))] at ih; exact ih)
                                | (rw [es, if_neg (by omega)] at ih; exact ih)
    · obtain ⟨vb, evb, ⟨w1, w2, ⟨w3, w4, w5, w6, w7⟩, -⟩, -⟩ := HY.hv hR (k := strF s k) (by omega) (by omega)
      refine aw_iload_n dX0_strongest_4 rfl ?_
      refine aw_aload_n dX0_strongest_5 rfl ?_
      refine c_X0_158 rfl dX0_strongest_6 hR.o0 (Nat.le_of_ble_eq_true rfl) (by omega) (C_x_yard2 hR ?_)
      refine aK_i ?_
      refine g_X0_161_5 rfl dX0_strongest_9 HY.1 ?_
      rw [HY.2.2.2.2.2.1.1]
      refine aw_icmpge (tgt := 57) dX0_strongest_12 (by decide) (fun h12 => ?_) (fun h12 => ?_)
      · exfalso; omega
      · first
          | (exfalso; omega)
          | skip
            refine aw_aload_n dX0_strongest_15 rfl ?_
            refine aw_iload_n dX0_strongest_16 rfl ?_
            refine c_X0_172 rfl dX0_strongest_17 hR.o0 (Nat.le_of_ble_eq_true rfl) (by omega) (C_x_xat2 (a := va) hR HY (by omega) eva ?_)
            refine aK_i ?_
            refine g_X0_280_9 rfl dX0_strongest_20 u1.1 ?_
            rw [u5]
            refine aw_iflt (tgt := 51) dX0_strongest_23 (by decide) (fun h23 => ?_) (fun h23 => ?_)
            · first
                | (exfalso; omega)
                | skip
                  refine aw_iinc2r dX0_strongest_51 (by decide) (by decide) rfl (by omega) ?_
                  refine aw_goto (tgt := 4) dX0_strongest_54 (by decide) ?_
                  first
                    | (rw [es, if_pos (by omega)] at ih; exact ih)
                    | (rw [es, if_neg (by omega)] at ih; exact ih)
            · first
                | (exfalso; omega)
                | skip
                  refine aw_iload_n dX0_strongest_26 rfl ?_
                  refine aw_iflt (tgt := 49) dX0_strongest_27 (by decide) (fun h27 => ?_) (fun h27 => ?_)
                  · first
                      | (exfalso; omega)
                      | skip
                        refine aw_iload_n dX0_strongest_49 rfl ?_
                        refine aw_istore1 dX0_strongest_50 (by decide) rfl ?_
                        refine aw_iinc2r dX0_strongest_51 (by decide) (by decide) rfl (by omega) ?_
                        refine aw_goto (tgt := 4) dX0_strongest_54 (by decide) ?_
                        first
                          | (rw [es, if_pos (by omega)] at ih; exact ih)
                          | (rw [es, if_neg (by omega)] at ih; exact ih)
                  · first
                      | (exfalso; omega)
                      | skip
                        skip
                        refine aw_aload_n dX0_strongest_30 rfl ?_
                        refine aw_iload_n dX0_strongest_31 rfl ?_
                        refine c_X0_172 rfl dX0_strongest_32 hR.o0 (Nat.le_of_ble_eq_true rfl) (by omega) (C_x_xat2 (a := va) hR HY (by omega) eva ?_)
                        refine aK_i ?_
                        refine g_X0_264_9 rfl dX0_strongest_35 u1.1 ?_
                        first | rw [u3] | rw [w3]
                        refine aw_aload_n dX0_strongest_38 rfl ?_
                        refine aw_iload_n dX0_strongest_39 rfl ?_
                        refine c_X0_172 rfl dX0_strongest_40 hR.o0 (Nat.le_of_ble_eq_true rfl) (by omega) (C_x_xat2 (a := vb) hR HY (by omega) evb ?_)
                        refine aK_i ?_
                        refine g_X0_264_9 rfl dX0_strongest_43 w1.1 ?_
                        first | rw [u3] | rw [w3]
                        refine aw_icmple (tgt := 51) dX0_strongest_46 (by decide) (fun h46 => ?_) (fun h46 => ?_)
                        · first
                            | (exfalso; omega)
                            | skip
                              refine aw_iinc2r dX0_strongest_51 (by decide) (by decide) rfl (by omega) ?_
                              refine aw_goto (tgt := 4) dX0_strongest_54 (by decide) ?_
                              first
                                | (rw [es, if_pos (by omega)] at ih; exact ih)
                                | (rw [es, if_neg (by omega)] at ih; exact ih)
                        · first
                            | (exfalso; omega)
                            | skip
                              refine aw_iload_n dX0_strongest_49 rfl ?_
                              refine aw_istore1 dX0_strongest_50 (by decide) rfl ?_
                              refine aw_iinc2r dX0_strongest_51 (by decide) (by decide) rfl (by omega) ?_
                              refine aw_goto (tgt := 4) dX0_strongest_54 (by decide) ?_
                              first
                                | (rw [es, if_pos (by omega)] at ih; exact ih)
                                | (rw [es, if_neg (by omega)] at ih; exact ih)
theorem L_m_strongest {ct : Int → Int → Int} {Q : aPost} {d kc ks : Nat}  (hd : 2 ≤ d) (HP : PI (ct 1)) (K : ∀ x2 : Int, AW (mq Q) md_X7_strongest d kc ks 67 [some (vR 0), some (vI (strF (ct 1) (ct 1 0).toNat)), some (vI x2)] [] (gM ct)) : ∀ (r k : Nat) , (k : Int) + r = ct 1 0 → AW (mq Q) md_X7_strongest d kc ks 4 [some (vR 0), some (vI (strF (ct 1) k)), some (vI k)] [] (gM ct) := by
  have b0 := HP.1
  intro r
  induction r with
  | zero =>
    intro k  h1
    have ek : (ct 1 0).toNat = k := by omega
    rw [ek] at K
    refine aw_iload_n dX7_strongest_4 rfl ?_
    refine gm_7 rfl dX7_strongest_5 dX7_strongest_6 rfl ?_
    refine aw_iconst dX7_strongest_9 (by decide) ?_
    refine aw_iaload dX7_strongest_10 m_a1 (by omega) (by omega) ?_
    refine aw_icmpge (tgt := 67) dX7_strongest_11 (by decide) (fun h11 => ?_) (fun h11 => ?_)
    · exact K _
    · exfalso; omega
  | succ r ih =>
    intro k  h1
    have hbd := strF_bd (s := ct 1) (k := k)
    have hbk := HP.2.2.1 k (by omega) (by omega)
    obtain ⟨qk1, qk2, qk3, qk4, qk5, qk6, qk7⟩ := hbk
    have ih := fun (_ : True) => ih (k + 1)  (by omega)
    have es : strF (ct 1) (k + 1) = if ct 1 (64 + 198 * k + 3) ≠ -1 ∧ (strF (ct 1) k = -1 ∨ ct 1 (64 + 198 * strF (ct 1) k + 1) < ct 1 (64 + 198 * k + 1)) then (k : Int) else strF (ct 1) k := rfl
    refine aw_iload_n dX7_strongest_4 rfl ?_
    refine gm_7 rfl dX7_strongest_5 dX7_strongest_6 rfl ?_
    refine aw_iconst dX7_strongest_9 (by decide) ?_
    refine aw_iaload dX7_strongest_10 m_a1 (by omega) (by omega) ?_
    refine aw_icmpge (tgt := 67) dX7_strongest_11 (by decide) (fun h11 => ?_) (fun h11 => ?_)
    · exfalso; omega
    · refine gm_7 rfl dX7_strongest_14 dX7_strongest_15 rfl ?_
      refine aw_iload_n dX7_strongest_18 rfl ?_
      refine c_X7_217 rfl dX7_strongest_19  (Nat.le_of_ble_eq_true rfl) (by omega) (C_m_hiveRow (by omega) ?_)
      refine aK_i ?_
      refine aw_iconst dX7_strongest_22 (by decide) ?_
      refine aw_iaddr dX7_strongest_23 (by omega) ?_
      refine aw_iaload dX7_strongest_24 m_a1 (by omega) (by omega) ?_
      refine aw_iconst dX7_strongest_25 (by decide) ?_
      refine aw_icmpeq (tgt := 61) dX7_strongest_26 (by decide) (fun h26 => ?_) (fun h26 => ?_)
      · refine aw_iinc2r dX7_strongest_61 (by decide) (by decide) rfl (by omega) ?_
        refine aw_goto (tgt := 4) dX7_strongest_64 (by decide) ?_
        first
          | (rw [es, if_pos (by omega)] at ih; exact ih trivial)
          | (rw [es, if_neg (by omega)] at ih; exact ih trivial)
      · refine aw_iload_n dX7_strongest_29 rfl ?_
        refine aw_iconst dX7_strongest_30 (by decide) ?_
        refine aw_icmpeq (tgt := 59) dX7_strongest_31 (by decide) (fun h31 => ?_) (fun h31 => ?_)
        · refine aw_iload_n dX7_strongest_59 rfl ?_
          refine aw_istore1 dX7_strongest_60 (by decide) rfl ?_
          refine aw_iinc2r dX7_strongest_61 (by decide) (by decide) rfl (by omega) ?_
          refine aw_goto (tgt := 4) dX7_strongest_64 (by decide) ?_
          first
            | (rw [es, if_pos (by omega)] at ih; exact ih trivial)
            | (rw [es, if_neg (by omega)] at ih; exact ih trivial)
        · refine gm_7 rfl dX7_strongest_34 dX7_strongest_35 rfl ?_
          refine aw_iload_n dX7_strongest_38 rfl ?_
          refine c_X7_217 rfl dX7_strongest_39  (Nat.le_of_ble_eq_true rfl) (by omega) (C_m_hiveRow (by omega) ?_)
          refine aK_i ?_
          refine aw_iconst dX7_strongest_42 (by decide) ?_
          refine aw_iaddr dX7_strongest_43 (by omega) ?_
          refine aw_iaload dX7_strongest_44 m_a1 (by omega) (by omega) ?_
          refine gm_7 rfl dX7_strongest_45 dX7_strongest_46 rfl ?_
          refine aw_iload_n dX7_strongest_49 rfl ?_
          refine c_X7_217 rfl dX7_strongest_50  (Nat.le_of_ble_eq_true rfl) (by omega) (C_m_hiveRow (by omega) ?_)
          refine aK_i ?_
          refine aw_iconst dX7_strongest_53 (by decide) ?_
          refine aw_iaddr dX7_strongest_54 (by omega) ?_
          refine aw_iaload dX7_strongest_55 m_a1 (by omega) (by omega) ?_
          refine aw_icmple (tgt := 61) dX7_strongest_56 (by decide) (fun h56 => ?_) (fun h56 => ?_)
          · refine aw_iinc2r dX7_strongest_61 (by decide) (by decide) rfl (by omega) ?_
            refine aw_goto (tgt := 4) dX7_strongest_64 (by decide) ?_
            first
              | (rw [es, if_pos (by omega)] at ih; exact ih trivial)
              | (rw [es, if_neg (by omega)] at ih; exact ih trivial)
          · refine aw_iload_n dX7_strongest_59 rfl ?_
            refine aw_istore1 dX7_strongest_60 (by decide) rfl ?_
            refine aw_iinc2r dX7_strongest_61 (by decide) (by decide) rfl (by omega) ?_
            refine aw_goto (tgt := 4) dX7_strongest_64 (by decide) ?_
            first
              | (rw [es, if_pos (by omega)] at ih; exact ih trivial)
              | (rw [es, if_neg (by omega)] at ih; exact ih trivial)
