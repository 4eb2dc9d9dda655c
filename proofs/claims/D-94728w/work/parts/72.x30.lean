set_option maxRecDepth 100000
/-! operations, 22: what the root alone holds: feed -/
theorem MRK.root {own : Int → Int} {sz : Int} {im : Int → aIm} {ct ct' cm cm' : Int → Int → Int} {j : Int} (j0 : 0 ≤ j) (h : MRK own sz im ct cm j) (hx : ∀ x i, -1 ≤ own x → ct' x i = ct x i) (g19 : ∀ i, ct' 19 i = ct 19 i) (e1 : cm' 1 = cm 1) (e2 : cm' 2 = cm 2) (e35 : cm' 0 35 = cm 0 35) : MRK own sz im ct' cm' j := by
  have e3 : slt cm' (j + 1) = slt cm (j + 1) := slt_eq fun i i0 i1 => by rw [e1]
  have e4 : nms cm' (j + 1) = nms cm (j + 1) := nms_eq fun i i0 i1 => by rw [e2]
  unfold MRK
  rw [g19, e35, e3, e4]
  rcases h with h | ⟨h1, h2, ⟨s, dd, N, h3⟩, h4⟩
  · exact Or.inl h
  · have e5 : ct' (ct 19 j) 1 = ct (ct 19 j) 1 := hx _ _ (by omega)
    have hy : ∀ x i, 10 * (j + 1) ≤ own x → own x < 10 * (j + 1) + 10 → ct' x i = ct x i := fun x i a b => hx x i (by omega)
    have hl : ∀ x i, own x = -1 → ct' x i = ct x i := fun x i a => hx x i (by omega)
    refine Or.inr ⟨h1, h2, ⟨s, dd, N, h3.frame hy⟩, fun hj => ?_⟩
    obtain ⟨g1, N2, g2, g3, g4, g5⟩ := h4 hj
    have e6 : ct' ((im (ct 19 j)).2.2 0) 0 = ct ((im (ct 19 j)).2.2 0) 0 := hx _ _ (by have := g2.2.1; omega)
    exact ⟨g1, N2, g2.frame hy, by rw [e6]; exact g3.frame hl, g4, by rw [e5]; exact g5.frame hl⟩
theorem XR.root {own N : Int → Int} {sz : Int} {im : Int → aIm} {ct ct' cm cm' : Int → Int → Int} (hR : RT own sz im ct) (HY : YR own 0 sz im ct 10 (cm 1) (cm 1 3) N) (HL : LR own sz im ct (ct 10 0) (cm 1) N) (HN : NRl N (cm 2) (cm 1)) (HS : SE own sz im ct (cm 1) (ct 9 1)) (HP : PI (cm 1)) (HX : XO own sz im ct cm) (hF' : Fok cm')
    (hx : ∀ x j, -1 ≤ own x → ct' x j = ct x j) (g1 : ∀ t, 0 ≤ t → t < 4 → ct' 1 t = ct 1 t) (g19 : ∀ j, ct' 19 j = ct 19 j) (g9 : ct' 9 1 = ct 9 1) (e1 : cm' 1 = cm 1) (e2 : cm' 2 = cm 2) (e35 : cm' 0 35 = cm 0 35) (t1 : ∀ t, 0 ≤ t → t < 4 → TRY own sz im ct' cm' t) (c12 : ct' 0 12 = cm' 0 35)
    (cs : ct' 0 2 = cm' 0 10 ∧ (0 ≤ cm' 0 10 ∧ cm' 0 10 ≤ 900) ∧ ct' 0 3 = cm' 0 16 ∧ ct' 0 4 = cm' 0 17 ∧ ct' 0 15 = cm' 0 34 ∧ (cm' 0 34 = 0 ∨ cm' 0 34 = 1)) (ctp : ∀ j, 0 ≤ j → j < 900 → ct' 6 j = cm' 6 j ∧ -128 ≤ cm' 6 j ∧ cm' 6 j < 128) (c29 : ∀ j, 0 ≤ j → j < 3 → ct' 29 j = cm' 13 j) (h2 : ct' 0 7 = cm' 0 2) (h3 : ct' 0 8 = cm' 0 3) (h4 : ct' 0 9 = cm' 0 4) : XR (sz, im, ct') cm' := by
  have hl : ∀ x i, own x = -1 → ct' x i = ct x i := fun x i a => hx x i (by omega)
  have o10 : ct' 10 0 = ct 10 0 := hx 10 0 (by have := HY.2.1; omega)
  obtain ⟨k1, ⟨k2, k3, k4⟩, ⟨s, dd, N4, k5⟩, -⟩ := HX
  refine ⟨own, N, hR.frame g1, ?_, ?_, ?_, ?_, by rw [e1]; exact HP, hF', ⟨t1, ⟨by rw [e35]; exact k2, c12, fun j j0 j1 => (k4 j j0 j1).root j0 hx g19 e1 e2 e35⟩, ⟨s, dd, N4, k5.frame fun x i a b => hx x i (by omega)⟩, cs, ctp, c29⟩, h2, h3, h4⟩
  · rw [e1]; exact HY.frame fun x i a b => hx x i (by omega)
  · show LR own sz im ct' (ct' 10 0) (cm' 1) N
    rw [o10, e1]; exact HL.frame hl
  · rw [e1, e2]; exact HN
  · show SE own sz im ct' (cm' 1) (ct' 9 1)
    rw [g9, e1]; exact HS.frame hl
/-- a byte of a number -/
def by4 (v i : Int) : Int := w8 (ishr32 v (24 - 8 * i))
theorem by4_bd {v i : Int} : -128 ≤ by4 v i ∧ by4 v i < 128 := by
  unfold by4 w8
  have h1 := @Int.le_bmod (ishr32 v (24 - 8 * i)) 256 (by decide)
  have h2 := @Int.bmod_lt (ishr32 v (24 - 8 * i)) 256 (by decide)
  omega
theorem L_x_lay4 {own : Int → Int} {sz : Int} {im : Int → aIm} {ct ct0 : Int → Int → Int} {v p : Int} {Q : aPost} {d kc ks : Nat} (hR : RT own sz im ct0) (hp : 0 ≤ p ∧ p + 4 ≤ 900) (hQ : ∀ ct2 : Int → Int → Int, ct2 0 2 = p + 4 → (∀ i : Int, ct2 6 i = if p ≤ i ∧ i < p + 4 then by4 v (i - p) else ct 6 i) → (∀ x i, x ≠ 6 → ¬ (x = 0 ∧ i = 2) → ct2 x i = ct x i) → Q (.inl none) (sz, im, ct2)) : ∀ (r j : Nat) (q : Int) (ct1 : Int → Int → Int), j + r = 4 → q = 24 - 8 * j → ct1 0 2 = p + j → (∀ i : Int, ct1 6 i = if p ≤ i ∧ i < p + j then by4 v (i - p) else ct 6 i) → (∀ x i, x ≠ 6 → ¬ (x = 0 ∧ i = 2) → ct1 x i = ct x i) → AW (mq Q) md_X0_lay d kc ks 3 [some (vR 0), some (vI v), some (vI q)] [] (sz, im, ct1) := by
  intro r
  induction r with
  | zero =>
    intro j q ct1 h1 hq e1 e2 e3
    have ej : j = 4 := by omega
    subst ej
    refine aw_iload_n dX0_lay_3 rfl ?_
    refine aw_iflt (tgt := 36) dX0_lay_4 (by decide) (fun h4 => ?_) (fun h4 => ?_)
    · refine aw_ret dX0_lay_36 rfl ?_
      exact hQ ct1 e1 e2 e3
    · exfalso; omega
  | succ r ih =>
    intro j q ct1 h1 hq e1 e2 e3
    refine aw_iload_n dX0_lay_3 rfl ?_
    refine aw_iflt (tgt := 36) dX0_lay_4 (by decide) (fun h4 => ?_) (fun h4 => ?_)
    · exfalso; omega
    · refine aw_aload_n dX0_lay_7 rfl ?_
      refine g_X0_24_0 rfl dX0_lay_8 hR.o0 ?_
      rw [hR.e6]
      refine aw_aload_n dX0_lay_11 rfl ?_
      refine g_X0_190_0 rfl dX0_lay_12 hR.o0 ?_
      rw [e1]
      refine aw_iload_n dX0_lay_15 rfl ?_
      refine aw_iload_n dX0_lay_16 rfl ?_
      refine aw_ishr dX0_lay_17 ?_
      refine aw_i2b dX0_lay_18 ?_
      refine aw_bastore dX0_lay_19 hR.a6 (by omega) (by omega) ?_
      refine aw_aload_n dX0_lay_20 rfl ?_
      refine aw_dup dX0_lay_21 rfl ?_
      refine g_X0_190_0 rfl dX0_lay_22 hR.o0 ?_
      rw [aup_rn (by decide), e1]
      refine aw_iconst dX0_lay_25 (by decide) ?_
      refine aw_iaddr dX0_lay_26 (by omega) ?_
      refine p_X0_190_0 rfl dX0_lay_27 hR.o0 ?_
      refine aw_iinc2r dX0_lay_30 (by decide) (by decide) rfl (by omega) ?_
      refine aw_goto (tgt := 3) dX0_lay_33 (by decide) ?_
      refine ih (j + 1) _ _ (by omega) (by omega) (by rw [aup_s]; omega) (fun i => ?_) (fun x i x6 x0 => ?_)
      · rw [aup_rn (by decide)]
        by_cases z : i = p + j
        · subst z
          rw [aup_s, if_pos (by omega), hq, show p + (j : Int) - p = j by omega]
          exact w8_id (x := by4 v j) by4_bd.1 by4_bd.2
        · rw [aup_n (fun y => z y.2), e2]
          by_cases y : p ≤ i ∧ i < p + j
          · rw [if_pos y, if_pos (by omega)]
          · rw [if_neg y, if_neg (by omega)]
      · rw [aup_n x0, aup_rn x6]
        exact e3 x i x6 x0
theorem C_x_lay4 {own : Int → Int} {sz : Int} {im : Int → aIm} {ct ct0 : Int → Int → Int} {v p : Int} {Q : aPost} (hR : RT own sz im ct0) (e0 : ct 0 2 = p) (hp : 0 ≤ p ∧ p + 4 ≤ 900) (hQ : ∀ ct2 : Int → Int → Int, ct2 0 2 = p + 4 → (∀ i : Int, ct2 6 i = if p ≤ i ∧ i < p + 4 then by4 v (i - p) else ct 6 i) → (∀ x i, x ≠ 6 → ¬ (x = 0 ∧ i = 2) → ct2 x i = ct x i) → Q (.inl none) (sz, im, ct2)) : AMet md_X0_lay 2 0 0 [vR 0, vI v] (sz, im, ct) Q := by
  refine AMet.go (L := [some (vR 0), some (vI v), none]) mok_X0_lay (Nat.le_of_ble_eq_true rfl) rfl ?_
  refine aw_bipush dX0_lay_0 (by decide) ?_
  refine aw_istore2 dX0_lay_2 (by decide) rfl ?_
  exact L_x_lay4 hR hp hQ 4 0 _ ct (by omega) (by omega) (by omega) (fun i => by rw [if_neg (by omega)]) (fun _ _ _ _ => rfl)
theorem L_m_lay4 {ct : Int → Int → Int} {v p : Int} {Q : aPost} {d kc ks : Nat} (hp : 0 ≤ p ∧ p + 4 ≤ 900) (hQ : ∀ ct2 : Int → Int → Int, ct2 0 10 = p + 4 → (∀ i : Int, ct2 6 i = if p ≤ i ∧ i < p + 4 then by4 v (i - p) else ct 6 i) → (∀ x i, x ≠ 6 → ¬ (x = 0 ∧ i = 10) → ct2 x i = ct x i) → Q (.inl none) (gM ct2)) : ∀ (r j : Nat) (q : Int) (ct1 : Int → Int → Int), j + r = 4 → q = 24 - 8 * j → ct1 0 10 = p + j → (∀ i : Int, ct1 6 i = if p ≤ i ∧ i < p + j then by4 v (i - p) else ct 6 i) → (∀ x i, x ≠ 6 → ¬ (x = 0 ∧ i = 10) → ct1 x i = ct x i) → AW (mq Q) md_X7_four d kc ks 3 [some (vR 0), some (vI v), some (vI q)] [] (gM ct1) := by
  intro r
  induction r with
  | zero =>
    intro j q ct1 h1 hq e1 e2 e3
    have ej : j = 4 := by omega
    subst ej
    refine aw_iload_n dX7_four_3 rfl ?_
    refine aw_iflt (tgt := 36) dX7_four_4 (by decide) (fun h4 => ?_) (fun h4 => ?_)
    · refine aw_ret dX7_four_36 rfl ?_
      exact hQ ct1 e1 e2 e3
    · exfalso; omega
  | succ r ih =>
    intro j q ct1 h1 hq e1 e2 e3
    refine aw_iload_n dX7_four_3 rfl ?_
    refine aw_iflt (tgt := 36) dX7_four_4 (by decide) (fun h4 => ?_) (fun h4 => ?_)
    · exfalso; omega
    · refine gm_30 rfl dX7_four_7 dX7_four_8 rfl ?_
      refine gm_96 rfl dX7_four_11 dX7_four_12 rfl ?_
      rw [e1]
      refine aw_iload_n dX7_four_15 rfl ?_
      refine aw_iload_n dX7_four_16 rfl ?_
      refine aw_ishr dX7_four_17 ?_
      refine aw_i2b dX7_four_18 ?_
      refine aw_bastore dX7_four_19 m_a6 (by omega) (by omega) ?_
      refine aw_aload_n dX7_four_20 rfl ?_
      refine aw_dup dX7_four_21 rfl ?_
      refine g_X7_96_7 rfl dX7_four_22 m_ob ?_
      rw [aup_rn (by decide), e1]
      refine aw_iconst dX7_four_25 (by decide) ?_
      refine aw_iaddr dX7_four_26 (by omega) ?_
      refine p_X7_96_7 rfl dX7_four_27 m_ob ?_
      refine aw_iinc2r dX7_four_30 (by decide) (by decide) rfl (by omega) ?_
      refine aw_goto (tgt := 3) dX7_four_33 (by decide) ?_
      refine ih (j + 1) _ _ (by omega) (by omega) (by rw [aup_s]; omega) (fun i => ?_) (fun x i x6 x0 => ?_)
      · rw [aup_rn (by decide)]
        by_cases z : i = p + j
        · subst z
          rw [aup_s, if_pos (by omega), hq, show p + (j : Int) - p = j by omega]
          exact w8_id (x := by4 v j) by4_bd.1 by4_bd.2
        · rw [aup_n (fun y => z y.2), e2]
          by_cases y : p ≤ i ∧ i < p + j
          · rw [if_pos y, if_pos (by omega)]
          · rw [if_neg y, if_neg (by omega)]
      · rw [aup_n x0, aup_rn x6]
        exact e3 x i x6 x0
theorem C_m_lay4 {ct : Int → Int → Int} {v p : Int} {Q : aPost} (e0 : ct 0 10 = p) (hp : 0 ≤ p ∧ p + 4 ≤ 900) (hQ : ∀ ct2 : Int → Int → Int, ct2 0 10 = p + 4 → (∀ i : Int, ct2 6 i = if p ≤ i ∧ i < p + 4 then by4 v (i - p) else ct 6 i) → (∀ x i, x ≠ 6 → ¬ (x = 0 ∧ i = 10) → ct2 x i = ct x i) → Q (.inl none) (gM ct2)) : AMet md_X7_four 2 0 0 [vR 0, vI v] (gM ct) Q := by
  refine AMet.go (L := [some (vR 0), some (vI v), none]) mok_X7_four (Nat.le_of_ble_eq_true rfl) rfl ?_
  refine aw_bipush dX7_four_0 (by decide) ?_
  refine aw_istore2 dX7_four_2 (by decide) rfl ?_
  exact L_m_lay4  hp hQ 4 0 _ ct (by omega) (by omega) (by omega) (fun i => by rw [if_neg (by omega)]) (fun _ _ _ _ => rfl)
theorem OP_feed {sz : Int} {im : Int → aIm} {ct cm : Int → Int → Int} (h : XR (sz, im, ct) cm) {a b c e f : Int} (r0 : -2147483648 ≤ a ∧ a < 2147483648) (r1 : -2147483648 ≤ b ∧ b < 2147483648) (r2 : -2147483648 ≤ c ∧ c < 2147483648) (r3 : -2147483648 ≤ e ∧ e < 2147483648) (r4 : -2147483648 ≤ f ∧ f < 2147483648)  : AMet md_X0_feed 3 0 0 [vR 0, vI a, vI b, vI c, vI e, vI f] (sz, im, ct) (XQ md_X7_feed 3 [vR 0, vI a, vI b, vI c, vI e, vI f] cm) := by
  obtain ⟨own, N, hR, HY, HL, HN, HS, HP, HF, HX, hv2, hv3, hv4⟩ := id h
  dsimp only at hR HY HL HS HX hv2 hv3 hv4
  have hp0 := HP.1
  have hp3 := HP.2.1
  have hpq := HP.2.2.2.1.1
  have hps := HP.2.2.2.2.2
  have k6 := HX.2.2.2.1.1
  have k7 := HX.2.2.2.1.2.1
  refine AMet.go (L := [some (vR 0), some (vI a), some (vI b), some (vI c), some (vI e), some (vI f)]) mok_X0_feed (Nat.le_of_ble_eq_true rfl) rfl ?_
  refine aw_aload_n dX0_feed_0 rfl ?_
  refine g_X0_190_0 rfl dX0_feed_1 hR.o0 ?_
  try rw [k6]
  refine aw_bipush dX0_feed_4 (by decide) ?_
  refine aw_iaddr dX0_feed_6 (by omega) ?_
  refine aw_sipush dX0_feed_7 (by decide) ?_
  refine aw_icmple (tgt := 15) dX0_feed_10 (by decide) (fun h10 => ?_) (fun h10 => ?_)
  · refine aw_aload_n dX0_feed_15 rfl ?_
    refine aw_iload_n dX0_feed_16 rfl ?_
    refine c_X0_193 rfl dX0_feed_17 hR.o0 (Nat.le_of_ble_eq_true rfl) (by omega) (C_x_lay4 (p := cm 0 10 + 0) hR (by rw [k6]; omega) (by omega) (fun cx0 xa0 xb0 xc0 => ?_))
    refine aK_v ?_
    refine aw_aload_n dX0_feed_20 rfl ?_
    refine aw_iload_n dX0_feed_21 rfl ?_
    refine c_X0_193 rfl dX0_feed_22 hR.o0 (Nat.le_of_ble_eq_true rfl) (by omega) (C_x_lay4 (p := cm 0 10 + 4) hR (by rw [xa0]; omega) (by omega) (fun cx1 xa1 xb1 xc1 => ?_))
    refine aK_v ?_
    refine aw_aload_n dX0_feed_25 rfl ?_
    refine aw_iload_n dX0_feed_26 rfl ?_
    refine c_X0_193 rfl dX0_feed_27 hR.o0 (Nat.le_of_ble_eq_true rfl) (by omega) (C_x_lay4 (p := cm 0 10 + 8) hR (by rw [xa1]; omega) (by omega) (fun cx2 xa2 xb2 xc2 => ?_))
    refine aK_v ?_
    refine aw_aload_n dX0_feed_30 rfl ?_
    refine aw_iload dX0_feed_31 rfl ?_
    refine c_X0_193 rfl dX0_feed_33 hR.o0 (Nat.le_of_ble_eq_true rfl) (by omega) (C_x_lay4 (p := cm 0 10 + 12) hR (by rw [xa2]; omega) (by omega) (fun cx3 xa3 xb3 xc3 => ?_))
    refine aK_v ?_
    refine aw_aload_n dX0_feed_36 rfl ?_
    refine aw_iload dX0_feed_37 rfl ?_
    refine c_X0_193 rfl dX0_feed_39 hR.o0 (Nat.le_of_ble_eq_true rfl) (by omega) (C_x_lay4 (p := cm 0 10 + 16) hR (by rw [xa3]; omega) (by omega) (fun cx4 xa4 xb4 xc4 => ?_))
    refine aK_v ?_
    refine aw_aload_n dX0_feed_42 rfl ?_
    refine g_X0_190_0 rfl dX0_feed_43 hR.o0 ?_
    try rw [k6]
    refine aw_ireturn dX0_feed_46 rfl ?_
    refine ⟨_, rfl, ?_⟩
    refine AMet.go (L := [some (vR 0), some (vI a), some (vI b), some (vI c), some (vI e), some (vI f)]) mok_X7_feed (Nat.le_of_ble_eq_true rfl) rfl ?_
    refine gm_96 rfl dX7_feed_0 dX7_feed_1 rfl ?_
    refine aw_bipush dX7_feed_4 (by decide) ?_
    refine aw_iaddr dX7_feed_6 (by omega) ?_
    refine aw_sipush dX7_feed_7 (by decide) ?_
    refine aw_icmple (tgt := 15) dX7_feed_10 (by decide) (fun h10 => ?_) (fun h10 => ?_)
    · first
        | (exfalso; omega)
        | skip
          refine aw_aload_n dX7_feed_15 rfl ?_
          refine aw_iload_n dX7_feed_16 rfl ?_
          refine c_X7_99 rfl dX7_feed_17 m_ob (Nat.le_of_ble_eq_true rfl) (by omega) (C_m_lay4 (p := cm 0 10 + 0) (by omega) (by omega) (fun ck0 ma0 mb0 mc0 => ?_))
          refine aK_v ?_
          refine aw_aload_n dX7_feed_20 rfl ?_
          refine aw_iload_n dX7_feed_21 rfl ?_
          refine c_X7_99 rfl dX7_feed_22 m_ob (Nat.le_of_ble_eq_true rfl) (by omega) (C_m_lay4 (p := cm 0 10 + 4) (by rw [ma0]; omega) (by omega) (fun ck1 ma1 mb1 mc1 => ?_))
          refine aK_v ?_
          refine aw_aload_n dX7_feed_25 rfl ?_
          refine aw_iload_n dX7_feed_26 rfl ?_
          refine c_X7_99 rfl dX7_feed_27 m_ob (Nat.le_of_ble_eq_true rfl) (by omega) (C_m_lay4 (p := cm 0 10 + 8) (by rw [ma1]; omega) (by omega) (fun ck2 ma2 mb2 mc2 => ?_))
          refine aK_v ?_
          refine aw_aload_n dX7_feed_30 rfl ?_
          refine aw_iload dX7_feed_31 rfl ?_
          refine c_X7_99 rfl dX7_feed_33 m_ob (Nat.le_of_ble_eq_true rfl) (by omega) (C_m_lay4 (p := cm 0 10 + 12) (by rw [ma2]; omega) (by omega) (fun ck3 ma3 mb3 mc3 => ?_))
          refine aK_v ?_
          refine aw_aload_n dX7_feed_36 rfl ?_
          refine aw_iload dX7_feed_37 rfl ?_
          refine c_X7_99 rfl dX7_feed_39 m_ob (Nat.le_of_ble_eq_true rfl) (by omega) (C_m_lay4 (p := cm 0 10 + 16) (by rw [ma3]; omega) (by omega) (fun ck4 ma4 mb4 mc4 => ?_))
          refine aK_v ?_
          refine gm_96 rfl dX7_feed_42 dX7_feed_43 rfl ?_
          refine aw_ireturn dX7_feed_46 rfl ?_
          first
            | (exfalso; omega)
            | (refine XR.sameE h ?_ ?_ ?_ ?_ ?_ ?_
               · first
                   | rfl
                   | omega
               · repeat (first | exact xs.rf | refine xs.up ?_ (by decide))
               · repeat (first | exact mss.rf | refine mss.up0 ?_ (by decide))
               · first
                   | (simp [aup, hv2, hv3, hv4]; done)
                   | (simp [aup, hv2, hv3, hv4]; omega)
               · simp [aup, hv2, hv3, hv4]
               · simp [aup, hv2, hv3, hv4])
            | (have xr : ∀ x j, x ≠ 6 → ¬ (x = 0 ∧ j = 2) → cx4 x j = ct x j := fun x j h6 h0 => by rw [xc4 x j h6 h0, xc3 x j h6 h0, xc2 x j h6 h0, xc1 x j h6 h0, xc0 x j h6 h0]
               have mr : ∀ x j, x ≠ 6 → ¬ (x = 0 ∧ j = 10) → ck4 x j = cm x j := fun x j h6 h0 => by rw [mc4 x j h6 h0, mc3 x j h6 h0, mc2 x j h6 h0, mc1 x j h6 h0, mc0 x j h6 h0]
               have mrr : ∀ x, x ≠ 6 → x ≠ 0 → ck4 x = cm x := fun x h6 h0 => funext fun j => mr x j h6 (fun z => h0 z.1)
               obtain ⟨kt1, ⟨kt2, kt3, kt4⟩, kt5, kt6, kt12, kt13⟩ := id HX
               obtain ⟨⟨r1, r2⟩, -, ⟨-, r4, r5⟩, ⟨-, r6⟩, ⟨-, r7⟩, ⟨-, r8⟩, ⟨-, r9, -⟩, ⟨-, r19⟩, ⟨-, r29⟩⟩ := id hR
               refine ⟨vI_eq (by rw [xa4, ma4]), _, rfl, XR.root hR HY HL HN HS HP HX (HF.eq (mr 0 24 (by decide) (by omega)) (mrr 9 (by decide) (by decide))) (fun x j hx => xr x j (fun z => by rw [z] at hx; omega) (fun z => by rw [z.1] at hx; omega)) (fun t _ _ => xr 1 t (by decide) (by omega)) (fun j => xr 19 j (by decide) (by omega)) (xr 9 1 (by decide) (by omega)) (mrr 1 (by decide) (by decide)) (mrr 2 (by decide) (by decide)) (mr 0 35 (by decide) (by omega)) (fun t t0 t1 => ?_) (by rw [xr 0 12 (by decide) (by omega), mr 0 35 (by decide) (by omega)]; exact kt3) ⟨by rw [xa4, ma4], by rw [ma4]; omega, ?_⟩ (fun j j0 j1 => ?_) (fun j j0 j1 => by rw [xr 29 j (by decide) (by omega), mrr 13 (by decide) (by decide)]; exact kt13 j j0 j1) ?_ ?_ ?_⟩
               · have q := kt1 t t0 t1
                 have q2 := (r5 t t0 t1).2.2
                 unfold TRY at q ⊢
                 rw [xr (2 + t) 0 (fun z => by omega) (by omega), mrr 3 (by decide) (by decide), mrr 4 (by decide) (by decide), mrr 5 (by decide) (by decide)]
                 rcases q with q | ⟨q1, q3, q4, q5, q6⟩
                 · exact Or.inl q
                 · refine Or.inr ⟨q1, q3, q4, q5, fun j j0 j1 => ?_⟩
                   rw [xr _ _ (fun z => by rw [z] at q5; omega) (fun z => by rw [z.1] at q5; omega)]
                   exact q6 j j0 j1
               · rw [xr 0 3 (by decide) (by omega), xr 0 4 (by decide) (by omega), xr 0 15 (by decide) (by omega), mr 0 16 (by decide) (by omega), mr 0 17 (by decide) (by omega), mr 0 34 (by decide) (by omega)]
                 exact kt6.2.2
               · have q := kt12 j j0 j1
                 have hb := fun v i => by4_bd (v := v) (i := i)
                 rw [xb4, xb3, xb2, xb1, xb0, mb4, mb3, mb2, mb1, mb0, q.1]
                 refine ⟨rfl, ?_⟩
                 (repeat' split) <;> first | exact hb _ _ | exact q.2
               · rw [xr 0 7 (by decide) (by omega), mr 0 2 (by decide) (by omega)]; exact hv2
               · rw [xr 0 8 (by decide) (by omega), mr 0 3 (by decide) (by omega)]; exact hv3
               · rw [xr 0 9 (by decide) (by omega), mr 0 4 (by decide) (by omega)]; exact hv4)
    · first
        | (exfalso; omega)
        | skip
          refine aw_iconst dX7_feed_13 (by decide) ?_
          refine aw_ireturn dX7_feed_14 rfl ?_
          first
            | (exfalso; omega)
            | (refine XR.sameE h ?_ ?_ ?_ ?_ ?_ ?_
               · first
                   | rfl
                   | omega
               · repeat (first | exact xs.rf | refine xs.up ?_ (by decide))
               · repeat (first | exact mss.rf | refine mss.up0 ?_ (by decide))
               · first
                   | (simp [aup, hv2, hv3, hv4]; done)
                   | (simp [aup, hv2, hv3, hv4]; omega)
               · simp [aup, hv2, hv3, hv4]
               · simp [aup, hv2, hv3, hv4])
            | (have xr : ∀ x j, x ≠ 6 → ¬ (x = 0 ∧ j = 2) → cx4 x j = ct x j := fun x j h6 h0 => by rw [xc4 x j h6 h0, xc3 x j h6 h0, xc2 x j h6 h0, xc1 x j h6 h0, xc0 x j h6 h0]
               have mr : ∀ x j, x ≠ 6 → ¬ (x = 0 ∧ j = 10) → ck4 x j = cm x j := fun x j h6 h0 => by rw [mc4 x j h6 h0, mc3 x j h6 h0, mc2 x j h6 h0, mc1 x j h6 h0, mc0 x j h6 h0]
               have mrr : ∀ x, x ≠ 6 → x ≠ 0 → ck4 x = cm x := fun x h6 h0 => funext fun j => mr x j h6 (fun z => h0 z.1)
               obtain ⟨kt1, ⟨kt2, kt3, kt4⟩, kt5, kt6, kt12, kt13⟩ := id HX
               obtain ⟨⟨r1, r2⟩, -, ⟨-, r4, r5⟩, ⟨-, r6⟩, ⟨-, r7⟩, ⟨-, r8⟩, ⟨-, r9, -⟩, ⟨-, r19⟩, ⟨-, r29⟩⟩ := id hR
               refine ⟨vI_eq (by rw [xa4, ma4]), _, rfl, XR.root hR HY HL HN HS HP HX (HF.eq (mr 0 24 (by decide) (by omega)) (mrr 9 (by decide) (by decide))) (fun x j hx => xr x j (fun z => by rw [z] at hx; omega) (fun z => by rw [z.1] at hx; omega)) (fun t _ _ => xr 1 t (by decide) (by omega)) (fun j => xr 19 j (by decide) (by omega)) (xr 9 1 (by decide) (by omega)) (mrr 1 (by decide) (by decide)) (mrr 2 (by decide) (by decide)) (mr 0 35 (by decide) (by omega)) (fun t t0 t1 => ?_) (by rw [xr 0 12 (by decide) (by omega), mr 0 35 (by decide) (by omega)]; exact kt3) ⟨by rw [xa4, ma4], by rw [ma4]; omega, ?_⟩ (fun j j0 j1 => ?_) (fun j j0 j1 => by rw [xr 29 j (by decide) (by omega), mrr 13 (by decide) (by decide)]; exact kt13 j j0 j1) ?_ ?_ ?_⟩
               · have q := kt1 t t0 t1
                 have q2 := (r5 t t0 t1).2.2
                 unfold TRY at q ⊢
                 rw [xr (2 + t) 0 (fun z => by omega) (by omega), mrr 3 (by decide) (by decide), mrr 4 (by decide) (by decide), mrr 5 (by decide) (by decide)]
                 rcases q with q | ⟨q1, q3, q4, q5, q6⟩
                 · exact Or.inl q
                 · refine Or.inr ⟨q1, q3, q4, q5, fun j j0 j1 => ?_⟩
                   rw [xr _ _ (fun z => by rw [z] at q5; omega) (fun z => by rw [z.1] at q5; omega)]
                   exact q6 j j0 j1
               · rw [xr 0 3 (by decide) (by omega), xr 0 4 (by decide) (by omega), xr 0 15 (by decide) (by omega), mr 0 16 (by decide) (by omega), mr 0 17 (by decide) (by omega), mr 0 34 (by decide) (by omega)]
                 exact kt6.2.2
               · have q := kt12 j j0 j1
                 have hb := fun v i => by4_bd (v := v) (i := i)
                 rw [xb4, xb3, xb2, xb1, xb0, mb4, mb3, mb2, mb1, mb0, q.1]
                 refine ⟨rfl, ?_⟩
                 (repeat' split) <;> first | exact hb _ _ | exact q.2
               · rw [xr 0 7 (by decide) (by omega), mr 0 2 (by decide) (by omega)]; exact hv2
               · rw [xr 0 8 (by decide) (by omega), mr 0 3 (by decide) (by omega)]; exact hv3
               · rw [xr 0 9 (by decide) (by omega), mr 0 4 (by decide) (by omega)]; exact hv4)
  · refine aw_iconst dX0_feed_13 (by decide) ?_
    refine aw_ireturn dX0_feed_14 rfl ?_
    refine ⟨_, rfl, ?_⟩
    refine AMet.go (L := [some (vR 0), some (vI a), some (vI b), some (vI c), some (vI e), some (vI f)]) mok_X7_feed (Nat.le_of_ble_eq_true rfl) rfl ?_
    refine gm_96 rfl dX7_feed_0 dX7_feed_1 rfl ?_
    refine aw_bipush dX7_feed_4 (by decide) ?_
    refine aw_iaddr dX7_feed_6 (by omega) ?_
    refine aw_sipush dX7_feed_7 (by decide) ?_
    refine aw_icmple (tgt := 15) dX7_feed_10 (by decide) (fun h10 => ?_) (fun h10 => ?_)
    · first
        | (exfalso; omega)
        | skip
          refine aw_aload_n dX7_feed_15 rfl ?_
          refine aw_iload_n dX7_feed_16 rfl ?_
          refine c_X7_99 rfl dX7_feed_17 m_ob (Nat.le_of_ble_eq_true rfl) (by omega) (C_m_lay4 (p := cm 0 10 + 0) (by omega) (by omega) (fun ck0 ma0 mb0 mc0 => ?_))
          refine aK_v ?_
          refine aw_aload_n dX7_feed_20 rfl ?_
          refine aw_iload_n dX7_feed_21 rfl ?_
          refine c_X7_99 rfl dX7_feed_22 m_ob (Nat.le_of_ble_eq_true rfl) (by omega) (C_m_lay4 (p := cm 0 10 + 4) (by rw [ma0]; omega) (by omega) (fun ck1 ma1 mb1 mc1 => ?_))
          refine aK_v ?_
          refine aw_aload_n dX7_feed_25 rfl ?_
          refine aw_iload_n dX7_feed_26 rfl ?_
          refine c_X7_99 rfl dX7_feed_27 m_ob (Nat.le_of_ble_eq_true rfl) (by omega) (C_m_lay4 (p := cm 0 10 + 8) (by rw [ma1]; omega) (by omega) (fun ck2 ma2 mb2 mc2 => ?_))
          refine aK_v ?_
          refine aw_aload_n dX7_feed_30 rfl ?_
          refine aw_iload dX7_feed_31 rfl ?_
          refine c_X7_99 rfl dX7_feed_33 m_ob (Nat.le_of_ble_eq_true rfl) (by omega) (C_m_lay4 (p := cm 0 10 + 12) (by rw [ma2]; omega) (by omega) (fun ck3 ma3 mb3 mc3 => ?_))
          refine aK_v ?_
          refine aw_aload_n dX7_feed_36 rfl ?_
          refine aw_iload dX7_feed_37 rfl ?_
          refine c_X7_99 rfl dX7_feed_39 m_ob (Nat.le_of_ble_eq_true rfl) (by omega) (C_m_lay4 (p := cm 0 10 + 16) (by rw [ma3]; omega) (by omega) (fun ck4 ma4 mb4 mc4 => ?_))
          refine aK_v ?_
          refine gm_96 rfl dX7_feed_42 dX7_feed_43 rfl ?_
          refine aw_ireturn dX7_feed_46 rfl ?_
          first
            | (exfalso; omega)
            | (refine XR.sameE h ?_ ?_ ?_ ?_ ?_ ?_
               · first
                   | rfl
                   | omega
               · repeat (first | exact xs.rf | refine xs.up ?_ (by decide))
               · repeat (first | exact mss.rf | refine mss.up0 ?_ (by decide))
               · first
                   | (simp [aup, hv2, hv3, hv4]; done)
                   | (simp [aup, hv2, hv3, hv4]; omega)
               · simp [aup, hv2, hv3, hv4]
               · simp [aup, hv2, hv3, hv4])
            | (have xr : ∀ x j, x ≠ 6 → ¬ (x = 0 ∧ j = 2) → cx4 x j = ct x j := fun x j h6 h0 => by rw [xc4 x j h6 h0, xc3 x j h6 h0, xc2 x j h6 h0, xc1 x j h6 h0, xc0 x j h6 h0]
               have mr : ∀ x j, x ≠ 6 → ¬ (x = 0 ∧ j = 10) → ck4 x j = cm x j := fun x j h6 h0 => by rw [mc4 x j h6 h0, mc3 x j h6 h0, mc2 x j h6 h0, mc1 x j h6 h0, mc0 x j h6 h0]
               have mrr : ∀ x, x ≠ 6 → x ≠ 0 → ck4 x = cm x := fun x h6 h0 => funext fun j => mr x j h6 (fun z => h0 z.1)
               obtain ⟨kt1, ⟨kt2, kt3, kt4⟩, kt5, kt6, kt12, kt13⟩ := id HX
               obtain ⟨⟨r1, r2⟩, -, ⟨-, r4, r5⟩, ⟨-, r6⟩, ⟨-, r7⟩, ⟨-, r8⟩, ⟨-, r9, -⟩, ⟨-, r19⟩, ⟨-, r29⟩⟩ := id hR
               refine ⟨vI_eq (by rw [xa4, ma4]), _, rfl, XR.root hR HY HL HN HS HP HX (HF.eq (mr 0 24 (by decide) (by omega)) (mrr 9 (by decide) (by decide))) (fun x j hx => xr x j (fun z => by rw [z] at hx; omega) (fun z => by rw [z.1] at hx; omega)) (fun t _ _ => xr 1 t (by decide) (by omega)) (fun j => xr 19 j (by decide) (by omega)) (xr 9 1 (by decide) (by omega)) (mrr 1 (by decide) (by decide)) (mrr 2 (by decide) (by decide)) (mr 0 35 (by decide) (by omega)) (fun t t0 t1 => ?_) (by rw [xr 0 12 (by decide) (by omega), mr 0 35 (by decide) (by omega)]; exact kt3) ⟨by rw [xa4, ma4], by rw [ma4]; omega, ?_⟩ (fun j j0 j1 => ?_) (fun j j0 j1 => by rw [xr 29 j (by decide) (by omega), mrr 13 (by decide) (by decide)]; exact kt13 j j0 j1) ?_ ?_ ?_⟩
               · have q := kt1 t t0 t1
                 have q2 := (r5 t t0 t1).2.2
                 unfold TRY at q ⊢
                 rw [xr (2 + t) 0 (fun z => by omega) (by omega), mrr 3 (by decide) (by decide), mrr 4 (by decide) (by decide), mrr 5 (by decide) (by decide)]
                 rcases q with q | ⟨q1, q3, q4, q5, q6⟩
                 · exact Or.inl q
                 · refine Or.inr ⟨q1, q3, q4, q5, fun j j0 j1 => ?_⟩
                   rw [xr _ _ (fun z => by rw [z] at q5; omega) (fun z => by rw [z.1] at q5; omega)]
                   exact q6 j j0 j1
               · rw [xr 0 3 (by decide) (by omega), xr 0 4 (by decide) (by omega), xr 0 15 (by decide) (by omega), mr 0 16 (by decide) (by omega), mr 0 17 (by decide) (by omega), mr 0 34 (by decide) (by omega)]
                 exact kt6.2.2
               · have q := kt12 j j0 j1
                 have hb := fun v i => by4_bd (v := v) (i := i)
                 rw [xb4, xb3, xb2, xb1, xb0, mb4, mb3, mb2, mb1, mb0, q.1]
                 refine ⟨rfl, ?_⟩
                 (repeat' split) <;> first | exact hb _ _ | exact q.2
               · rw [xr 0 7 (by decide) (by omega), mr 0 2 (by decide) (by omega)]; exact hv2
               · rw [xr 0 8 (by decide) (by omega), mr 0 3 (by decide) (by omega)]; exact hv3
               · rw [xr 0 9 (by decide) (by omega), mr 0 4 (by decide) (by omega)]; exact hv4)
    · first
        | (exfalso; omega)
        | skip
          refine aw_iconst dX7_feed_13 (by decide) ?_
          refine aw_ireturn dX7_feed_14 rfl ?_
          first
            | (exfalso; omega)
            | (refine XR.sameE h ?_ ?_ ?_ ?_ ?_ ?_
               · first
                   | rfl
                   | omega
               · repeat (first | exact xs.rf | refine xs.up ?_ (by decide))
               · repeat (first | exact mss.rf | refine mss.up0 ?_ (by decide))
               · first
                   | (simp [aup, hv2, hv3, hv4]; done)
                   | (simp [aup, hv2, hv3, hv4]; omega)
               · simp [aup, hv2, hv3, hv4]
               · simp [aup, hv2, hv3, hv4])
            | (have xr : ∀ x j, x ≠ 6 → ¬ (x = 0 ∧ j = 2) → cx4 x j = ct x j := fun x j h6 h0 => by rw [xc4 x j h6 h0, xc3 x j h6 h0, xc2 x j h6 h0, xc1 x j h6 h0, xc0 x j h6 h0]
               have mr : ∀ x j, x ≠ 6 → ¬ (x = 0 ∧ j = 10) → ck4 x j = cm x j := fun x j h6 h0 => by rw [mc4 x j h6 h0, mc3 x j h6 h0, mc2 x j h6 h0, mc1 x j h6 h0, mc0 x j h6 h0]
               have mrr : ∀ x, x ≠ 6 → x ≠ 0 → ck4 x = cm x := fun x h6 h0 => funext fun j => mr x j h6 (fun z => h0 z.1)
               obtain ⟨kt1, ⟨kt2, kt3, kt4⟩, kt5, kt6, kt12, kt13⟩ := id HX
               obtain ⟨⟨r1, r2⟩, -, ⟨-, r4, r5⟩, ⟨-, r6⟩, ⟨-, r7⟩, ⟨-, r8⟩, ⟨-, r9, -⟩, ⟨-, r19⟩, ⟨-, r29⟩⟩ := id hR
               refine ⟨vI_eq (by rw [xa4, ma4]), _, rfl, XR.root hR HY HL HN HS HP HX (HF.eq (mr 0 24 (by decide) (by omega)) (mrr 9 (by decide) (by decide))) (fun x j hx => xr x j (fun z => by rw [z] at hx; omega) (fun z => by rw [z.1] at hx; omega)) (fun t _ _ => xr 1 t (by decide) (by omega)) (fun j => xr 19 j (by decide) (by omega)) (xr 9 1 (by decide) (by omega)) (mrr 1 (by decide) (by decide)) (mrr 2 (by decide) (by decide)) (mr 0 35 (by decide) (by omega)) (fun t t0 t1 => ?_) (by rw [xr 0 12 (by decide) (by omega), mr 0 35 (by decide) (by omega)]; exact kt3) ⟨by rw [xa4, ma4], by rw [ma4]; omega, ?_⟩ (fun j j0 j1 => ?_) (fun j j0 j1 => by rw [xr 29 j (by decide) (by omega), mrr 13 (by decide) (by decide)]; exact kt13 j j0 j1) ?_ ?_ ?_⟩
               · have q := kt1 t t0 t1
                 have q2 := (r5 t t0 t1).2.2
                 unfold TRY at q ⊢
                 rw [xr (2 + t) 0 (fun z => by omega) (by omega), mrr 3 (by decide) (by decide), mrr 4 (by decide) (by decide), mrr 5 (by decide) (by decide)]
                 rcases q with q | ⟨q1, q3, q4, q5, q6⟩
                 · exact Or.inl q
                 · refine Or.inr ⟨q1, q3, q4, q5, fun j j0 j1 => ?_⟩
                   rw [xr _ _ (fun z => by rw [z] at q5; omega) (fun z => by rw [z.1] at q5; omega)]
                   exact q6 j j0 j1
               · rw [xr 0 3 (by decide) (by omega), xr 0 4 (by decide) (by omega), xr 0 15 (by decide) (by omega), mr 0 16 (by decide) (by omega), mr 0 17 (by decide) (by omega), mr 0 34 (by decide) (by omega)]
                 exact kt6.2.2
               · have q := kt12 j j0 j1
                 have hb := fun v i => by4_bd (v := v) (i := i)
                 rw [xb4, xb3, xb2, xb1, xb0, mb4, mb3, mb2, mb1, mb0, q.1]
                 refine ⟨rfl, ?_⟩
                 (repeat' split) <;> first | exact hb _ _ | exact q.2
               · rw [xr 0 7 (by decide) (by omega), mr 0 2 (by decide) (by omega)]; exact hv2
               · rw [xr 0 8 (by decide) (by omega), mr 0 3 (by decide) (by omega)]; exact hv3
               · rw [xr 0 9 (by decide) (by omega), mr 0 4 (by decide) (by omega)]; exact hv4)
