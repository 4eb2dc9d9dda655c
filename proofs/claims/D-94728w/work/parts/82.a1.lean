set_option maxRecDepth 100000
/-! BeeYardModel reads: orders of a season -/
def RWm (c : Int → Int) (r kk a b g e : Int) : Prop := c r = kk ∧ c (r + 1) = a ∧ c (r + 2) = b ∧ c (r + 3) = g ∧ c (r + 4) = 0 ∧ c (r + 5) = e
/-- the yard that is now, while a season is read -/
def SN (cm : Int → Int → Int) (s N : Int → Int) : Prop := (∀ i, 0 ≤ i → i < 860 → cm 1 i = s i) ∧ (∀ j, 0 ≤ j → j < s 0 → NE (N j) (cm 2 j)) ∧ (∀ j, 0 ≤ j → j < s 1 → NE (N (12 + j)) (cm 2 (12 + j))) ∧ PI s
theorem SN.up {a b : Int → Int → Int} {s N : Int → Int} (h : SN a s N) (h1 : ∀ i, i < 860 → b 1 i = a 1 i) (h2 : b 2 = a 2) : SN b s N := ⟨fun i i0 i1 => (h1 i i1).trans (h.1 i i0 i1), by rw [h2]; exact h.2.1, by rw [h2]; exact h.2.2.1, h.2.2.2⟩
theorem C_m_hiveTo {cm : Int → Int → Int} {tp : Int → Int} {n p : Int} {s N : Int → Int} {t : Int} {Q : aPost} (H : RM cm tp n p) (hSN : SN cm s N) (ht : 4920 ≤ t ∧ t < 7578) (hF : ∀ (k pl : Int) (cm1 : Int → Int → Int), hvP tp n p s N = .inl (k, pl) → MB cm cm1 k pl → Q (.inl (some (vI 0))) (gM cm1)) (hQ : ∀ (v q : Int) (cm1 : Int → Int → Int), hvP tp n p s N = .inr (v, q) → RM cm1 tp n q → MF cm cm1 → cm1 1 = upA (cm 1) t v → cm1 2 = cm 2 → (∀ i, 19 < i → cm1 0 i = cm 0 i) → cm1 8 = cm 8 → Q (.inl (some (vI 1))) (gM cm1)) : AMet md_X7_hiveTo 8 0 0 [vR 0, vI t] (gM cm) Q := by
  refine AMet.go (L := [some (vR 0), some (vI t)]) mok_X7_hiveTo (Nat.le_of_ble_eq_true rfl) rfl ?_
  have hP0 := hSN.2.2.2.1
  have hPq := hSN.2.2.2.2.2.2.1.1
  have z0 : cm 1 0 = s 0 := hSN.1 0 (by decide) (by decide)
  have z1 : cm 1 1 = s 1 := hSN.1 1 (by decide) (by decide)
  refine aw_aload_n dX7_hiveTo_0 rfl ?_
  refine aw_iconst dX7_hiveTo_1 (by decide) ?_
  refine gm_7 rfl dX7_hiveTo_2 dX7_hiveTo_3 rfl ?_
  refine aw_iconst dX7_hiveTo_6 (by decide) ?_
  refine aw_iaload dX7_hiveTo_7 m_a1 (by omega) (by omega) ?_
  rw [z0]
  refine aw_iload_n dX7_hiveTo_8 rfl ?_
  refine c_X7_191 rfl dX7_hiveTo_9 m_ob (Nat.le_of_ble_eq_true rfl) (by omega) (C_m_oldOne (N := N) (b := 0) H (fun j j0 j1 => by rw [Int.zero_add]; exact hSN.2.1 j j0 j1) (by omega) (by omega) ht (fun k pl cm1 e9 hb => ?_) (fun v q cm1 e9 H1 f1 f1a f1b f1c f1d => ?_))
  · refine aK_i ?_
    refine aw_zreturn dX7_hiveTo_12 rfl (Or.inl rfl) ?_
    exact hF _ _ _ e9 hb
  · refine aK_i ?_
    refine aw_zreturn dX7_hiveTo_12 rfl (Or.inr rfl) ?_
    exact hQ _ _ _ e9 H1 f1 f1a f1b f1c f1d
theorem C_m_frameTo {cm : Int → Int → Int} {tp : Int → Int} {n p : Int} {s N : Int → Int} {h9 w t : Int} {Q : aPost} (H : RM cm tp n p) (hSN : SN cm s N) (hw : 4920 ≤ w ∧ w < 6145) (ew : cm 1 w = h9) (hh : 0 ≤ h9 ∧ h9 < s 0) (ht : 4920 ≤ t ∧ t < 6150) (hF : ∀ (k pl : Int) (cm1 : Int → Int → Int), frP tp n p s h9 = .inl (k, pl) → MB cm cm1 k pl → Q (.inl (some (vI 0))) (gM cm1)) (hQ : ∀ (v q : Int) (cm1 : Int → Int → Int), frP tp n p s h9 = .inr (v, q) → RM cm1 tp n q → MF cm cm1 → cm1 1 = upA (cm 1) t v → cm1 2 = cm 2 → (∀ i, 19 < i → cm1 0 i = cm 0 i) → cm1 8 = cm 8 → Q (.inl (some (vI 1))) (gM cm1)) : AMet md_X7_frameTo 4 0 0 [vR 0, vI w, vI t] (gM cm) Q := by
  refine AMet.go (L := [some (vR 0), some (vI w), some (vI t)]) mok_X7_frameTo (Nat.le_of_ble_eq_true rfl) rfl ?_
  have hP0 := hSN.2.2.2.1
  have hPq := hSN.2.2.2.2.2.2.1.1
  have z0 : cm 1 0 = s 0 := hSN.1 0 (by decide) (by decide)
  have z1 : cm 1 1 = s 1 := hSN.1 1 (by decide) (by decide)
  have zh : cm 1 (64 + 198 * h9) = s (64 + 198 * h9) := hSN.1 _ (by omega) (by omega)
  have zg := (hSN.2.2.2.2.2.1 h9 hh.1 hh.2).1
  refine aw_aload_n dX7_frameTo_0 rfl ?_
  refine aw_iload_n dX7_frameTo_1 rfl ?_
  refine aw_iconst dX7_frameTo_2 (by decide) ?_
  refine gm_7 rfl dX7_frameTo_3 dX7_frameTo_4 rfl ?_
  refine gm_7 rfl dX7_frameTo_7 dX7_frameTo_8 rfl ?_
  refine aw_iload_n dX7_frameTo_11 rfl ?_
  refine aw_iaload dX7_frameTo_12 m_a1 (by omega) (by omega) ?_
  rw [ew]
  refine c_X7_217 rfl dX7_frameTo_13  (Nat.le_of_ble_eq_true rfl) (by omega) (C_m_hiveRow (by omega) ?_)
  refine aK_i ?_
  refine aw_iaload dX7_frameTo_16 m_a1 (by omega) (by omega) ?_
  rw [zh]
  refine aw_iconst dX7_frameTo_17 (by decide) ?_
  refine aw_isubr dX7_frameTo_18 (by omega) ?_
  refine c_X7_182 rfl dX7_frameTo_19 m_ob (Nat.le_of_ble_eq_true rfl) (by omega) (C_m_number (t := t) H ht (fun k pl cm1 e9 hb => ?_) (fun v q cm1 e9 H1 f1 f1a f1b f1c f1d => ?_))
  · refine aK_i ?_
    refine aw_zreturn dX7_frameTo_22 rfl (Or.inl rfl) ?_
    exact hF _ _ _ e9 hb
  · refine aK_i ?_
    refine aw_zreturn dX7_frameTo_22 rfl (Or.inr rfl) ?_
    exact hQ _ _ _ e9 H1 f1 f1a f1b f1c f1d
theorem C_m_test {cm : Int → Int → Int} {tp : Int → Int} {n p : Int} {s N : Int → Int} {r : Int} {Q : aPost} (H : RM cm tp n p) (hSN : SN cm s N) (hr : 5780 ≤ r ∧ r + 6 ≤ 6145) (hz : RWm (cm 1) r 17 0 0 0 0) (hF : ∀ (k pl : Int) (cm1 : Int → Int → Int), tstP tp n p s N = .inl (k, pl) → MB cm cm1 k pl → Q (.inl (some (vI 0))) (gM cm1)) (hQ : ∀ (q kk a b c e : Int) (cm1 : Int → Int → Int), tstP tp n p s N = .inr (q, kk, a, b, c, e) → RM cm1 tp n q → MF cm cm1 → RWm (cm1 1) r kk a b c e → (∀ i, i < r ∨ r + 6 ≤ i → cm1 1 i = cm 1 i) → cm1 2 = cm 2 → (∀ i, 19 < i → cm1 0 i = cm 0 i) → cm1 8 = cm 8 → Q (.inl (some (vI 1))) (gM cm1)) : AMet md_X7_test 9 0 0 [vR 0, vI r] (gM cm) Q := by
  refine AMet.go (L := [some (vR 0), some (vI r), none]) mok_X7_test (Nat.le_of_ble_eq_true rfl) rfl ?_
  obtain ⟨hS, hp, e13, e14, e12, e15, e15s⟩ := id H
  have hn := hS.1
  have hF9 := tF_bd (tp := tp) hp.2
  have hE := tE_bd (tp := tp) hp.2
  have hK := tK_bd (tp := tp) (n := n) (p := p)
  have hk4 : (tK tp n p = 0 ∧ cm 0 12 = 0) ∨ (tK tp n p = 1 ∧ cm 0 12 = 2) ∨ (tK tp n p = 2 ∧ cm 0 12 = 3) ∨ (tK tp n p = 3 ∧ cm 0 12 = 4) ∨ (tK tp n p = 4 ∧ cm 0 12 = 1) := by
    rw [e12]
    rcases (by omega : tK tp n p = 0 ∨ tK tp n p = 1 ∨ tK tp n p = 2 ∨ tK tp n p = 3 ∨ tK tp n p = 4) with z | z | z | z | z <;> (rw [z]; decide)
  obtain ⟨w0, w1, w2, w3, w4, w5⟩ := id hz
  have hP0 := hSN.2.2.2.1
  have hPq := hSN.2.2.2.2.2.2.1.1
  refine aw_aload_n dX7_test_0 rfl ?_
  refine aw_ldcS (k9 := 23) dX7_test_1 rfl rfl (by decide) ?_
  refine c_X7_157 rfl dX7_test_3 m_ob (Nat.le_of_ble_eq_true rfl) (by omega) (C_m_inWords H ?_)
  refine aK_i ?_
  refine aw_istore2 dX7_test_6 (by decide) rfl ?_
  refine aw_iload_n dX7_test_7 rfl ?_
  refine aw_bipush dX7_test_8 (by decide) ?_
  refine aw_icmpeq (tgt := 36) dX7_test_10 (by decide) (fun h10 => ?_) (fun h10 => ?_)
  · have hk : tW tp n p = 21 ∨ tW tp n p = 5 ∨ tW tp n p = 6 ∨ tW tp n p = 22 := by omega
    have hE9 := tE_bd (tp := tp) hp.2
    have eT : tstP tp n p s N = bnd (hvP tp n (tE tp n p) s N) fun h => if tW tp n p = 21 then .inr (h.2, 1721, h.1, 0, 0, 0) else if sgn tp n h.2 60 ∨ sgn tp n h.2 62 ∨ sgn tp n h.2 61 then bnd (numP tp n (tE tp n h.2) 0 9999) fun v => .inr (v.2, 1700 + tW tp n p, h.1, v.1, 0, tp (tF tp n h.2)) else .inl (wr tp n h.2, tF tp n h.2) := by unfold tstP; exact if_pos hk
    refine gm_7 rfl dX7_test_36 dX7_test_37 rfl ?_
    refine aw_iload_n dX7_test_40 rfl ?_
    refine aw_sipush dX7_test_41 (by decide) ?_
    refine aw_iload_n dX7_test_44 rfl ?_
    refine aw_iaddr dX7_test_45 (by omega) ?_
    refine aw_iastore dX7_test_46 m_a1 (by omega) (by omega) ?_
    have HA : RM (aup cm 1 r (1700 + tW tp n p)) tp n p := H.up (by decide) (by decide)
    have fA : MF cm (aup cm 1 r (1700 + tW tp n p)) := MF.rf.up1 (by omega)
    refine aw_aload_n dX7_test_47 rfl ?_
    refine c_X7_148 rfl dX7_test_48 m_ob (Nat.le_of_ble_eq_true rfl) (by omega) (C_m_ahead HA.1 HA.goes.1 HA.goes.2 (fun cm1 H1 f1 => ?_))
    have d1 : cm1 1 = upA (cm 1) r (1700 + tW tp n p) := by rw [f1.2 1 (by decide), aup_r]
    have d12 : cm1 2 = cm 2 := by rw [f1.2 2 (by decide), aup_rn (by decide)]
    have d10 : ∀ i, 19 < i → cm1 0 i = cm 0 i := fun i hi => by rw [f1.1 i (by omega), aup_rn (by decide)]
    have d18 : cm1 8 = cm 8 := by rw [f1.2 8 (by decide), aup_rn (by decide)]
    have S1 : SN cm1 s N := hSN.up (fun i hi => by rw [d1, upA_n (by omega)]) d12
    refine aK_v ?_
    refine aw_aload_n dX7_test_51 rfl ?_
    refine aw_iload_n dX7_test_52 rfl ?_
    refine aw_iconst dX7_test_53 (by decide) ?_
    refine aw_iaddr dX7_test_54 (by omega) ?_
    refine c_X7_220 rfl dX7_test_55 m_ob (Nat.le_of_ble_eq_true rfl) (by omega) (C_m_hiveTo H1 S1 (by omega) (fun k9 pl cm9 y2 hb => ?_) (fun h2 q2 cm2 y2 H2 f2 f2a f2b f2c f2d => ?_))
    · have Z := hF _ _ cm9 (by rw [eT]; exact bnd_l y2) ((fA.trans f1.mf).b hb)
      refine aK_i ?_
      refine aw_ifne (tgt := 63) dX7_test_58 (by decide) (fun h => absurd h (by decide)) (fun _ => ?_)
      refine aw_iconst dX7_test_61 (by decide) ?_
      refine aw_zreturn dX7_test_62 rfl (Or.inl rfl) ?_
      exact Z
    · rw [bnd_r y2] at eT
      dsimp only at eT
      have yb := hvP_p hE9.2 hP0.1 y2
      have fB : MF cm cm2 := (fA.trans f1.mf).trans f2
      have d2 : cm2 1 = upA (upA (cm 1) r (1700 + tW tp n p)) (r + 1) h2 := by rw [f2a, d1]
      refine aK_i ?_
      refine aw_ifne (tgt := 63) dX7_test_58 (by decide) (fun _ => ?_) (fun h => absurd h (by decide))
      refine aw_iload_n dX7_test_63 rfl ?_
      refine aw_bipush dX7_test_64 (by decide) ?_
      refine aw_icmpne (tgt := 71) dX7_test_66 (by decide) (fun h66 => ?_) (fun h66 => ?_)
      · refine aw_aload_n dX7_test_71 rfl ?_
        refine aw_bipush dX7_test_72 (by decide) ?_
        refine c_X7_151 rfl dX7_test_74 m_ob (Nat.le_of_ble_eq_true rfl) (by omega) (C_m_isSign H2 (fun s1 => ?_) (fun s1 => ?_))
        · refine aK_i ?_
          refine aw_ifne (tgt := 104) dX7_test_77 (by decide) (fun _ => ?_) (fun h => absurd h (by decide))
          have sg : sgn tp n q2 60 ∨ sgn tp n q2 62 ∨ sgn tp n q2 61 := by
            first
            | exact Or.inl s1
            | exact Or.inr (Or.inl s2)
            | exact Or.inr (Or.inr s3)
          have k3 : tK tp n q2 = 3 := by omega
          have ev : cm2 0 15 = tp (tF tp n q2) := H2.2.2.2.2.2.2 k3
          rw [if_neg (by omega), if_pos sg] at eT
          have hE8 := tE_bd (tp := tp) (n := n) (p := q2) yb.2.2
          refine gm_7 rfl dX7_test_104 dX7_test_105 rfl ?_
          refine aw_iload_n dX7_test_108 rfl ?_
          refine aw_iconst dX7_test_109 (by decide) ?_
          refine aw_iaddr dX7_test_110 (by omega) ?_
          refine gm_114 rfl dX7_test_111 dX7_test_112 rfl ?_
          rw [ev]
          refine aw_iastore dX7_test_115 m_a1 (by omega) (by omega) ?_
          have HC : RM (aup cm2 1 (r + 5) (tp (tF tp n q2))) tp n q2 := H2.up (by decide) (by decide)
          have fC : MF cm (aup cm2 1 (r + 5) (tp (tF tp n q2))) := fB.up1 (by omega)
          refine aw_aload_n dX7_test_116 rfl ?_
          refine c_X7_148 rfl dX7_test_117 m_ob (Nat.le_of_ble_eq_true rfl) (by omega) (C_m_ahead HC.1 HC.goes.1 HC.goes.2 (fun cm4 H4 f4 => ?_))
          refine aK_v ?_
          refine aw_aload_n dX7_test_120 rfl ?_
          refine aw_iload_n dX7_test_121 rfl ?_
          refine aw_iconst dX7_test_122 (by decide) ?_
          refine aw_iaddr dX7_test_123 (by omega) ?_
          refine aw_iconst dX7_test_124 (by decide) ?_
          refine aw_sipush dX7_test_125 (by decide) ?_
          refine c_X7_182 rfl dX7_test_128 m_ob (Nat.le_of_ble_eq_true rfl) (by omega) (C_m_number (t := r + 2) H4 (by omega) (fun k9 pl cm9 y5 hb => ?_) (fun v5 q5 cm5 y5 H5 f5 f5a f5b f5c f5d => ?_))
          · have Z := hF _ _ cm9 (by rw [eT]; exact bnd_l y5) ((fC.trans f4.mf).b hb)
            refine aK_i ?_
            refine aw_zreturn dX7_test_131 rfl (Or.inl rfl) ?_
            exact Z
          · rw [bnd_r y5] at eT
            have d5 : cm5 1 = upA (upA (upA (upA (cm 1) r (1700 + tW tp n p)) (r + 1) h2) (r + 5) (tp (tF tp n q2))) (r + 2) v5 := by rw [f5a, f4.2 1 (by decide), aup_r, d2]
            refine aK_i ?_
            refine aw_zreturn dX7_test_131 rfl (Or.inr rfl) ?_
            exact hQ _ _ _ _ _ _ _ eT H5 ((fC.trans f4.mf).trans f5) ⟨by rw [d5, upA_n (by omega), upA_n (by omega), upA_n (by omega), upA_s], by rw [d5, upA_n (by omega), upA_n (by omega), upA_s], by rw [d5, upA_s], by rw [d5, upA_n (by omega), upA_n (by omega), upA_n (by omega), upA_n (by omega)]; exact w3, by rw [d5, upA_n (by omega), upA_n (by omega), upA_n (by omega), upA_n (by omega)]; exact w4, by rw [d5, upA_n (by omega), upA_s]⟩ (fun i hi => by rw [d5, upA_n (by omega), upA_n (by omega), upA_n (by omega), upA_n (by omega)]) (by rw [f5b, f4.2 2 (by decide), aup_rn (by decide), f2b, d12]) (fun i hi => by rw [f5c i hi, f4.1 i (by omega), aup_rn (by decide), f2c i hi, d10 i hi]) (by rw [f5d, f4.2 8 (by decide), aup_rn (by decide), f2d, d18])
        · refine aK_i ?_
          refine aw_ifne (tgt := 104) dX7_test_77 (by decide) (fun h => absurd h (by decide)) (fun _ => ?_)
          refine aw_aload_n dX7_test_80 rfl ?_
          refine aw_bipush dX7_test_81 (by decide) ?_
          refine c_X7_151 rfl dX7_test_83 m_ob (Nat.le_of_ble_eq_true rfl) (by omega) (C_m_isSign H2 (fun s2 => ?_) (fun s2 => ?_))
          · refine aK_i ?_
            refine aw_ifne (tgt := 104) dX7_test_86 (by decide) (fun _ => ?_) (fun h => absurd h (by decide))
            have sg : sgn tp n q2 60 ∨ sgn tp n q2 62 ∨ sgn tp n q2 61 := by
              first
              | exact Or.inl s1
              | exact Or.inr (Or.inl s2)
              | exact Or.inr (Or.inr s3)
            have k3 : tK tp n q2 = 3 := by omega
            have ev : cm2 0 15 = tp (tF tp n q2) := H2.2.2.2.2.2.2 k3
            rw [if_neg (by omega), if_pos sg] at eT
            have hE8 := tE_bd (tp := tp) (n := n) (p := q2) yb.2.2
            refine gm_7 rfl dX7_test_104 dX7_test_105 rfl ?_
            refine aw_iload_n dX7_test_108 rfl ?_
            refine aw_iconst dX7_test_109 (by decide) ?_
            refine aw_iaddr dX7_test_110 (by omega) ?_
            refine gm_114 rfl dX7_test_111 dX7_test_112 rfl ?_
            rw [ev]
            refine aw_iastore dX7_test_115 m_a1 (by omega) (by omega) ?_
            have HC : RM (aup cm2 1 (r + 5) (tp (tF tp n q2))) tp n q2 := H2.up (by decide) (by decide)
            have fC : MF cm (aup cm2 1 (r + 5) (tp (tF tp n q2))) := fB.up1 (by omega)
            refine aw_aload_n dX7_test_116 rfl ?_
            refine c_X7_148 rfl dX7_test_117 m_ob (Nat.le_of_ble_eq_true rfl) (by omega) (C_m_ahead HC.1 HC.goes.1 HC.goes.2 (fun cm4 H4 f4 => ?_))
            refine aK_v ?_
            refine aw_aload_n dX7_test_120 rfl ?_
            refine aw_iload_n dX7_test_121 rfl ?_
            refine aw_iconst dX7_test_122 (by decide) ?_
            refine aw_iaddr dX7_test_123 (by omega) ?_
            refine aw_iconst dX7_test_124 (by decide) ?_
            refine aw_sipush dX7_test_125 (by decide) ?_
            refine c_X7_182 rfl dX7_test_128 m_ob (Nat.le_of_ble_eq_true rfl) (by omega) (C_m_number (t := r + 2) H4 (by omega) (fun k9 pl cm9 y5 hb => ?_) (fun v5 q5 cm5 y5 H5 f5 f5a f5b f5c f5d => ?_))
            · have Z := hF _ _ cm9 (by rw [eT]; exact bnd_l y5) ((fC.trans f4.mf).b hb)
              refine aK_i ?_
              refine aw_zreturn dX7_test_131 rfl (Or.inl rfl) ?_
              exact Z
            · rw [bnd_r y5] at eT
              have d5 : cm5 1 = upA (upA (upA (upA (cm 1) r (1700 + tW tp n p)) (r + 1) h2) (r + 5) (tp (tF tp n q2))) (r + 2) v5 := by rw [f5a, f4.2 1 (by decide), aup_r, d2]
              refine aK_i ?_
              refine aw_zreturn dX7_test_131 rfl (Or.inr rfl) ?_
              exact hQ _ _ _ _ _ _ _ eT H5 ((fC.trans f4.mf).trans f5) ⟨by rw [d5, upA_n (by omega), upA_n (by omega), upA_n (by omega), upA_s], by rw [d5, upA_n (by omega), upA_n (by omega), upA_s], by rw [d5, upA_s], by rw [d5, upA_n (by omega), upA_n (by omega), upA_n (by omega), upA_n (by omega)]; exact w3, by rw [d5, upA_n (by omega), upA_n (by omega), upA_n (by omega), upA_n (by omega)]; exact w4, by rw [d5, upA_n (by omega), upA_s]⟩ (fun i hi => by rw [d5, upA_n (by omega), upA_n (by omega), upA_n (by omega), upA_n (by omega)]) (by rw [f5b, f4.2 2 (by decide), aup_rn (by decide), f2b, d12]) (fun i hi => by rw [f5c i hi, f4.1 i (by omega), aup_rn (by decide), f2c i hi, d10 i hi]) (by rw [f5d, f4.2 8 (by decide), aup_rn (by decide), f2d, d18])
          · refine aK_i ?_
            refine aw_ifne (tgt := 104) dX7_test_86 (by decide) (fun h => absurd h (by decide)) (fun _ => ?_)
            refine aw_aload_n dX7_test_89 rfl ?_
            refine aw_bipush dX7_test_90 (by decide) ?_
            refine c_X7_151 rfl dX7_test_92 m_ob (Nat.le_of_ble_eq_true rfl) (by omega) (C_m_isSign H2 (fun s3 => ?_) (fun s3 => ?_))
            · refine aK_i ?_
              refine aw_ifne (tgt := 104) dX7_test_95 (by decide) (fun _ => ?_) (fun h => absurd h (by decide))
              have sg : sgn tp n q2 60 ∨ sgn tp n q2 62 ∨ sgn tp n q2 61 := by
                first
                | exact Or.inl s1
                | exact Or.inr (Or.inl s2)
                | exact Or.inr (Or.inr s3)
              have k3 : tK tp n q2 = 3 := by omega
              have ev : cm2 0 15 = tp (tF tp n q2) := H2.2.2.2.2.2.2 k3
              rw [if_neg (by omega), if_pos sg] at eT
              have hE8 := tE_bd (tp := tp) (n := n) (p := q2) yb.2.2
              refine gm_7 rfl dX7_test_104 dX7_test_105 rfl ?_
              refine aw_iload_n dX7_test_108 rfl ?_
              refine aw_iconst dX7_test_109 (by decide) ?_
              refine aw_iaddr dX7_test_110 (by omega) ?_
              refine gm_114 rfl dX7_test_111 dX7_test_112 rfl ?_
              rw [ev]
              refine aw_iastore dX7_test_115 m_a1 (by omega) (by omega) ?_
              have HC : RM (aup cm2 1 (r + 5) (tp (tF tp n q2))) tp n q2 := H2.up (by decide) (by decide)
              have fC : MF cm (aup cm2 1 (r + 5) (tp (tF tp n q2))) := fB.up1 (by omega)
              refine aw_aload_n dX7_test_116 rfl ?_
              refine c_X7_148 rfl dX7_test_117 m_ob (Nat.le_of_ble_eq_true rfl) (by omega) (C_m_ahead HC.1 HC.goes.1 HC.goes.2 (fun cm4 H4 f4 => ?_))
              refine aK_v ?_
              refine aw_aload_n dX7_test_120 rfl ?_
              refine aw_iload_n dX7_test_121 rfl ?_
              refine aw_iconst dX7_test_122 (by decide) ?_
              refine aw_iaddr dX7_test_123 (by omega) ?_
              refine aw_iconst dX7_test_124 (by decide) ?_
              refine aw_sipush dX7_test_125 (by decide) ?_
              refine c_X7_182 rfl dX7_test_128 m_ob (Nat.le_of_ble_eq_true rfl) (by omega) (C_m_number (t := r + 2) H4 (by omega) (fun k9 pl cm9 y5 hb => ?_) (fun v5 q5 cm5 y5 H5 f5 f5a f5b f5c f5d => ?_))
              · have Z := hF _ _ cm9 (by rw [eT]; exact bnd_l y5) ((fC.trans f4.mf).b hb)
                refine aK_i ?_
                refine aw_zreturn dX7_test_131 rfl (Or.inl rfl) ?_
                exact Z
              · rw [bnd_r y5] at eT
                have d5 : cm5 1 = upA (upA (upA (upA (cm 1) r (1700 + tW tp n p)) (r + 1) h2) (r + 5) (tp (tF tp n q2))) (r + 2) v5 := by rw [f5a, f4.2 1 (by decide), aup_r, d2]
                refine aK_i ?_
                refine aw_zreturn dX7_test_131 rfl (Or.inr rfl) ?_
                exact hQ _ _ _ _ _ _ _ eT H5 ((fC.trans f4.mf).trans f5) ⟨by rw [d5, upA_n (by omega), upA_n (by omega), upA_n (by omega), upA_s], by rw [d5, upA_n (by omega), upA_n (by omega), upA_s], by rw [d5, upA_s], by rw [d5, upA_n (by omega), upA_n (by omega), upA_n (by omega), upA_n (by omega)]; exact w3, by rw [d5, upA_n (by omega), upA_n (by omega), upA_n (by omega), upA_n (by omega)]; exact w4, by rw [d5, upA_n (by omega), upA_s]⟩ (fun i hi => by rw [d5, upA_n (by omega), upA_n (by omega), upA_n (by omega), upA_n (by omega)]) (by rw [f5b, f4.2 2 (by decide), aup_rn (by decide), f2b, d12]) (fun i hi => by rw [f5c i hi, f4.1 i (by omega), aup_rn (by decide), f2c i hi, d10 i hi]) (by rw [f5d, f4.2 8 (by decide), aup_rn (by decide), f2d, d18])
            · refine aK_i ?_
              refine aw_ifne (tgt := 104) dX7_test_95 (by decide) (fun h => absurd h (by decide)) (fun _ => ?_)
              refine aw_aload_n dX7_test_98 rfl ?_
              refine aw_iconst dX7_test_99 (by decide) ?_
              refine c_X7_154 rfl dX7_test_100 m_ob (Nat.le_of_ble_eq_true rfl) (by omega) (C_m_fails H2 (k := 2) (by decide) (fun cm3 hb => ?_))
              refine aK_i ?_
              refine aw_zreturn dX7_test_103 rfl (Or.inl rfl) ?_
              rw [if_neg (by omega), if_neg (by intro z; rcases z with z | z | z; exact s1 z; exact s2 z; exact s3 z)] at eT
              exact hF _ _ _ eT (fB.b (show MB cm2 cm3 (wr tp n q2) (tF tp n q2) from hb))
      · refine aw_iconst dX7_test_69 (by decide) ?_
        refine aw_zreturn dX7_test_70 rfl (Or.inr rfl) ?_
        rw [if_pos h66] at eT
        exact hQ _ _ _ _ _ _ _ eT H2 fB ⟨by rw [d2, upA_n (by omega), upA_s]; omega, by rw [d2, upA_s], by rw [d2, upA_n (by omega), upA_n (by omega)]; exact w2, by rw [d2, upA_n (by omega), upA_n (by omega)]; exact w3, by rw [d2, upA_n (by omega), upA_n (by omega)]; exact w4, by rw [d2, upA_n (by omega), upA_n (by omega)]; exact w5⟩ (fun i hi => by rw [d2, upA_n (by omega), upA_n (by omega)]) (by rw [f2b, d12]) (fun i hi => by rw [f2c i hi, d10 i hi]) (by rw [f2d, d18])
  · refine aw_iload_n dX7_test_13 rfl ?_
    refine aw_iconst dX7_test_14 (by decide) ?_
    refine aw_icmpeq (tgt := 36) dX7_test_15 (by decide) (fun h15 => ?_) (fun h15 => ?_)
    · have hk : tW tp n p = 21 ∨ tW tp n p = 5 ∨ tW tp n p = 6 ∨ tW tp n p = 22 := by omega
      have hE9 := tE_bd (tp := tp) hp.2
      have eT : tstP tp n p s N = bnd (hvP tp n (tE tp n p) s N) fun h => if tW tp n p = 21 then .inr (h.2, 1721, h.1, 0, 0, 0) else if sgn tp n h.2 60 ∨ sgn tp n h.2 62 ∨ sgn tp n h.2 61 then bnd (numP tp n (tE tp n h.2) 0 9999) fun v => .inr (v.2, 1700 + tW tp n p, h.1, v.1, 0, tp (tF tp n h.2)) else .inl (wr tp n h.2, tF tp n h.2) := by unfold tstP; exact if_pos hk
      refine gm_7 rfl dX7_test_36 dX7_test_37 rfl ?_
      refine aw_iload_n dX7_test_40 rfl ?_
      refine aw_sipush dX7_test_41 (by decide) ?_
      refine aw_iload_n dX7_test_44 rfl ?_
      refine aw_iaddr dX7_test_45 (by omega) ?_
      refine aw_iastore dX7_test_46 m_a1 (by omega) (by omega) ?_
      have HA : RM (aup cm 1 r (1700 + tW tp n p)) tp n p := H.up (by decide) (by decide)
      have fA : MF cm (aup cm 1 r (1700 + tW tp n p)) := MF.rf.up1 (by omega)
      refine aw_aload_n dX7_test_47 rfl ?_
      refine c_X7_148 rfl dX7_test_48 m_ob (Nat.le_of_ble_eq_true rfl) (by omega) (C_m_ahead HA.1 HA.goes.1 HA.goes.2 (fun cm1 H1 f1 => ?_))
      have d1 : cm1 1 = upA (cm 1) r (1700 + tW tp n p) := by rw [f1.2 1 (by decide), aup_r]
      have d12 : cm1 2 = cm 2 := by rw [f1.2 2 (by decide), aup_rn (by decide)]
      have d10 : ∀ i, 19 < i → cm1 0 i = cm 0 i := fun i hi => by rw [f1.1 i (by omega), aup_rn (by decide)]
      have d18 : cm1 8 = cm 8 := by rw [f1.2 8 (by decide), aup_rn (by decide)]
      have S1 : SN cm1 s N := hSN.up (fun i hi => by rw [d1, upA_n (by omega)]) d12
      refine aK_v ?_
      refine aw_aload_n dX7_test_51 rfl ?_
      refine aw_iload_n dX7_test_52 rfl ?_
      refine aw_iconst dX7_test_53 (by decide) ?_
      refine aw_iaddr dX7_test_54 (by omega) ?_
      refine c_X7_220 rfl dX7_test_55 m_ob (Nat.le_of_ble_eq_true rfl) (by omega) (C_m_hiveTo H1 S1 (by omega) (fun k9 pl cm9 y2 hb => ?_) (fun h2 q2 cm2 y2 H2 f2 f2a f2b f2c f2d => ?_))
      · have Z := hF _ _ cm9 (by rw [eT]; exact bnd_l y2) ((fA.trans f1.mf).b hb)
        refine aK_i ?_
        refine aw_ifne (tgt := 63) dX7_test_58 (by decide) (fun h => absurd h (by decide)) (fun _ => ?_)
        refine aw_iconst dX7_test_61 (by decide) ?_
        refine aw_zreturn dX7_test_62 rfl (Or.inl rfl) ?_
        exact Z
      · rw [bnd_r y2] at eT
        dsimp only at eT
        have yb := hvP_p hE9.2 hP0.1 y2
        have fB : MF cm cm2 := (fA.trans f1.mf).trans f2
        have d2 : cm2 1 = upA (upA (cm 1) r (1700 + tW tp n p)) (r + 1) h2 := by rw [f2a, d1]
        refine aK_i ?_
        refine aw_ifne (tgt := 63) dX7_test_58 (by decide) (fun _ => ?_) (fun h => absurd h (by decide))
        refine aw_iload_n dX7_test_63 rfl ?_
        refine aw_bipush dX7_test_64 (by decide) ?_
        refine aw_icmpne (tgt := 71) dX7_test_66 (by decide) (fun h66 => ?_) (fun h66 => ?_)
        · refine aw_aload_n dX7_test_71 rfl ?_
          refine aw_bipush dX7_test_72 (by decide) ?_
          refine c_X7_151 rfl dX7_test_74 m_ob (Nat.le_of_ble_eq_true rfl) (by omega) (C_m_isSign H2 (fun s1 => ?_) (fun s1 => ?_))
          · refine aK_i ?_
            refine aw_ifne (tgt := 104) dX7_test_77 (by decide) (fun _ => ?_) (fun h => absurd h (by decide))
            have sg : sgn tp n q2 60 ∨ sgn tp n q2 62 ∨ sgn tp n q2 61 := by
              first
              | exact Or.inl s1
              | exact Or.inr (Or.inl s2)
              | exact Or.inr (Or.inr s3)
            have k3 : tK tp n q2 = 3 := by omega
            have ev : cm2 0 15 = tp (tF tp n q2) := H2.2.2.2.2.2.2 k3
            rw [if_neg (by omega), if_pos sg] at eT
            have hE8 := tE_bd (tp := tp) (n := n) (p := q2) yb.2.2
            refine gm_7 rfl dX7_test_104 dX7_test_105 rfl ?_
            refine aw_iload_n dX7_test_108 rfl ?_
            refine aw_iconst dX7_test_109 (by decide) ?_
            refine aw_iaddr dX7_test_110 (by omega) ?_
            refine gm_114 rfl dX7_test_111 dX7_test_112 rfl ?_
            rw [ev]
            refine aw_iastore dX7_test_115 m_a1 (by omega) (by omega) ?_
            have HC : RM (aup cm2 1 (r + 5) (tp (tF tp n q2))) tp n q2 := H2.up (by decide) (by decide)
            have fC : MF cm (aup cm2 1 (r + 5) (tp (tF tp n q2))) := fB.up1 (by omega)
            refine aw_aload_n dX7_test_116 rfl ?_
            refine c_X7_148 rfl dX7_test_117 m_ob (Nat.le_of_ble_eq_true rfl) (by omega) (C_m_ahead HC.1 HC.goes.1 HC.goes.2 (fun cm4 H4 f4 => ?_))
            refine aK_v ?_
            refine aw_aload_n dX7_test_120 rfl ?_
            refine aw_iload_n dX7_test_121 rfl ?_
            refine aw_iconst dX7_test_122 (by decide) ?_
            refine aw_iaddr dX7_test_123 (by omega) ?_
            refine aw_iconst dX7_test_124 (by decide) ?_
            refine aw_sipush dX7_test_125 (by decide) ?_
            refine c_X7_182 rfl dX7_test_128 m_ob (Nat.le_of_ble_eq_true rfl) (by omega) (C_m_number (t := r + 2) H4 (by omega) (fun k9 pl cm9 y5 hb => ?_) (fun v5 q5 cm5 y5 H5 f5 f5a f5b f5c f5d => ?_))
            · have Z := hF _ _ cm9 (by rw [eT]; exact bnd_l y5) ((fC.trans f4.mf).b hb)
              refine aK_i ?_
              refine aw_zreturn dX7_test_131 rfl (Or.inl rfl) ?_
              exact Z
            · rw [bnd_r y5] at eT
              have d5 : cm5 1 = upA (upA (upA (upA (cm 1) r (1700 + tW tp n p)) (r + 1) h2) (r + 5) (tp (tF tp n q2))) (r + 2) v5 := by rw [f5a, f4.2 1 (by decide), aup_r, d2]
              refine aK_i ?_
              refine aw_zreturn dX7_test_131 rfl (Or.inr rfl) ?_
              exact hQ _ _ _ _ _ _ _ eT H5 ((fC.trans f4.mf).trans f5) ⟨by rw [d5, upA_n (by omega), upA_n (by omega), upA_n (by omega), upA_s], by rw [d5, upA_n (by omega), upA_n (by omega), upA_s], by rw [d5, upA_s], by rw [d5, upA_n (by omega), upA_n (by omega), upA_n (by omega), upA_n (by omega)]; exact w3, by rw [d5, upA_n (by omega), upA_n (by omega), upA_n (by omega), upA_n (by omega)]; exact w4, by rw [d5, upA_n (by omega), upA_s]⟩ (fun i hi => by rw [d5, upA_n (by omega), upA_n (by omega), upA_n (by omega), upA_n (by omega)]) (by rw [f5b, f4.2 2 (by decide), aup_rn (by decide), f2b, d12]) (fun i hi => by rw [f5c i hi, f4.1 i (by omega), aup_rn (by decide), f2c i hi, d10 i hi]) (by rw [f5d, f4.2 8 (by decide), aup_rn (by decide), f2d, d18])
          · refine aK_i ?_
            refine aw_ifne (tgt := 104) dX7_test_77 (by decide) (fun h => absurd h (by decide)) (fun _ => ?_)
            refine aw_aload_n dX7_test_80 rfl ?_
            refine aw_bipush dX7_test_81 (by decide) ?_
            refine c_X7_151 rfl dX7_test_83 m_ob (Nat.le_of_ble_eq_true rfl) (by omega) (C_m_isSign H2 (fun s2 => ?_) (fun s2 => ?_))
            · refine aK_i ?_
              refine aw_ifne (tgt := 104) dX7_test_86 (by decide) (fun _ => ?_) (fun h => absurd h (by decide))
              have sg : sgn tp n q2 60 ∨ sgn tp n q2 62 ∨ sgn tp n q2 61 := by
                first
                | exact Or.inl s1
                | exact Or.inr (Or.inl s2)
                | exact Or.inr (Or.inr s3)
              have k3 : tK tp n q2 = 3 := by omega
              have ev : cm2 0 15 = tp (tF tp n q2) := H2.2.2.2.2.2.2 k3
              rw [if_neg (by omega), if_pos sg] at eT
              have hE8 := tE_bd (tp := tp) (n := n) (p := q2) yb.2.2
              refine gm_7 rfl dX7_test_104 dX7_test_105 rfl ?_
              refine aw_iload_n dX7_test_108 rfl ?_
              refine aw_iconst dX7_test_109 (by decide) ?_
              refine aw_iaddr dX7_test_110 (by omega) ?_
              refine gm_114 rfl dX7_test_111 dX7_test_112 rfl ?_
              rw [ev]
              refine aw_iastore dX7_test_115 m_a1 (by omega) (by omega) ?_
              have HC : RM (aup cm2 1 (r + 5) (tp (tF tp n q2))) tp n q2 := H2.up (by decide) (by decide)
              have fC : MF cm (aup cm2 1 (r + 5) (tp (tF tp n q2))) := fB.up1 (by omega)
              refine aw_aload_n dX7_test_116 rfl ?_
              refine c_X7_148 rfl dX7_test_117 m_ob (Nat.le_of_ble_eq_true rfl) (by omega) (C_m_ahead HC.1 HC.goes.1 HC.goes.2 (fun cm4 H4 f4 => ?_))
              refine aK_v ?_
              refine aw_aload_n dX7_test_120 rfl ?_
              refine aw_iload_n dX7_test_121 rfl ?_
              refine aw_iconst dX7_test_122 (by decide) ?_
              refine aw_iaddr dX7_test_123 (by omega) ?_
              refine aw_iconst dX7_test_124 (by decide) ?_
              refine aw_sipush dX7_test_125 (by decide) ?_
              refine c_X7_182 rfl dX7_test_128 m_ob (Nat.le_of_ble_eq_true rfl) (by omega) (C_m_number (t := r + 2) H4 (by omega) (fun k9 pl cm9 y5 hb => ?_) (fun v5 q5 cm5 y5 H5 f5 f5a f5b f5c f5d => ?_))
              · have Z := hF _ _ cm9 (by rw [eT]; exact bnd_l y5) ((fC.trans f4.mf).b hb)
                refine aK_i ?_
                refine aw_zreturn dX7_test_131 rfl (Or.inl rfl) ?_
                exact Z
              · rw [bnd_r y5] at eT
                have d5 : cm5 1 = upA (upA (upA (upA (cm 1) r (1700 + tW tp n p)) (r + 1) h2) (r + 5) (tp (tF tp n q2))) (r + 2) v5 := by rw [f5a, f4.2 1 (by decide), aup_r, d2]
                refine aK_i ?_
                refine aw_zreturn dX7_test_131 rfl (Or.inr rfl) ?_
                exact hQ _ _ _ _ _ _ _ eT H5 ((fC.trans f4.mf).trans f5) ⟨by rw [d5, upA_n (by omega), upA_n (by omega), upA_n (by omega), upA_s], by rw [d5, upA_n (by omega), upA_n (by omega), upA_s], by rw [d5, upA_s], by rw [d5, upA_n (by omega), upA_n (by omega), upA_n (by omega), upA_n (by omega)]; exact w3, by rw [d5, upA_n (by omega), upA_n (by omega), upA_n (by omega), upA_n (by omega)]; exact w4, by rw [d5, upA_n (by omega), upA_s]⟩ (fun i hi => by rw [d5, upA_n (by omega), upA_n (by omega), upA_n (by omega), upA_n (by omega)]) (by rw [f5b, f4.2 2 (by decide), aup_rn (by decide), f2b, d12]) (fun i hi => by rw [f5c i hi, f4.1 i (by omega), aup_rn (by decide), f2c i hi, d10 i hi]) (by rw [f5d, f4.2 8 (by decide), aup_rn (by decide), f2d, d18])
            · refine aK_i ?_
              refine aw_ifne (tgt := 104) dX7_test_86 (by decide) (fun h => absurd h (by decide)) (fun _ => ?_)
              refine aw_aload_n dX7_test_89 rfl ?_
              refine aw_bipush dX7_test_90 (by decide) ?_
              refine c_X7_151 rfl dX7_test_92 m_ob (Nat.le_of_ble_eq_true rfl) (by omega) (C_m_isSign H2 (fun s3 => ?_) (fun s3 => ?_))
              · refine aK_i ?_
                refine aw_ifne (tgt := 104) dX7_test_95 (by decide) (fun _ => ?_) (fun h => absurd h (by decide))
                have sg : sgn tp n q2 60 ∨ sgn tp n q2 62 ∨ sgn tp n q2 61 := by
                  first
                  | exact Or.inl s1
                  | exact Or.inr (Or.inl s2)
                  | exact Or.inr (Or.inr s3)
                have k3 : tK tp n q2 = 3 := by omega
                have ev : cm2 0 15 = tp (tF tp n q2) := H2.2.2.2.2.2.2 k3
                rw [if_neg (by omega), if_pos sg] at eT
                have hE8 := tE_bd (tp := tp) (n := n) (p := q2) yb.2.2
                refine gm_7 rfl dX7_test_104 dX7_test_105 rfl ?_
                refine aw_iload_n dX7_test_108 rfl ?_
                refine aw_iconst dX7_test_109 (by decide) ?_
                refine aw_iaddr dX7_test_110 (by omega) ?_
                refine gm_114 rfl dX7_test_111 dX7_test_112 rfl ?_
                rw [ev]
                refine aw_iastore dX7_test_115 m_a1 (by omega) (by omega) ?_
                have HC : RM (aup cm2 1 (r + 5) (tp (tF tp n q2))) tp n q2 := H2.up (by decide) (by decide)
                have fC : MF cm (aup cm2 1 (r + 5) (tp (tF tp n q2))) := fB.up1 (by omega)
                refine aw_aload_n dX7_test_116 rfl ?_
                refine c_X7_148 rfl dX7_test_117 m_ob (Nat.le_of_ble_eq_true rfl) (by omega) (C_m_ahead HC.1 HC.goes.1 HC.goes.2 (fun cm4 H4 f4 => ?_))
                refine aK_v ?_
                refine aw_aload_n dX7_test_120 rfl ?_
                refine aw_iload_n dX7_test_121 rfl ?_
                refine aw_iconst dX7_test_122 (by decide) ?_
                refine aw_iaddr dX7_test_123 (by omega) ?_
                refine aw_iconst dX7_test_124 (by decide) ?_
                refine aw_sipush dX7_test_125 (by decide) ?_
                refine c_X7_182 rfl dX7_test_128 m_ob (Nat.le_of_ble_eq_true rfl) (by omega) (C_m_number (t := r + 2) H4 (by omega) (fun k9 pl cm9 y5 hb => ?_) (fun v5 q5 cm5 y5 H5 f5 f5a f5b f5c f5d => ?_))
                · have Z := hF _ _ cm9 (by rw [eT]; exact bnd_l y5) ((fC.trans f4.mf).b hb)
                  refine aK_i ?_
                  refine aw_zreturn dX7_test_131 rfl (Or.inl rfl) ?_
                  exact Z
                · rw [bnd_r y5] at eT
                  have d5 : cm5 1 = upA (upA (upA (upA (cm 1) r (1700 + tW tp n p)) (r + 1) h2) (r + 5) (tp (tF tp n q2))) (r + 2) v5 := by rw [f5a, f4.2 1 (by decide), aup_r, d2]
                  refine aK_i ?_
                  refine aw_zreturn dX7_test_131 rfl (Or.inr rfl) ?_
                  exact hQ _ _ _ _ _ _ _ eT H5 ((fC.trans f4.mf).trans f5) ⟨by rw [d5, upA_n (by omega), upA_n (by omega), upA_n (by omega), upA_s], by rw [d5, upA_n (by omega), upA_n (by omega), upA_s], by rw [d5, upA_s], by rw [d5, upA_n (by omega), upA_n (by omega), upA_n (by omega), upA_n (by omega)]; exact w3, by rw [d5, upA_n (by omega), upA_n (by omega), upA_n (by omega), upA_n (by omega)]; exact w4, by rw [d5, upA_n (by omega), upA_s]⟩ (fun i hi => by rw [d5, upA_n (by omega), upA_n (by omega), upA_n (by omega), upA_n (by omega)]) (by rw [f5b, f4.2 2 (by decide), aup_rn (by decide), f2b, d12]) (fun i hi => by rw [f5c i hi, f4.1 i (by omega), aup_rn (by decide), f2c i hi, d10 i hi]) (by rw [f5d, f4.2 8 (by decide), aup_rn (by decide), f2d, d18])
              · refine aK_i ?_
                refine aw_ifne (tgt := 104) dX7_test_95 (by decide) (fun h => absurd h (by decide)) (fun _ => ?_)
                refine aw_aload_n dX7_test_98 rfl ?_
                refine aw_iconst dX7_test_99 (by decide) ?_
                refine c_X7_154 rfl dX7_test_100 m_ob (Nat.le_of_ble_eq_true rfl) (by omega) (C_m_fails H2 (k := 2) (by decide) (fun cm3 hb => ?_))
                refine aK_i ?_
                refine aw_zreturn dX7_test_103 rfl (Or.inl rfl) ?_
                rw [if_neg (by omega), if_neg (by intro z; rcases z with z | z | z; exact s1 z; exact s2 z; exact s3 z)] at eT
                exact hF _ _ _ eT (fB.b (show MB cm2 cm3 (wr tp n q2) (tF tp n q2) from hb))
        · refine aw_iconst dX7_test_69 (by decide) ?_
          refine aw_zreturn dX7_test_70 rfl (Or.inr rfl) ?_
          rw [if_pos h66] at eT
          exact hQ _ _ _ _ _ _ _ eT H2 fB ⟨by rw [d2, upA_n (by omega), upA_s]; omega, by rw [d2, upA_s], by rw [d2, upA_n (by omega), upA_n (by omega)]; exact w2, by rw [d2, upA_n (by omega), upA_n (by omega)]; exact w3, by rw [d2, upA_n (by omega), upA_n (by omega)]; exact w4, by rw [d2, upA_n (by omega), upA_n (by omega)]; exact w5⟩ (fun i hi => by rw [d2, upA_n (by omega), upA_n (by omega)]) (by rw [f2b, d12]) (fun i hi => by rw [f2c i hi, d10 i hi]) (by rw [f2d, d18])
    · refine aw_iload_n dX7_test_18 rfl ?_
      refine aw_bipush dX7_test_19 (by decide) ?_
      refine aw_icmpeq (tgt := 36) dX7_test_21 (by decide) (fun h21 => ?_) (fun h21 => ?_)
      · have hk : tW tp n p = 21 ∨ tW tp n p = 5 ∨ tW tp n p = 6 ∨ tW tp n p = 22 := by omega
        have hE9 := tE_bd (tp := tp) hp.2
        have eT : tstP tp n p s N = bnd (hvP tp n (tE tp n p) s N) fun h => if tW tp n p = 21 then .inr (h.2, 1721, h.1, 0, 0, 0) else if sgn tp n h.2 60 ∨ sgn tp n h.2 62 ∨ sgn tp n h.2 61 then bnd (numP tp n (tE tp n h.2) 0 9999) fun v => .inr (v.2, 1700 + tW tp n p, h.1, v.1, 0, tp (tF tp n h.2)) else .inl (wr tp n h.2, tF tp n h.2) := by unfold tstP; exact if_pos hk
        refine gm_7 rfl dX7_test_36 dX7_test_37 rfl ?_
        refine aw_iload_n dX7_test_40 rfl ?_
        refine aw_sipush dX7_test_41 (by decide) ?_
        refine aw_iload_n dX7_test_44 rfl ?_
        refine aw_iaddr dX7_test_45 (by omega) ?_
        refine aw_iastore dX7_test_46 m_a1 (by omega) (by omega) ?_
        have HA : RM (aup cm 1 r (1700 + tW tp n p)) tp n p := H.up (by decide) (by decide)
        have fA : MF cm (aup cm 1 r (1700 + tW tp n p)) := MF.rf.up1 (by omega)
        refine aw_aload_n dX7_test_47 rfl ?_
        refine c_X7_148 rfl dX7_test_48 m_ob (Nat.le_of_ble_eq_true rfl) (by omega) (C_m_ahead HA.1 HA.goes.1 HA.goes.2 (fun cm1 H1 f1 => ?_))
        have d1 : cm1 1 = upA (cm 1) r (1700 + tW tp n p) := by rw [f1.2 1 (by decide), aup_r]
        have d12 : cm1 2 = cm 2 := by rw [f1.2 2 (by decide), aup_rn (by decide)]
        have d10 : ∀ i, 19 < i → cm1 0 i = cm 0 i := fun i hi => by rw [f1.1 i (by omega), aup_rn (by decide)]
        have d18 : cm1 8 = cm 8 := by rw [f1.2 8 (by decide), aup_rn (by decide)]
        have S1 : SN cm1 s N := hSN.up (fun i hi => by rw [d1, upA_n (by omega)]) d12
        refine aK_v ?_
        refine aw_aload_n dX7_test_51 rfl ?_
        refine aw_iload_n dX7_test_52 rfl ?_
        refine aw_iconst dX7_test_53 (by decide) ?_
        refine aw_iaddr dX7_test_54 (by omega) ?_
        refine c_X7_220 rfl dX7_test_55 m_ob (Nat.le_of_ble_eq_true rfl) (by omega) (C_m_hiveTo H1 S1 (by omega) (fun k9 pl cm9 y2 hb => ?_) (fun h2 q2 cm2 y2 H2 f2 f2a f2b f2c f2d => ?_))
        · have Z := hF _ _ cm9 (by rw [eT]; exact bnd_l y2) ((fA.trans f1.mf).b hb)
          refine aK_i ?_
          refine aw_ifne (tgt := 63) dX7_test_58 (by decide) (fun h => absurd h (by decide)) (fun _ => ?_)
          refine aw_iconst dX7_test_61 (by decide) ?_
          refine aw_zreturn dX7_test_62 rfl (Or.inl rfl) ?_
          exact Z
        · rw [bnd_r y2] at eT
          dsimp only at eT
          have yb := hvP_p hE9.2 hP0.1 y2
          have fB : MF cm cm2 := (fA.trans f1.mf).trans f2
          have d2 : cm2 1 = upA (upA (cm 1) r (1700 + tW tp n p)) (r + 1) h2 := by rw [f2a, d1]
          refine aK_i ?_
          refine aw_ifne (tgt := 63) dX7_test_58 (by decide) (fun _ => ?_) (fun h => absurd h (by decide))
          refine aw_iload_n dX7_test_63 rfl ?_
          refine aw_bipush dX7_test_64 (by decide) ?_
          refine aw_icmpne (tgt := 71) dX7_test_66 (by decide) (fun h66 => ?_) (fun h66 => ?_)
          · refine aw_aload_n dX7_test_71 rfl ?_
            refine aw_bipush dX7_test_72 (by decide) ?_
            refine c_X7_151 rfl dX7_test_74 m_ob (Nat.le_of_ble_eq_true rfl) (by omega) (C_m_isSign H2 (fun s1 => ?_) (fun s1 => ?_))
            · refine aK_i ?_
              refine aw_ifne (tgt := 104) dX7_test_77 (by decide) (fun _ => ?_) (fun h => absurd h (by decide))
              have sg : sgn tp n q2 60 ∨ sgn tp n q2 62 ∨ sgn tp n q2 61 := by
                first
                | exact Or.inl s1
                | exact Or.inr (Or.inl s2)
                | exact Or.inr (Or.inr s3)
              have k3 : tK tp n q2 = 3 := by omega
              have ev : cm2 0 15 = tp (tF tp n q2) := H2.2.2.2.2.2.2 k3
              rw [if_neg (by omega), if_pos sg] at eT
              have hE8 := tE_bd (tp := tp) (n := n) (p := q2) yb.2.2
              refine gm_7 rfl dX7_test_104 dX7_test_105 rfl ?_
              refine aw_iload_n dX7_test_108 rfl ?_
              refine aw_iconst dX7_test_109 (by decide) ?_
              refine aw_iaddr dX7_test_110 (by omega) ?_
              refine gm_114 rfl dX7_test_111 dX7_test_112 rfl ?_
              rw [ev]
              refine aw_iastore dX7_test_115 m_a1 (by omega) (by omega) ?_
              have HC : RM (aup cm2 1 (r + 5) (tp (tF tp n q2))) tp n q2 := H2.up (by decide) (by decide)
              have fC : MF cm (aup cm2 1 (r + 5) (tp (tF tp n q2))) := fB.up1 (by omega)
              refine aw_aload_n dX7_test_116 rfl ?_
              refine c_X7_148 rfl dX7_test_117 m_ob (Nat.le_of_ble_eq_true rfl) (by omega) (C_m_ahead HC.1 HC.goes.1 HC.goes.2 (fun cm4 H4 f4 => ?_))
              refine aK_v ?_
              refine aw_aload_n dX7_test_120 rfl ?_
              refine aw_iload_n dX7_test_121 rfl ?_
              refine aw_iconst dX7_test_122 (by decide) ?_
              refine aw_iaddr dX7_test_123 (by omega) ?_
              refine aw_iconst dX7_test_124 (by decide) ?_
              refine aw_sipush dX7_test_125 (by decide) ?_
              refine c_X7_182 rfl dX7_test_128 m_ob (Nat.le_of_ble_eq_true rfl) (by omega) (C_m_number (t := r + 2) H4 (by omega) (fun k9 pl cm9 y5 hb => ?_) (fun v5 q5 cm5 y5 H5 f5 f5a f5b f5c f5d => ?_))
              · have Z := hF _ _ cm9 (by rw [eT]; exact bnd_l y5) ((fC.trans f4.mf).b hb)
                refine aK_i ?_
                refine aw_zreturn dX7_test_131 rfl (Or.inl rfl) ?_
                exact Z
              · rw [bnd_r y5] at eT
                have d5 : cm5 1 = upA (upA (upA (upA (cm 1) r (1700 + tW tp n p)) (r + 1) h2) (r + 5) (tp (tF tp n q2))) (r + 2) v5 := by rw [f5a, f4.2 1 (by decide), aup_r, d2]
                refine aK_i ?_
                refine aw_zreturn dX7_test_131 rfl (Or.inr rfl) ?_
                exact hQ _ _ _ _ _ _ _ eT H5 ((fC.trans f4.mf).trans f5) ⟨by rw [d5, upA_n (by omega), upA_n (by omega), upA_n (by omega), upA_s], by rw [d5, upA_n (by omega), upA_n (by omega), upA_s], by rw [d5, upA_s], by rw [d5, upA_n (by omega), upA_n (by omega), upA_n (by omega), upA_n (by omega)]; exact w3, by rw [d5, upA_n (by omega), upA_n (by omega), upA_n (by omega), upA_n (by omega)]; exact w4, by rw [d5, upA_n (by omega), upA_s]⟩ (fun i hi => by rw [d5, upA_n (by omega), upA_n (by omega), upA_n (by omega), upA_n (by omega)]) (by rw [f5b, f4.2 2 (by decide), aup_rn (by decide), f2b, d12]) (fun i hi => by rw [f5c i hi, f4.1 i (by omega), aup_rn (by decide), f2c i hi, d10 i hi]) (by rw [f5d, f4.2 8 (by decide), aup_rn (by decide), f2d, d18])
            · refine aK_i ?_
              refine aw_ifne (tgt := 104) dX7_test_77 (by decide) (fun h => absurd h (by decide)) (fun _ => ?_)
              refine aw_aload_n dX7_test_80 rfl ?_
              refine aw_bipush dX7_test_81 (by decide) ?_
              refine c_X7_151 rfl dX7_test_83 m_ob (Nat.le_of_ble_eq_true rfl) (by omega) (C_m_isSign H2 (fun s2 => ?_) (fun s2 => ?_))
              · refine aK_i ?_
                refine aw_ifne (tgt := 104) dX7_test_86 (by decide) (fun _ => ?_) (fun h => absurd h (by decide))
                have sg : sgn tp n q2 60 ∨ sgn tp n q2 62 ∨ sgn tp n q2 61 := by
                  first
                  | exact Or.inl s1
                  | exact Or.inr (Or.inl s2)
                  | exact Or.inr (Or.inr s3)
                have k3 : tK tp n q2 = 3 := by omega
                have ev : cm2 0 15 = tp (tF tp n q2) := H2.2.2.2.2.2.2 k3
                rw [if_neg (by omega), if_pos sg] at eT
                have hE8 := tE_bd (tp := tp) (n := n) (p := q2) yb.2.2
                refine gm_7 rfl dX7_test_104 dX7_test_105 rfl ?_
                refine aw_iload_n dX7_test_108 rfl ?_
                refine aw_iconst dX7_test_109 (by decide) ?_
                refine aw_iaddr dX7_test_110 (by omega) ?_
                refine gm_114 rfl dX7_test_111 dX7_test_112 rfl ?_
                rw [ev]
                refine aw_iastore dX7_test_115 m_a1 (by omega) (by omega) ?_
                have HC : RM (aup cm2 1 (r + 5) (tp (tF tp n q2))) tp n q2 := H2.up (by decide) (by decide)
                have fC : MF cm (aup cm2 1 (r + 5) (tp (tF tp n q2))) := fB.up1 (by omega)
                refine aw_aload_n dX7_test_116 rfl ?_
                refine c_X7_148 rfl dX7_test_117 m_ob (Nat.le_of_ble_eq_true rfl) (by omega) (C_m_ahead HC.1 HC.goes.1 HC.goes.2 (fun cm4 H4 f4 => ?_))
                refine aK_v ?_
                refine aw_aload_n dX7_test_120 rfl ?_
                refine aw_iload_n dX7_test_121 rfl ?_
                refine aw_iconst dX7_test_122 (by decide) ?_
                refine aw_iaddr dX7_test_123 (by omega) ?_
                refine aw_iconst dX7_test_124 (by decide) ?_
                refine aw_sipush dX7_test_125 (by decide) ?_
                refine c_X7_182 rfl dX7_test_128 m_ob (Nat.le_of_ble_eq_true rfl) (by omega) (C_m_number (t := r + 2) H4 (by omega) (fun k9 pl cm9 y5 hb => ?_) (fun v5 q5 cm5 y5 H5 f5 f5a f5b f5c f5d => ?_))
                · have Z := hF _ _ cm9 (by rw [eT]; exact bnd_l y5) ((fC.trans f4.mf).b hb)
                  refine aK_i ?_
                  refine aw_zreturn dX7_test_131 rfl (Or.inl rfl) ?_
                  exact Z
                · rw [bnd_r y5] at eT
                  have d5 : cm5 1 = upA (upA (upA (upA (cm 1) r (1700 + tW tp n p)) (r + 1) h2) (r + 5) (tp (tF tp n q2))) (r + 2) v5 := by rw [f5a, f4.2 1 (by decide), aup_r, d2]
                  refine aK_i ?_
                  refine aw_zreturn dX7_test_131 rfl (Or.inr rfl) ?_
                  exact hQ _ _ _ _ _ _ _ eT H5 ((fC.trans f4.mf).trans f5) ⟨by rw [d5, upA_n (by omega), upA_n (by omega), upA_n (by omega), upA_s], by rw [d5, upA_n (by omega), upA_n (by omega), upA_s], by rw [d5, upA_s], by rw [d5, upA_n (by omega), upA_n (by omega), upA_n (by omega), upA_n (by omega)]; exact w3, by rw [d5, upA_n (by omega), upA_n (by omega), upA_n (by omega), upA_n (by omega)]; exact w4, by rw [d5, upA_n (by omega), upA_s]⟩ (fun i hi => by rw [d5, upA_n (by omega), upA_n (by omega), upA_n (by omega), upA_n (by omega)]) (by rw [f5b, f4.2 2 (by decide), aup_rn (by decide), f2b, d12]) (fun i hi => by rw [f5c i hi, f4.1 i (by omega), aup_rn (by decide), f2c i hi, d10 i hi]) (by rw [f5d, f4.2 8 (by decide), aup_rn (by decide), f2d, d18])
              · refine aK_i ?_
                refine aw_ifne (tgt := 104) dX7_test_86 (by decide) (fun h => absurd h (by decide)) (fun _ => ?_)
                refine aw_aload_n dX7_test_89 rfl ?_
                refine aw_bipush dX7_test_90 (by decide) ?_
                refine c_X7_151 rfl dX7_test_92 m_ob (Nat.le_of_ble_eq_true rfl) (by omega) (C_m_isSign H2 (fun s3 => ?_) (fun s3 => ?_))
                · refine aK_i ?_
                  refine aw_ifne (tgt := 104) dX7_test_95 (by decide) (fun _ => ?_) (fun h => absurd h (by decide))
                  have sg : sgn tp n q2 60 ∨ sgn tp n q2 62 ∨ sgn tp n q2 61 := by
                    first
                    | exact Or.inl s1
                    | exact Or.inr (Or.inl s2)
                    | exact Or.inr (Or.inr s3)
                  have k3 : tK tp n q2 = 3 := by omega
                  have ev : cm2 0 15 = tp (tF tp n q2) := H2.2.2.2.2.2.2 k3
                  rw [if_neg (by omega), if_pos sg] at eT
                  have hE8 := tE_bd (tp := tp) (n := n) (p := q2) yb.2.2
                  refine gm_7 rfl dX7_test_104 dX7_test_105 rfl ?_
                  refine aw_iload_n dX7_test_108 rfl ?_
                  refine aw_iconst dX7_test_109 (by decide) ?_
                  refine aw_iaddr dX7_test_110 (by omega) ?_
                  refine gm_114 rfl dX7_test_111 dX7_test_112 rfl ?_
                  rw [ev]
                  refine aw_iastore dX7_test_115 m_a1 (by omega) (by omega) ?_
                  have HC : RM (aup cm2 1 (r + 5) (tp (tF tp n q2))) tp n q2 := H2.up (by decide) (by decide)
                  have fC : MF cm (aup cm2 1 (r + 5) (tp (tF tp n q2))) := fB.up1 (by omega)
                  refine aw_aload_n dX7_test_116 rfl ?_
                  refine c_X7_148 rfl dX7_test_117 m_ob (Nat.le_of_ble_eq_true rfl) (by omega) (C_m_ahead HC.1 HC.goes.1 HC.goes.2 (fun cm4 H4 f4 => ?_))
                  refine aK_v ?_
                  refine aw_aload_n dX7_test_120 rfl ?_
                  refine aw_iload_n dX7_test_121 rfl ?_
                  refine aw_iconst dX7_test_122 (by decide) ?_
                  refine aw_iaddr dX7_test_123 (by omega) ?_
                  refine aw_iconst dX7_test_124 (by decide) ?_
                  refine aw_sipush dX7_test_125 (by decide) ?_
                  refine c_X7_182 rfl dX7_test_128 m_ob (Nat.le_of_ble_eq_true rfl) (by omega) (C_m_number (t := r + 2) H4 (by omega) (fun k9 pl cm9 y5 hb => ?_) (fun v5 q5 cm5 y5 H5 f5 f5a f5b f5c f5d => ?_))
                  · have Z := hF _ _ cm9 (by rw [eT]; exact bnd_l y5) ((fC.trans f4.mf).b hb)
                    refine aK_i ?_
                    refine aw_zreturn dX7_test_131 rfl (Or.inl rfl) ?_
                    exact Z
                  · rw [bnd_r y5] at eT
                    have d5 : cm5 1 = upA (upA (upA (upA (cm 1) r (1700 + tW tp n p)) (r + 1) h2) (r + 5) (tp (tF tp n q2))) (r + 2) v5 := by rw [f5a, f4.2 1 (by decide), aup_r, d2]
                    refine aK_i ?_
                    refine aw_zreturn dX7_test_131 rfl (Or.inr rfl) ?_
                    exact hQ _ _ _ _ _ _ _ eT H5 ((fC.trans f4.mf).trans f5) ⟨by rw [d5, upA_n (by omega), upA_n (by omega), upA_n (by omega), upA_s], by rw [d5, upA_n (by omega), upA_n (by omega), upA_s], by rw [d5, upA_s], by rw [d5, upA_n (by omega), upA_n (by omega), upA_n (by omega), upA_n (by omega)]; exact w3, by rw [d5, upA_n (by omega), upA_n (by omega), upA_n (by omega), upA_n (by omega)]; exact w4, by rw [d5, upA_n (by omega), upA_s]⟩ (fun i hi => by rw [d5, upA_n (by omega), upA_n (by omega), upA_n (by omega), upA_n (by omega)]) (by rw [f5b, f4.2 2 (by decide), aup_rn (by decide), f2b, d12]) (fun i hi => by rw [f5c i hi, f4.1 i (by omega), aup_rn (by decide), f2c i hi, d10 i hi]) (by rw [f5d, f4.2 8 (by decide), aup_rn (by decide), f2d, d18])
                · refine aK_i ?_
                  refine aw_ifne (tgt := 104) dX7_test_95 (by decide) (fun h => absurd h (by decide)) (fun _ => ?_)
                  refine aw_aload_n dX7_test_98 rfl ?_
                  refine aw_iconst dX7_test_99 (by decide) ?_
                  refine c_X7_154 rfl dX7_test_100 m_ob (Nat.le_of_ble_eq_true rfl) (by omega) (C_m_fails H2 (k := 2) (by decide) (fun cm3 hb => ?_))
                  refine aK_i ?_
                  refine aw_zreturn dX7_test_103 rfl (Or.inl rfl) ?_
                  rw [if_neg (by omega), if_neg (by intro z; rcases z with z | z | z; exact s1 z; exact s2 z; exact s3 z)] at eT
                  exact hF _ _ _ eT (fB.b (show MB cm2 cm3 (wr tp n q2) (tF tp n q2) from hb))
          · refine aw_iconst dX7_test_69 (by decide) ?_
            refine aw_zreturn dX7_test_70 rfl (Or.inr rfl) ?_
            rw [if_pos h66] at eT
            exact hQ _ _ _ _ _ _ _ eT H2 fB ⟨by rw [d2, upA_n (by omega), upA_s]; omega, by rw [d2, upA_s], by rw [d2, upA_n (by omega), upA_n (by omega)]; exact w2, by rw [d2, upA_n (by omega), upA_n (by omega)]; exact w3, by rw [d2, upA_n (by omega), upA_n (by omega)]; exact w4, by rw [d2, upA_n (by omega), upA_n (by omega)]; exact w5⟩ (fun i hi => by rw [d2, upA_n (by omega), upA_n (by omega)]) (by rw [f2b, d12]) (fun i hi => by rw [f2c i hi, d10 i hi]) (by rw [f2d, d18])
      · refine aw_iload_n dX7_test_24 rfl ?_
        refine aw_bipush dX7_test_25 (by decide) ?_
        refine aw_icmpeq (tgt := 36) dX7_test_27 (by decide) (fun h27 => ?_) (fun h27 => ?_)
        · have hk : tW tp n p = 21 ∨ tW tp n p = 5 ∨ tW tp n p = 6 ∨ tW tp n p = 22 := by omega
          have hE9 := tE_bd (tp := tp) hp.2
          have eT : tstP tp n p s N = bnd (hvP tp n (tE tp n p) s N) fun h => if tW tp n p = 21 then .inr (h.2, 1721, h.1, 0, 0, 0) else if sgn tp n h.2 60 ∨ sgn tp n h.2 62 ∨ sgn tp n h.2 61 then bnd (numP tp n (tE tp n h.2) 0 9999) fun v => .inr (v.2, 1700 + tW tp n p, h.1, v.1, 0, tp (tF tp n h.2)) else .inl (wr tp n h.2, tF tp n h.2) := by unfold tstP; exact if_pos hk
          refine gm_7 rfl dX7_test_36 dX7_test_37 rfl ?_
          refine aw_iload_n dX7_test_40 rfl ?_
          refine aw_sipush dX7_test_41 (by decide) ?_
          refine aw_iload_n dX7_test_44 rfl ?_
          refine aw_iaddr dX7_test_45 (by omega) ?_
          refine aw_iastore dX7_test_46 m_a1 (by omega) (by omega) ?_
          have HA : RM (aup cm 1 r (1700 + tW tp n p)) tp n p := H.up (by decide) (by decide)
          have fA : MF cm (aup cm 1 r (1700 + tW tp n p)) := MF.rf.up1 (by omega)
          refine aw_aload_n dX7_test_47 rfl ?_
          refine c_X7_148 rfl dX7_test_48 m_ob (Nat.le_of_ble_eq_true rfl) (by omega) (C_m_ahead HA.1 HA.goes.1 HA.goes.2 (fun cm1 H1 f1 => ?_))
          have d1 : cm1 1 = upA (cm 1) r (1700 + tW tp n p) := by rw [f1.2 1 (by decide), aup_r]
          have d12 : cm1 2 = cm 2 := by rw [f1.2 2 (by decide), aup_rn (by decide)]
          have d10 : ∀ i, 19 < i → cm1 0 i = cm 0 i := fun i hi => by rw [f1.1 i (by omega), aup_rn (by decide)]
          have d18 : cm1 8 = cm 8 := by rw [f1.2 8 (by decide), aup_rn (by decide)]
          have S1 : SN cm1 s N := hSN.up (fun i hi => by rw [d1, upA_n (by omega)]) d12
          refine aK_v ?_
          refine aw_aload_n dX7_test_51 rfl ?_
          refine aw_iload_n dX7_test_52 rfl ?_
          refine aw_iconst dX7_test_53 (by decide) ?_
          refine aw_iaddr dX7_test_54 (by omega) ?_
          refine c_X7_220 rfl dX7_test_55 m_ob (Nat.le_of_ble_eq_true rfl) (by omega) (C_m_hiveTo H1 S1 (by omega) (fun k9 pl cm9 y2 hb => ?_) (fun h2 q2 cm2 y2 H2 f2 f2a f2b f2c f2d => ?_))
          · have Z := hF _ _ cm9 (by rw [eT]; exact bnd_l y2) ((fA.trans f1.mf).b hb)
            refine aK_i ?_
            refine aw_ifne (tgt := 63) dX7_test_58 (by decide) (fun h => absurd h (by decide)) (fun _ => ?_)
            refine aw_iconst dX7_test_61 (by decide) ?_
            refine aw_zreturn dX7_test_62 rfl (Or.inl rfl) ?_
            exact Z
          · rw [bnd_r y2] at eT
            dsimp only at eT
            have yb := hvP_p hE9.2 hP0.1 y2
            have fB : MF cm cm2 := (fA.trans f1.mf).trans f2
            have d2 : cm2 1 = upA (upA (cm 1) r (1700 + tW tp n p)) (r + 1) h2 := by rw [f2a, d1]
            refine aK_i ?_
            refine aw_ifne (tgt := 63) dX7_test_58 (by decide) (fun _ => ?_) (fun h => absurd h (by decide))
            refine aw_iload_n dX7_test_63 rfl ?_
            refine aw_bipush dX7_test_64 (by decide) ?_
            refine aw_icmpne (tgt := 71) dX7_test_66 (by decide) (fun h66 => ?_) (fun h66 => ?_)
            · refine aw_aload_n dX7_test_71 rfl ?_
              refine aw_bipush dX7_test_72 (by decide) ?_
              refine c_X7_151 rfl dX7_test_74 m_ob (Nat.le_of_ble_eq_true rfl) (by omega) (C_m_isSign H2 (fun s1 => ?_) (fun s1 => ?_))
              · refine aK_i ?_
                refine aw_ifne (tgt := 104) dX7_test_77 (by decide) (fun _ => ?_) (fun h => absurd h (by decide))
                have sg : sgn tp n q2 60 ∨ sgn tp n q2 62 ∨ sgn tp n q2 61 := by
                  first
                  | exact Or.inl s1
                  | exact Or.inr (Or.inl s2)
                  | exact Or.inr (Or.inr s3)
                have k3 : tK tp n q2 = 3 := by omega
                have ev : cm2 0 15 = tp (tF tp n q2) := H2.2.2.2.2.2.2 k3
                rw [if_neg (by omega), if_pos sg] at eT
                have hE8 := tE_bd (tp := tp) (n := n) (p := q2) yb.2.2
                refine gm_7 rfl dX7_test_104 dX7_test_105 rfl ?_
                refine aw_iload_n dX7_test_108 rfl ?_
                refine aw_iconst dX7_test_109 (by decide) ?_
                refine aw_iaddr dX7_test_110 (by omega) ?_
                refine gm_114 rfl dX7_test_111 dX7_test_112 rfl ?_
                rw [ev]
                refine aw_iastore dX7_test_115 m_a1 (by omega) (by omega) ?_
                have HC : RM (aup cm2 1 (r + 5) (tp (tF tp n q2))) tp n q2 := H2.up (by decide) (by decide)
                have fC : MF cm (aup cm2 1 (r + 5) (tp (tF tp n q2))) := fB.up1 (by omega)
                refine aw_aload_n dX7_test_116 rfl ?_
                refine c_X7_148 rfl dX7_test_117 m_ob (Nat.le_of_ble_eq_true rfl) (by omega) (C_m_ahead HC.1 HC.goes.1 HC.goes.2 (fun cm4 H4 f4 => ?_))
                refine aK_v ?_
                refine aw_aload_n dX7_test_120 rfl ?_
                refine aw_iload_n dX7_test_121 rfl ?_
                refine aw_iconst dX7_test_122 (by decide) ?_
                refine aw_iaddr dX7_test_123 (by omega) ?_
                refine aw_iconst dX7_test_124 (by decide) ?_
                refine aw_sipush dX7_test_125 (by decide) ?_
                refine c_X7_182 rfl dX7_test_128 m_ob (Nat.le_of_ble_eq_true rfl) (by omega) (C_m_number (t := r + 2) H4 (by omega) (fun k9 pl cm9 y5 hb => ?_) (fun v5 q5 cm5 y5 H5 f5 f5a f5b f5c f5d => ?_))
                · have Z := hF _ _ cm9 (by rw [eT]; exact bnd_l y5) ((fC.trans f4.mf).b hb)
                  refine aK_i ?_
                  refine aw_zreturn dX7_test_131 rfl (Or.inl rfl) ?_
                  exact Z
                · rw [bnd_r y5] at eT
                  have d5 : cm5 1 = upA (upA (upA (upA (cm 1) r (1700 + tW tp n p)) (r + 1) h2) (r + 5) (tp (tF tp n q2))) (r + 2) v5 := by rw [f5a, f4.2 1 (by decide), aup_r, d2]
                  refine aK_i ?_
                  refine aw_zreturn dX7_test_131 rfl (Or.inr rfl) ?_
                  exact hQ _ _ _ _ _ _ _ eT H5 ((fC.trans f4.mf).trans f5) ⟨by rw [d5, upA_n (by omega), upA_n (by omega), upA_n (by omega), upA_s], by rw [d5, upA_n (by omega), upA_n (by omega), upA_s], by rw [d5, upA_s], by rw [d5, upA_n (by omega), upA_n (by omega), upA_n (by omega), upA_n (by omega)]; exact w3, by rw [d5, upA_n (by omega), upA_n (by omega), upA_n (by omega), upA_n (by omega)]; exact w4, by rw [d5, upA_n (by omega), upA_s]⟩ (fun i hi => by rw [d5, upA_n (by omega), upA_n (by omega), upA_n (by omega), upA_n (by omega)]) (by rw [f5b, f4.2 2 (by decide), aup_rn (by decide), f2b, d12]) (fun i hi => by rw [f5c i hi, f4.1 i (by omega), aup_rn (by decide), f2c i hi, d10 i hi]) (by rw [f5d, f4.2 8 (by decide), aup_rn (by decide), f2d, d18])
              · refine aK_i ?_
                refine aw_ifne (tgt := 104) dX7_test_77 (by decide) (fun h => absurd h (by decide)) (fun _ => ?_)
                refine aw_aload_n dX7_test_80 rfl ?_
                refine aw_bipush dX7_test_81 (by decide) ?_
                refine c_X7_151 rfl dX7_test_83 m_ob (Nat.le_of_ble_eq_true rfl) (by omega) (C_m_isSign H2 (fun s2 => ?_) (fun s2 => ?_))
                · refine aK_i ?_
                  refine aw_ifne (tgt := 104) dX7_test_86 (by decide) (fun _ => ?_) (fun h => absurd h (by decide))
                  have sg : sgn tp n q2 60 ∨ sgn tp n q2 62 ∨ sgn tp n q2 61 := by
                    first
                    | exact Or.inl s1
                    | exact Or.inr (Or.inl s2)
                    | exact Or.inr (Or.inr s3)
                  have k3 : tK tp n q2 = 3 := by omega
                  have ev : cm2 0 15 = tp (tF tp n q2) := H2.2.2.2.2.2.2 k3
                  rw [if_neg (by omega), if_pos sg] at eT
                  have hE8 := tE_bd (tp := tp) (n := n) (p := q2) yb.2.2
                  refine gm_7 rfl dX7_test_104 dX7_test_105 rfl ?_
                  refine aw_iload_n dX7_test_108 rfl ?_
                  refine aw_iconst dX7_test_109 (by decide) ?_
                  refine aw_iaddr dX7_test_110 (by omega) ?_
                  refine gm_114 rfl dX7_test_111 dX7_test_112 rfl ?_
                  rw [ev]
                  refine aw_iastore dX7_test_115 m_a1 (by omega) (by omega) ?_
                  have HC : RM (aup cm2 1 (r + 5) (tp (tF tp n q2))) tp n q2 := H2.up (by decide) (by decide)
                  have fC : MF cm (aup cm2 1 (r + 5) (tp (tF tp n q2))) := fB.up1 (by omega)
                  refine aw_aload_n dX7_test_116 rfl ?_
                  refine c_X7_148 rfl dX7_test_117 m_ob (Nat.le_of_ble_eq_true rfl) (by omega) (C_m_ahead HC.1 HC.goes.1 HC.goes.2 (fun cm4 H4 f4 => ?_))
                  refine aK_v ?_
                  refine aw_aload_n dX7_test_120 rfl ?_
                  refine aw_iload_n dX7_test_121 rfl ?_
                  refine aw_iconst dX7_test_122 (by decide) ?_
                  refine aw_iaddr dX7_test_123 (by omega) ?_
                  refine aw_iconst dX7_test_124 (by decide) ?_
                  refine aw_sipush dX7_test_125 (by decide) ?_
                  refine c_X7_182 rfl dX7_test_128 m_ob (Nat.le_of_ble_eq_true rfl) (by omega) (C_m_number (t := r + 2) H4 (by omega) (fun k9 pl cm9 y5 hb => ?_) (fun v5 q5 cm5 y5 H5 f5 f5a f5b f5c f5d => ?_))
                  · have Z := hF _ _ cm9 (by rw [eT]; exact bnd_l y5) ((fC.trans f4.mf).b hb)
                    refine aK_i ?_
                    refine aw_zreturn dX7_test_131 rfl (Or.inl rfl) ?_
                    exact Z
                  · rw [bnd_r y5] at eT
                    have d5 : cm5 1 = upA (upA (upA (upA (cm 1) r (1700 + tW tp n p)) (r + 1) h2) (r + 5) (tp (tF tp n q2))) (r + 2) v5 := by rw [f5a, f4.2 1 (by decide), aup_r, d2]
                    refine aK_i ?_
                    refine aw_zreturn dX7_test_131 rfl (Or.inr rfl) ?_
                    exact hQ _ _ _ _ _ _ _ eT H5 ((fC.trans f4.mf).trans f5) ⟨by rw [d5, upA_n (by omega), upA_n (by omega), upA_n (by omega), upA_s], by rw [d5, upA_n (by omega), upA_n (by omega), upA_s], by rw [d5, upA_s], by rw [d5, upA_n (by omega), upA_n (by omega), upA_n (by omega), upA_n (by omega)]; exact w3, by rw [d5, upA_n (by omega), upA_n (by omega), upA_n (by omega), upA_n (by omega)]; exact w4, by rw [d5, upA_n (by omega), upA_s]⟩ (fun i hi => by rw [d5, upA_n (by omega), upA_n (by omega), upA_n (by omega), upA_n (by omega)]) (by rw [f5b, f4.2 2 (by decide), aup_rn (by decide), f2b, d12]) (fun i hi => by rw [f5c i hi, f4.1 i (by omega), aup_rn (by decide), f2c i hi, d10 i hi]) (by rw [f5d, f4.2 8 (by decide), aup_rn (by decide), f2d, d18])
                · refine aK_i ?_
                  refine aw_ifne (tgt := 104) dX7_test_86 (by decide) (fun h => absurd h (by decide)) (fun _ => ?_)
                  refine aw_aload_n dX7_test_89 rfl ?_
                  refine aw_bipush dX7_test_90 (by decide) ?_
                  refine c_X7_151 rfl dX7_test_92 m_ob (Nat.le_of_ble_eq_true rfl) (by omega) (C_m_isSign H2 (fun s3 => ?_) (fun s3 => ?_))
                  · refine aK_i ?_
                    refine aw_ifne (tgt := 104) dX7_test_95 (by decide) (fun _ => ?_) (fun h => absurd h (by decide))
                    have sg : sgn tp n q2 60 ∨ sgn tp n q2 62 ∨ sgn tp n q2 61 := by
                      first
                      | exact Or.inl s1
                      | exact Or.inr (Or.inl s2)
                      | exact Or.inr (Or.inr s3)
                    have k3 : tK tp n q2 = 3 := by omega
                    have ev : cm2 0 15 = tp (tF tp n q2) := H2.2.2.2.2.2.2 k3
                    rw [if_neg (by omega), if_pos sg] at eT
                    have hE8 := tE_bd (tp := tp) (n := n) (p := q2) yb.2.2
                    refine gm_7 rfl dX7_test_104 dX7_test_105 rfl ?_
                    refine aw_iload_n dX7_test_108 rfl ?_
                    refine aw_iconst dX7_test_109 (by decide) ?_
                    refine aw_iaddr dX7_test_110 (by omega) ?_
                    refine gm_114 rfl dX7_test_111 dX7_test_112 rfl ?_
                    rw [ev]
                    refine aw_iastore dX7_test_115 m_a1 (by omega) (by omega) ?_
                    have HC : RM (aup cm2 1 (r + 5) (tp (tF tp n q2))) tp n q2 := H2.up (by decide) (by decide)
                    have fC : MF cm (aup cm2 1 (r + 5) (tp (tF tp n q2))) := fB.up1 (by omega)
                    refine aw_aload_n dX7_test_116 rfl ?_
                    refine c_X7_148 rfl dX7_test_117 m_ob (Nat.le_of_ble_eq_true rfl) (by omega) (C_m_ahead HC.1 HC.goes.1 HC.goes.2 (fun cm4 H4 f4 => ?_))
                    refine aK_v ?_
                    refine aw_aload_n dX7_test_120 rfl ?_
                    refine aw_iload_n dX7_test_121 rfl ?_
                    refine aw_iconst dX7_test_122 (by decide) ?_
                    refine aw_iaddr dX7_test_123 (by omega) ?_
                    refine aw_iconst dX7_test_124 (by decide) ?_
                    refine aw_sipush dX7_test_125 (by decide) ?_
                    refine c_X7_182 rfl dX7_test_128 m_ob (Nat.le_of_ble_eq_true rfl) (by omega) (C_m_number (t := r + 2) H4 (by omega) (fun k9 pl cm9 y5 hb => ?_) (fun v5 q5 cm5 y5 H5 f5 f5a f5b f5c f5d => ?_))
                    · have Z := hF _ _ cm9 (by rw [eT]; exact bnd_l y5) ((fC.trans f4.mf).b hb)
                      refine aK_i ?_
                      refine aw_zreturn dX7_test_131 rfl (Or.inl rfl) ?_
                      exact Z
                    · rw [bnd_r y5] at eT
                      have d5 : cm5 1 = upA (upA (upA (upA (cm 1) r (1700 + tW tp n p)) (r + 1) h2) (r + 5) (tp (tF tp n q2))) (r + 2) v5 := by rw [f5a, f4.2 1 (by decide), aup_r, d2]
                      refine aK_i ?_
                      refine aw_zreturn dX7_test_131 rfl (Or.inr rfl) ?_
                      exact hQ _ _ _ _ _ _ _ eT H5 ((fC.trans f4.mf).trans f5) ⟨by rw [d5, upA_n (by omega), upA_n (by omega), upA_n (by omega), upA_s], by rw [d5, upA_n (by omega), upA_n (by omega), upA_s], by rw [d5, upA_s], by rw [d5, upA_n (by omega), upA_n (by omega), upA_n (by omega), upA_n (by omega)]; exact w3, by rw [d5, upA_n (by omega), upA_n (by omega), upA_n (by omega), upA_n (by omega)]; exact w4, by rw [d5, upA_n (by omega), upA_s]⟩ (fun i hi => by rw [d5, upA_n (by omega), upA_n (by omega), upA_n (by omega), upA_n (by omega)]) (by rw [f5b, f4.2 2 (by decide), aup_rn (by decide), f2b, d12]) (fun i hi => by rw [f5c i hi, f4.1 i (by omega), aup_rn (by decide), f2c i hi, d10 i hi]) (by rw [f5d, f4.2 8 (by decide), aup_rn (by decide), f2d, d18])
                  · refine aK_i ?_
                    refine aw_ifne (tgt := 104) dX7_test_95 (by decide) (fun h => absurd h (by decide)) (fun _ => ?_)
                    refine aw_aload_n dX7_test_98 rfl ?_
                    refine aw_iconst dX7_test_99 (by decide) ?_
                    refine c_X7_154 rfl dX7_test_100 m_ob (Nat.le_of_ble_eq_true rfl) (by omega) (C_m_fails H2 (k := 2) (by decide) (fun cm3 hb => ?_))
                    refine aK_i ?_
                    refine aw_zreturn dX7_test_103 rfl (Or.inl rfl) ?_
                    rw [if_neg (by omega), if_neg (by intro z; rcases z with z | z | z; exact s1 z; exact s2 z; exact s3 z)] at eT
                    exact hF _ _ _ eT (fB.b (show MB cm2 cm3 (wr tp n q2) (tF tp n q2) from hb))
            · refine aw_iconst dX7_test_69 (by decide) ?_
              refine aw_zreturn dX7_test_70 rfl (Or.inr rfl) ?_
              rw [if_pos h66] at eT
              exact hQ _ _ _ _ _ _ _ eT H2 fB ⟨by rw [d2, upA_n (by omega), upA_s]; omega, by rw [d2, upA_s], by rw [d2, upA_n (by omega), upA_n (by omega)]; exact w2, by rw [d2, upA_n (by omega), upA_n (by omega)]; exact w3, by rw [d2, upA_n (by omega), upA_n (by omega)]; exact w4, by rw [d2, upA_n (by omega), upA_n (by omega)]; exact w5⟩ (fun i hi => by rw [d2, upA_n (by omega), upA_n (by omega)]) (by rw [f2b, d12]) (fun i hi => by rw [f2c i hi, d10 i hi]) (by rw [f2d, d18])
        · refine aw_aload_n dX7_test_30 rfl ?_
          refine aw_iconst dX7_test_31 (by decide) ?_
          refine c_X7_154 rfl dX7_test_32 m_ob (Nat.le_of_ble_eq_true rfl) (by omega) (C_m_fails H (k := 2) (by decide) (fun cm1 hb => ?_))
          refine aK_i ?_
          refine aw_zreturn dX7_test_35 rfl (Or.inl rfl) ?_
          exact hF _ _ _ (by unfold tstP; exact if_neg (by omega)) (show MB cm cm1 (wr tp n p) (tF tp n p) from hb)
