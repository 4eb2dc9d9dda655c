set_option maxRecDepth 100000
/-! BeeYardModel reads: orders of a season, 2 -/
theorem C_m_order {cm : Int → Int → Int} {tp : Int → Int} {n p : Int} {s N : Int → Int} {r ko : Int} {Q : aPost} (H : RM cm tp n p) (hSN : SN cm s N) (hr : 5780 ≤ r ∧ r + 6 ≤ 6145) (hz : RWm (cm 1) r ko 0 0 0 0) (hk : 11 ≤ ko ∧ ko ≤ 20) (hF : ∀ (k pl : Int) (cm1 : Int → Int → Int), ordP tp n p s N ko = .inl (k, pl) → MB cm cm1 k pl → Q (.inl (some (vI 0))) (gM cm1)) (hQ : ∀ (q kk a b c e : Int) (cm1 : Int → Int → Int), ordP tp n p s N ko = .inr (q, kk, a, b, c, e) → RM cm1 tp n q → MF cm cm1 → RWm (cm1 1) r kk a b c e → (∀ i, i < r ∨ r + 6 ≤ i → cm1 1 i = cm 1 i) → cm1 2 = cm 2 → (∀ i, 19 < i → cm1 0 i = cm 0 i) → cm1 8 = cm 8 → Q (.inl (some (vI 1))) (gM cm1)) : AMet md_X7_seasonOrder 10 0 0 [vR 0, vI ko, vI r] (gM cm) Q := by
  refine AMet.go (L := [some (vR 0), some (vI ko), some (vI r)]) mok_X7_seasonOrder (Nat.le_of_ble_eq_true rfl) rfl ?_
  have hp := H.2.1
  obtain ⟨w0, w1, w2, w3, w4, w5⟩ := id hz
  have hP0 := hSN.2.2.2.1
  have hPq := hSN.2.2.2.2.2.2.1.1
  have z0 : cm 1 0 = s 0 := hSN.1 0 (by decide) (by decide)
  have z1 : cm 1 1 = s 1 := hSN.1 1 (by decide) (by decide)
  refine aw_iload_n dX7_seasonOrder_0 rfl ?_
  have hsw : ko = 11 ∨ ko = 12 ∨ ko = 13 ∨ ko = 14 ∨ ko = 15 ∨ ko = 16 ∨ ko = 17 ∨ ko = 18 ∨ (ko < 11 ∨ 18 < ko) := by omega
  rcases hsw with hsw | hsw | hsw | hsw | hsw | hsw | hsw | hsw | hsw
  · first
      | (exfalso; omega)
      | skip
        refine aw_tabIn (tgt := 48) dX7_seasonOrder_1 (by omega) (by omega) (off := 47) (by rw [hsw]; rfl) (by decide) ?_
        subst hsw
        rw [ordP_11] at hF hQ
        refine aw_aload_n dX7_seasonOrder_48 rfl ?_
        refine aw_iload_n dX7_seasonOrder_49 rfl ?_
        refine aw_iconst dX7_seasonOrder_50 (by decide) ?_
        refine aw_iaddr dX7_seasonOrder_51 (by omega) ?_
        refine aw_iconst dX7_seasonOrder_52 (by decide) ?_
        refine aw_bipush dX7_seasonOrder_53 (by decide) ?_
        refine c_X7_182 rfl dX7_seasonOrder_55 m_ob (Nat.le_of_ble_eq_true rfl) (by omega) (C_m_number (t := r + 1) H (by omega) (fun k9 pl cm9 y1 hb => ?_) (fun v1 q1 cm1 y1 H1 f1 f1a f1b f1c f1d => ?_))
        · have Z := hF _ _ cm9 (by exact bnd_l y1) (hb)
          refine aK_i ?_
          refine aw_zreturn dX7_seasonOrder_58 rfl (Or.inl rfl) ?_
          first
            | exact Z
            | exact hQ _ _ _ _ _ _ cm1 (by rw [bnd_r y1]) H1 F1 ⟨by rw [d1, upA_n (by omega)]; exact w0, by rw [d1, upA_s], by rw [d1, upA_n (by omega)]; exact w2, by rw [d1, upA_n (by omega)]; exact w3, by rw [d1, upA_n (by omega)]; exact w4, by rw [d1, upA_n (by omega)]; exact w5⟩ (fun i hi => by rw [d1, upA_n (by omega)]) e2_1 (fun i hi => by rw [f1c i hi]) (by rw [f1d])
        · have d1 : cm1 1 = upA (cm 1) (r + 1) v1 := by rw [f1a]
          have F1 : MF cm cm1 := f1
          have e2_1 : cm1 2 = cm 2 := by rw [f1b]
          have S1 : SN cm1 s N := hSN.up (fun i hi => by rw [d1, upA_n (by omega)]) e2_1
          refine aK_i ?_
          refine aw_zreturn dX7_seasonOrder_58 rfl (Or.inr rfl) ?_
          first
            | exact Z
            | exact hQ _ _ _ _ _ _ cm1 (by rw [bnd_r y1]) H1 F1 ⟨by rw [d1, upA_n (by omega)]; exact w0, by rw [d1, upA_s], by rw [d1, upA_n (by omega)]; exact w2, by rw [d1, upA_n (by omega)]; exact w3, by rw [d1, upA_n (by omega)]; exact w4, by rw [d1, upA_n (by omega)]; exact w5⟩ (fun i hi => by rw [d1, upA_n (by omega)]) e2_1 (fun i hi => by rw [f1c i hi]) (by rw [f1d])
  · first
      | (exfalso; omega)
      | skip
        refine aw_tabIn (tgt := 59) dX7_seasonOrder_1 (by omega) (by omega) (off := 58) (by rw [hsw]; rfl) (by decide) ?_
        subst hsw
        rw [ordP_12] at hF hQ
        refine aw_aload_n dX7_seasonOrder_59 rfl ?_
        refine aw_iload_n dX7_seasonOrder_60 rfl ?_
        refine aw_iconst dX7_seasonOrder_61 (by decide) ?_
        refine aw_iaddr dX7_seasonOrder_62 (by omega) ?_
        refine c_X7_220 rfl dX7_seasonOrder_63 m_ob (Nat.le_of_ble_eq_true rfl) (by omega) (C_m_hiveTo H hSN (by omega) (fun k9 pl cm9 y1 hb => ?_) (fun v1 q1 cm1 y1 H1 f1 f1a f1b f1c f1d => ?_))
        · have Z := hF _ _ cm9 (by exact bnd_l y1) (hb)
          refine aK_i ?_
          refine aw_ifeq (tgt := 87) dX7_seasonOrder_66 (by decide) (fun _ => ?_) (fun h => absurd h (by decide))
          refine aw_iconst dX7_seasonOrder_87 (by decide) ?_
          refine aw_zreturn dX7_seasonOrder_88 rfl (Or.inl rfl) ?_
          first
            | exact Z
            | exact hQ _ _ _ _ _ _ cm2 (by rw [bnd_r y1, bnd_r y2]) H2 F2 ⟨by rw [d2, upA_n (by omega), upA_n (by omega)]; exact w0, by rw [d2, upA_n (by omega), upA_s], by rw [d2, upA_s], by rw [d2, upA_n (by omega), upA_n (by omega)]; exact w3, by rw [d2, upA_n (by omega), upA_n (by omega)]; exact w4, by rw [d2, upA_n (by omega), upA_n (by omega)]; exact w5⟩ (fun i hi => by rw [d2, upA_n (by omega), upA_n (by omega)]) e2_2 (fun i hi => by rw [f2c i hi, f1c i hi]) (by rw [f2d, f1d])
        · have d1 : cm1 1 = upA (cm 1) (r + 1) v1 := by rw [f1a]
          have F1 : MF cm cm1 := f1
          have e2_1 : cm1 2 = cm 2 := by rw [f1b]
          have S1 : SN cm1 s N := hSN.up (fun i hi => by rw [d1, upA_n (by omega)]) e2_1
          have yb1 := hvP_p hp.2 hP0.1 y1
          refine aK_i ?_
          refine aw_ifeq (tgt := 87) dX7_seasonOrder_66 (by decide) (fun h => absurd h (by decide)) (fun _ => ?_)
          refine aw_aload_n dX7_seasonOrder_69 rfl ?_
          refine aw_iload_n dX7_seasonOrder_70 rfl ?_
          refine aw_iconst dX7_seasonOrder_71 (by decide) ?_
          refine aw_iaddr dX7_seasonOrder_72 (by omega) ?_
          refine aw_iconst dX7_seasonOrder_73 (by decide) ?_
          refine aw_sipush dX7_seasonOrder_74 (by decide) ?_
          refine c_X7_182 rfl dX7_seasonOrder_77 m_ob (Nat.le_of_ble_eq_true rfl) (by omega) (C_m_number (t := r + 2) H1 (by omega) (fun k9 pl cm9 y2 hb => ?_) (fun v2 q2 cm2 y2 H2 f2 f2a f2b f2c f2d => ?_))
          · have Z := hF _ _ cm9 (by rw [bnd_r y1]; exact bnd_l y2) (F1.b hb)
            refine aK_i ?_
            refine aw_ifeq (tgt := 87) dX7_seasonOrder_80 (by decide) (fun _ => ?_) (fun h => absurd h (by decide))
            refine aw_iconst dX7_seasonOrder_87 (by decide) ?_
            refine aw_zreturn dX7_seasonOrder_88 rfl (Or.inl rfl) ?_
            first
              | exact Z
              | exact hQ _ _ _ _ _ _ cm2 (by rw [bnd_r y1, bnd_r y2]) H2 F2 ⟨by rw [d2, upA_n (by omega), upA_n (by omega)]; exact w0, by rw [d2, upA_n (by omega), upA_s], by rw [d2, upA_s], by rw [d2, upA_n (by omega), upA_n (by omega)]; exact w3, by rw [d2, upA_n (by omega), upA_n (by omega)]; exact w4, by rw [d2, upA_n (by omega), upA_n (by omega)]; exact w5⟩ (fun i hi => by rw [d2, upA_n (by omega), upA_n (by omega)]) e2_2 (fun i hi => by rw [f2c i hi, f1c i hi]) (by rw [f2d, f1d])
          · have d2 : cm2 1 = upA (upA (cm 1) (r + 1) v1) (r + 2) v2 := by rw [f2a, d1]
            have F2 : MF cm cm2 := F1.trans f2
            have e2_2 : cm2 2 = cm 2 := by rw [f2b, f1b]
            have S2 : SN cm2 s N := hSN.up (fun i hi => by rw [d2, upA_n (by omega), upA_n (by omega)]) e2_2
            refine aK_i ?_
            refine aw_ifeq (tgt := 87) dX7_seasonOrder_80 (by decide) (fun h => absurd h (by decide)) (fun _ => ?_)
            refine aw_iconst dX7_seasonOrder_83 (by decide) ?_
            refine aw_goto (tgt := 88) dX7_seasonOrder_84 (by decide) ?_
            refine aw_zreturn dX7_seasonOrder_88 rfl (Or.inr rfl) ?_
            first
              | exact Z
              | exact hQ _ _ _ _ _ _ cm2 (by rw [bnd_r y1, bnd_r y2]) H2 F2 ⟨by rw [d2, upA_n (by omega), upA_n (by omega)]; exact w0, by rw [d2, upA_n (by omega), upA_s], by rw [d2, upA_s], by rw [d2, upA_n (by omega), upA_n (by omega)]; exact w3, by rw [d2, upA_n (by omega), upA_n (by omega)]; exact w4, by rw [d2, upA_n (by omega), upA_n (by omega)]; exact w5⟩ (fun i hi => by rw [d2, upA_n (by omega), upA_n (by omega)]) e2_2 (fun i hi => by rw [f2c i hi, f1c i hi]) (by rw [f2d, f1d])
  · first
      | (exfalso; omega)
      | skip
        refine aw_tabIn (tgt := 89) dX7_seasonOrder_1 (by omega) (by omega) (off := 88) (by rw [hsw]; rfl) (by decide) ?_
        subst hsw
        rw [ordP_13] at hF hQ
        refine aw_aload_n dX7_seasonOrder_89 rfl ?_
        refine aw_iload_n dX7_seasonOrder_90 rfl ?_
        refine aw_iconst dX7_seasonOrder_91 (by decide) ?_
        refine aw_iaddr dX7_seasonOrder_92 (by omega) ?_
        refine c_X7_220 rfl dX7_seasonOrder_93 m_ob (Nat.le_of_ble_eq_true rfl) (by omega) (C_m_hiveTo H hSN (by omega) (fun k9 pl cm9 y1 hb => ?_) (fun v1 q1 cm1 y1 H1 f1 f1a f1b f1c f1d => ?_))
        · have Z := hF _ _ cm9 (by exact bnd_l y1) (hb)
          refine aK_i ?_
          refine aw_ifeq (tgt := 116) dX7_seasonOrder_96 (by decide) (fun _ => ?_) (fun h => absurd h (by decide))
          refine aw_iconst dX7_seasonOrder_116 (by decide) ?_
          refine aw_zreturn dX7_seasonOrder_117 rfl (Or.inl rfl) ?_
          first
            | exact Z
            | exact hQ _ _ _ _ _ _ cm2 (by rw [bnd_r y1, bnd_r y2]) H2 F2 ⟨by rw [d2, upA_n (by omega), upA_n (by omega)]; exact w0, by rw [d2, upA_n (by omega), upA_s], by rw [d2, upA_s], by rw [d2, upA_n (by omega), upA_n (by omega)]; exact w3, by rw [d2, upA_n (by omega), upA_n (by omega)]; exact w4, by rw [d2, upA_n (by omega), upA_n (by omega)]; exact w5⟩ (fun i hi => by rw [d2, upA_n (by omega), upA_n (by omega)]) e2_2 (fun i hi => by rw [f2c i hi, f1c i hi]) (by rw [f2d, f1d])
        · have d1 : cm1 1 = upA (cm 1) (r + 1) v1 := by rw [f1a]
          have F1 : MF cm cm1 := f1
          have e2_1 : cm1 2 = cm 2 := by rw [f1b]
          have S1 : SN cm1 s N := hSN.up (fun i hi => by rw [d1, upA_n (by omega)]) e2_1
          have yb1 := hvP_p hp.2 hP0.1 y1
          refine aK_i ?_
          refine aw_ifeq (tgt := 116) dX7_seasonOrder_96 (by decide) (fun h => absurd h (by decide)) (fun _ => ?_)
          refine aw_aload_n dX7_seasonOrder_99 rfl ?_
          refine aw_iload_n dX7_seasonOrder_100 rfl ?_
          refine aw_iconst dX7_seasonOrder_101 (by decide) ?_
          refine aw_iaddr dX7_seasonOrder_102 (by omega) ?_
          refine aw_iload_n dX7_seasonOrder_103 rfl ?_
          refine aw_iconst dX7_seasonOrder_104 (by decide) ?_
          refine aw_iaddr dX7_seasonOrder_105 (by omega) ?_
          refine c_X7_223 rfl dX7_seasonOrder_106 m_ob (Nat.le_of_ble_eq_true rfl) (by omega) (C_m_frameTo (h9 := v1) H1 S1 (by omega) (by rw [d1, upA_s]) yb1.1 (by omega) (fun k9 pl cm9 y2 hb => ?_) (fun v2 q2 cm2 y2 H2 f2 f2a f2b f2c f2d => ?_))
          · have Z := hF _ _ cm9 (by rw [bnd_r y1]; exact bnd_l y2) (F1.b hb)
            refine aK_i ?_
            refine aw_ifeq (tgt := 116) dX7_seasonOrder_109 (by decide) (fun _ => ?_) (fun h => absurd h (by decide))
            refine aw_iconst dX7_seasonOrder_116 (by decide) ?_
            refine aw_zreturn dX7_seasonOrder_117 rfl (Or.inl rfl) ?_
            first
              | exact Z
              | exact hQ _ _ _ _ _ _ cm2 (by rw [bnd_r y1, bnd_r y2]) H2 F2 ⟨by rw [d2, upA_n (by omega), upA_n (by omega)]; exact w0, by rw [d2, upA_n (by omega), upA_s], by rw [d2, upA_s], by rw [d2, upA_n (by omega), upA_n (by omega)]; exact w3, by rw [d2, upA_n (by omega), upA_n (by omega)]; exact w4, by rw [d2, upA_n (by omega), upA_n (by omega)]; exact w5⟩ (fun i hi => by rw [d2, upA_n (by omega), upA_n (by omega)]) e2_2 (fun i hi => by rw [f2c i hi, f1c i hi]) (by rw [f2d, f1d])
          · have d2 : cm2 1 = upA (upA (cm 1) (r + 1) v1) (r + 2) v2 := by rw [f2a, d1]
            have F2 : MF cm cm2 := F1.trans f2
            have e2_2 : cm2 2 = cm 2 := by rw [f2b, f1b]
            have S2 : SN cm2 s N := hSN.up (fun i hi => by rw [d2, upA_n (by omega), upA_n (by omega)]) e2_2
            have yb2 : True ∧ True ∧ q2 ≤ n := ⟨trivial, trivial, (numP_p yb1.2.2 y2).1.2⟩
            refine aK_i ?_
            refine aw_ifeq (tgt := 116) dX7_seasonOrder_109 (by decide) (fun h => absurd h (by decide)) (fun _ => ?_)
            refine aw_iconst dX7_seasonOrder_112 (by decide) ?_
            refine aw_goto (tgt := 117) dX7_seasonOrder_113 (by decide) ?_
            refine aw_zreturn dX7_seasonOrder_117 rfl (Or.inr rfl) ?_
            first
              | exact Z
              | exact hQ _ _ _ _ _ _ cm2 (by rw [bnd_r y1, bnd_r y2]) H2 F2 ⟨by rw [d2, upA_n (by omega), upA_n (by omega)]; exact w0, by rw [d2, upA_n (by omega), upA_s], by rw [d2, upA_s], by rw [d2, upA_n (by omega), upA_n (by omega)]; exact w3, by rw [d2, upA_n (by omega), upA_n (by omega)]; exact w4, by rw [d2, upA_n (by omega), upA_n (by omega)]; exact w5⟩ (fun i hi => by rw [d2, upA_n (by omega), upA_n (by omega)]) e2_2 (fun i hi => by rw [f2c i hi, f1c i hi]) (by rw [f2d, f1d])
  · first
      | (exfalso; omega)
      | skip
        refine aw_tabIn (tgt := 118) dX7_seasonOrder_1 (by omega) (by omega) (off := 117) (by rw [hsw]; rfl) (by decide) ?_
        subst hsw
        rw [ordP_14] at hF hQ
        refine aw_aload_n dX7_seasonOrder_118 rfl ?_
        refine aw_iload_n dX7_seasonOrder_119 rfl ?_
        refine aw_iconst dX7_seasonOrder_120 (by decide) ?_
        refine aw_iaddr dX7_seasonOrder_121 (by omega) ?_
        refine c_X7_220 rfl dX7_seasonOrder_122 m_ob (Nat.le_of_ble_eq_true rfl) (by omega) (C_m_hiveTo H hSN (by omega) (fun k9 pl cm9 y1 hb => ?_) (fun v1 q1 cm1 y1 H1 f1 f1a f1b f1c f1d => ?_))
        · have Z := hF _ _ cm9 (by exact bnd_l y1) (hb)
          refine aK_i ?_
          refine aw_ifeq (tgt := 168) dX7_seasonOrder_125 (by decide) (fun _ => ?_) (fun h => absurd h (by decide))
          refine aw_iconst dX7_seasonOrder_168 (by decide) ?_
          refine aw_zreturn dX7_seasonOrder_169 rfl (Or.inl rfl) ?_
          first
            | exact Z
            | exact hQ _ _ _ _ _ _ cm4 (by rw [bnd_r y1, bnd_r y2, bnd_r y3, bnd_r y4]) H4 F4 ⟨by rw [d4, upA_n (by omega), upA_n (by omega), upA_n (by omega), upA_n (by omega)]; exact w0, by rw [d4, upA_n (by omega), upA_n (by omega), upA_n (by omega), upA_s], by rw [d4, upA_n (by omega), upA_n (by omega), upA_s], by rw [d4, upA_n (by omega), upA_s], by rw [d4, upA_n (by omega), upA_n (by omega), upA_n (by omega), upA_n (by omega)]; exact w4, by rw [d4, upA_s]⟩ (fun i hi => by rw [d4, upA_n (by omega), upA_n (by omega), upA_n (by omega), upA_n (by omega)]) e2_4 (fun i hi => by rw [f4c i hi, f3c i hi, f2c i hi, f1c i hi]) (by rw [f4d, f3d, f2d, f1d])
        · have d1 : cm1 1 = upA (cm 1) (r + 1) v1 := by rw [f1a]
          have F1 : MF cm cm1 := f1
          have e2_1 : cm1 2 = cm 2 := by rw [f1b]
          have S1 : SN cm1 s N := hSN.up (fun i hi => by rw [d1, upA_n (by omega)]) e2_1
          have yb1 := hvP_p hp.2 hP0.1 y1
          refine aK_i ?_
          refine aw_ifeq (tgt := 168) dX7_seasonOrder_125 (by decide) (fun h => absurd h (by decide)) (fun _ => ?_)
          refine aw_aload_n dX7_seasonOrder_128 rfl ?_
          refine aw_iload_n dX7_seasonOrder_129 rfl ?_
          refine aw_iconst dX7_seasonOrder_130 (by decide) ?_
          refine aw_iaddr dX7_seasonOrder_131 (by omega) ?_
          refine aw_iload_n dX7_seasonOrder_132 rfl ?_
          refine aw_iconst dX7_seasonOrder_133 (by decide) ?_
          refine aw_iaddr dX7_seasonOrder_134 (by omega) ?_
          refine c_X7_223 rfl dX7_seasonOrder_135 m_ob (Nat.le_of_ble_eq_true rfl) (by omega) (C_m_frameTo (h9 := v1) H1 S1 (by omega) (by rw [d1, upA_s]) yb1.1 (by omega) (fun k9 pl cm9 y2 hb => ?_) (fun v2 q2 cm2 y2 H2 f2 f2a f2b f2c f2d => ?_))
          · have Z := hF _ _ cm9 (by rw [bnd_r y1]; exact bnd_l y2) (F1.b hb)
            refine aK_i ?_
            refine aw_ifeq (tgt := 168) dX7_seasonOrder_138 (by decide) (fun _ => ?_) (fun h => absurd h (by decide))
            refine aw_iconst dX7_seasonOrder_168 (by decide) ?_
            refine aw_zreturn dX7_seasonOrder_169 rfl (Or.inl rfl) ?_
            first
              | exact Z
              | exact hQ _ _ _ _ _ _ cm4 (by rw [bnd_r y1, bnd_r y2, bnd_r y3, bnd_r y4]) H4 F4 ⟨by rw [d4, upA_n (by omega), upA_n (by omega), upA_n (by omega), upA_n (by omega)]; exact w0, by rw [d4, upA_n (by omega), upA_n (by omega), upA_n (by omega), upA_s], by rw [d4, upA_n (by omega), upA_n (by omega), upA_s], by rw [d4, upA_n (by omega), upA_s], by rw [d4, upA_n (by omega), upA_n (by omega), upA_n (by omega), upA_n (by omega)]; exact w4, by rw [d4, upA_s]⟩ (fun i hi => by rw [d4, upA_n (by omega), upA_n (by omega), upA_n (by omega), upA_n (by omega)]) e2_4 (fun i hi => by rw [f4c i hi, f3c i hi, f2c i hi, f1c i hi]) (by rw [f4d, f3d, f2d, f1d])
          · have d2 : cm2 1 = upA (upA (cm 1) (r + 1) v1) (r + 2) v2 := by rw [f2a, d1]
            have F2 : MF cm cm2 := F1.trans f2
            have e2_2 : cm2 2 = cm 2 := by rw [f2b, f1b]
            have S2 : SN cm2 s N := hSN.up (fun i hi => by rw [d2, upA_n (by omega), upA_n (by omega)]) e2_2
            have yb2 : True ∧ True ∧ q2 ≤ n := ⟨trivial, trivial, (numP_p yb1.2.2 y2).1.2⟩
            refine aK_i ?_
            refine aw_ifeq (tgt := 168) dX7_seasonOrder_138 (by decide) (fun h => absurd h (by decide)) (fun _ => ?_)
            refine aw_aload_n dX7_seasonOrder_141 rfl ?_
            refine aw_iload_n dX7_seasonOrder_142 rfl ?_
            refine aw_iconst dX7_seasonOrder_143 (by decide) ?_
            refine aw_iaddr dX7_seasonOrder_144 (by omega) ?_
            refine c_X7_220 rfl dX7_seasonOrder_145 m_ob (Nat.le_of_ble_eq_true rfl) (by omega) (C_m_hiveTo H2 S2 (by omega) (fun k9 pl cm9 y3 hb => ?_) (fun v3 q3 cm3 y3 H3 f3 f3a f3b f3c f3d => ?_))
            · have Z := hF _ _ cm9 (by rw [bnd_r y1, bnd_r y2]; exact bnd_l y3) (F2.b hb)
              refine aK_i ?_
              refine aw_ifeq (tgt := 168) dX7_seasonOrder_148 (by decide) (fun _ => ?_) (fun h => absurd h (by decide))
              refine aw_iconst dX7_seasonOrder_168 (by decide) ?_
              refine aw_zreturn dX7_seasonOrder_169 rfl (Or.inl rfl) ?_
              first
                | exact Z
                | exact hQ _ _ _ _ _ _ cm4 (by rw [bnd_r y1, bnd_r y2, bnd_r y3, bnd_r y4]) H4 F4 ⟨by rw [d4, upA_n (by omega), upA_n (by omega), upA_n (by omega), upA_n (by omega)]; exact w0, by rw [d4, upA_n (by omega), upA_n (by omega), upA_n (by omega), upA_s], by rw [d4, upA_n (by omega), upA_n (by omega), upA_s], by rw [d4, upA_n (by omega), upA_s], by rw [d4, upA_n (by omega), upA_n (by omega), upA_n (by omega), upA_n (by omega)]; exact w4, by rw [d4, upA_s]⟩ (fun i hi => by rw [d4, upA_n (by omega), upA_n (by omega), upA_n (by omega), upA_n (by omega)]) e2_4 (fun i hi => by rw [f4c i hi, f3c i hi, f2c i hi, f1c i hi]) (by rw [f4d, f3d, f2d, f1d])
            · have d3 : cm3 1 = upA (upA (upA (cm 1) (r + 1) v1) (r + 2) v2) (r + 3) v3 := by rw [f3a, d2]
              have F3 : MF cm cm3 := F2.trans f3
              have e2_3 : cm3 2 = cm 2 := by rw [f3b, f2b, f1b]
              have S3 : SN cm3 s N := hSN.up (fun i hi => by rw [d3, upA_n (by omega), upA_n (by omega), upA_n (by omega)]) e2_3
              have yb3 := hvP_p yb2.2.2 hP0.1 y3
              refine aK_i ?_
              refine aw_ifeq (tgt := 168) dX7_seasonOrder_148 (by decide) (fun h => absurd h (by decide)) (fun _ => ?_)
              refine aw_aload_n dX7_seasonOrder_151 rfl ?_
              refine aw_iload_n dX7_seasonOrder_152 rfl ?_
              refine aw_iconst dX7_seasonOrder_153 (by decide) ?_
              refine aw_iaddr dX7_seasonOrder_154 (by omega) ?_
              refine aw_iload_n dX7_seasonOrder_155 rfl ?_
              refine aw_iconst dX7_seasonOrder_156 (by decide) ?_
              refine aw_iaddr dX7_seasonOrder_157 (by omega) ?_
              refine c_X7_223 rfl dX7_seasonOrder_158 m_ob (Nat.le_of_ble_eq_true rfl) (by omega) (C_m_frameTo (h9 := v3) H3 S3 (by omega) (by rw [d3, upA_s]) yb3.1 (by omega) (fun k9 pl cm9 y4 hb => ?_) (fun v4 q4 cm4 y4 H4 f4 f4a f4b f4c f4d => ?_))
              · have Z := hF _ _ cm9 (by rw [bnd_r y1, bnd_r y2, bnd_r y3]; exact bnd_l y4) (F3.b hb)
                refine aK_i ?_
                refine aw_ifeq (tgt := 168) dX7_seasonOrder_161 (by decide) (fun _ => ?_) (fun h => absurd h (by decide))
                refine aw_iconst dX7_seasonOrder_168 (by decide) ?_
                refine aw_zreturn dX7_seasonOrder_169 rfl (Or.inl rfl) ?_
                first
                  | exact Z
                  | exact hQ _ _ _ _ _ _ cm4 (by rw [bnd_r y1, bnd_r y2, bnd_r y3, bnd_r y4]) H4 F4 ⟨by rw [d4, upA_n (by omega), upA_n (by omega), upA_n (by omega), upA_n (by omega)]; exact w0, by rw [d4, upA_n (by omega), upA_n (by omega), upA_n (by omega), upA_s], by rw [d4, upA_n (by omega), upA_n (by omega), upA_s], by rw [d4, upA_n (by omega), upA_s], by rw [d4, upA_n (by omega), upA_n (by omega), upA_n (by omega), upA_n (by omega)]; exact w4, by rw [d4, upA_s]⟩ (fun i hi => by rw [d4, upA_n (by omega), upA_n (by omega), upA_n (by omega), upA_n (by omega)]) e2_4 (fun i hi => by rw [f4c i hi, f3c i hi, f2c i hi, f1c i hi]) (by rw [f4d, f3d, f2d, f1d])
              · have d4 : cm4 1 = upA (upA (upA (upA (cm 1) (r + 1) v1) (r + 2) v2) (r + 3) v3) (r + 5) v4 := by rw [f4a, d3]
                have F4 : MF cm cm4 := F3.trans f4
                have e2_4 : cm4 2 = cm 2 := by rw [f4b, f3b, f2b, f1b]
                have S4 : SN cm4 s N := hSN.up (fun i hi => by rw [d4, upA_n (by omega), upA_n (by omega), upA_n (by omega), upA_n (by omega)]) e2_4
                have yb4 : True ∧ True ∧ q4 ≤ n := ⟨trivial, trivial, (numP_p yb3.2.2 y4).1.2⟩
                refine aK_i ?_
                refine aw_ifeq (tgt := 168) dX7_seasonOrder_161 (by decide) (fun h => absurd h (by decide)) (fun _ => ?_)
                refine aw_iconst dX7_seasonOrder_164 (by decide) ?_
                refine aw_goto (tgt := 169) dX7_seasonOrder_165 (by decide) ?_
                refine aw_zreturn dX7_seasonOrder_169 rfl (Or.inr rfl) ?_
                first
                  | exact Z
                  | exact hQ _ _ _ _ _ _ cm4 (by rw [bnd_r y1, bnd_r y2, bnd_r y3, bnd_r y4]) H4 F4 ⟨by rw [d4, upA_n (by omega), upA_n (by omega), upA_n (by omega), upA_n (by omega)]; exact w0, by rw [d4, upA_n (by omega), upA_n (by omega), upA_n (by omega), upA_s], by rw [d4, upA_n (by omega), upA_n (by omega), upA_s], by rw [d4, upA_n (by omega), upA_s], by rw [d4, upA_n (by omega), upA_n (by omega), upA_n (by omega), upA_n (by omega)]; exact w4, by rw [d4, upA_s]⟩ (fun i hi => by rw [d4, upA_n (by omega), upA_n (by omega), upA_n (by omega), upA_n (by omega)]) e2_4 (fun i hi => by rw [f4c i hi, f3c i hi, f2c i hi, f1c i hi]) (by rw [f4d, f3d, f2d, f1d])
  · first
      | (exfalso; omega)
      | skip
        refine aw_tabIn (tgt := 170) dX7_seasonOrder_1 (by omega) (by omega) (off := 169) (by rw [hsw]; rfl) (by decide) ?_
        subst hsw
        rw [ordP_15] at hF hQ
        refine aw_aload_n dX7_seasonOrder_170 rfl ?_
        refine aw_iload_n dX7_seasonOrder_171 rfl ?_
        refine aw_iconst dX7_seasonOrder_172 (by decide) ?_
        refine aw_iaddr dX7_seasonOrder_173 (by omega) ?_
        refine aw_iconst dX7_seasonOrder_174 (by decide) ?_
        refine aw_bipush dX7_seasonOrder_175 (by decide) ?_
        refine c_X7_182 rfl dX7_seasonOrder_177 m_ob (Nat.le_of_ble_eq_true rfl) (by omega) (C_m_number (t := r + 1) H (by omega) (fun k9 pl cm9 y1 hb => ?_) (fun v1 q1 cm1 y1 H1 f1 f1a f1b f1c f1d => ?_))
        · have Z := hF _ _ cm9 (by exact bnd_l y1) (hb)
          refine aK_i ?_
          refine aw_zreturn dX7_seasonOrder_180 rfl (Or.inl rfl) ?_
          first
            | exact Z
            | exact hQ _ _ _ _ _ _ cm1 (by rw [bnd_r y1]) H1 F1 ⟨by rw [d1, upA_n (by omega)]; exact w0, by rw [d1, upA_s], by rw [d1, upA_n (by omega)]; exact w2, by rw [d1, upA_n (by omega)]; exact w3, by rw [d1, upA_n (by omega)]; exact w4, by rw [d1, upA_n (by omega)]; exact w5⟩ (fun i hi => by rw [d1, upA_n (by omega)]) e2_1 (fun i hi => by rw [f1c i hi]) (by rw [f1d])
        · have d1 : cm1 1 = upA (cm 1) (r + 1) v1 := by rw [f1a]
          have F1 : MF cm cm1 := f1
          have e2_1 : cm1 2 = cm 2 := by rw [f1b]
          have S1 : SN cm1 s N := hSN.up (fun i hi => by rw [d1, upA_n (by omega)]) e2_1
          refine aK_i ?_
          refine aw_zreturn dX7_seasonOrder_180 rfl (Or.inr rfl) ?_
          first
            | exact Z
            | exact hQ _ _ _ _ _ _ cm1 (by rw [bnd_r y1]) H1 F1 ⟨by rw [d1, upA_n (by omega)]; exact w0, by rw [d1, upA_s], by rw [d1, upA_n (by omega)]; exact w2, by rw [d1, upA_n (by omega)]; exact w3, by rw [d1, upA_n (by omega)]; exact w4, by rw [d1, upA_n (by omega)]; exact w5⟩ (fun i hi => by rw [d1, upA_n (by omega)]) e2_1 (fun i hi => by rw [f1c i hi]) (by rw [f1d])
  · first
      | (exfalso; omega)
      | skip
        refine aw_tabIn (tgt := 181) dX7_seasonOrder_1 (by omega) (by omega) (off := 180) (by rw [hsw]; rfl) (by decide) ?_
        subst hsw
        rw [ordP_16] at hF hQ
        refine aw_aload_n dX7_seasonOrder_181 rfl ?_
        refine aw_bipush dX7_seasonOrder_182 (by decide) ?_
        refine gm_7 rfl dX7_seasonOrder_184 dX7_seasonOrder_185 rfl ?_
        refine aw_iconst dX7_seasonOrder_188 (by decide) ?_
        refine aw_iaload dX7_seasonOrder_189 m_a1 (by omega) (by omega) ?_
        rw [z1]
        refine aw_iload_n dX7_seasonOrder_190 rfl ?_
        refine aw_iconst dX7_seasonOrder_191 (by decide) ?_
        refine aw_iaddr dX7_seasonOrder_192 (by omega) ?_
        refine c_X7_191 rfl dX7_seasonOrder_193 m_ob (Nat.le_of_ble_eq_true rfl) (by omega) (C_m_oldOne (N := N) (b := 12) H (fun j j0 j1 => hSN.2.2.1 j j0 j1) (by omega) (by omega) (by omega) (fun k9 pl cm9 y1 hb => ?_) (fun v1 q1 cm1 y1 H1 f1 f1a f1b f1c f1d => ?_))
        · have Z := hF _ _ cm9 (by exact bnd_l y1) (hb)
          refine aK_i ?_
          refine aw_ifeq (tgt := 213) dX7_seasonOrder_196 (by decide) (fun _ => ?_) (fun h => absurd h (by decide))
          refine aw_iconst dX7_seasonOrder_213 (by decide) ?_
          refine aw_zreturn dX7_seasonOrder_214 rfl (Or.inl rfl) ?_
          first
            | exact Z
            | exact hQ _ _ _ _ _ _ cm2 (by rw [bnd_r y1, bnd_r y2]) H2 F2 ⟨by rw [d2, upA_n (by omega), upA_n (by omega)]; exact w0, by rw [d2, upA_n (by omega), upA_s], by rw [d2, upA_s], by rw [d2, upA_n (by omega), upA_n (by omega)]; exact w3, by rw [d2, upA_n (by omega), upA_n (by omega)]; exact w4, by rw [d2, upA_n (by omega), upA_n (by omega)]; exact w5⟩ (fun i hi => by rw [d2, upA_n (by omega), upA_n (by omega)]) e2_2 (fun i hi => by rw [f2c i hi, f1c i hi]) (by rw [f2d, f1d])
        · have d1 : cm1 1 = upA (cm 1) (r + 1) v1 := by rw [f1a]
          have F1 : MF cm cm1 := f1
          have e2_1 : cm1 2 = cm 2 := by rw [f1b]
          have S1 : SN cm1 s N := hSN.up (fun i hi => by rw [d1, upA_n (by omega)]) e2_1
          have yb1 : True ∧ True ∧ q1 ≤ n := ⟨trivial, trivial, (oldP_r hp.2 hPq.1.1 y1).2.2.2⟩
          refine aK_i ?_
          refine aw_ifeq (tgt := 213) dX7_seasonOrder_196 (by decide) (fun h => absurd h (by decide)) (fun _ => ?_)
          refine aw_aload_n dX7_seasonOrder_199 rfl ?_
          refine aw_iload_n dX7_seasonOrder_200 rfl ?_
          refine aw_iconst dX7_seasonOrder_201 (by decide) ?_
          refine aw_iaddr dX7_seasonOrder_202 (by omega) ?_
          refine c_X7_220 rfl dX7_seasonOrder_203 m_ob (Nat.le_of_ble_eq_true rfl) (by omega) (C_m_hiveTo H1 S1 (by omega) (fun k9 pl cm9 y2 hb => ?_) (fun v2 q2 cm2 y2 H2 f2 f2a f2b f2c f2d => ?_))
          · have Z := hF _ _ cm9 (by rw [bnd_r y1]; exact bnd_l y2) (F1.b hb)
            refine aK_i ?_
            refine aw_ifeq (tgt := 213) dX7_seasonOrder_206 (by decide) (fun _ => ?_) (fun h => absurd h (by decide))
            refine aw_iconst dX7_seasonOrder_213 (by decide) ?_
            refine aw_zreturn dX7_seasonOrder_214 rfl (Or.inl rfl) ?_
            first
              | exact Z
              | exact hQ _ _ _ _ _ _ cm2 (by rw [bnd_r y1, bnd_r y2]) H2 F2 ⟨by rw [d2, upA_n (by omega), upA_n (by omega)]; exact w0, by rw [d2, upA_n (by omega), upA_s], by rw [d2, upA_s], by rw [d2, upA_n (by omega), upA_n (by omega)]; exact w3, by rw [d2, upA_n (by omega), upA_n (by omega)]; exact w4, by rw [d2, upA_n (by omega), upA_n (by omega)]; exact w5⟩ (fun i hi => by rw [d2, upA_n (by omega), upA_n (by omega)]) e2_2 (fun i hi => by rw [f2c i hi, f1c i hi]) (by rw [f2d, f1d])
          · have d2 : cm2 1 = upA (upA (cm 1) (r + 1) v1) (r + 2) v2 := by rw [f2a, d1]
            have F2 : MF cm cm2 := F1.trans f2
            have e2_2 : cm2 2 = cm 2 := by rw [f2b, f1b]
            have S2 : SN cm2 s N := hSN.up (fun i hi => by rw [d2, upA_n (by omega), upA_n (by omega)]) e2_2
            have yb2 := hvP_p yb1.2.2 hP0.1 y2
            refine aK_i ?_
            refine aw_ifeq (tgt := 213) dX7_seasonOrder_206 (by decide) (fun h => absurd h (by decide)) (fun _ => ?_)
            refine aw_iconst dX7_seasonOrder_209 (by decide) ?_
            refine aw_goto (tgt := 214) dX7_seasonOrder_210 (by decide) ?_
            refine aw_zreturn dX7_seasonOrder_214 rfl (Or.inr rfl) ?_
            first
              | exact Z
              | exact hQ _ _ _ _ _ _ cm2 (by rw [bnd_r y1, bnd_r y2]) H2 F2 ⟨by rw [d2, upA_n (by omega), upA_n (by omega)]; exact w0, by rw [d2, upA_n (by omega), upA_s], by rw [d2, upA_s], by rw [d2, upA_n (by omega), upA_n (by omega)]; exact w3, by rw [d2, upA_n (by omega), upA_n (by omega)]; exact w4, by rw [d2, upA_n (by omega), upA_n (by omega)]; exact w5⟩ (fun i hi => by rw [d2, upA_n (by omega), upA_n (by omega)]) e2_2 (fun i hi => by rw [f2c i hi, f1c i hi]) (by rw [f2d, f1d])
  · first
      | (exfalso; omega)
      | skip
        refine aw_tabIn (tgt := 215) dX7_seasonOrder_1 (by omega) (by omega) (off := 214) (by rw [hsw]; rfl) (by decide) ?_
        subst hsw
        rw [ordP_17] at hF hQ
        refine aw_aload_n dX7_seasonOrder_215 rfl ?_
        refine aw_iload_n dX7_seasonOrder_216 rfl ?_
        refine c_X7_226 rfl dX7_seasonOrder_217 m_ob (Nat.le_of_ble_eq_true rfl) (by omega) (C_m_test H hSN hr hz (fun k9 pl cm9 y1 hb => ?_) (fun q kk a b c e cm1 y1 H1 f1 g1 g2 g3 g4 g5 => ?_))
        · have Z := hF _ _ cm9 y1 hb
          refine aK_i ?_
          refine aw_zreturn dX7_seasonOrder_220 rfl (Or.inl rfl) ?_
          first
            | exact Z
            | exact hQ _ _ _ _ _ _ _ y1 H1 f1 g1 g2 g3 g4 g5
        · refine aK_i ?_
          refine aw_zreturn dX7_seasonOrder_220 rfl (Or.inr rfl) ?_
          first
            | exact Z
            | exact hQ _ _ _ _ _ _ _ y1 H1 f1 g1 g2 g3 g4 g5
  · first
      | (exfalso; omega)
      | skip
        refine aw_tabIn (tgt := 221) dX7_seasonOrder_1 (by omega) (by omega) (off := 220) (by rw [hsw]; rfl) (by decide) ?_
        subst hsw
        rw [ordP_18] at hF hQ
        refine aw_aload_n dX7_seasonOrder_221 rfl ?_
        refine aw_iload_n dX7_seasonOrder_222 rfl ?_
        refine aw_iconst dX7_seasonOrder_223 (by decide) ?_
        refine aw_iaddr dX7_seasonOrder_224 (by omega) ?_
        refine aw_iconst dX7_seasonOrder_225 (by decide) ?_
        refine aw_bipush dX7_seasonOrder_226 (by decide) ?_
        refine c_X7_182 rfl dX7_seasonOrder_228 m_ob (Nat.le_of_ble_eq_true rfl) (by omega) (C_m_number (t := r + 1) H (by omega) (fun k9 pl cm9 y1 hb => ?_) (fun v1 q1 cm1 y1 H1 f1 f1a f1b f1c f1d => ?_))
        · have Z := hF _ _ cm9 (by exact bnd_l y1) (hb)
          refine aK_i ?_
          refine aw_zreturn dX7_seasonOrder_231 rfl (Or.inl rfl) ?_
          first
            | exact Z
            | exact hQ _ _ _ _ _ _ cm1 (by rw [bnd_r y1]) H1 F1 ⟨by rw [d1, upA_n (by omega)]; exact w0, by rw [d1, upA_s], by rw [d1, upA_n (by omega)]; exact w2, by rw [d1, upA_n (by omega)]; exact w3, by rw [d1, upA_n (by omega)]; exact w4, by rw [d1, upA_n (by omega)]; exact w5⟩ (fun i hi => by rw [d1, upA_n (by omega)]) e2_1 (fun i hi => by rw [f1c i hi]) (by rw [f1d])
        · have d1 : cm1 1 = upA (cm 1) (r + 1) v1 := by rw [f1a]
          have F1 : MF cm cm1 := f1
          have e2_1 : cm1 2 = cm 2 := by rw [f1b]
          have S1 : SN cm1 s N := hSN.up (fun i hi => by rw [d1, upA_n (by omega)]) e2_1
          refine aK_i ?_
          refine aw_zreturn dX7_seasonOrder_231 rfl (Or.inr rfl) ?_
          first
            | exact Z
            | exact hQ _ _ _ _ _ _ cm1 (by rw [bnd_r y1]) H1 F1 ⟨by rw [d1, upA_n (by omega)]; exact w0, by rw [d1, upA_s], by rw [d1, upA_n (by omega)]; exact w2, by rw [d1, upA_n (by omega)]; exact w3, by rw [d1, upA_n (by omega)]; exact w4, by rw [d1, upA_n (by omega)]; exact w5⟩ (fun i hi => by rw [d1, upA_n (by omega)]) e2_1 (fun i hi => by rw [f1c i hi]) (by rw [f1d])
  · first
      | (exfalso; omega)
      | skip
        refine aw_tabOut (tgt := 232) dX7_seasonOrder_1 (by omega) (by decide) ?_
        refine aw_iconst dX7_seasonOrder_232 (by decide) ?_
        refine aw_zreturn dX7_seasonOrder_233 rfl (Or.inr rfl) ?_
        exact hQ _ _ _ _ _ _ cm (ordP_19 (by omega)) H MF.rf hz (fun _ _ => rfl) rfl (fun _ _ => rfl) rfl
