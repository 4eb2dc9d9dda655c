set_option maxRecDepth 100000
/-! BeeYardModel reads a season -/
theorem C_m_season {ct : Int → Int → Int} {k : Int} {s N : Int → Int} {Q : aPost} (ht : 0 ≤ ct 0 10 ∧ ct 0 10 ≤ 900) (hb : ∀ j, 0 ≤ j → j < 900 → -128 ≤ ct 6 j ∧ ct 6 j < 128) (hFk : Fok ct) (hSN : SN ct s N) (hN : ¬ (0 ≤ k ∧ k ≤ ct 0 10 ∧ k ≤ 300) → Q (.inl (some (vI (-1)))) (gM (aup ct 0 2 1)))
    (hF : ∀ (kd pl : Int) (cm1 : Int → Int → Int), (0 ≤ k ∧ k ≤ ct 0 10 ∧ k ≤ 300) → SEA (ct 6) k s N (0, fun i => ct 1 (4920 + i), 0, 0, fun _ => 0, 0) = .inl (kd, pl) → YF ct cm1 → (∀ i, i < 1230 → cm1 1 i = ct 1 i) → (∀ i, i < 20 → cm1 2 i = ct 2 i) → cm1 0 2 = 9 → cm1 0 16 = kd → cm1 0 17 = pl → Q (.inl (some (vI (-1)))) (gM cm1))
    (hQ : ∀ (t1 : ST) (cm1 : Int → Int → Int), (0 ≤ k ∧ k ≤ ct 0 10 ∧ k ≤ 300) → SEA (ct 6) k s N (0, fun i => ct 1 (4920 + i), 0, 0, fun _ => 0, 0) = .inr t1 → YF ct cm1 → (∀ i, (i < 860 ∧ i ≠ 10) ∨ (1225 ≤ i ∧ i < 4920) → cm1 1 i = ct 1 i) → (∀ i, i < 80 → cm1 2 i = ct 2 i) → cm1 1 10 = t1.2.2.1 → (∀ i, 860 ≤ i → i < 1225 → cm1 1 i = t1.2.1 i) → cm1 0 2 = 0 → cm1 0 16 = 0 → cm1 0 17 = -1 → Q (.inl (some (vI t1.2.2.2.2.2))) (gM cm1)) : AMet md_X7_season 13 0 0 [vR 0, vI k] (gM ct) Q := by
  refine AMet.go (L := [some (vR 0), some (vI k), none, none]) mok_X7_season (Nat.le_of_ble_eq_true rfl) rfl ?_
  refine aw_aload_n dX7_season_0 rfl ?_
  refine aw_iload_n dX7_season_1 rfl ?_
  refine aw_sipush dX7_season_2 (by decide) ?_
  refine c_X7_207 rfl dX7_season_5 m_ob (Nat.le_of_ble_eq_true rfl) (by omega) (C_m_begins (w := 300) ht hb (fun hz => ?_) (fun cm1 hz H1 t10 t17 t0 tb => ?_))
  · refine aK_i ?_
    refine aw_ifne (tgt := 17) dX7_season_8 (by decide) (fun h => absurd h (by decide)) (fun _ => ?_)
    refine aw_aload_n dX7_season_11 rfl ?_
    refine aw_iconst dX7_season_12 (by decide) ?_
    refine c_X7_72 rfl dX7_season_13 m_ob (Nat.le_of_ble_eq_true rfl) (by omega) (C_m_refuse ?_)
    refine aK_i ?_
    refine aw_ireturn dX7_season_16 rfl ?_
    exact hN hz
  · refine aK_i ?_
    refine aw_ifne (tgt := 17) dX7_season_8 (by decide) (fun _ => ?_) (fun h => absurd h (by decide))
    refine gm_7 rfl dX7_season_17 dX7_season_18 rfl ?_
    refine aw_sipush dX7_season_21 (by decide) ?_
    refine aw_iconst dX7_season_24 (by decide) ?_
    refine aw_iastore dX7_season_25 m_a1 (by omega) (by omega) ?_
    refine aw_aload_n dX7_season_26 rfl ?_
    refine aw_iconst dX7_season_27 (by decide) ?_
    refine p_X7_229_7 rfl dX7_season_28 m_ob ?_
    refine aw_aload_n dX7_season_31 rfl ?_
    refine aw_iconst dX7_season_32 (by decide) ?_
    refine p_X7_232_7 rfl dX7_season_33 m_ob ?_
    refine aw_iconst dX7_season_36 (by decide) ?_
    refine aw_istore2 dX7_season_37 (by decide) rfl ?_
    obtain ⟨cm2, ecm⟩ : ∃ z, z = aup (aup (aup cm1 1 4930 0) 0 21 0) 0 22 0 := ⟨_, rfl⟩
    rw [← ecm]
    have p0 : ∀ i, i ≠ 21 → i ≠ 22 → cm2 0 i = cm1 0 i := fun i i1 i2 => by rw [ecm, aup_n (by omega), aup_n (by omega), aup_rn (by decide)]
    have p1 : ∀ i, i ≠ 4930 → cm2 1 i = cm1 1 i := fun i hi => by rw [ecm, aup_rn (by decide), aup_rn (by decide), aup_n (by omega)]
    have pb : ∀ b, b ≠ 0 → b ≠ 1 → cm2 b = cm1 b := fun b b0 b1 => by rw [ecm, aup_rn b0, aup_rn b0, aup_rn b1]
    have c1e : cm1 1 = ct 1 := tb 1 (by decide) (by decide)
    have H2 : RM cm2 (ct 6) k 0 := H1.fr (fun i hi => p0 i (by omega) (by omega)) (pb 7 (by decide) (by decide))
    have hFk2 : Fok cm2 := hFk.eq (by rw [p0 24 (by decide) (by decide)]; exact t0 24 (by decide)) (by rw [pb 9 (by decide) (by decide)]; exact tb 9 (by decide) (by decide))
    have g0 : ∀ i, i < 10 ∨ i = 16 ∨ 22 < i → cm2 0 i = ct 0 i := fun i hi => by rw [p0 i (by omega) (by omega)]; exact t0 i (by omega)
    have gb : ∀ b, b ≠ 0 → b ≠ 1 → b ≠ 7 → cm2 b = ct b := fun b b0 b1 b7 => by rw [pb b b0 b1]; exact tb b b0 b7
    have g1 : ∀ i, i < 4920 → cm2 1 i = ct 1 i := fun i hi => by rw [p1 i (by omega), c1e]
    have g10 : cm2 0 10 = 0 := by rw [p0 10 (by decide) (by decide)]; exact t10
    have g17 : cm2 0 17 = -1 := by rw [p0 17 (by decide) (by decide)]; exact t17
    have S2 : SS cm2 (fun i => ct 1 (4920 + i)) 0 0 (fun _ => 0) 0 := ⟨fun i i0 i1 => by rw [p1 _ (by omega), c1e], ⟨by rw [ecm, aup_rn (by decide), aup_rn (by decide), aup_s], by rw [ecm, aup_n (by decide), aup_s], by rw [ecm, aup_s]⟩, fun j j0 j1 => by omega, by decide, by decide, by decide, by decide⟩
    have SN2 : SN cm2 s N := hSN.up (fun i hi => g1 i (by omega)) (gb 2 (by decide) (by decide) (by decide))
    refine L_m_sl (cm0 := cm2) (x3 := none) (by decide) (k.toNat + 1) (0, fun i => ct 1 (4920 + i), 0, 0, fun _ => 0, 0) cm2 (by show k - 0 < _; omega) H2 SN2 S2 MF.rf (fun kd pl cm3 e9 hb3 => ?_) (fun t1 cm3 e8 hk0 H3 f3 SN3 S3 => ?_)
    · have hb4 := hb3.2.2.2
      have m3 := hb3.1
      refine gm_142 rfl dX7_season_57 dX7_season_58 rfl ?_
      rw [hb3.2.1]
      refine aw_ifne (tgt := 77) dX7_season_61 (by decide) (fun h61 => ?_) (fun h61 => ?_)
      · refine gm_142 rfl dX7_season_77 dX7_season_78 rfl ?_
        rw [hb3.2.1]
        refine aw_ifne (tgt := 132) dX7_season_81 (by decide) (fun h81 => ?_) (fun h81 => ?_)
        · refine aw_aload_n dX7_season_132 rfl ?_
          refine gm_232 rfl dX7_season_133 dX7_season_134 rfl ?_
          refine c_X7_214 rfl dX7_season_137 m_ob (Nat.le_of_ble_eq_true rfl) (by omega) (C_m_taken (fun hz2 => ?_) (fun hz2 => ?_))
          · refine aK_i ?_
            refine aw_ireturn dX7_season_140 rfl ?_
            refine hF kd pl _ hz e9 ⟨fun i hi => ?_, fun b hb5 => ?_, fun i i0 i1 => ?_, fun i i0 i1 => ?_, ?_, ?_⟩ (fun i hi => ?_) (fun i hi => ?_) aup_s ?_ ?_
            · rw [aup_n (by omega), aup_n (by omega), m3.1 i (by omega), g0 i (by omega)]
            · rw [aup_rn (by omega), aup_rn (by omega), m3.2.1 b (by omega), gb b (by omega) (by omega) (by omega)]
            · rw [aup_rn (by decide), aup_rn (by decide), m3.2.2.1 i (by omega), g1 i i1]
            · rw [aup_rn (by decide), aup_rn (by decide), m3.2.2.2.1 i (by omega), gb 2 (by decide) (by decide) (by decide)]
            · exact (m3.2.2.2.2 hFk2).eq (by rw [aup_n (by decide), aup_n (by decide)]) (by rw [aup_rn (by decide), aup_rn (by decide)])
            · rw [aup_n (by decide), aup_n (by decide), m3.1 10 (by omega), g10]
            · rw [aup_rn (by decide), aup_rn (by decide), m3.2.2.1 i (by omega), g1 i (by omega)]
            · rw [aup_rn (by decide), aup_rn (by decide), m3.2.2.2.1 i (by omega), gb 2 (by decide) (by decide) (by decide)]
            · rw [aup_n (by decide), aup_s]; exact hb3.2.1
            · rw [aup_n (by decide), aup_n (by decide)]; exact hb3.2.2.1
          · exfalso; have := hb3.2.1; omega
        · exfalso; omega
      · exfalso; omega
    · have h18 : cm3 0 18 = 0 := H3.1.2.2.2
      have h21 := S3.2.1.2.1
      have h22 := S3.2.1.2.2
      have hd0 := S3.2.2.2.2.1
      rw [SEA_end hk0] at e8
      refine gm_142 rfl dX7_season_57 dX7_season_58 rfl ?_
      rw [h18]
      refine aw_ifne (tgt := 77) dX7_season_61 (by decide) (fun h61 => ?_) (fun h61 => ?_)
      · exfalso; omega
      · refine gm_229 rfl dX7_season_64 dX7_season_65 rfl ?_
        rw [h21]
        refine aw_ifle (tgt := 77) dX7_season_68 (by decide) (fun h68 => ?_) (fun h68 => ?_)
        · rw [if_pos (show t1.2.2.2.1 = 0 by omega)] at e8
          have e9 := e8
          refine gm_142 rfl dX7_season_77 dX7_season_78 rfl ?_
          rw [h18]
          refine aw_ifne (tgt := 132) dX7_season_81 (by decide) (fun h81 => ?_) (fun h81 => ?_)
          · exfalso; omega
          · refine gm_7 rfl dX7_season_84 dX7_season_85 rfl ?_
            refine aw_bipush dX7_season_88 (by decide) ?_
            refine gm_7 rfl dX7_season_90 dX7_season_91 rfl ?_
            refine aw_sipush dX7_season_94 (by decide) ?_
            refine aw_iaload dX7_season_97 m_a1 (by omega) (by omega) ?_
            rw [S3.2.1.1]
            refine aw_iastore dX7_season_98 m_a1 (by omega) (by omega) ?_
            refine aw_sipush dX7_season_99 (by decide) ?_
            refine aw_istore3 dX7_season_102 (by decide) rfl ?_
            refine L_m_sc (ct := aup cm3 1 10 t1.2.2.1) (by decide) (fun cm4 x3 q1 q2 q3 => ?_) 365 860 _ (by decide) (by decide) (fun i i0 i1 => by omega) (fun _ _ => rfl) (fun _ _ => rfl)
            have z18 : cm4 0 18 = 0 := by rw [q3 0 (by decide), aup_rn (by decide)]; exact h18
            have z22 : cm4 0 22 = t1.2.2.2.2.2 := by rw [q3 0 (by decide), aup_rn (by decide)]; exact h22
            refine aw_aload_n dX7_season_132 rfl ?_
            refine gm_232 rfl dX7_season_133 dX7_season_134 rfl ?_
            rw [z22]
            refine c_X7_214 rfl dX7_season_137 m_ob (Nat.le_of_ble_eq_true rfl) (by omega) (C_m_taken (fun hz2 => ?_) (fun hz2 => ?_))
            · exfalso; omega
            · refine aK_i ?_
              refine aw_ireturn dX7_season_140 rfl ?_
              refine hQ t1 _ hz e9 ⟨fun i hi => ?_, fun b hb5 => ?_, fun i i0 i1 => ?_, fun i i0 i1 => ?_, ?_, ?_⟩ (fun i hi => ?_) (fun i hi => ?_) ?_ (fun i i0 i1 => ?_) aup_s ?_ ?_
              · rw [aup_n (by omega), aup_n (by omega), q3 0 (by decide), aup_rn (by decide), f3.1 i (by omega), g0 i (by omega)]
              · rw [aup_rn (by omega), aup_rn (by omega), q3 b (by omega), aup_rn (by omega), f3.2.1 b (by omega), gb b (by omega) (by omega) (by omega)]
              · rw [aup_rn (by decide), aup_rn (by decide), q2 i (by omega), aup_n (by omega), f3.2.2.1 i (by omega), g1 i i1]
              · rw [aup_rn (by decide), aup_rn (by decide), q3 2 (by decide), aup_rn (by decide), f3.2.2.2.1 i (by omega), gb 2 (by decide) (by decide) (by decide)]
              · exact (f3.2.2.2.2 hFk2).eq (by rw [aup_n (by decide), aup_n (by decide), q3 0 (by decide), aup_rn (by decide)]) (by rw [aup_rn (by decide), aup_rn (by decide), q3 9 (by decide), aup_rn (by decide)])
              · rw [aup_n (by decide), aup_n (by decide), q3 0 (by decide), aup_rn (by decide), f3.1 10 (by omega), g10]
              · rw [aup_rn (by decide), aup_rn (by decide), q2 i (by omega), aup_n (by omega), f3.2.2.1 i (by omega), g1 i (by omega)]
              · rw [aup_rn (by decide), aup_rn (by decide), q3 2 (by decide), aup_rn (by decide), f3.2.2.2.1 i (by omega), gb 2 (by decide) (by decide) (by decide)]
              · rw [aup_rn (by decide), aup_rn (by decide), q2 10 (by omega), aup_s]
              · rw [aup_rn (by decide), aup_rn (by decide), q1 i i0 i1, aup_n (by omega)]; exact S3.1 i i0 i1
              · rw [aup_n (by decide), aup_s]; exact z18
              · rw [aup_n (by decide), aup_n (by decide), q3 0 (by decide), aup_rn (by decide), f3.1 17 (by omega), g17]
        · refine aw_aload_n dX7_season_71 rfl ?_
          refine aw_iconst dX7_season_72 (by decide) ?_
          refine c_X7_154 rfl dX7_season_73 m_ob (Nat.le_of_ble_eq_true rfl) (by omega) (C_m_fails H3 (k := 2) (by decide) (fun cm5 hb5 => ?_))
          rw [if_neg (show ¬ t1.2.2.2.1 = 0 by omega)] at e8
          obtain ⟨kd, ekd⟩ : ∃ z, z = wr (ct 6) k t1.1 := ⟨_, rfl⟩
          obtain ⟨pl, epl⟩ : ∃ z, z = tF (ct 6) k t1.1 := ⟨_, rfl⟩
          have hb3 : MB cm2 cm5 kd pl := by rw [ekd, epl]; exact f3.b hb5
          rw [← ekd, ← epl] at e8
          have e9 := e8
          have hb4 := hb3.2.2.2
          have m3 := hb3.1
          refine aK_i ?_
          refine aw_pop dX7_season_76 rfl ?_
          refine gm_142 rfl dX7_season_77 dX7_season_78 rfl ?_
          rw [hb3.2.1]
          refine aw_ifne (tgt := 132) dX7_season_81 (by decide) (fun h81 => ?_) (fun h81 => ?_)
          · refine aw_aload_n dX7_season_132 rfl ?_
            refine gm_232 rfl dX7_season_133 dX7_season_134 rfl ?_
            refine c_X7_214 rfl dX7_season_137 m_ob (Nat.le_of_ble_eq_true rfl) (by omega) (C_m_taken (fun hz2 => ?_) (fun hz2 => ?_))
            · refine aK_i ?_
              refine aw_ireturn dX7_season_140 rfl ?_
              refine hF kd pl _ hz e9 ⟨fun i hi => ?_, fun b hb5 => ?_, fun i i0 i1 => ?_, fun i i0 i1 => ?_, ?_, ?_⟩ (fun i hi => ?_) (fun i hi => ?_) aup_s ?_ ?_
              · rw [aup_n (by omega), aup_n (by omega), m3.1 i (by omega), g0 i (by omega)]
              · rw [aup_rn (by omega), aup_rn (by omega), m3.2.1 b (by omega), gb b (by omega) (by omega) (by omega)]
              · rw [aup_rn (by decide), aup_rn (by decide), m3.2.2.1 i (by omega), g1 i i1]
              · rw [aup_rn (by decide), aup_rn (by decide), m3.2.2.2.1 i (by omega), gb 2 (by decide) (by decide) (by decide)]
              · exact (m3.2.2.2.2 hFk2).eq (by rw [aup_n (by decide), aup_n (by decide)]) (by rw [aup_rn (by decide), aup_rn (by decide)])
              · rw [aup_n (by decide), aup_n (by decide), m3.1 10 (by omega), g10]
              · rw [aup_rn (by decide), aup_rn (by decide), m3.2.2.1 i (by omega), g1 i (by omega)]
              · rw [aup_rn (by decide), aup_rn (by decide), m3.2.2.2.1 i (by omega), gb 2 (by decide) (by decide) (by decide)]
              · rw [aup_n (by decide), aup_s]; exact hb3.2.1
              · rw [aup_n (by decide), aup_n (by decide)]; exact hb3.2.2.1
            · exfalso; have := hb3.2.1; omega
          · exfalso; omega
