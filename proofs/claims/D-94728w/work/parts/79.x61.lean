set_option maxRecDepth 100000
/-! trays: read, write -/
theorem TRY.fr {own : Int → Int} {sz : Int} {im : Int → aIm} {ct ct' cm cm' : Int → Int → Int} {t : Int} (h : TRY own sz im ct cm t) (e1 : ct' (2 + t) 0 = ct (2 + t) 0) (e2 : ∀ x j, own x = -10 - t → ct' x j = ct x j) (m3 : cm' 3 t = cm 3 t) (m4 : cm' 4 t = cm 4 t) (m5 : ∀ j, 0 ≤ j → j < 60 → cm' 5 (60 * t + j) = cm 5 (60 * t + j)) : TRY own sz im ct' cm' t := by
  unfold TRY
  rw [e1, m3, m4]
  rcases h with h | ⟨h1, h2, h3, h4, h5⟩
  · exact Or.inl h
  · exact Or.inr ⟨h1, h2, h3, h4, fun j j0 j1 => by rw [e2 _ _ h4, m5 j j0 (by omega)]; exact h5 j j0 j1⟩
theorem XR.try {own N : Int → Int} {sz : Int} {im : Int → aIm} {ct ct' cm cm' : Int → Int → Int} (hR : RT own sz im ct) (HY : YR own 0 sz im ct 10 (cm 1) (cm 1 3) N) (HL : LR own sz im ct (ct 10 0) (cm 1) N) (HN : NRl N (cm 2) (cm 1)) (HS : SE own sz im ct (cm 1) (ct 9 1)) (HP : PI (cm 1)) (HF : Fok cm) (HX : XO own sz im ct cm) (hv3 : ct 0 8 = cm 0 3) (hv4 : ct 0 9 = cm 0 4)
    (fx : ∀ x j, x ≠ 8 → ¬ (x = 0 ∧ j = 7) → (∀ t, 0 ≤ t → t < 4 → own x ≠ -10 - t ∧ x ≠ 2 + t) → ct' x j = ct x j) (fm : ∀ x i, x ≠ 3 → x ≠ 4 → x ≠ 5 → ¬ (x = 0 ∧ i = 2) → cm' x i = cm x i) (ht : ∀ t, 0 ≤ t → t < 4 → TRY own sz im ct' cm' t) (h2 : ct' 0 7 = cm' 0 2) : XR (sz, im, ct') cm' := by
  obtain ⟨kt1, ⟨kt2, kt3, kt4⟩, kt5, ⟨ks1, ks2, ks3, ks4, ks5, ks6⟩, kt12, kt13⟩ := id HX
  obtain ⟨⟨r1, r2⟩, -, ⟨-, r4, r5⟩, ⟨-, r6⟩, ⟨-, r7⟩, ⟨-, r8⟩, ⟨-, r9, -⟩, ⟨-, r19⟩, ⟨-, r29⟩⟩ := id hR
  have f0 : ∀ j, j ≠ 7 → ct' 0 j = ct 0 j := fun j hj => fx 0 j (by decide) (by omega) (fun t t0 t1 => by omega)
  have m0 : ∀ i, i ≠ 2 → cm' 0 i = cm 0 i := fun i hi => fm 0 i (by decide) (by decide) (by decide) (by omega)
  have mr : ∀ x, x ≠ 0 → x ≠ 3 → x ≠ 4 → x ≠ 5 → cm' x = cm x := fun x h0 h3 h4 h5 => funext fun i => fm x i h3 h4 h5 (by omega)
  refine XR.root hR HY HL HN HS HP HX (HF.eq (m0 24 (by decide)) (mr 9 (by decide) (by decide) (by decide) (by decide))) (fun x j hx => fx x j (fun z => by rw [z] at hx; omega) (fun z => by rw [z.1] at hx; omega) (fun t t0 t1 => ⟨by omega, fun z => by have := (r5 t t0 t1).2.2; rw [z] at hx; omega⟩)) (fun t _ _ => fx 1 t (by decide) (by omega) (fun t t0 t1 => by omega)) (fun j => fx 19 j (by decide) (by omega) (fun t t0 t1 => by omega)) (fx 9 1 (by decide) (by omega) (fun t t0 t1 => by omega)) (mr 1 (by decide) (by decide) (by decide) (by decide)) (mr 2 (by decide) (by decide) (by decide) (by decide)) (m0 35 (by decide)) ht (by rw [f0 12 (by decide), m0 35 (by decide)]; exact kt3) ⟨by rw [f0 2 (by decide), m0 10 (by decide)]; exact ks1, by rw [m0 10 (by decide)]; exact ks2, by rw [f0 3 (by decide), m0 16 (by decide)]; exact ks3, by rw [f0 4 (by decide), m0 17 (by decide)]; exact ks4, by rw [f0 15 (by decide), m0 34 (by decide)]; exact ks5, by rw [m0 34 (by decide)]; exact ks6⟩ (fun j j0 j1 => by rw [fx 6 j (by decide) (by omega) (fun t t0 t1 => by omega), mr 6 (by decide) (by decide) (by decide) (by decide)]; exact kt12 j j0 j1) (fun j j0 j1 => by rw [fx 29 j (by decide) (by omega) (fun t t0 t1 => by omega), mr 13 (by decide) (by decide) (by decide) (by decide)]; exact kt13 j j0 j1) h2 (by rw [f0 8 (by decide), m0 3 (by decide)]; exact hv3) (by rw [f0 9 (by decide), m0 4 (by decide)]; exact hv4)
theorem RT.tr4 {own : Int → Int} {sz : Int} {im : Int → aIm} {ct : Int → Int → Int} (H : RT own sz im ct) {t : Int} (t0 : 0 ≤ t) (t1 : t < 4) : ct 1 t = 2 + t ∧ aob sz im (2 + t) 1 ∧ own (2 + t) = -2 := H.2.2.1.2.2 t t0 t1
theorem C_x_on {own : Int → Int} {sz : Int} {im : Int → aIm} {ct : Int → Int → Int} {t : Int} {Q : aPost} (hR : RT own sz im ct) (hT : 0 ≤ t → t < 4 → -1 ≤ ct (2 + t) 0) (hA : ¬ (0 ≤ t ∧ t < 4) → Q (.inr (1, 8)) (sz, im, aup ct 8 6 1)) (hB : 0 ≤ t → t < 4 → ct (2 + t) 0 = -1 → Q (.inr (1, 8)) (sz, im, aup ct 8 6 2)) (hQ : 0 ≤ t → t < 4 → ct (2 + t) 0 ≠ -1 → Q (.inl (some (vR (ct (2 + t) 0)))) (sz, im, ct)) : AMet md_X0_on 3 0 0 [vR 0, vI t] (sz, im, ct) Q := by
  refine AMet.go (L := [some (vR 0), some (vI t)]) mok_X0_on (Nat.le_of_ble_eq_true rfl) rfl ?_
  refine aw_aload_n dX0_on_0 rfl ?_
  refine aw_iload_n dX0_on_1 rfl ?_
  refine aw_iflt (tgt := 14) dX0_on_2 (by decide) (fun h2 => ?_) (fun h2 => ?_)
  · refine aw_iconst dX0_on_14 (by decide) ?_
    refine aw_iconst dX0_on_15 (by decide) ?_
    refine c_X0_98 rfl dX0_on_16 hR.o0 (Nat.le_of_ble_eq_true rfl) (by omega) (C_x_want hR (fun hb => ?_) (fun hb => ?_))
    · refine aK_v ?_
      refine aw_aload_n dX0_on_19 rfl ?_
      refine aw_aload_n dX0_on_20 rfl ?_
      refine g_X0_18_0 rfl dX0_on_21 hR.o0 ?_
      rw [hR.e1]
      refine aw_iload_n dX0_on_24 rfl ?_
      refine aw_aaload dX0_on_25 hR.a1 (by decide) (by omega) (by omega) ?_
      rw [(hR.tr4 (t := t) (by omega) (by omega)).1]
      refine g_X0_102_1 rfl dX0_on_26 (hR.tr4 (t := t) (by omega) (by omega)).2.1 ?_
      refine aw_ifnull (tgt := 36) dX0_on_29 (by decide) (by have := hT (by omega) (by omega); omega) (fun h29 => ?_) (fun h29 => ?_)
      · refine aw_iconst dX0_on_36 (by decide) ?_
        refine aw_iconst dX0_on_37 (by decide) ?_
        refine c_X0_98 rfl dX0_on_38 hR.o0 (Nat.le_of_ble_eq_true rfl) (by omega) (C_x_want hR (fun hb => ?_) (fun hb => ?_))
        · refine aK_v ?_
          refine aw_aload_n dX0_on_41 rfl ?_
          refine g_X0_18_0 rfl dX0_on_42 hR.o0 ?_
          rw [hR.e1]
          refine aw_iload_n dX0_on_45 rfl ?_
          refine aw_aaload dX0_on_46 hR.a1 (by decide) (by omega) (by omega) ?_
          rw [(hR.tr4 (t := t) (by omega) (by omega)).1]
          refine g_X0_102_1 rfl dX0_on_47 (hR.tr4 (t := t) (by omega) (by omega)).2.1 ?_
          refine aw_areturn dX0_on_50 rfl (Or.inl ⟨_, rfl⟩) ?_
          exact hQ (by omega) (by omega) (by omega)
        · first
            | (exfalso; omega)
            | exact aK_x (ax_out rfl (hB (by omega) (by omega) (by omega)))
      · refine aw_iconst dX0_on_32 (by decide) ?_
        refine aw_goto (tgt := 37) dX0_on_33 (by decide) ?_
        refine aw_iconst dX0_on_37 (by decide) ?_
        refine c_X0_98 rfl dX0_on_38 hR.o0 (Nat.le_of_ble_eq_true rfl) (by omega) (C_x_want hR (fun hb => ?_) (fun hb => ?_))
        · refine aK_v ?_
          refine aw_aload_n dX0_on_41 rfl ?_
          refine g_X0_18_0 rfl dX0_on_42 hR.o0 ?_
          rw [hR.e1]
          refine aw_iload_n dX0_on_45 rfl ?_
          refine aw_aaload dX0_on_46 hR.a1 (by decide) (by omega) (by omega) ?_
          rw [(hR.tr4 (t := t) (by omega) (by omega)).1]
          refine g_X0_102_1 rfl dX0_on_47 (hR.tr4 (t := t) (by omega) (by omega)).2.1 ?_
          refine aw_areturn dX0_on_50 rfl (Or.inl ⟨_, rfl⟩) ?_
          exact hQ (by omega) (by omega) (by omega)
        · first
            | (exfalso; omega)
            | exact aK_x (ax_out rfl (hB (by omega) (by omega) (by omega)))
    · first
        | (exfalso; omega)
        | exact aK_x (ax_out rfl (hA (by omega)))
  · refine aw_iload_n dX0_on_5 rfl ?_
    refine aw_iconst dX0_on_6 (by decide) ?_
    refine aw_icmpge (tgt := 14) dX0_on_7 (by decide) (fun h7 => ?_) (fun h7 => ?_)
    · refine aw_iconst dX0_on_14 (by decide) ?_
      refine aw_iconst dX0_on_15 (by decide) ?_
      refine c_X0_98 rfl dX0_on_16 hR.o0 (Nat.le_of_ble_eq_true rfl) (by omega) (C_x_want hR (fun hb => ?_) (fun hb => ?_))
      · refine aK_v ?_
        refine aw_aload_n dX0_on_19 rfl ?_
        refine aw_aload_n dX0_on_20 rfl ?_
        refine g_X0_18_0 rfl dX0_on_21 hR.o0 ?_
        rw [hR.e1]
        refine aw_iload_n dX0_on_24 rfl ?_
        refine aw_aaload dX0_on_25 hR.a1 (by decide) (by omega) (by omega) ?_
        rw [(hR.tr4 (t := t) (by omega) (by omega)).1]
        refine g_X0_102_1 rfl dX0_on_26 (hR.tr4 (t := t) (by omega) (by omega)).2.1 ?_
        refine aw_ifnull (tgt := 36) dX0_on_29 (by decide) (by have := hT (by omega) (by omega); omega) (fun h29 => ?_) (fun h29 => ?_)
        · refine aw_iconst dX0_on_36 (by decide) ?_
          refine aw_iconst dX0_on_37 (by decide) ?_
          refine c_X0_98 rfl dX0_on_38 hR.o0 (Nat.le_of_ble_eq_true rfl) (by omega) (C_x_want hR (fun hb => ?_) (fun hb => ?_))
          · refine aK_v ?_
            refine aw_aload_n dX0_on_41 rfl ?_
            refine g_X0_18_0 rfl dX0_on_42 hR.o0 ?_
            rw [hR.e1]
            refine aw_iload_n dX0_on_45 rfl ?_
            refine aw_aaload dX0_on_46 hR.a1 (by decide) (by omega) (by omega) ?_
            rw [(hR.tr4 (t := t) (by omega) (by omega)).1]
            refine g_X0_102_1 rfl dX0_on_47 (hR.tr4 (t := t) (by omega) (by omega)).2.1 ?_
            refine aw_areturn dX0_on_50 rfl (Or.inl ⟨_, rfl⟩) ?_
            exact hQ (by omega) (by omega) (by omega)
          · first
              | (exfalso; omega)
              | exact aK_x (ax_out rfl (hB (by omega) (by omega) (by omega)))
        · refine aw_iconst dX0_on_32 (by decide) ?_
          refine aw_goto (tgt := 37) dX0_on_33 (by decide) ?_
          refine aw_iconst dX0_on_37 (by decide) ?_
          refine c_X0_98 rfl dX0_on_38 hR.o0 (Nat.le_of_ble_eq_true rfl) (by omega) (C_x_want hR (fun hb => ?_) (fun hb => ?_))
          · refine aK_v ?_
            refine aw_aload_n dX0_on_41 rfl ?_
            refine g_X0_18_0 rfl dX0_on_42 hR.o0 ?_
            rw [hR.e1]
            refine aw_iload_n dX0_on_45 rfl ?_
            refine aw_aaload dX0_on_46 hR.a1 (by decide) (by omega) (by omega) ?_
            rw [(hR.tr4 (t := t) (by omega) (by omega)).1]
            refine g_X0_102_1 rfl dX0_on_47 (hR.tr4 (t := t) (by omega) (by omega)).2.1 ?_
            refine aw_areturn dX0_on_50 rfl (Or.inl ⟨_, rfl⟩) ?_
            exact hQ (by omega) (by omega) (by omega)
          · first
              | (exfalso; omega)
              | exact aK_x (ax_out rfl (hB (by omega) (by omega) (by omega)))
      · first
          | (exfalso; omega)
          | exact aK_x (ax_out rfl (hA (by omega)))
    · refine aw_iconst dX0_on_10 (by decide) ?_
      refine aw_goto (tgt := 15) dX0_on_11 (by decide) ?_
      refine aw_iconst dX0_on_15 (by decide) ?_
      refine c_X0_98 rfl dX0_on_16 hR.o0 (Nat.le_of_ble_eq_true rfl) (by omega) (C_x_want hR (fun hb => ?_) (fun hb => ?_))
      · refine aK_v ?_
        refine aw_aload_n dX0_on_19 rfl ?_
        refine aw_aload_n dX0_on_20 rfl ?_
        refine g_X0_18_0 rfl dX0_on_21 hR.o0 ?_
        rw [hR.e1]
        refine aw_iload_n dX0_on_24 rfl ?_
        refine aw_aaload dX0_on_25 hR.a1 (by decide) (by omega) (by omega) ?_
        rw [(hR.tr4 (t := t) (by omega) (by omega)).1]
        refine g_X0_102_1 rfl dX0_on_26 (hR.tr4 (t := t) (by omega) (by omega)).2.1 ?_
        refine aw_ifnull (tgt := 36) dX0_on_29 (by decide) (by have := hT (by omega) (by omega); omega) (fun h29 => ?_) (fun h29 => ?_)
        · refine aw_iconst dX0_on_36 (by decide) ?_
          refine aw_iconst dX0_on_37 (by decide) ?_
          refine c_X0_98 rfl dX0_on_38 hR.o0 (Nat.le_of_ble_eq_true rfl) (by omega) (C_x_want hR (fun hb => ?_) (fun hb => ?_))
          · refine aK_v ?_
            refine aw_aload_n dX0_on_41 rfl ?_
            refine g_X0_18_0 rfl dX0_on_42 hR.o0 ?_
            rw [hR.e1]
            refine aw_iload_n dX0_on_45 rfl ?_
            refine aw_aaload dX0_on_46 hR.a1 (by decide) (by omega) (by omega) ?_
            rw [(hR.tr4 (t := t) (by omega) (by omega)).1]
            refine g_X0_102_1 rfl dX0_on_47 (hR.tr4 (t := t) (by omega) (by omega)).2.1 ?_
            refine aw_areturn dX0_on_50 rfl (Or.inl ⟨_, rfl⟩) ?_
            exact hQ (by omega) (by omega) (by omega)
          · first
              | (exfalso; omega)
              | exact aK_x (ax_out rfl (hB (by omega) (by omega) (by omega)))
        · refine aw_iconst dX0_on_32 (by decide) ?_
          refine aw_goto (tgt := 37) dX0_on_33 (by decide) ?_
          refine aw_iconst dX0_on_37 (by decide) ?_
          refine c_X0_98 rfl dX0_on_38 hR.o0 (Nat.le_of_ble_eq_true rfl) (by omega) (C_x_want hR (fun hb => ?_) (fun hb => ?_))
          · refine aK_v ?_
            refine aw_aload_n dX0_on_41 rfl ?_
            refine g_X0_18_0 rfl dX0_on_42 hR.o0 ?_
            rw [hR.e1]
            refine aw_iload_n dX0_on_45 rfl ?_
            refine aw_aaload dX0_on_46 hR.a1 (by decide) (by omega) (by omega) ?_
            rw [(hR.tr4 (t := t) (by omega) (by omega)).1]
            refine g_X0_102_1 rfl dX0_on_47 (hR.tr4 (t := t) (by omega) (by omega)).2.1 ?_
            refine aw_areturn dX0_on_50 rfl (Or.inl ⟨_, rfl⟩) ?_
            exact hQ (by omega) (by omega) (by omega)
          · first
              | (exfalso; omega)
              | exact aK_x (ax_out rfl (hB (by omega) (by omega) (by omega)))
      · first
          | (exfalso; omega)
          | exact aK_x (ax_out rfl (hA (by omega)))
theorem C_m_wrongPlace {ct : Int → Int → Int} {t p : Int} {Q : aPost} (hA : ¬ (0 ≤ t ∧ t < 4) → Q (.inl (some (vI 1))) (gM ct)) (hB : 0 ≤ t → t < 4 → ct 4 t = -1 → Q (.inl (some (vI 2))) (gM ct)) (hC : 0 ≤ t → t < 4 → ct 4 t ≠ -1 → ¬ (0 ≤ p ∧ p < ct 4 t) → Q (.inl (some (vI 3))) (gM ct)) (hO : 0 ≤ t → t < 4 → ct 4 t ≠ -1 → 0 ≤ p → p < ct 4 t → Q (.inl (some (vI 0))) (gM ct)) : AMet md_X7_wrongPlace 2 0 0 [vR 0, vI t, vI p] (gM ct) Q := by
  refine AMet.go (L := [some (vR 0), some (vI t), some (vI p)]) mok_X7_wrongPlace (Nat.le_of_ble_eq_true rfl) rfl ?_
  refine aw_iload_n dX7_wrongPlace_0 rfl ?_
  refine c_X7_83 rfl dX7_wrongPlace_1  (Nat.le_of_ble_eq_true rfl) (by omega) (C_m_isTray (fun htr => ?_) (fun htr => ?_))
  · refine aK_i ?_
    refine aw_ifne (tgt := 11) dX7_wrongPlace_4 (by decide) (fun _ => ?_) (fun h => absurd h (by decide))
    refine gm_24 rfl dX7_wrongPlace_11 dX7_wrongPlace_12 rfl ?_
    refine aw_iload_n dX7_wrongPlace_15 rfl ?_
    refine aw_iaload dX7_wrongPlace_16 m_a4 (by omega) (by omega) ?_
    refine aw_iconst dX7_wrongPlace_17 (by decide) ?_
    refine aw_icmpne (tgt := 25) dX7_wrongPlace_18 (by decide) (fun h18 => ?_) (fun h18 => ?_)
    · refine aw_iload_n dX7_wrongPlace_25 rfl ?_
      refine aw_iflt (tgt := 39) dX7_wrongPlace_26 (by decide) (fun h26 => ?_) (fun h26 => ?_)
      · refine aw_iconst dX7_wrongPlace_39 (by decide) ?_
        refine aw_goto (tgt := 44) dX7_wrongPlace_40 (by decide) ?_
        refine aw_ireturn dX7_wrongPlace_44 rfl ?_
        first
          | exact hA (by omega)
          | exact hB (by omega) (by omega) (by omega)
          | exact hC (by omega) (by omega) (by omega) (by omega)
          | exact hO (by omega) (by omega) (by omega) (by omega) (by omega)
      · refine aw_iload_n dX7_wrongPlace_29 rfl ?_
        refine gm_24 rfl dX7_wrongPlace_30 dX7_wrongPlace_31 rfl ?_
        refine aw_iload_n dX7_wrongPlace_34 rfl ?_
        refine aw_iaload dX7_wrongPlace_35 m_a4 (by omega) (by omega) ?_
        refine aw_icmplt (tgt := 43) dX7_wrongPlace_36 (by decide) (fun h36 => ?_) (fun h36 => ?_)
        · refine aw_iconst dX7_wrongPlace_43 (by decide) ?_
          refine aw_ireturn dX7_wrongPlace_44 rfl ?_
          first
            | exact hA (by omega)
            | exact hB (by omega) (by omega) (by omega)
            | exact hC (by omega) (by omega) (by omega) (by omega)
            | exact hO (by omega) (by omega) (by omega) (by omega) (by omega)
        · refine aw_iconst dX7_wrongPlace_39 (by decide) ?_
          refine aw_goto (tgt := 44) dX7_wrongPlace_40 (by decide) ?_
          refine aw_ireturn dX7_wrongPlace_44 rfl ?_
          first
            | exact hA (by omega)
            | exact hB (by omega) (by omega) (by omega)
            | exact hC (by omega) (by omega) (by omega) (by omega)
            | exact hO (by omega) (by omega) (by omega) (by omega) (by omega)
    · refine aw_iconst dX7_wrongPlace_21 (by decide) ?_
      refine aw_goto (tgt := 44) dX7_wrongPlace_22 (by decide) ?_
      refine aw_ireturn dX7_wrongPlace_44 rfl ?_
      first
        | exact hA (by omega)
        | exact hB (by omega) (by omega) (by omega)
        | exact hC (by omega) (by omega) (by omega) (by omega)
        | exact hO (by omega) (by omega) (by omega) (by omega) (by omega)
  · refine aK_i ?_
    refine aw_ifne (tgt := 11) dX7_wrongPlace_4 (by decide) (fun h => absurd h (by decide)) (fun _ => ?_)
    refine aw_iconst dX7_wrongPlace_7 (by decide) ?_
    refine aw_goto (tgt := 44) dX7_wrongPlace_8 (by decide) ?_
    refine aw_ireturn dX7_wrongPlace_44 rfl ?_
    first
      | exact hA (by omega)
      | exact hB (by omega) (by omega) (by omega)
      | exact hC (by omega) (by omega) (by omega) (by omega)
      | exact hO (by omega) (by omega) (by omega) (by omega) (by omega)
theorem TRY.ge {own : Int → Int} {sz : Int} {im : Int → aIm} {ct cm : Int → Int → Int} {t : Int} (h : TRY own sz im ct cm t) : -1 ≤ ct (2 + t) 0 := by
  rcases h with h | h
  · omega
  · have := h.2.2.1.1; omega
theorem TRY.no {own : Int → Int} {sz : Int} {im : Int → aIm} {ct cm : Int → Int → Int} {t : Int} (h : TRY own sz im ct cm t) : ct (2 + t) 0 = -1 ↔ cm 4 t = -1 := by
  rcases h with h | h
  · omega
  · have := h.2.2.1.1; have := h.2.1; omega
theorem TRY.yes {own : Int → Int} {sz : Int} {im : Int → aIm} {ct cm : Int → Int → Int} {t : Int} (h : TRY own sz im ct cm t) (n : ct (2 + t) 0 ≠ -1) : (0 ≤ cm 3 t ∧ cm 3 t ≤ 3) ∧ (0 ≤ cm 4 t ∧ cm 4 t ≤ 60) ∧ aar sz im (ct (2 + t) 0) (cm 3 t).toNat (cm 4 t) ∧ own (ct (2 + t) 0) = -10 - t ∧ ∀ j, 0 ≤ j → j < cm 4 t → ct (ct (2 + t) 0) j = cm 5 (60 * t + j) := by
  rcases h with h | h
  · omega
  · exact h
theorem OP_read {sz : Int} {im : Int → aIm} {ct cm : Int → Int → Int} (h : XR (sz, im, ct) cm) {a b : Int} (r0 : -2147483648 ≤ a ∧ a < 2147483648) (r1 : -2147483648 ≤ b ∧ b < 2147483648)  : AMet md_X0_read 163 3 222 [vR 0, vI a, vI b] (sz, im, ct) (XQL md_X7_read 3 [vR 0, vI a, vI b] cm) := by
  obtain ⟨own, N, hR, HY, HL, HN, HS, HP, HF, HX, hv2, hv3, hv4⟩ := id h
  dsimp only at hR HY HL HS HX hv2 hv3 hv4
  have hp0 := HP.1
  have hp3 := HP.2.1
  have hpq := HP.2.2.2.1.1
  have hps := HP.2.2.2.2.2
  refine AMet.goW (L := [some (vR 0), some (vI a), some (vI b), none]) mok_X0_read (Nat.le_of_ble_eq_true rfl) rfl ?_
  refine aw_aload_n dX0_read_0 rfl ?_
  refine aw_iconst dX0_read_1 (by decide) ?_
  refine p_X0_73_0 rfl dX0_read_2 hR.o0 ?_
  refine aw_aload_n dX0_read_5 rfl ?_
  refine aw_iload_n dX0_read_6 rfl ?_
  refine c_X0_115 rfl dX0_read_7 hR.o0 (Nat.le_of_ble_eq_true rfl) (by omega) (C_x_on (hR.up0 (j := 7) (v := 0)) (fun t0 t1 => by rw [aup_n (by omega)]; exact (HX.1 a t0 t1).ge) (fun hb => ?_) (fun t0 t1 hb => ?_) (fun t0 t1 hb => ?_))
  · refine aK_x (ax_catch (E := 1) (pre := [{ startPc := 5, endPc := 14, handlerPc := 15, catchType := 123 }]) (z := { startPc := 5, endPc := 14, handlerPc := 25, catchType := 41 }) (suf := []) rfl (fun y hy => by rw [List.mem_singleton.mp hy]; exact Or.inr ⟨by decide, _, q493, by decide +kernel⟩) rfl (by decide) q235 q237 ?_)
    refine aw_astore3 dX0_read_25 (by decide) rfl ?_
    refine aw_aload_n dX0_read_26 rfl ?_
    refine aw_aload_n dX0_read_27 rfl ?_
    refine c_X0_131 rfl dX0_read_28 hR.o0 (Nat.le_of_ble_eq_true rfl) (by omega) (C_x_none (hR.up0 (j := 7) (v := 0)) ?_)
    refine aK_i ?_
    refine aw_i2l dX0_read_31 ?_
    refine aw_lreturn dX0_read_32 rfl ?_
    refine ⟨_, rfl, ?_⟩
    refine AMet.go (L := [some (vR 0), some (vI a), some (vI b)]) mok_X7_read (Nat.le_of_ble_eq_true rfl) rfl ?_
    refine aw_aload_n dX7_read_0 rfl ?_
    refine aw_aload_n dX7_read_1 rfl ?_
    refine aw_iload_n dX7_read_2 rfl ?_
    refine aw_iload_n dX7_read_3 rfl ?_
    refine c_X7_86 rfl dX7_read_4 m_ob (Nat.le_of_ble_eq_true rfl) (by omega) (C_m_wrongPlace (fun m1 => ?_) (fun m1 m2 m3 => ?_) (fun m1 m2 m3 m4 => ?_) (fun m1 m2 m3 m4 m5 => ?_))
    · first
        | (exfalso; omega)
        | skip
          refine aK_i ?_
          refine p_X7_66_7 rfl dX7_read_7 m_ob ?_
          refine gm_66 rfl dX7_read_10 dX7_read_11 rfl ?_
          rw [show aup cm 0 2 (1) 0 2 = 1 from aup_s]
          refine aw_ifle (tgt := 23) dX7_read_14 (by decide) (fun h => absurd h (by decide)) (fun _ => ?_)
          refine aw_ldc2 (x := (-1)) dX7_read_17 q1584 (by decide) ?_
          refine aw_goto (tgt := 34) dX7_read_20 (by decide) ?_
          refine aw_lreturn dX7_read_34 rfl ?_
          first
            | (exfalso; omega)
            | (refine ⟨by first | rfl | (rw [aup_rn (show ct (2 + a) 0 ≠ 0 from fun z => by rw [z] at y4; have := hR.1.2; omega), aup_rn (by decide), y5 b j0 j1]), _, rfl, XR.try hR HY HL HN HS HP HF HX hv3 hv4 (fun x j h8 h0 _ => ?_) (fun x i _ _ _ h0 => ?_) (fun t t0 t1 => TRY.fr (HX.1 t t0 t1) ?_ (fun x j hx => ?_) ?_ ?_ (fun j j0 j1 => ?_)) ?_⟩
               · (repeat (first | rw [aup_n h0] | rw [aup_rn h8]))
               · rw [aup_n h0]
               · (repeat rw [aup_n (by omega)])
               · have o8 := hR.2.2.2.2.2.1.2; have o0 := hR.1.2
                 (repeat rw [aup_rn (fun z => by rw [z] at hx; omega)])
               · rw [aup_rn (by decide)]
               · rw [aup_rn (by decide)]
               · rw [aup_rn (by decide)]
               · simp [aup])
    · first
        | (exfalso; omega)
        | skip
          refine aK_i ?_
          refine p_X7_66_7 rfl dX7_read_7 m_ob ?_
          refine gm_66 rfl dX7_read_10 dX7_read_11 rfl ?_
          rw [show aup cm 0 2 (2) 0 2 = 2 from aup_s]
          refine aw_ifle (tgt := 23) dX7_read_14 (by decide) (fun h => absurd h (by decide)) (fun _ => ?_)
          refine aw_ldc2 (x := (-1)) dX7_read_17 q1584 (by decide) ?_
          refine aw_goto (tgt := 34) dX7_read_20 (by decide) ?_
          refine aw_lreturn dX7_read_34 rfl ?_
          first
            | (exfalso; omega)
            | (refine ⟨by first | rfl | (rw [aup_rn (show ct (2 + a) 0 ≠ 0 from fun z => by rw [z] at y4; have := hR.1.2; omega), aup_rn (by decide), y5 b j0 j1]), _, rfl, XR.try hR HY HL HN HS HP HF HX hv3 hv4 (fun x j h8 h0 _ => ?_) (fun x i _ _ _ h0 => ?_) (fun t t0 t1 => TRY.fr (HX.1 t t0 t1) ?_ (fun x j hx => ?_) ?_ ?_ (fun j j0 j1 => ?_)) ?_⟩
               · (repeat (first | rw [aup_n h0] | rw [aup_rn h8]))
               · rw [aup_n h0]
               · (repeat rw [aup_n (by omega)])
               · have o8 := hR.2.2.2.2.2.1.2; have o0 := hR.1.2
                 (repeat rw [aup_rn (fun z => by rw [z] at hx; omega)])
               · rw [aup_rn (by decide)]
               · rw [aup_rn (by decide)]
               · rw [aup_rn (by decide)]
               · simp [aup])
    · first
        | (exfalso; omega)
        | skip
          refine aK_i ?_
          refine p_X7_66_7 rfl dX7_read_7 m_ob ?_
          refine gm_66 rfl dX7_read_10 dX7_read_11 rfl ?_
          rw [show aup cm 0 2 (3) 0 2 = 3 from aup_s]
          refine aw_ifle (tgt := 23) dX7_read_14 (by decide) (fun h => absurd h (by decide)) (fun _ => ?_)
          refine aw_ldc2 (x := (-1)) dX7_read_17 q1584 (by decide) ?_
          refine aw_goto (tgt := 34) dX7_read_20 (by decide) ?_
          refine aw_lreturn dX7_read_34 rfl ?_
          first
            | (exfalso; omega)
            | (refine ⟨by first | rfl | (rw [aup_rn (show ct (2 + a) 0 ≠ 0 from fun z => by rw [z] at y4; have := hR.1.2; omega), aup_rn (by decide), y5 b j0 j1]), _, rfl, XR.try hR HY HL HN HS HP HF HX hv3 hv4 (fun x j h8 h0 _ => ?_) (fun x i _ _ _ h0 => ?_) (fun t t0 t1 => TRY.fr (HX.1 t t0 t1) ?_ (fun x j hx => ?_) ?_ ?_ (fun j j0 j1 => ?_)) ?_⟩
               · (repeat (first | rw [aup_n h0] | rw [aup_rn h8]))
               · rw [aup_n h0]
               · (repeat rw [aup_n (by omega)])
               · have o8 := hR.2.2.2.2.2.1.2; have o0 := hR.1.2
                 (repeat rw [aup_rn (fun z => by rw [z] at hx; omega)])
               · rw [aup_rn (by decide)]
               · rw [aup_rn (by decide)]
               · rw [aup_rn (by decide)]
               · simp [aup])
    · first
        | (exfalso; omega)
        | skip
          refine aK_i ?_
          refine p_X7_66_7 rfl dX7_read_7 m_ob ?_
          refine gm_66 rfl dX7_read_10 dX7_read_11 rfl ?_
          rw [show aup cm 0 2 (0) 0 2 = 0 from aup_s]
          refine aw_ifle (tgt := 23) dX7_read_14 (by decide) (fun _ => ?_) (fun h => absurd h (by decide))
          refine gm_27 rfl dX7_read_23 dX7_read_24 rfl ?_
          refine aw_bipush dX7_read_27 (by decide) ?_
          refine aw_iload_n dX7_read_29 rfl ?_
          refine aw_imulr dX7_read_30 (by omega) ?_
          refine aw_iload_n dX7_read_31 rfl ?_
          refine aw_iaddr dX7_read_32 (by omega) ?_
          refine aw_laload dX7_read_33 m_a5 (by omega) (by omega) ?_
          refine aw_lreturn dX7_read_34 rfl ?_
          first
            | (exfalso; omega)
            | (refine ⟨by first | rfl | (rw [aup_rn (show ct (2 + a) 0 ≠ 0 from fun z => by rw [z] at y4; have := hR.1.2; omega), aup_rn (by decide), y5 b j0 j1]), _, rfl, XR.try hR HY HL HN HS HP HF HX hv3 hv4 (fun x j h8 h0 _ => ?_) (fun x i _ _ _ h0 => ?_) (fun t t0 t1 => TRY.fr (HX.1 t t0 t1) ?_ (fun x j hx => ?_) ?_ ?_ (fun j j0 j1 => ?_)) ?_⟩
               · (repeat (first | rw [aup_n h0] | rw [aup_rn h8]))
               · rw [aup_n h0]
               · (repeat rw [aup_n (by omega)])
               · have o8 := hR.2.2.2.2.2.1.2; have o0 := hR.1.2
                 (repeat rw [aup_rn (fun z => by rw [z] at hx; omega)])
               · rw [aup_rn (by decide)]
               · rw [aup_rn (by decide)]
               · rw [aup_rn (by decide)]
               · simp [aup])
  · rw [aup_n (by omega)] at hb
    have hno := (HX.1 a t0 t1).no
    refine aK_x (ax_catch (E := 1) (pre := [{ startPc := 5, endPc := 14, handlerPc := 15, catchType := 123 }]) (z := { startPc := 5, endPc := 14, handlerPc := 25, catchType := 41 }) (suf := []) rfl (fun y hy => by rw [List.mem_singleton.mp hy]; exact Or.inr ⟨by decide, _, q493, by decide +kernel⟩) rfl (by decide) q235 q237 ?_)
    refine aw_astore3 dX0_read_25 (by decide) rfl ?_
    refine aw_aload_n dX0_read_26 rfl ?_
    refine aw_aload_n dX0_read_27 rfl ?_
    refine c_X0_131 rfl dX0_read_28 hR.o0 (Nat.le_of_ble_eq_true rfl) (by omega) (C_x_none (hR.up0 (j := 7) (v := 0)) ?_)
    refine aK_i ?_
    refine aw_i2l dX0_read_31 ?_
    refine aw_lreturn dX0_read_32 rfl ?_
    refine ⟨_, rfl, ?_⟩
    refine AMet.go (L := [some (vR 0), some (vI a), some (vI b)]) mok_X7_read (Nat.le_of_ble_eq_true rfl) rfl ?_
    refine aw_aload_n dX7_read_0 rfl ?_
    refine aw_aload_n dX7_read_1 rfl ?_
    refine aw_iload_n dX7_read_2 rfl ?_
    refine aw_iload_n dX7_read_3 rfl ?_
    refine c_X7_86 rfl dX7_read_4 m_ob (Nat.le_of_ble_eq_true rfl) (by omega) (C_m_wrongPlace (fun m1 => ?_) (fun m1 m2 m3 => ?_) (fun m1 m2 m3 m4 => ?_) (fun m1 m2 m3 m4 m5 => ?_))
    · first
        | (exfalso; omega)
        | skip
          refine aK_i ?_
          refine p_X7_66_7 rfl dX7_read_7 m_ob ?_
          refine gm_66 rfl dX7_read_10 dX7_read_11 rfl ?_
          rw [show aup cm 0 2 (1) 0 2 = 1 from aup_s]
          refine aw_ifle (tgt := 23) dX7_read_14 (by decide) (fun h => absurd h (by decide)) (fun _ => ?_)
          refine aw_ldc2 (x := (-1)) dX7_read_17 q1584 (by decide) ?_
          refine aw_goto (tgt := 34) dX7_read_20 (by decide) ?_
          refine aw_lreturn dX7_read_34 rfl ?_
          first
            | (exfalso; omega)
            | (refine ⟨by first | rfl | (rw [aup_rn (show ct (2 + a) 0 ≠ 0 from fun z => by rw [z] at y4; have := hR.1.2; omega), aup_rn (by decide), y5 b j0 j1]), _, rfl, XR.try hR HY HL HN HS HP HF HX hv3 hv4 (fun x j h8 h0 _ => ?_) (fun x i _ _ _ h0 => ?_) (fun t t0 t1 => TRY.fr (HX.1 t t0 t1) ?_ (fun x j hx => ?_) ?_ ?_ (fun j j0 j1 => ?_)) ?_⟩
               · (repeat (first | rw [aup_n h0] | rw [aup_rn h8]))
               · rw [aup_n h0]
               · (repeat rw [aup_n (by omega)])
               · have o8 := hR.2.2.2.2.2.1.2; have o0 := hR.1.2
                 (repeat rw [aup_rn (fun z => by rw [z] at hx; omega)])
               · rw [aup_rn (by decide)]
               · rw [aup_rn (by decide)]
               · rw [aup_rn (by decide)]
               · simp [aup])
    · first
        | (exfalso; omega)
        | skip
          refine aK_i ?_
          refine p_X7_66_7 rfl dX7_read_7 m_ob ?_
          refine gm_66 rfl dX7_read_10 dX7_read_11 rfl ?_
          rw [show aup cm 0 2 (2) 0 2 = 2 from aup_s]
          refine aw_ifle (tgt := 23) dX7_read_14 (by decide) (fun h => absurd h (by decide)) (fun _ => ?_)
          refine aw_ldc2 (x := (-1)) dX7_read_17 q1584 (by decide) ?_
          refine aw_goto (tgt := 34) dX7_read_20 (by decide) ?_
          refine aw_lreturn dX7_read_34 rfl ?_
          first
            | (exfalso; omega)
            | (refine ⟨by first | rfl | (rw [aup_rn (show ct (2 + a) 0 ≠ 0 from fun z => by rw [z] at y4; have := hR.1.2; omega), aup_rn (by decide), y5 b j0 j1]), _, rfl, XR.try hR HY HL HN HS HP HF HX hv3 hv4 (fun x j h8 h0 _ => ?_) (fun x i _ _ _ h0 => ?_) (fun t t0 t1 => TRY.fr (HX.1 t t0 t1) ?_ (fun x j hx => ?_) ?_ ?_ (fun j j0 j1 => ?_)) ?_⟩
               · (repeat (first | rw [aup_n h0] | rw [aup_rn h8]))
               · rw [aup_n h0]
               · (repeat rw [aup_n (by omega)])
               · have o8 := hR.2.2.2.2.2.1.2; have o0 := hR.1.2
                 (repeat rw [aup_rn (fun z => by rw [z] at hx; omega)])
               · rw [aup_rn (by decide)]
               · rw [aup_rn (by decide)]
               · rw [aup_rn (by decide)]
               · simp [aup])
    · first
        | (exfalso; omega)
        | skip
          refine aK_i ?_
          refine p_X7_66_7 rfl dX7_read_7 m_ob ?_
          refine gm_66 rfl dX7_read_10 dX7_read_11 rfl ?_
          rw [show aup cm 0 2 (3) 0 2 = 3 from aup_s]
          refine aw_ifle (tgt := 23) dX7_read_14 (by decide) (fun h => absurd h (by decide)) (fun _ => ?_)
          refine aw_ldc2 (x := (-1)) dX7_read_17 q1584 (by decide) ?_
          refine aw_goto (tgt := 34) dX7_read_20 (by decide) ?_
          refine aw_lreturn dX7_read_34 rfl ?_
          first
            | (exfalso; omega)
            | (refine ⟨by first | rfl | (rw [aup_rn (show ct (2 + a) 0 ≠ 0 from fun z => by rw [z] at y4; have := hR.1.2; omega), aup_rn (by decide), y5 b j0 j1]), _, rfl, XR.try hR HY HL HN HS HP HF HX hv3 hv4 (fun x j h8 h0 _ => ?_) (fun x i _ _ _ h0 => ?_) (fun t t0 t1 => TRY.fr (HX.1 t t0 t1) ?_ (fun x j hx => ?_) ?_ ?_ (fun j j0 j1 => ?_)) ?_⟩
               · (repeat (first | rw [aup_n h0] | rw [aup_rn h8]))
               · rw [aup_n h0]
               · (repeat rw [aup_n (by omega)])
               · have o8 := hR.2.2.2.2.2.1.2; have o0 := hR.1.2
                 (repeat rw [aup_rn (fun z => by rw [z] at hx; omega)])
               · rw [aup_rn (by decide)]
               · rw [aup_rn (by decide)]
               · rw [aup_rn (by decide)]
               · simp [aup])
    · first
        | (exfalso; omega)
        | skip
          refine aK_i ?_
          refine p_X7_66_7 rfl dX7_read_7 m_ob ?_
          refine gm_66 rfl dX7_read_10 dX7_read_11 rfl ?_
          rw [show aup cm 0 2 (0) 0 2 = 0 from aup_s]
          refine aw_ifle (tgt := 23) dX7_read_14 (by decide) (fun _ => ?_) (fun h => absurd h (by decide))
          refine gm_27 rfl dX7_read_23 dX7_read_24 rfl ?_
          refine aw_bipush dX7_read_27 (by decide) ?_
          refine aw_iload_n dX7_read_29 rfl ?_
          refine aw_imulr dX7_read_30 (by omega) ?_
          refine aw_iload_n dX7_read_31 rfl ?_
          refine aw_iaddr dX7_read_32 (by omega) ?_
          refine aw_laload dX7_read_33 m_a5 (by omega) (by omega) ?_
          refine aw_lreturn dX7_read_34 rfl ?_
          first
            | (exfalso; omega)
            | (refine ⟨by first | rfl | (rw [aup_rn (show ct (2 + a) 0 ≠ 0 from fun z => by rw [z] at y4; have := hR.1.2; omega), aup_rn (by decide), y5 b j0 j1]), _, rfl, XR.try hR HY HL HN HS HP HF HX hv3 hv4 (fun x j h8 h0 _ => ?_) (fun x i _ _ _ h0 => ?_) (fun t t0 t1 => TRY.fr (HX.1 t t0 t1) ?_ (fun x j hx => ?_) ?_ ?_ (fun j j0 j1 => ?_)) ?_⟩
               · (repeat (first | rw [aup_n h0] | rw [aup_rn h8]))
               · rw [aup_n h0]
               · (repeat rw [aup_n (by omega)])
               · have o8 := hR.2.2.2.2.2.1.2; have o0 := hR.1.2
                 (repeat rw [aup_rn (fun z => by rw [z] at hx; omega)])
               · rw [aup_rn (by decide)]
               · rw [aup_rn (by decide)]
               · rw [aup_rn (by decide)]
               · simp [aup])
  · have hy := (HX.1 a t0 t1).yes (by rw [aup_n (by omega)] at hb; exact hb)
    obtain ⟨y1, y2, y3, y4, y5⟩ := hy
    rw [aup_n (by omega)]
    refine aK_i ?_
    refine aw_iload_n dX0_read_10 rfl ?_
    refine c_X0_125a (kc1 := 3) (ks1 := 222) (kc2 := 0) (ks2 := 0) (by decide) (by decide) rfl dX0_read_11  (Nat.le_of_ble_eq_true rfl) (by omega) (C_x_number (t := (cm 3 a).toNat) (by omega) y3 (by omega) (fun j0 j1 => ?_) (fun hj => ?_))
    · refine aK_i ?_
      refine aw_lreturn dX0_read_14 rfl ?_
      refine ⟨_, rfl, ?_⟩
      refine AMet.go (L := [some (vR 0), some (vI a), some (vI b)]) mok_X7_read (Nat.le_of_ble_eq_true rfl) rfl ?_
      refine aw_aload_n dX7_read_0 rfl ?_
      refine aw_aload_n dX7_read_1 rfl ?_
      refine aw_iload_n dX7_read_2 rfl ?_
      refine aw_iload_n dX7_read_3 rfl ?_
      refine c_X7_86 rfl dX7_read_4 m_ob (Nat.le_of_ble_eq_true rfl) (by omega) (C_m_wrongPlace (fun m1 => ?_) (fun m1 m2 m3 => ?_) (fun m1 m2 m3 m4 => ?_) (fun m1 m2 m3 m4 m5 => ?_))
      · first
          | (exfalso; omega)
          | skip
            refine aK_i ?_
            refine p_X7_66_7 rfl dX7_read_7 m_ob ?_
            refine gm_66 rfl dX7_read_10 dX7_read_11 rfl ?_
            rw [show aup cm 0 2 (1) 0 2 = 1 from aup_s]
            refine aw_ifle (tgt := 23) dX7_read_14 (by decide) (fun h => absurd h (by decide)) (fun _ => ?_)
            refine aw_ldc2 (x := (-1)) dX7_read_17 q1584 (by decide) ?_
            refine aw_goto (tgt := 34) dX7_read_20 (by decide) ?_
            refine aw_lreturn dX7_read_34 rfl ?_
            first
              | (exfalso; omega)
              | (refine ⟨by first | rfl | (rw [aup_rn (show ct (2 + a) 0 ≠ 0 from fun z => by rw [z] at y4; have := hR.1.2; omega), aup_rn (by decide), y5 b j0 j1]), _, rfl, XR.try hR HY HL HN HS HP HF HX hv3 hv4 (fun x j h8 h0 _ => ?_) (fun x i _ _ _ h0 => ?_) (fun t t0 t1 => TRY.fr (HX.1 t t0 t1) ?_ (fun x j hx => ?_) ?_ ?_ (fun j j0 j1 => ?_)) ?_⟩
                 · (repeat (first | rw [aup_n h0] | rw [aup_rn h8]))
                 · rw [aup_n h0]
                 · (repeat rw [aup_n (by omega)])
                 · have o8 := hR.2.2.2.2.2.1.2; have o0 := hR.1.2
                   (repeat rw [aup_rn (fun z => by rw [z] at hx; omega)])
                 · rw [aup_rn (by decide)]
                 · rw [aup_rn (by decide)]
                 · rw [aup_rn (by decide)]
                 · simp [aup])
      · first
          | (exfalso; omega)
          | skip
            refine aK_i ?_
            refine p_X7_66_7 rfl dX7_read_7 m_ob ?_
            refine gm_66 rfl dX7_read_10 dX7_read_11 rfl ?_
            rw [show aup cm 0 2 (2) 0 2 = 2 from aup_s]
            refine aw_ifle (tgt := 23) dX7_read_14 (by decide) (fun h => absurd h (by decide)) (fun _ => ?_)
            refine aw_ldc2 (x := (-1)) dX7_read_17 q1584 (by decide) ?_
            refine aw_goto (tgt := 34) dX7_read_20 (by decide) ?_
            refine aw_lreturn dX7_read_34 rfl ?_
            first
              | (exfalso; omega)
              | (refine ⟨by first | rfl | (rw [aup_rn (show ct (2 + a) 0 ≠ 0 from fun z => by rw [z] at y4; have := hR.1.2; omega), aup_rn (by decide), y5 b j0 j1]), _, rfl, XR.try hR HY HL HN HS HP HF HX hv3 hv4 (fun x j h8 h0 _ => ?_) (fun x i _ _ _ h0 => ?_) (fun t t0 t1 => TRY.fr (HX.1 t t0 t1) ?_ (fun x j hx => ?_) ?_ ?_ (fun j j0 j1 => ?_)) ?_⟩
                 · (repeat (first | rw [aup_n h0] | rw [aup_rn h8]))
                 · rw [aup_n h0]
                 · (repeat rw [aup_n (by omega)])
                 · have o8 := hR.2.2.2.2.2.1.2; have o0 := hR.1.2
                   (repeat rw [aup_rn (fun z => by rw [z] at hx; omega)])
                 · rw [aup_rn (by decide)]
                 · rw [aup_rn (by decide)]
                 · rw [aup_rn (by decide)]
                 · simp [aup])
      · first
          | (exfalso; omega)
          | skip
            refine aK_i ?_
            refine p_X7_66_7 rfl dX7_read_7 m_ob ?_
            refine gm_66 rfl dX7_read_10 dX7_read_11 rfl ?_
            rw [show aup cm 0 2 (3) 0 2 = 3 from aup_s]
            refine aw_ifle (tgt := 23) dX7_read_14 (by decide) (fun h => absurd h (by decide)) (fun _ => ?_)
            refine aw_ldc2 (x := (-1)) dX7_read_17 q1584 (by decide) ?_
            refine aw_goto (tgt := 34) dX7_read_20 (by decide) ?_
            refine aw_lreturn dX7_read_34 rfl ?_
            first
              | (exfalso; omega)
              | (refine ⟨by first | rfl | (rw [aup_rn (show ct (2 + a) 0 ≠ 0 from fun z => by rw [z] at y4; have := hR.1.2; omega), aup_rn (by decide), y5 b j0 j1]), _, rfl, XR.try hR HY HL HN HS HP HF HX hv3 hv4 (fun x j h8 h0 _ => ?_) (fun x i _ _ _ h0 => ?_) (fun t t0 t1 => TRY.fr (HX.1 t t0 t1) ?_ (fun x j hx => ?_) ?_ ?_ (fun j j0 j1 => ?_)) ?_⟩
                 · (repeat (first | rw [aup_n h0] | rw [aup_rn h8]))
                 · rw [aup_n h0]
                 · (repeat rw [aup_n (by omega)])
                 · have o8 := hR.2.2.2.2.2.1.2; have o0 := hR.1.2
                   (repeat rw [aup_rn (fun z => by rw [z] at hx; omega)])
                 · rw [aup_rn (by decide)]
                 · rw [aup_rn (by decide)]
                 · rw [aup_rn (by decide)]
                 · simp [aup])
      · first
          | (exfalso; omega)
          | skip
            refine aK_i ?_
            refine p_X7_66_7 rfl dX7_read_7 m_ob ?_
            refine gm_66 rfl dX7_read_10 dX7_read_11 rfl ?_
            rw [show aup cm 0 2 (0) 0 2 = 0 from aup_s]
            refine aw_ifle (tgt := 23) dX7_read_14 (by decide) (fun _ => ?_) (fun h => absurd h (by decide))
            refine gm_27 rfl dX7_read_23 dX7_read_24 rfl ?_
            refine aw_bipush dX7_read_27 (by decide) ?_
            refine aw_iload_n dX7_read_29 rfl ?_
            refine aw_imulr dX7_read_30 (by omega) ?_
            refine aw_iload_n dX7_read_31 rfl ?_
            refine aw_iaddr dX7_read_32 (by omega) ?_
            refine aw_laload dX7_read_33 m_a5 (by omega) (by omega) ?_
            refine aw_lreturn dX7_read_34 rfl ?_
            first
              | (exfalso; omega)
              | (refine ⟨by first | rfl | (rw [aup_rn (show ct (2 + a) 0 ≠ 0 from fun z => by rw [z] at y4; have := hR.1.2; omega), aup_rn (by decide), y5 b j0 j1]), _, rfl, XR.try hR HY HL HN HS HP HF HX hv3 hv4 (fun x j h8 h0 _ => ?_) (fun x i _ _ _ h0 => ?_) (fun t t0 t1 => TRY.fr (HX.1 t t0 t1) ?_ (fun x j hx => ?_) ?_ ?_ (fun j j0 j1 => ?_)) ?_⟩
                 · (repeat (first | rw [aup_n h0] | rw [aup_rn h8]))
                 · rw [aup_n h0]
                 · (repeat rw [aup_n (by omega)])
                 · have o8 := hR.2.2.2.2.2.1.2; have o0 := hR.1.2
                   (repeat rw [aup_rn (fun z => by rw [z] at hx; omega)])
                 · rw [aup_rn (by decide)]
                 · rw [aup_rn (by decide)]
                 · rw [aup_rn (by decide)]
                 · simp [aup])
    · refine aK_x (ax_catch (E := 3) (pre := []) (z := { startPc := 5, endPc := 14, handlerPc := 15, catchType := 123 }) (suf := [{ startPc := 5, endPc := 14, handlerPc := 25, catchType := 41 }]) rfl (fun y hy => by cases hy) rfl (by decide) q493 q508 ?_)
      refine aw_astore3 dX0_read_15 (by decide) rfl ?_
      refine aw_aload_n dX0_read_16 rfl ?_
      refine aw_iconst dX0_read_17 (by decide) ?_
      refine p_X0_73_0 rfl dX0_read_18 hR.o0 ?_
      refine aw_ldc2 (x := (-1)) dX0_read_21 q530 (by decide) ?_
      refine aw_lreturn dX0_read_24 rfl ?_
      refine ⟨_, rfl, ?_⟩
      refine AMet.go (L := [some (vR 0), some (vI a), some (vI b)]) mok_X7_read (Nat.le_of_ble_eq_true rfl) rfl ?_
      refine aw_aload_n dX7_read_0 rfl ?_
      refine aw_aload_n dX7_read_1 rfl ?_
      refine aw_iload_n dX7_read_2 rfl ?_
      refine aw_iload_n dX7_read_3 rfl ?_
      refine c_X7_86 rfl dX7_read_4 m_ob (Nat.le_of_ble_eq_true rfl) (by omega) (C_m_wrongPlace (fun m1 => ?_) (fun m1 m2 m3 => ?_) (fun m1 m2 m3 m4 => ?_) (fun m1 m2 m3 m4 m5 => ?_))
      · first
          | (exfalso; omega)
          | skip
            refine aK_i ?_
            refine p_X7_66_7 rfl dX7_read_7 m_ob ?_
            refine gm_66 rfl dX7_read_10 dX7_read_11 rfl ?_
            rw [show aup cm 0 2 (1) 0 2 = 1 from aup_s]
            refine aw_ifle (tgt := 23) dX7_read_14 (by decide) (fun h => absurd h (by decide)) (fun _ => ?_)
            refine aw_ldc2 (x := (-1)) dX7_read_17 q1584 (by decide) ?_
            refine aw_goto (tgt := 34) dX7_read_20 (by decide) ?_
            refine aw_lreturn dX7_read_34 rfl ?_
            first
              | (exfalso; omega)
              | (refine ⟨by first | rfl | (rw [aup_rn (show ct (2 + a) 0 ≠ 0 from fun z => by rw [z] at y4; have := hR.1.2; omega), aup_rn (by decide), y5 b j0 j1]), _, rfl, XR.try hR HY HL HN HS HP HF HX hv3 hv4 (fun x j h8 h0 _ => ?_) (fun x i _ _ _ h0 => ?_) (fun t t0 t1 => TRY.fr (HX.1 t t0 t1) ?_ (fun x j hx => ?_) ?_ ?_ (fun j j0 j1 => ?_)) ?_⟩
                 · (repeat (first | rw [aup_n h0] | rw [aup_rn h8]))
                 · rw [aup_n h0]
                 · (repeat rw [aup_n (by omega)])
                 · have o8 := hR.2.2.2.2.2.1.2; have o0 := hR.1.2
                   (repeat rw [aup_rn (fun z => by rw [z] at hx; omega)])
                 · rw [aup_rn (by decide)]
                 · rw [aup_rn (by decide)]
                 · rw [aup_rn (by decide)]
                 · simp [aup])
      · first
          | (exfalso; omega)
          | skip
            refine aK_i ?_
            refine p_X7_66_7 rfl dX7_read_7 m_ob ?_
            refine gm_66 rfl dX7_read_10 dX7_read_11 rfl ?_
            rw [show aup cm 0 2 (2) 0 2 = 2 from aup_s]
            refine aw_ifle (tgt := 23) dX7_read_14 (by decide) (fun h => absurd h (by decide)) (fun _ => ?_)
            refine aw_ldc2 (x := (-1)) dX7_read_17 q1584 (by decide) ?_
            refine aw_goto (tgt := 34) dX7_read_20 (by decide) ?_
            refine aw_lreturn dX7_read_34 rfl ?_
            first
              | (exfalso; omega)
              | (refine ⟨by first | rfl | (rw [aup_rn (show ct (2 + a) 0 ≠ 0 from fun z => by rw [z] at y4; have := hR.1.2; omega), aup_rn (by decide), y5 b j0 j1]), _, rfl, XR.try hR HY HL HN HS HP HF HX hv3 hv4 (fun x j h8 h0 _ => ?_) (fun x i _ _ _ h0 => ?_) (fun t t0 t1 => TRY.fr (HX.1 t t0 t1) ?_ (fun x j hx => ?_) ?_ ?_ (fun j j0 j1 => ?_)) ?_⟩
                 · (repeat (first | rw [aup_n h0] | rw [aup_rn h8]))
                 · rw [aup_n h0]
                 · (repeat rw [aup_n (by omega)])
                 · have o8 := hR.2.2.2.2.2.1.2; have o0 := hR.1.2
                   (repeat rw [aup_rn (fun z => by rw [z] at hx; omega)])
                 · rw [aup_rn (by decide)]
                 · rw [aup_rn (by decide)]
                 · rw [aup_rn (by decide)]
                 · simp [aup])
      · first
          | (exfalso; omega)
          | skip
            refine aK_i ?_
            refine p_X7_66_7 rfl dX7_read_7 m_ob ?_
            refine gm_66 rfl dX7_read_10 dX7_read_11 rfl ?_
            rw [show aup cm 0 2 (3) 0 2 = 3 from aup_s]
            refine aw_ifle (tgt := 23) dX7_read_14 (by decide) (fun h => absurd h (by decide)) (fun _ => ?_)
            refine aw_ldc2 (x := (-1)) dX7_read_17 q1584 (by decide) ?_
            refine aw_goto (tgt := 34) dX7_read_20 (by decide) ?_
            refine aw_lreturn dX7_read_34 rfl ?_
            first
              | (exfalso; omega)
              | (refine ⟨by first | rfl | (rw [aup_rn (show ct (2 + a) 0 ≠ 0 from fun z => by rw [z] at y4; have := hR.1.2; omega), aup_rn (by decide), y5 b j0 j1]), _, rfl, XR.try hR HY HL HN HS HP HF HX hv3 hv4 (fun x j h8 h0 _ => ?_) (fun x i _ _ _ h0 => ?_) (fun t t0 t1 => TRY.fr (HX.1 t t0 t1) ?_ (fun x j hx => ?_) ?_ ?_ (fun j j0 j1 => ?_)) ?_⟩
                 · (repeat (first | rw [aup_n h0] | rw [aup_rn h8]))
                 · rw [aup_n h0]
                 · (repeat rw [aup_n (by omega)])
                 · have o8 := hR.2.2.2.2.2.1.2; have o0 := hR.1.2
                   (repeat rw [aup_rn (fun z => by rw [z] at hx; omega)])
                 · rw [aup_rn (by decide)]
                 · rw [aup_rn (by decide)]
                 · rw [aup_rn (by decide)]
                 · simp [aup])
      · first
          | (exfalso; omega)
          | skip
            refine aK_i ?_
            refine p_X7_66_7 rfl dX7_read_7 m_ob ?_
            refine gm_66 rfl dX7_read_10 dX7_read_11 rfl ?_
            rw [show aup cm 0 2 (0) 0 2 = 0 from aup_s]
            refine aw_ifle (tgt := 23) dX7_read_14 (by decide) (fun _ => ?_) (fun h => absurd h (by decide))
            refine gm_27 rfl dX7_read_23 dX7_read_24 rfl ?_
            refine aw_bipush dX7_read_27 (by decide) ?_
            refine aw_iload_n dX7_read_29 rfl ?_
            refine aw_imulr dX7_read_30 (by omega) ?_
            refine aw_iload_n dX7_read_31 rfl ?_
            refine aw_iaddr dX7_read_32 (by omega) ?_
            refine aw_laload dX7_read_33 m_a5 (by omega) (by omega) ?_
            refine aw_lreturn dX7_read_34 rfl ?_
            first
              | (exfalso; omega)
              | (refine ⟨by first | rfl | (rw [aup_rn (show ct (2 + a) 0 ≠ 0 from fun z => by rw [z] at y4; have := hR.1.2; omega), aup_rn (by decide), y5 b j0 j1]), _, rfl, XR.try hR HY HL HN HS HP HF HX hv3 hv4 (fun x j h8 h0 _ => ?_) (fun x i _ _ _ h0 => ?_) (fun t t0 t1 => TRY.fr (HX.1 t t0 t1) ?_ (fun x j hx => ?_) ?_ ?_ (fun j j0 j1 => ?_)) ?_⟩
                 · (repeat (first | rw [aup_n h0] | rw [aup_rn h8]))
                 · rw [aup_n h0]
                 · (repeat rw [aup_n (by omega)])
                 · have o8 := hR.2.2.2.2.2.1.2; have o0 := hR.1.2
                   (repeat rw [aup_rn (fun z => by rw [z] at hx; omega)])
                 · rw [aup_rn (by decide)]
                 · rw [aup_rn (by decide)]
                 · rw [aup_rn (by decide)]
                 · simp [aup])
