set_option maxRecDepth 100000
/-! a text was read: both worlds -/
theorem XR.read {own own2 N2 : Int → Int} {sz sz2 : Int} {im im2 : Int → aIm} {ct ct3 cm cm2 : Int → Int → Int} (hR : RT own sz im ct) (HX : XO own sz im ct cm) (TX : TG own own2 sz sz2 im im2 ct ct3 (fun t => t = -2 ∨ tgY 0 t)) (h02 : ∀ x, x < sz → own x = -2 → own2 x = -2)
    (hr : ∀ x j, x < sz → own x = -2 → ¬ (x = 0 ∧ (j = 2 ∨ j = 3 ∨ j = 4 ∨ j = 7)) → x ≠ 7 → ¬ (x = 9 ∧ j = 1) → ct3 x j = ct x j)
    (hY : YR own2 0 sz2 im2 ct3 10 (cm2 1) (cm2 1 3) N2) (hL : LR own2 sz2 im2 ct3 (ct3 10 0) (cm2 1) N2) (hN : NRl N2 (cm2 2) (cm2 1)) (hS : SE own2 sz2 im2 ct3 (cm2 1) (ct3 9 1)) (hP : PI (cm2 1)) (yf : YF cm cm2)
    (h2 : ct3 0 2 = 0) (h3 : ct3 0 3 = cm2 0 16) (h4 : ct3 0 4 = cm2 0 17) (h7 : ct3 0 7 = cm2 0 2) (hv3 : ct 0 8 = cm 0 3) (hv4 : ct 0 9 = cm 0 4) : XR (sz2, im2, ct3) cm2 := by
  obtain ⟨kt1, ⟨kt2, kt3, kt4⟩, ⟨s4, dd4, N4, kt5⟩, ⟨ks2, ks10, ks3, ks4, ks15, ks34⟩, kt12, kt13⟩ := id HX
  obtain ⟨y0, yb, y1, y2, yF, y10⟩ := yf
  have hF1 : ¬ (fun t => t = -2 ∨ tgY 0 t) (-1) := fun z => by rcases z with z | ⟨z1, z2⟩ <;> omega
  have hsj : ∀ j, 0 ≤ j → j < 3 → slt cm2 (j + 1) = slt cm (j + 1) ∧ nms cm2 (j + 1) = nms cm (j + 1) := fun j j0 j1 => ⟨slt_eq fun i i0 i1 => y1 i (by omega) (by omega), nms_eq fun i i0 i1 => y2 i (by omega) (by omega)⟩
  obtain ⟨⟨a0, r0⟩, -, ⟨a1, r1, r5⟩, ⟨a6, r6⟩, -, -, ⟨a9, r9, -⟩, ⟨a19, r19⟩, ⟨a29, r29⟩⟩ := id hR
  refine ⟨own2, N2, RT.tg TX h02 (fun t t0 t1 => hr 1 t a1.2.1 r1 (by omega) (by omega) (by omega)) hR, hY, hL, hN, hS, hP, yF, ⟨fun t t0 t1 => ?_, ⟨?_, ?_, fun j j0 j1 => ?_⟩, ⟨s4, dd4, N4, YR.tg TX (fun t z0 z1 z => by rcases z with z | ⟨z1, z2⟩ <;> omega) kt5⟩, ⟨?_, ?_, ?_, ?_, ?_, ?_⟩, fun j j0 j1 => ?_, fun j j0 j1 => ?_⟩, h7, ?_, ?_⟩
  · have q := r5 t t0 t1
    exact TRY.tg TX (fun z => by rcases z with z | ⟨z1, z2⟩ <;> omega) (hr _ _ q.2.1.2.1 q.2.2 (by omega) (by omega) (by omega)) (by rw [yb 3 (by decide)]) (by rw [yb 4 (by decide)]) (fun i _ _ => by rw [yb 5 (by decide)]) (kt1 t t0 t1)
  · rw [y0 35 (by omega)]; exact kt2
  · show ct3 0 12 = _
    rw [hr 0 12 a0.2.1 r0 (by omega) (by omega) (by omega), y0 35 (by omega)]; exact kt3
  · exact MRK.tg j0 TX (fun t z0 z1 z => by rcases z with z | ⟨z1, z2⟩ <;> omega) hF1 (hr 19 j a19.2.1 r19 (by omega) (by omega) (by omega)) (fun _ z => by rw [y0 35 (by omega)]; exact z) (fun z => ⟨by rw [y0 35 (by omega)] at z; exact z, hsj j j0 j1⟩) (kt4 j j0 j1)
  · show ct3 0 2 = _
    rw [h2, y10]
  · rw [y10]; decide
  · exact h3
  · exact h4
  · show ct3 0 15 = _
    rw [hr 0 15 a0.2.1 r0 (by omega) (by omega) (by omega), y0 34 (by omega)]; exact ks15
  · rw [y0 34 (by omega)]; exact ks34
  · show ct3 6 j = _ ∧ _
    rw [hr 6 j a6.2.1 r6 (by omega) (by omega) (by omega), yb 6 (by decide)]; exact kt12 j j0 j1
  · show ct3 29 j = _
    rw [hr 29 j a29.2.1 r29 (by omega) (by omega) (by omega), yb 13 (by decide)]; exact kt13 j j0 j1
  · show ct3 0 8 = _
    rw [hr 0 8 a0.2.1 r0 (by omega) (by omega) (by omega), y0 3 (by omega)]; exact hv3
  · show ct3 0 9 = _
    rw [hr 0 9 a0.2.1 r0 (by omega) (by omega) (by omega), y0 4 (by omega)]; exact hv4
theorem NY.mono {sz sz' : Int} {im im' : Int → aIm} {ct ct' : Int → Int → Int} {ya la ha : Int} (h : NY sz im ct ya la ha) (hz : sz ≤ sz') (hi : ∀ x, x < sz → im' x = im x) (hc : ∀ x, x < sz → ct' x = ct x) : NY sz' im' ct' ya la ha := by
  obtain ⟨⟨h1, h2, h3, h4⟩, h5, ⟨h6, h7⟩, h8⟩ := h
  have cy := hc ya h1.2.1
  have cl := hc la h5.1.2.1
  exact ⟨⟨⟨h1.1, by have := h1.2.1; omega, by rw [hi _ h1.2.1]; exact h1.2.2⟩, by rw [hi _ h1.2.1]; exact h2, ⟨h3.1, by have := h3.2.1; omega, by rw [hi _ h3.2.1]; exact h3.2.2⟩, by rw [cy]; exact h4⟩, h5.mono hz hi, ⟨by rw [cl]; exact h6, by rw [cl]; exact h7⟩, fun j j0 j1 => by rw [cy]; exact h8 j j0 j1⟩
theorem C_x_opens {own : Int → Int} {sz : Int} {im : Int → aIm} {ct : Int → Int → Int} {k w t : Int} {Q : aPost} (hR : RT own sz im ct) (e2 : ct 0 2 = t) (hN : ¬ (0 ≤ k ∧ k ≤ t ∧ k ≤ w) → Q (.inl (some (vI 0))) (sz, im, aup ct 0 7 1)) (hQ : (0 ≤ k ∧ k ≤ t ∧ k ≤ w) → Q (.inl (some (vI 1))) (sz, im, (aup (aup (aup (aup ct 0 7 0) 0 2 0) 0 3 0) 0 4 (-1)))) : AMet md_X0_opens 1 0 0 [vR 0, vI k, vI w] (sz, im, ct) Q := by
  refine AMet.go (L := [some (vR 0), some (vI k), some (vI w)]) mok_X0_opens (Nat.le_of_ble_eq_true rfl) rfl ?_
  refine aw_aload_n dX0_opens_0 rfl ?_
  refine aw_iload_n dX0_opens_1 rfl ?_
  refine aw_iflt (tgt := 18) dX0_opens_2 (by decide) (fun h2 => ?_) (fun h2 => ?_)
  · refine aw_iconst dX0_opens_18 (by decide) ?_
    refine aw_goto (tgt := 23) dX0_opens_19 (by decide) ?_
    refine p_X0_73_0 rfl dX0_opens_23 hR.o0 ?_
    refine aw_aload_n dX0_opens_26 rfl ?_
    refine g_X0_73_0 rfl dX0_opens_27 hR.o0 ?_
    repeat (first | rw [aup_s] | rw [aup_n (by omega)])
    refine aw_ifle (tgt := 35) dX0_opens_30 (by decide) (fun h => absurd h (by decide)) (fun _ => ?_)
    refine aw_iconst dX0_opens_33 (by decide) ?_
    refine aw_zreturn dX0_opens_34 rfl (Or.inl rfl) ?_
    exact hN (by omega)
  · refine aw_iload_n dX0_opens_5 rfl ?_
    refine aw_aload_n dX0_opens_6 rfl ?_
    refine g_X0_190_0 rfl dX0_opens_7 hR.o0 ?_
    rw [e2]
    refine aw_icmpgt (tgt := 18) dX0_opens_10 (by decide) (fun h10 => ?_) (fun h10 => ?_)
    · refine aw_iconst dX0_opens_18 (by decide) ?_
      refine aw_goto (tgt := 23) dX0_opens_19 (by decide) ?_
      refine p_X0_73_0 rfl dX0_opens_23 hR.o0 ?_
      refine aw_aload_n dX0_opens_26 rfl ?_
      refine g_X0_73_0 rfl dX0_opens_27 hR.o0 ?_
      repeat (first | rw [aup_s] | rw [aup_n (by omega)])
      refine aw_ifle (tgt := 35) dX0_opens_30 (by decide) (fun h => absurd h (by decide)) (fun _ => ?_)
      refine aw_iconst dX0_opens_33 (by decide) ?_
      refine aw_zreturn dX0_opens_34 rfl (Or.inl rfl) ?_
      exact hN (by omega)
    · refine aw_iload_n dX0_opens_13 rfl ?_
      refine aw_iload_n dX0_opens_14 rfl ?_
      refine aw_icmple (tgt := 22) dX0_opens_15 (by decide) (fun h15 => ?_) (fun h15 => ?_)
      · refine aw_iconst dX0_opens_22 (by decide) ?_
        refine p_X0_73_0 rfl dX0_opens_23 hR.o0 ?_
        refine aw_aload_n dX0_opens_26 rfl ?_
        refine g_X0_73_0 rfl dX0_opens_27 hR.o0 ?_
        repeat (first | rw [aup_s] | rw [aup_n (by omega)])
        refine aw_ifle (tgt := 35) dX0_opens_30 (by decide) (fun _ => ?_) (fun h => absurd h (by decide))
        refine aw_aload_n dX0_opens_35 rfl ?_
        refine aw_iconst dX0_opens_36 (by decide) ?_
        refine p_X0_190_0 rfl dX0_opens_37 hR.o0 ?_
        refine aw_aload_n dX0_opens_40 rfl ?_
        refine aw_iconst dX0_opens_41 (by decide) ?_
        refine p_X0_27_0 rfl dX0_opens_42 hR.o0 ?_
        refine aw_aload_n dX0_opens_45 rfl ?_
        refine aw_iconst dX0_opens_46 (by decide) ?_
        refine p_X0_31_0 rfl dX0_opens_47 hR.o0 ?_
        refine aw_iconst dX0_opens_50 (by decide) ?_
        refine aw_zreturn dX0_opens_51 rfl (Or.inr rfl) ?_
        exact hQ (by omega)
      · refine aw_iconst dX0_opens_18 (by decide) ?_
        refine aw_goto (tgt := 23) dX0_opens_19 (by decide) ?_
        refine p_X0_73_0 rfl dX0_opens_23 hR.o0 ?_
        refine aw_aload_n dX0_opens_26 rfl ?_
        refine g_X0_73_0 rfl dX0_opens_27 hR.o0 ?_
        repeat (first | rw [aup_s] | rw [aup_n (by omega)])
        refine aw_ifle (tgt := 35) dX0_opens_30 (by decide) (fun h => absurd h (by decide)) (fun _ => ?_)
        refine aw_iconst dX0_opens_33 (by decide) ?_
        refine aw_zreturn dX0_opens_34 rfl (Or.inl rfl) ?_
        exact hN (by omega)
theorem C_x_faulty {sz : Int} {im : Int → aIm} {ct : Int → Int → Int} {Q : aPost} (o0 : aob sz im 0 0) (o7 : aob sz im 7 2) (hQ : Q (.inl (some (vI (-1)))) (sz, im, aup (aup (aup ct 0 3 (ct 7 6)) 0 4 (ct 7 7)) 0 7 9)) : AMet md_X0_faulty 1 0 0 [vR 0, vR 7] (sz, im, ct) Q := by
  refine AMet.go (L := [some (vR 0), some (vR 7)]) mok_X0_faulty (Nat.le_of_ble_eq_true rfl) rfl ?_
  refine aw_aload_n dX0_faulty_0 rfl ?_
  refine aw_aload_n dX0_faulty_1 rfl ?_
  refine g_X0_197_2 rfl dX0_faulty_2 o7 ?_
  refine p_X0_27_0 rfl dX0_faulty_5 o0 ?_
  refine aw_aload_n dX0_faulty_8 rfl ?_
  refine aw_aload_n dX0_faulty_9 rfl ?_
  refine g_X0_200_2 rfl dX0_faulty_10 o7 ?_
  rw [aup_rn (by decide)]
  refine p_X0_31_0 rfl dX0_faulty_13 o0 ?_
  refine aw_aload_n dX0_faulty_16 rfl ?_
  refine aw_bipush dX0_faulty_17 (by decide) ?_
  refine p_X0_73_0 rfl dX0_faulty_19 o0 ?_
  refine aw_iconst dX0_faulty_22 (by decide) ?_
  refine aw_ireturn dX0_faulty_23 rfl ?_
  exact hQ
theorem C_x_rinit {sz : Int} {im : Int → aIm} {ct : Int → Int → Int} {a n : Int} {tp : Int → Int} {Q : aPost} (ho : aob sz im a 8) (ha0 : a ≠ 0) (hz : aob sz im 0 0 ∧ (im 0).2.2 1 = 6 ∧ (im 0).2.2 5 = 7 ∧ aar sz im 6 0 900 ∧ aob sz im 7 2) (hn : 0 ≤ n ∧ n ≤ 900) (htp : ∀ j, 0 ≤ j → j < n → ct 6 j = tp j ∧ -128 ≤ tp j ∧ tp j < 128) (e2 : ct a 2 = 0)
    (hQ : ∀ (im1 : Int → aIm) (ct1 : Int → Int → Int), RDX sz im1 ct1 a tp n 0 → (∀ x, x ≠ a → im1 x = im x ∧ ct1 x = ct x) → Q (.inl none) (sz, im1, ct1)) : AMet md_X8_init 3 0 0 [vR a, vR 0, vI n] (sz, im, ct) Q := by
  refine AMet.go (L := [some (vR a), some (vR 0), some (vI n)]) mok_X8_init (Nat.le_of_ble_eq_true rfl) rfl ?_
  have ha := ho.1
  have ha1 := ho.2.1
  refine aw_aload_n dX8_init_0 rfl ?_
  refine aw_aload_n dX8_init_1 rfl ?_
  refine pF_X8_3_8 rfl rfl dX8_init_2 ho ?_
  refine aw_aload_n dX8_init_5 rfl ?_
  refine aw_objInit dX8_init_6 q567 q151 q152 (by omega) (by omega) (Nat.le_of_ble_eq_true rfl) ?_
  refine aw_aload_n dX8_init_9 rfl ?_
  refine aw_iload_n dX8_init_10 rfl ?_
  refine pF_X8_15_8 rfl rfl dX8_init_11 (aob_imf ho) ?_
  refine aw_aload_n dX8_init_14 rfl ?_
  refine c_X8_19 rfl dX8_init_15 (aob_imf (aob_imf ho)) (Nat.le_of_ble_eq_true rfl) (by omega) (C_x_next (p := 0) (n := n) (tp := tp) ⟨⟨aob_imf (aob_imf ho), by rw [imf_s]; rfl, by rw [imf_s]; exact (if_neg (by decide)).trans (by rw [imf_s]; rfl)⟩, ⟨aob_imf (aob_imf hz.1), by rw [imf_n ha0.symm, imf_n ha0.symm]; exact hz.2.1, by rw [imf_n ha0.symm, imf_n ha0.symm]; exact hz.2.2.1, aar_imf (aar_imf hz.2.2.2.1), aob_imf (aob_imf hz.2.2.2.2)⟩, hn, htp⟩ ⟨Int.le_refl 0, hn.1⟩ e2 (fun ct1 H1 f1 => ?_))
  refine aK_v ?_
  refine aw_ret dX8_init_18 rfl ?_
  exact hQ _ _ H1 (fun x hx => ⟨by rw [imf_n hx, imf_n hx], f1.1 x hx⟩)
