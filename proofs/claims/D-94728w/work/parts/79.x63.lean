set_option maxRecDepth 100000
/-! trays: tray -/
theorem XR.gen3 {own own2 N : Int → Int} {sz sz2 : Int} {im im2 : Int → aIm} {ct ct3 cm cm2 : Int → Int → Int} {F : Int → Prop} (hR : RT own sz im ct) (HN : NRl N (cm 2) (cm 1)) (HS : SE own sz im ct (cm 1) (ct 9 1)) (HX : XO own sz im ct cm) (hd0 : (0 ≤ cm 1 0 ∧ cm 1 0 ≤ 4)) (TX : TG own own2 sz sz2 im im2 ct ct3 F) (hF1 : ¬ F (-1)) (hFt : ∀ t, 0 ≤ t → t < 4 → ¬ F (-10 - t)) (hFy : ∀ t, 10 ≤ t → t < 40 → ¬ F t) (h02 : ∀ x, x < sz → own x = -2 → own2 x = -2) (hr : ∀ x j, x < sz → own x = -2 → ¬ (x = 0 ∧ (j = 7 ∨ j = 8 ∨ j = 9 ∨ j = 15)) → x ≠ 29 → (∀ t, 0 ≤ t → t < 4 → x ≠ 2 + t) → ct3 x j = ct x j)
    (hY : YR own2 0 sz2 im2 ct3 10 (cm2 1) (cm2 1 3) N) (hL : LR own2 sz2 im2 ct3 (ct3 10 0) (cm2 1) N) (hk : (∀ i, i = 0 ∨ i = 1 ∨ i = 2 ∨ i = 10 ∨ (13 ≤ i ∧ i < 64) ∨ (860 ≤ i ∧ i < 4920) → cm2 1 i = cm 1 i) ∧ ∀ k, 0 ≤ k → k < cm 1 0 → cm2 1 (64 + 198 * k) = cm 1 (64 + 198 * k)) (hP2 : PI (cm2 1)) (hF2 : Fok cm2) (hA : ∃ s dd N, YR own2 4 sz2 im2 ct3 20 s dd N) (hTR : ∀ t, 0 ≤ t → t < 4 → TRY own2 sz2 im2 ct3 cm2 t) (tb : ∀ b, b ≠ 0 → b ≠ 1 → b ≠ 3 → b ≠ 4 → b ≠ 5 → b ≠ 9 → b ≠ 11 → b ≠ 12 → b ≠ 13 → cm2 b = cm b) (t0 : ∀ i, i = 10 ∨ i = 16 ∨ i = 17 ∨ i = 35 → cm2 0 i = cm 0 i) (h34 : ct3 0 15 = cm2 0 34 ∧ (cm2 0 34 = 0 ∨ cm2 0 34 = 1)) (h29 : ∀ j, 0 ≤ j → j < 3 → ct3 29 j = cm2 13 j) (h7 : ct3 0 7 = cm2 0 2) (h8 : ct3 0 8 = cm2 0 3) (h9 : ct3 0 9 = cm2 0 4) : XR (sz2, im2, ct3) cm2 := by
  obtain ⟨kt1, ⟨kt2, kt3, kt4⟩, -, ⟨ks2, ks10, ks3, ks4, -, -⟩, kt12, -⟩ := id HX
  obtain ⟨⟨a0, r0⟩, -, ⟨a1, r1, r5⟩, ⟨a6, r6⟩, -, -, ⟨a9, r9, -⟩, ⟨a19, r19⟩, ⟨a29, r29⟩⟩ := id hR
  have e2 : cm2 2 = cm 2 := tb 2 (by decide) (by decide) (by decide) (by decide) (by decide) (by decide) (by decide) (by decide) (by decide)
  have hsl : ∀ j, 0 ≤ j → j < 3 → slt cm2 (j + 1) = slt cm (j + 1) := fun j j0 j1 => slt_eq fun i i0 i1 => hk.1 i (by omega)
  refine ⟨own2, N, RT.tg TX h02 (fun t t0 t1 => hr 1 t a1.2.1 r1 (by omega) (by omega) (fun _ _ _ => by omega)) hR, hY, hL, ?_, ?_, hP2, hF2, ⟨hTR, ⟨by rw [t0 35 (by omega)]; exact kt2, ?_, fun j j0 j1 => ?_⟩, hA, ⟨?_, by rw [t0 10 (by omega)]; exact ks10, ?_, ?_, h34⟩, fun j j0 j1 => ?_, h29⟩, h7, h8, h9⟩
  · rw [e2]
    unfold NRl
    rw [hk.1 0 (by omega), hk.1 1 (by omega), hk.1 2 (by omega)]
    exact HN
  · show SE own2 sz2 im2 ct3 (cm2 1) (ct3 9 1)
    rw [hr 9 1 a9.2.1 r9 (by omega) (by omega) (fun _ _ _ => by omega)]
    exact (SE.tg TX hF1 HS).row (hk.1 0 (by omega)) (hk.1 1 (by omega)) (hk.1 10 (by omega)) hk.2 (fun i i0 i1 => hk.1 i (by omega))
  · show ct3 0 12 = _
    rw [hr 0 12 a0.2.1 r0 (by omega) (by omega) (fun _ _ _ => by omega), t0 35 (by omega)]; exact kt3
  · exact MRK.tg j0 TX (fun t z0 z1 => hFy t (by omega) (by omega)) hF1 (hr 19 j a19.2.1 r19 (by omega) (by omega) (fun _ _ _ => by omega)) (fun _ z => by rw [t0 35 (by omega)]; exact z) (fun z => ⟨by rw [t0 35 (by omega)] at z; exact z, hsl j j0 j1, nms_eq fun i i0 i1 => by rw [e2]⟩) (kt4 j j0 j1)
  · show ct3 0 2 = _
    rw [hr 0 2 a0.2.1 r0 (by omega) (by omega) (fun _ _ _ => by omega), t0 10 (by omega)]; exact ks2
  · show ct3 0 3 = _
    rw [hr 0 3 a0.2.1 r0 (by omega) (by omega) (fun _ _ _ => by omega), t0 16 (by omega)]; exact ks3
  · show ct3 0 4 = _
    rw [hr 0 4 a0.2.1 r0 (by omega) (by omega) (fun _ _ _ => by omega), t0 17 (by omega)]; exact ks4
  · show ct3 6 j = _ ∧ _
    rw [hr 6 j a6.2.1 r6 (by omega) (by omega) (fun _ _ _ => by omega), tb 6 (by decide) (by decide) (by decide) (by decide) (by decide) (by decide) (by decide) (by decide) (by decide)]; exact kt12 j j0 j1
theorem C_x_row {sz : Int} {im : Int → aIm} {ct : Int → Int → Int} {s n : Int} {Q : aPost} (hs : 0 ≤ s ∧ s ≤ 3) (hn : n ≤ 60) (hN : n < 0 → Q (.inr (2, -1000)) (sz, im, ct)) (hP : 0 ≤ n → Q (.inl (some (vR sz))) (sz + 1, upA im sz (50 + s.toNat, n.toNat, fun _ => 0), upA ct sz (fun _ => 0))) : AMet md_X0_row 161 3 222 [vI s, vI n] (sz, im, ct) Q := by
  refine AMet.go (L := [some (vI s), some (vI n)]) mok_X0_row (Nat.le_of_ble_eq_true rfl) rfl ?_
  refine aw_iload_n dX0_row_0 rfl ?_
  refine aw_ifne (tgt := 10) dX0_row_1 (by decide) (fun h1 => ?_) (fun h1 => ?_)
  · refine aw_iload_n dX0_row_10 rfl ?_
    refine aw_iconst dX0_row_11 (by decide) ?_
    refine aw_icmpne (tgt := 21) dX0_row_12 (by decide) (fun h12 => ?_) (fun h12 => ?_)
    · refine aw_iload_n dX0_row_21 rfl ?_
      refine aw_iconst dX0_row_22 (by decide) ?_
      refine aw_icmpne (tgt := 32) dX0_row_23 (by decide) (fun h23 => ?_) (fun h23 => ?_)
      · refine aw_iload_n dX0_row_32 rfl ?_
        by_cases hn0 : n < 0
        · refine AW.widen (kc' := 0 + 3) (ks' := 0 + 222) (by decide) (by decide) ?_
          exact aw_newarrZ dX0_row_33 hn0 (by decide) (by decide) (ax_out rfl (hN hn0))
        · refine AW.widen (kc' := 2 + 1) (ks' := 162 + n.toNat) (by decide) (by omega) ?_
          refine aw_newarr_long dX0_row_33 q305 (by omega) (by omega) ?_
          obtain rfl : s = 3 := by omega
          refine aw_areturn dX0_row_35 rfl (Or.inl ⟨_, rfl⟩) ?_
          exact hP (by omega)
      · refine aw_iload_n dX0_row_26 rfl ?_
        by_cases hn0 : n < 0
        · refine AW.widen (kc' := 0 + 3) (ks' := 0 + 222) (by decide) (by decide) ?_
          exact aw_newarrZ dX0_row_27 hn0 (by decide) (by decide) (ax_out rfl (hN hn0))
        · refine AW.widen (kc' := 2 + 1) (ks' := 162 + n.toNat) (by decide) (by omega) ?_
          refine aw_newarr_int dX0_row_27 q306 (by omega) (by omega) ?_
          obtain rfl : s = 2 := by omega
          refine aw_goto (tgt := 35) dX0_row_29 (by decide) ?_
          refine aw_areturn dX0_row_35 rfl (Or.inl ⟨_, rfl⟩) ?_
          exact hP (by omega)
    · refine aw_iload_n dX0_row_15 rfl ?_
      by_cases hn0 : n < 0
      · refine AW.widen (kc' := 0 + 3) (ks' := 0 + 222) (by decide) (by decide) ?_
        exact aw_newarrZ dX0_row_16 hn0 (by decide) (by decide) (ax_out rfl (hN hn0))
      · refine AW.widen (kc' := 2 + 1) (ks' := 162 + n.toNat) (by decide) (by omega) ?_
        refine aw_newarr_short dX0_row_16 q488 (by omega) (by omega) ?_
        obtain rfl : s = 1 := by omega
        refine aw_goto (tgt := 35) dX0_row_18 (by decide) ?_
        refine aw_areturn dX0_row_35 rfl (Or.inl ⟨_, rfl⟩) ?_
        exact hP (by omega)
  · refine aw_iload_n dX0_row_4 rfl ?_
    by_cases hn0 : n < 0
    · refine AW.widen (kc' := 0 + 3) (ks' := 0 + 222) (by decide) (by decide) ?_
      exact aw_newarrZ dX0_row_5 hn0 (by decide) (by decide) (ax_out rfl (hN hn0))
    · refine AW.widen (kc' := 2 + 1) (ks' := 162 + n.toNat) (by decide) (by omega) ?_
      refine aw_newarr_byte dX0_row_5 q234 (by omega) (by omega) ?_
      obtain rfl : s = 0 := by omega
      refine aw_goto (tgt := 35) dX0_row_7 (by decide) ?_
      refine aw_areturn dX0_row_35 rfl (Or.inl ⟨_, rfl⟩) ?_
      exact hP (by omega)
