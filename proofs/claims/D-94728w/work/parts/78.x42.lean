set_option maxRecDepth 100000
/-! operations, 25: mark, back -/
theorem C_x_housebe {own : Int → Int} {sz : Int} {im : Int → aIm} {ct : Int → Int → Int} {y1 y2 h1 h2 a b dd1 dd2 : Int} {s1 s2 N1 N2 : Int → Int}  {Q : aPost} (o1 : aob sz im h1 4) (o2 : aob sz im h2 4) (e1 : (im h1).2.2 0 = a) (e2 : (im h2).2.2 0 = b) (hF : ¬ tgY y1 (own h2)) (H1 : YR own y1 sz im ct a s1 dd1 N1) (H2 : YR own y2 sz im ct b s2 dd2 N2) (hy : y1 ≠ y2) (hQ : ∀ (own1 : Int → Int) (sz1 : Int) (im1 : Int → aIm) (ct1 : Int → Int → Int), TG own own1 sz sz1 im im1 ct ct1 (tgY y1) → (∀ x, x < sz → own1 x = own x) → (∀ x, sz ≤ x → x < sz1 → tgY y1 (own1 x)) → sz1 ≤ sz + 60 → YR own1 y1 sz1 im1 ct1 a s2 dd2 N2 → ct1 a 0 = ct b 0 → Q (.inl none) (sz1, im1, aup ct1 h1 1 (ct h2 1))) : AMet md_X4_be 6 60 908 [vR h1, vR h2] (sz, im, ct) Q := by
  refine AMet.go (L := [some (vR h1), some (vR h2)]) mok_X4_be (Nat.le_of_ble_eq_true rfl) rfl ?_
  refine aw_aload_n dX4_be_0 rfl ?_
  refine g_X4_10_4 rfl dX4_be_1 o1 ?_
  rw [e1]
  refine aw_aload_n dX4_be_4 rfl ?_
  refine g_X4_10_4 rfl dX4_be_5 o2 ?_
  rw [e2]
  refine c_X4_16a (kc1 := 60) (ks1 := 908) (kc2 := 0) (ks2 := 0) (by decide) (by decide) rfl dX4_be_8 H1.1 (Nat.le_of_ble_eq_true rfl) (by omega) (C_x_ybe H1 H2 hy (fun own1 sz1 im1 ct1 T ho hnew hsz HY1 l1 => ?_))
  refine aK_v ?_
  refine aw_aload_n dX4_be_11 rfl ?_
  refine aw_aload_n dX4_be_12 rfl ?_
  refine g_X4_20_4 rfl dX4_be_13 (tg_ob T o2) ?_
  refine p_X4_20_4 rfl dX4_be_16 (tg_ob T o1) ?_
  refine aw_ret dX4_be_19 rfl ?_
  rw [tg_c T o2.2.1 rfl hF]
  exact hQ own1 sz1 im1 ct1 T ho hnew hsz HY1 l1
theorem L_x_mk54 {own : Int → Int} {sz : Int} {im : Int → aIm} {ct : Int → Int → Int} {s N s9 N9 : Int → Int} {dd dd9 m hm : Int} {Q : aPost} {d : Nat} (hd : 7 ≤ d) (hR : RT own sz im ct) (HY : YR own 0 sz im ct 10 s dd N) (m0 : 0 ≤ m ∧ m < 3) (e12 : ct 0 12 = m) (ehm : ct 19 m = hm) (oh : aob sz im hm 4) (oo : own hm = 10 * (m + 1) + 9) (Hm : YR own (m + 1) sz im ct ((im hm).2.2 0) s9 dd9 N9)
    (K : ∀ (own1 : Int → Int) (sz1 : Int) (im1 : Int → aIm) (ct1 : Int → Int → Int), TG own own1 sz sz1 im im1 ct ct1 (tgY (m + 1)) → (∀ x, x < sz → own1 x = own x) → (∀ x, sz ≤ x → x < sz1 → tgY (m + 1) (own1 x)) → YR own1 (m + 1) sz1 im1 ct1 ((im hm).2.2 0) s dd N → ct1 ((im hm).2.2 0) 0 = ct 10 0 → Q (.inl (some (vI (m + 1)))) (sz1, im1, aup (aup ct1 hm 1 (ct 9 1)) 0 12 (m + 1))) : AW (mq Q) md_X0_mark d 60 908 54 [some (vR 0)] [] (sz, im, ct) := by
  have o9 := hR.2.2.2.2.2.2.1.2.1
  have o0 := hR.1.2
  have hh0 : ¬ (0 = hm) := fun z => by rw [← z] at oo; omega
  refine aw_aload_n dX0_mark_54 rfl ?_
  refine g_X0_59_0 rfl dX0_mark_55 hR.o0 ?_
  rw [hR.e19]
  refine aw_aload_n dX0_mark_58 rfl ?_
  refine g_X0_450_0 rfl dX0_mark_59 hR.o0 ?_
  first
    | rw [e12]
    | rw [aup_rn hh0, k0, e12]
    | rw [aup_s]
  refine aw_aaload dX0_mark_62 hR.a19 (by decide) (by omega) (by omega) ?_
  rw [ehm]
  refine aw_aload_n dX0_mark_63 rfl ?_
  refine g_X0_55_0 rfl dX0_mark_64 hR.o0 ?_
  rw [hR.e9]
  refine c_X0_453a (kc1 := 60) (ks1 := 908) (kc2 := 0) (ks2 := 0) (by decide) (by decide) rfl dX0_mark_67 oh (Nat.le_of_ble_eq_true rfl) (by omega) (C_x_housebe (y1 := m + 1) (y2 := 0) oh hR.o9 rfl hR.e10 (fun z => by have z1 := z.1; have z2 := z.2; omega) Hm HY (by omega) (fun own1 sz1 im1 ct1 T ho hnew hsz HY1 l1 => ?_))
  refine aK_v ?_
  have k0 : ct1 0 = ct 0 := tg_c T hR.o0.2.1 o0 (fun z => by have z1 := z.1; omega)
  refine aw_aload_n dX0_mark_70 rfl ?_
  refine aw_dup dX0_mark_71 rfl ?_
  refine g_X0_450_0 rfl dX0_mark_72 (tg_ob T hR.o0) ?_
  first
    | rw [e12]
    | rw [aup_rn hh0, k0, e12]
    | rw [aup_s]
  refine aw_iconst dX0_mark_75 (by decide) ?_
  refine aw_iaddr dX0_mark_76 (by omega) ?_
  refine p_X0_450_0 rfl dX0_mark_77 (tg_ob T hR.o0) ?_
  refine aw_aload_n dX0_mark_80 rfl ?_
  refine g_X0_450_0 rfl dX0_mark_81 (tg_ob T hR.o0) ?_
  first
    | rw [e12]
    | rw [aup_rn hh0, k0, e12]
    | rw [aup_s]
  refine aw_ireturn dX0_mark_84 rfl ?_
  exact K own1 sz1 im1 ct1 T ho hnew HY1 l1
theorem slt_in {cm : Int → Int → Int} {y i : Int} (h0 : 0 ≤ i) (h1 : i < 1230) : slt cm y i = cm 1 (1230 * y + i) := if_pos ⟨h0, h1⟩
theorem nms_in {cm : Int → Int → Int} {y i : Int} (h0 : 0 ≤ i) (h1 : i < 20) : nms cm y i = cm 2 (20 * y + i) := if_pos ⟨h0, h1⟩
theorem NRl.ext {N c c' s s' : Int → Int} (h : NRl N c s) (hs : s' 0 = s 0 ∧ s' 1 = s 1 ∧ s' 2 = s 2) (b0 : s 0 ≤ 4) (b1 : s 1 ≤ 8) (b2 : s 2 ≤ 8) (hc : ∀ i, 0 ≤ i → i < 20 → c' i = c i) : NRl N c' s' := by
  obtain ⟨h1, h2, h3⟩ := h
  unfold NRl
  rw [hs.1, hs.2.1, hs.2.2]
  exact ⟨fun k k0 k1 => by rw [hc k k0 (by omega)]; exact h1 k k0 k1, fun k k0 k1 => by rw [hc _ (by omega) (by omega)]; exact h2 k k0 k1, fun k k0 k1 => by rw [hc _ (by omega) (by omega)]; exact h3 k k0 k1⟩
/-- a slot that says the same of a yard -/
def sEq (s s' : Int → Int) : Prop := ∀ i, 0 ≤ i → i < 1230 → s' i = s i
theorem YR.sEq {own : Int → Int} {y sz : Int} {im : Int → aIm} {ct : Int → Int → Int} {ya dd : Int} {s s' N : Int → Int} (H : YR own y sz im ct ya s dd N) (h : sEq s s') (e : dd = s 3) : YR own y sz im ct ya s' (s' 3) N := by
  rw [h 3 (by decide) (by decide), ← e]
  exact H.ext fun i i0 i1 _ => h i i0 (by omega)
theorem LR.sEq {own : Int → Int} {sz : Int} {im : Int → aIm} {ct : Int → Int → Int} {la : Int} {s s' N : Int → Int} (H : LR own sz im ct la s N) (h : sEq s s') : LR own sz im ct la s' N := H.row (h _ (by decide) (by decide)) (h _ (by decide) (by decide)) (fun i i0 i1 => h i (by omega) (by omega))
theorem SE.sEq {own : Int → Int} {sz : Int} {im : Int → aIm} {ct : Int → Int → Int} {l : Int} {s s' : Int → Int} (H : SE own sz im ct s l) (h : sEq s s') (b : 0 ≤ s 0 ∧ s 0 ≤ 4) : SE own sz im ct s' l := H.row (h _ (by decide) (by decide)) (h _ (by decide) (by decide)) (h _ (by decide) (by decide)) (fun k k0 k1 => h _ (by omega) (by omega)) (fun i i0 i1 => h i (by omega) (by omega))
theorem PI.sEq {s s' : Int → Int} (H : PI s) (h : sEq s s') : PI s' := H.ext fun i i0 i1 => h i i0 (by omega)
theorem NRl.sEq {N c c' s s' : Int → Int} (H : NRl N c s) (hP : PI s) (h : sEq s s') (hc : ∀ i, 0 ≤ i → i < 20 → c' i = c i) : NRl N c' s' := H.ext ⟨h _ (by decide) (by decide), h _ (by decide) (by decide), h _ (by decide) (by decide)⟩ hP.1.2 hP.2.2.2.1.1.1.2 hP.2.2.2.1.1.2.2 hc
theorem XR.marked {own own2 N : Int → Int} {sz sz2 hm : Int} {im im2 : Int → aIm} {ct ct3 cm cm2 : Int → Int → Int} (hR : RT own sz im ct) (HY : YR own 0 sz im ct 10 (cm 1) (cm 1 3) N) (HL : LR own sz im ct (ct 10 0) (cm 1) N) (HN : NRl N (cm 2) (cm 1)) (HS : SE own sz im ct (cm 1) (ct 9 1)) (HP : PI (cm 1)) (HF : Fok cm) (HX : XO own sz im ct cm) (m2 : cm 0 35 < 3)
    (TT : TG own own2 sz sz2 im im2 ct ct3 (fun t => t = -2 ∨ tgY (cm 0 35 + 1) t)) (h02 : ∀ x, x < sz → own x = -2 → own2 x = -2) (hr : ∀ x j, x < sz → own x = -2 → ¬ (x = 0 ∧ (j = 7 ∨ j = 12)) → ¬ (x = 19 ∧ j = cm 0 35) → ct3 x j = ct x j)
    (h19 : ct3 19 (cm 0 35) = hm) (oh : aob sz2 im2 hm 4) (oo : own2 hm = 10 * (cm 0 35 + 1) + 9) (Hm : YR own2 (cm 0 35 + 1) sz2 im2 ct3 ((im2 hm).2.2 0) (cm 1) (cm 1 3) N) (hl : ct3 ((im2 hm).2.2 0) 0 = ct 10 0) (hs9 : ct3 hm 1 = ct 9 1) (h12 : ct3 0 12 = cm 0 35 + 1)
    (t1 : cm2 1 = cpR (1230 * 0) (1230 * (cm 0 35 + 1)) 1230 (cm 1)) (t2 : cm2 2 = cpR (20 * 0) (20 * (cm 0 35 + 1)) 20 (cm 2)) (tb : ∀ b, b ≠ 0 → b ≠ 1 → b ≠ 2 → cm2 b = cm b) (t0 : ∀ i, i ≠ 2 → i ≠ 35 → cm2 0 i = cm 0 i) (t35 : cm2 0 35 = cm 0 35 + 1) (h7 : ct3 0 7 = cm2 0 2) (hv3 : ct 0 8 = cm 0 3) (hv4 : ct 0 9 = cm 0 4) : XR (sz2, im2, ct3) cm2 := by
  obtain ⟨kt1, ⟨kt2, kt3, kt4⟩, ⟨s4, dd4, N4, kt5⟩, ⟨ks2, ks10, ks3, ks4, ks15, ks34⟩, kt12, kt13⟩ := id HX
  have hF1 : ¬ (fun t => t = -2 ∨ tgY (cm 0 35 + 1) t) (-1) := fun z => by rcases z with z | ⟨z1, z2⟩ <;> omega
  have hT0 : ∀ t, 10 * 0 ≤ t → t < 10 * 0 + 10 → ¬ (fun t => t = -2 ∨ tgY (cm 0 35 + 1) t) t := fun t t0 t1 z => by rcases z with z | ⟨z1, z2⟩ <;> omega
  have hsl : sEq (cm 1) (slt cm2 (cm 0 35 + 1)) := fun i i0 i1 => by
    rw [slt_in i0 i1, t1]
    unfold cpR
    rw [if_pos (by omega), show 1230 * 0 + (1230 * (cm 0 35 + 1) + i - 1230 * (cm 0 35 + 1)) = i by omega]
  have hse : sEq (cm 1) (cm2 1) := fun i i0 i1 => by
    rw [t1]
    unfold cpR
    rw [if_neg (by omega)]
  have hnl : ∀ i, 0 ≤ i → i < 20 → nms cm2 (cm 0 35 + 1) i = cm 2 i := fun i i0 i1 => by
    rw [nms_in i0 i1, t2]
    unfold cpR
    rw [if_pos (by omega), show 20 * 0 + (20 * (cm 0 35 + 1) + i - 20 * (cm 0 35 + 1)) = i by omega]
  have hne : ∀ i, 0 ≤ i → i < 20 → cm2 2 i = cm 2 i := fun i i0 i1 => by
    rw [t2]
    unfold cpR
    rw [if_neg (by omega)]
  have hsj : ∀ j, 0 ≤ j → j < 3 → j ≠ cm 0 35 → slt cm2 (j + 1) = slt cm (j + 1) ∧ nms cm2 (j + 1) = nms cm (j + 1) := fun j j0 j1 hj => by
    refine ⟨slt_eq fun i i0 i1 => ?_, nms_eq fun i i0 i1 => ?_⟩
    · rw [t1]
      unfold cpR
      rw [if_neg (by rcases (by omega : j < cm 0 35 ∨ cm 0 35 < j) with z | z <;> omega)]
    · rw [t2]
      unfold cpR
      rw [if_neg (by rcases (by omega : j < cm 0 35 ∨ cm 0 35 < j) with z | z <;> omega)]
  obtain ⟨⟨a0, r0⟩, -, ⟨a1, r1, r5⟩, ⟨a6, r6⟩, -, -, ⟨a9, r9, -⟩, ⟨a19, r19⟩, ⟨a29, r29⟩⟩ := id hR
  have o10 := HY.2.1
  have l10 : ct3 10 0 = ct 10 0 := by rw [tg_c TT HY.1.2.1 o10 (hT0 _ (by omega) (by omega))]
  have l9 : ct3 9 1 = ct 9 1 := hr 9 1 a9.2.1 r9 (by omega) (by omega)
  have hLn := LR.tg TT hF1 HL
  have hSn := SE.tg TT hF1 HS
  refine ⟨own2, N, RT.tg TT h02 (fun t t0 t1 => hr 1 t a1.2.1 r1 (by omega) (by omega)) hR, (YR.tg TT hT0 HY).sEq hse rfl, ?_, HN.sEq HP hse hne, ?_, HP.sEq hse, HF.eq (t0 24 (by decide) (by decide)) (tb 9 (by decide) (by decide) (by decide)), ⟨fun t t0 t1 => ?_, ⟨?_, ?_, fun j j0 j1 => ?_⟩, ⟨s4, dd4, N4, YR.tg TT (fun t z0 z1 z => by rcases z with z | ⟨z1, z2⟩ <;> omega) kt5⟩, ⟨?_, ?_, ?_, ?_, ?_, ?_⟩, fun j j0 j1 => ?_, fun j j0 j1 => ?_⟩, h7, ?_, ?_⟩
  · show LR own2 sz2 im2 ct3 (ct3 10 0) (cm2 1) N
    rw [l10]; exact hLn.sEq hse
  · show SE own2 sz2 im2 ct3 (cm2 1) (ct3 9 1)
    rw [l9]; exact hSn.sEq hse HP.1
  · have q := r5 t t0 t1
    exact TRY.tg TT (fun z => by rcases z with z | ⟨z1, z2⟩ <;> omega) (hr _ _ q.2.1.2.1 q.2.2 (by omega) (by omega)) (by rw [tb 3 (by decide) (by decide) (by decide)]) (by rw [tb 4 (by decide) (by decide) (by decide)]) (fun i _ _ => by rw [tb 5 (by decide) (by decide) (by decide)]) (kt1 t t0 t1)
  · omega
  · rw [t35]; exact h12
  · by_cases e : j = cm 0 35
    · subst e
      refine Or.inr ?_
      dsimp only
      rw [h19]
      refine ⟨oh, oo, ⟨_, _, _, Hm⟩, fun _ => ⟨HP.sEq hsl, N, Hm.sEq hsl rfl, ?_, HN.sEq HP hsl hnl, ?_⟩⟩
      · rw [hl]; exact hLn.sEq hsl
      · rw [hs9]; exact hSn.sEq hsl HP.1
    · refine MRK.tg j0 TT (fun t z0 z1 z => by rcases z with z | ⟨z1, z2⟩ <;> omega) hF1 (hr 19 j a19.2.1 r19 (by omega) (fun z => e z.2)) (fun _ z => by omega) (fun z => ⟨by omega, hsj j j0 j1 e⟩) (kt4 j j0 j1)
  · show ct3 0 2 = _
    rw [hr 0 2 a0.2.1 r0 (by omega) (by omega), t0 10 (by decide) (by decide)]; exact ks2
  · rw [t0 10 (by decide) (by decide)]; exact ks10
  · show ct3 0 3 = _
    rw [hr 0 3 a0.2.1 r0 (by omega) (by omega), t0 16 (by decide) (by decide)]; exact ks3
  · show ct3 0 4 = _
    rw [hr 0 4 a0.2.1 r0 (by omega) (by omega), t0 17 (by decide) (by decide)]; exact ks4
  · show ct3 0 15 = _
    rw [hr 0 15 a0.2.1 r0 (by omega) (by omega), t0 34 (by decide) (by decide)]; exact ks15
  · rw [t0 34 (by decide) (by decide)]; exact ks34
  · show ct3 6 j = _ ∧ _
    rw [hr 6 j a6.2.1 r6 (by omega) (by omega), tb 6 (by decide) (by decide) (by decide)]; exact kt12 j j0 j1
  · show ct3 29 j = _
    rw [hr 29 j a29.2.1 r29 (by omega) (by omega), tb 13 (by decide) (by decide) (by decide)]; exact kt13 j j0 j1
  · show ct3 0 8 = _
    rw [hr 0 8 a0.2.1 r0 (by omega) (by omega), t0 3 (by decide) (by decide)]; exact hv3
  · show ct3 0 9 = _
    rw [hr 0 9 a0.2.1 r0 (by omega) (by omega), t0 4 (by decide) (by decide)]; exact hv4
theorem XR.backed {own own2 N : Int → Int} {sz sz2 : Int} {im im2 : Int → aIm} {ct ct3 cm cm2 : Int → Int → Int} (hR : RT own sz im ct) (HF : Fok cm) (HX : XO own sz im ct cm) (m1 : 1 ≤ cm 0 35)
    (TT : TG own own2 sz sz2 im im2 ct ct3 (fun t => t = -2 ∨ tgY 0 t)) (h02 : ∀ x, x < sz → own x = -2 → own2 x = -2) (hr : ∀ x j, x < sz → own x = -2 → ¬ (x = 0 ∧ (j = 7 ∨ j = 12)) → ¬ (x = 9 ∧ j = 1) → ct3 x j = ct x j)
    (hPm : PI (slt cm (cm 0 35))) (HYm : YR own2 0 sz2 im2 ct3 10 (slt cm (cm 0 35)) (slt cm (cm 0 35) 3) N) (HLm : LR own sz im ct (ct3 10 0) (slt cm (cm 0 35)) N) (HNm : NRl N (nms cm (cm 0 35)) (slt cm (cm 0 35))) (HSm : SE own sz im ct (slt cm (cm 0 35)) (ct3 9 1)) (h12 : ct3 0 12 = cm 0 35 - 1)
    (t1 : cm2 1 = cpR (1230 * cm 0 35) (1230 * 0) 1230 (cm 1)) (t2 : cm2 2 = cpR (20 * cm 0 35) (20 * 0) 20 (cm 2)) (tb : ∀ b, b ≠ 0 → b ≠ 1 → b ≠ 2 → cm2 b = cm b) (t0 : ∀ i, i ≠ 2 → i ≠ 35 → cm2 0 i = cm 0 i) (t35 : cm2 0 35 = cm 0 35 - 1) (h7 : ct3 0 7 = cm2 0 2) (hv3 : ct 0 8 = cm 0 3) (hv4 : ct 0 9 = cm 0 4) : XR (sz2, im2, ct3) cm2 := by
  obtain ⟨kt1, ⟨kt2, kt3, kt4⟩, ⟨s4, dd4, N4, kt5⟩, ⟨ks2, ks10, ks3, ks4, ks15, ks34⟩, kt12, kt13⟩ := id HX
  have hF1 : ¬ (fun t => t = -2 ∨ tgY 0 t) (-1) := fun z => by rcases z with z | ⟨z1, z2⟩ <;> omega
  have hse : sEq (slt cm (cm 0 35)) (cm2 1) := fun i i0 i1 => by
    rw [slt_in i0 i1, t1]
    unfold cpR
    rw [if_pos (by omega), show 1230 * cm 0 35 + (i - 1230 * 0) = 1230 * cm 0 35 + i by omega]
  have hne : ∀ i, 0 ≤ i → i < 20 → cm2 2 i = nms cm (cm 0 35) i := fun i i0 i1 => by
    rw [nms_in i0 i1, t2]
    unfold cpR
    rw [if_pos (by omega), show 20 * cm 0 35 + (i - 20 * 0) = 20 * cm 0 35 + i by omega]
  have hsj : ∀ j, 0 ≤ j → j < 3 → slt cm2 (j + 1) = slt cm (j + 1) ∧ nms cm2 (j + 1) = nms cm (j + 1) := fun j j0 j1 => by
    refine ⟨slt_eq fun i i0 i1 => ?_, nms_eq fun i i0 i1 => ?_⟩
    · rw [t1]
      unfold cpR
      rw [if_neg (by omega)]
    · rw [t2]
      unfold cpR
      rw [if_neg (by omega)]
  obtain ⟨⟨a0, r0⟩, -, ⟨a1, r1, r5⟩, ⟨a6, r6⟩, -, -, ⟨a9, r9, -⟩, ⟨a19, r19⟩, ⟨a29, r29⟩⟩ := id hR
  refine ⟨own2, N, RT.tg TT h02 (fun t t0 t1 => hr 1 t a1.2.1 r1 (by omega) (by omega)) hR, HYm.sEq hse rfl, (LR.tg TT hF1 HLm).sEq hse, HNm.sEq hPm hse hne, (SE.tg TT hF1 HSm).sEq hse hPm.1, hPm.sEq hse, HF.eq (t0 24 (by decide) (by decide)) (tb 9 (by decide) (by decide) (by decide)), ⟨fun t t0 t1 => ?_, ⟨?_, ?_, fun j j0 j1 => ?_⟩, ⟨s4, dd4, N4, YR.tg TT (fun t z0 z1 z => by rcases z with z | ⟨z1, z2⟩ <;> omega) kt5⟩, ⟨?_, ?_, ?_, ?_, ?_, ?_⟩, fun j j0 j1 => ?_, fun j j0 j1 => ?_⟩, h7, ?_, ?_⟩
  · have q := r5 t t0 t1
    exact TRY.tg TT (fun z => by rcases z with z | ⟨z1, z2⟩ <;> omega) (hr _ _ q.2.1.2.1 q.2.2 (by omega) (by omega)) (by rw [tb 3 (by decide) (by decide) (by decide)]) (by rw [tb 4 (by decide) (by decide) (by decide)]) (fun i _ _ => by rw [tb 5 (by decide) (by decide) (by decide)]) (kt1 t t0 t1)
  · omega
  · rw [t35]; exact h12
  · exact MRK.tg j0 TT (fun t z0 z1 z => by rcases z with z | ⟨z1, z2⟩ <;> omega) hF1 (hr 19 j a19.2.1 r19 (by omega) (by omega)) (fun _ z => by omega) (fun z => ⟨by omega, hsj j j0 j1⟩) (kt4 j j0 j1)
  · show ct3 0 2 = _
    rw [hr 0 2 a0.2.1 r0 (by omega) (by omega), t0 10 (by decide) (by decide)]; exact ks2
  · rw [t0 10 (by decide) (by decide)]; exact ks10
  · show ct3 0 3 = _
    rw [hr 0 3 a0.2.1 r0 (by omega) (by omega), t0 16 (by decide) (by decide)]; exact ks3
  · show ct3 0 4 = _
    rw [hr 0 4 a0.2.1 r0 (by omega) (by omega), t0 17 (by decide) (by decide)]; exact ks4
  · show ct3 0 15 = _
    rw [hr 0 15 a0.2.1 r0 (by omega) (by omega), t0 34 (by decide) (by decide)]; exact ks15
  · rw [t0 34 (by decide) (by decide)]; exact ks34
  · show ct3 6 j = _ ∧ _
    rw [hr 6 j a6.2.1 r6 (by omega) (by omega), tb 6 (by decide) (by decide) (by decide)]; exact kt12 j j0 j1
  · show ct3 29 j = _
    rw [hr 29 j a29.2.1 r29 (by omega) (by omega), tb 13 (by decide) (by decide) (by decide)]; exact kt13 j j0 j1
  · show ct3 0 8 = _
    rw [hr 0 8 a0.2.1 r0 (by omega) (by omega), t0 3 (by decide) (by decide)]; exact hv3
  · show ct3 0 9 = _
    rw [hr 0 9 a0.2.1 r0 (by omega) (by omega), t0 4 (by decide) (by decide)]; exact hv4
