set_option maxRecDepth 100000
/-! yard -/
theorem OP_yard {sz : Int} {im : Int → aIm} {ct cm : Int → Int → Int} (h : XR (sz, im, ct) cm) {a : Int} (r0 : -2147483648 ≤ a ∧ a < 2147483648)  : AMet md_X0_yard 14 (1 + (8 + 1 + 75 + 60)) (12 + (100 + 7 + 1135 + 908)) [vR 0, vI a] (sz, im, ct) (XQ md_X7_yard 10 [vR 0, vI a] cm) := by
  obtain ⟨own, N, hR, HY, HL, HN, HS, HP, HF, HX, hv2, hv3, hv4⟩ := id h
  dsimp only at hR HY HL HS HX hv2 hv3 hv4
  have hp0 := HP.1
  have hp3 := HP.2.1
  have hpq := HP.2.2.2.1.1
  have hps := HP.2.2.2.2.2
  have hsz : 30 ≤ sz := by have := hR.a29.2.1; omega
  refine AMet.goW (L := [some (vR 0), some (vI a), none]) mok_X0_yard (Nat.le_of_ble_eq_true rfl) rfl ?_
  refine aw_aload_n dX0_yard_0 rfl ?_
  refine aw_iload_n dX0_yard_1 rfl ?_
  refine aw_sipush dX0_yard_2 (by decide) ?_
  refine c_X0_203 rfl dX0_yard_5 hR.o0 (Nat.le_of_ble_eq_true rfl) (by omega) (C_x_opens hR HX.2.2.2.1.1 (fun hz => ?_) (fun hz => ?_))
  · refine aK_i ?_
    refine aw_ifne (tgt := 13) dX0_yard_8 (by decide) (fun h => absurd h (by decide)) (fun _ => ?_)
    refine aw_iconst dX0_yard_11 (by decide) ?_
    refine aw_ireturn dX0_yard_12 rfl ?_
    refine ⟨_, rfl, ?_⟩
    refine C_m_yard HX.2.2.2.1.2.1 (fun j j0 j1 => (HX.2.2.2.2.1 j j0 j1).2) HF (fun hz2 => ?_) (fun kd2 pl2 cm1 hz2 e8 yf g1 g2 m2 m16 m17 => absurd hz2 hz) (fun q2 s2 N2 cm1 hz2 e8 yi2 yf v1 v2 m2 m16 m17 => absurd hz2 hz)
    first
      | (refine XR.sameE h ?_ ?_ ?_ ?_ ?_ ?_
         · first
             | rfl
             | omega
         · repeat (first | exact xs.rf | refine xs.up ?_ (by decide))
         · repeat (first | exact mss.rf | refine mss.up0 ?_ (by decide))
         · first
             | (simp [aup, hv2, hv3, hv4]; done)
             | (simp [aup, hv2, hv3, hv4]; omega)
         · simp [aup, hv2, hv3, hv4]
         · simp [aup, hv2, hv3, hv4])
  · refine aK_i ?_
    refine aw_ifne (tgt := 13) dX0_yard_8 (by decide) (fun _ => ?_) (fun h => absurd h (by decide))
    refine AW.widen (kc' := (8 + 1 + 75 + 60) + 1) (ks' := (100 + 7 + 1135 + 908) + 12) (by first | decide | omega) (by first | decide | omega) (aw_new (c9 := 5) (q := (RX5, TX5, 12)) (N9 := 12) dX0_yard_13 rfl q375 q261 q123 rfl ?_)
    refine aw_dup dX0_yard_16 rfl ?_
    refine c_X0_65a (kc1 := 8) (ks1 := 100) (kc2 := 1 + 75 + 60) (ks2 := 7 + 1135 + 908) (by decide) (by decide) rfl dX0_yard_17 (by omega) (Nat.le_of_ble_eq_true rfl) (by omega) (C_x_yinit (aob_at (by omega)) (fun j j0 j1 => ?_) (fun im1 ct1 ny zy => ?_))
    · rw [upA_s]
      rcases (by omega : j = 2 ∨ j = 3 ∨ j = 4 ∨ j = 5 ∨ j = 6 ∨ j = 7 ∨ j = 8 ∨ j = 9 ∨ j = 10 ∨ j = 11) with z | z | z | z | z | z | z | z | z | z <;> (subst z; rfl)
    refine aK_v ?_
    refine aw_astore2 dX0_yard_20 (by decide) rfl ?_
    refine AW.widen (kc' := (75 + 60) + 1) (ks' := (1135 + 908) + 7) (by first | decide | omega) (by first | decide | omega) (aw_new (c9 := 8) (q := (RX8, TX8, 7)) (N9 := 7) dX0_yard_21 rfl q562 q563 q132 rfl ?_)
    refine aw_dup dX0_yard_24 rfl ?_
    refine aw_aload_n dX0_yard_25 rfl ?_
    refine aw_iload_n dX0_yard_26 rfl ?_
    have zz : ∀ x, x < sz → im1 x = im x ∧ ct1 x = (aup (aup (aup (aup ct 0 7 0) 0 2 0) 0 3 0) 0 4 (-1)) x := fun x hx => by
      have w := zy x (by omega) (by omega)
      rw [upA_n (by omega), upA_n (by omega)] at w
      exact w
    refine c_X0_209 rfl dX0_yard_27 (by omega) (Nat.le_of_ble_eq_true rfl) (by omega) (C_x_rinit (tp := cm 6) (aob_at (by omega)) (by omega) ⟨⟨by decide, by omega, by rw [upA_n (by omega), (zz 0 (by omega)).1]; exact hR.o0.2.2⟩, by rw [upA_n (by omega), (zz 0 (by omega)).1]; exact hR.2.1.2.1, by rw [upA_n (by omega), (zz 0 (by omega)).1]; exact hR.2.1.2.2.1, ⟨by decide, by omega, by rw [upA_n (by omega), (zz 6 (by omega)).1]; exact hR.2.2.2.1.1.2.2⟩, ⟨by decide, by omega, by rw [upA_n (by omega), (zz 7 (by omega)).1]; exact hR.2.2.2.2.1.1.2.2⟩⟩ ⟨hz.1, hz.2.2⟩ (fun j j0 j1 => by rw [upA_n (by omega), (zz 6 (by omega)).2, aup_rn (by decide), aup_rn (by decide), aup_rn (by decide), aup_rn (by decide)]; exact HX.2.2.2.2.1 j j0 (by omega)) (by rw [upA_s]; rfl) (fun im2 ct2 HR0 zr => ?_))
    refine aK_v ?_
    refine aw_aload_n dX0_yard_30 rfl ?_
    have gi : ∀ x, x < (sz + 1 + 8) → im2 x = im1 x := fun x hx => by rw [(zr x (by omega)).1, upA_n (by omega)]
    have gc : ∀ x, x < (sz + 1 + 8) → ct2 x = ct1 x := fun x hx => by rw [(zr x (by omega)).2, upA_n (by omega)]
    have ny2 : NY (sz + 1 + 8 + 1) im2 ct2 sz (sz + 1) (sz + 1 + 7) := ny.mono (by omega) gi gc
    have oi : ∀ x, x < sz → im2 x = im x := fun x hx => by rw [gi x (by omega), (zy x (by omega) (by omega)).1, upA_n (by omega)]
    have oc : ∀ x, x < sz → ct2 x = (aup (aup (aup (aup ct 0 7 0) 0 2 0) 0 3 0) 0 4 (-1)) x := fun x hx => by rw [gc x (by omega), (zy x (by omega) (by omega)).2, upA_n (by omega)]
    have ow1 : ∀ x, x < sz → (fun x => if x < sz then own x else if x = sz ∨ x = sz + 8 then 59 else if x = sz + 9 then -3 else -1) x = own x := fun x hx => if_pos hx
    have r00 : row0 0 = 0 := if_neg (by decide)
    have ep : upA row0 4 0 = pl0 := by
      funext i
      by_cases z : i = 4
      · subst z; rw [upA_s]; exact (if_neg (by decide)).symm
      · rw [upA_n z]; rfl
    have owy : (fun x => if x < sz then own x else if x = sz ∨ x = sz + 8 then 59 else if x = sz + 9 then -3 else -1) sz = 59 := by dsimp only; rw [if_neg (by omega), if_pos (by omega)]
    have owh : (fun x => if x < sz then own x else if x = sz ∨ x = sz + 8 then 59 else if x = sz + 9 then -3 else -1) (sz + 1 + 7) = 59 := by dsimp only; rw [if_neg (by omega), if_pos (by omega)]
    have owr : (fun x => if x < sz then own x else if x = sz ∨ x = sz + 8 then 59 else if x = sz + 9 then -3 else -1) (sz + 1 + 8) = -3 := by dsimp only; rw [if_neg (by omega), if_neg (by omega), if_pos (by omega)]
    have owl : ∀ x, sz + 1 ≤ x → x ≤ sz + 7 → (fun x => if x < sz then own x else if x = sz ∨ x = sz + 8 then 59 else if x = sz + 9 then -3 else -1) x = -1 := fun x x0 x1 => by dsimp only; rw [if_neg (by omega), if_neg (by omega), if_neg (by omega)]
    have HB : XB own sz im (aup (aup (aup (aup ct 0 7 0) 0 2 0) 0 3 0) 0 4 (-1)) (fun x => if x < sz then own x else if x = sz ∨ x = sz + 8 then 59 else if x = sz + 9 then -3 else -1) (sz + 1 + 8 + 1) im2 ct2 sz (sz + 1) (sz + 1 + 8) row0 (fun _ => 0) := ⟨⟨by omega, fun x hx => ⟨oi x hx, fun _ => oc x hx⟩⟩, ow1, ⟨by omega, by rw [ow1 7 (by omega)]; exact hR.2.2.2.2.1.2, by rw [ow1 6 (by omega)]; exact hR.2.2.2.1.2⟩, by rw [ep]; exact NY.yr (y := 5) ny2 owy owh, ⟨ny2.1.2.2.2, ny2.2.1, NY.lr ny2 (fun x x0 x1 => owl x (by omega) (by omega))⟩, ⟨Int.le_refl _, by omega, by rw [ny2.1.2.1]; omega, by omega, owr, owl _ (by omega) (by omega)⟩, fun k k0 k1 => by omega, row0_YI⟩
    refine c_X0_212a (kc1 := 75) (ks1 := 1135) (kc2 := 60) (ks2 := 908) (by decide) (by decide) rfl dX0_yard_31 HR0.1.1.1 (Nat.le_of_ble_eq_true rfl) (by omega) (C_x_ryard (r := a.toNat + 1) (by omega) HR0 HB (fun kd pl sz3 im3 ct3 e9 o3 t6 t7 => ?_) (fun q s1 N1 own3 sz3 im3 ct3 e9 o3 w3 Y3 l3 L3 yi => ?_))
    · have o03 : aob sz3 im3 0 0 := ⟨by decide, by have := o3.1; omega, by rw [(o3.2 0 (by omega)).1]; exact hR.o0.2.2⟩
      have o73 : aob sz3 im3 7 2 := ⟨by decide, by have := o3.1; omega, by rw [(o3.2 7 (by omega)).1]; exact hR.2.2.2.2.1.1.2.2⟩
      refine aK_x (ax_catch (E := 0) (pre := []) (z := { startPc := 13, endPc := 57, handlerPc := 58, catchType := 34 }) (suf := []) rfl (fun y hy => by cases hy) rfl (by decide) q164 q166 ?_)
      refine aw_astore2 dX0_yard_58 (by decide) rfl ?_
      refine aw_aload_n dX0_yard_59 rfl ?_
      refine aw_aload_n dX0_yard_60 rfl ?_
      refine c_X0_222 rfl dX0_yard_61 o03 (Nat.le_of_ble_eq_true rfl) (by omega) (C_x_faulty o03 o73 ?_)
      refine aK_i ?_
      refine aw_ireturn dX0_yard_64 rfl ?_
      refine ⟨_, rfl, ?_⟩
      refine C_m_yard HX.2.2.2.1.2.1 (fun j j0 j1 => (HX.2.2.2.2.1 j j0 j1).2) HF (fun hz2 => absurd hz hz2) (fun kd2 pl2 cm1 hz2 e8 yf g1 g2 m2 m16 m17 => ?_) (fun q2 s2 N2 cm1 hz2 e8 yi2 yf v1 v2 m2 m16 m17 => by rw [e9] at e8; cases e8)
      rw [e9] at e8
      cases e8
      have o7 := hR.2.2.2.2.1
      have o9 := hR.2.2.2.2.2.2.1
      have cA : ∀ x j, ¬ (x = 0 ∧ (j = 2 ∨ j = 3 ∨ j = 4 ∨ j = 7)) → (aup (aup (aup (aup ct 0 7 0) 0 2 0) 0 3 0) 0 4 (-1)) x j = ct x j := fun x j hx => by rw [aup_n (by omega), aup_n (by omega), aup_n (by omega), aup_n (by omega)]
      have c3 : ∀ x, x < sz → x ≠ 0 → x ≠ 7 → (aup (aup (aup ct3 0 3 (ct3 7 6)) 0 4 (ct3 7 7)) 0 7 9) x = ct x := fun x hx h0 h7 => by rw [aup_rn h0, aup_rn h0, aup_rn h0, (o3.2 x hx).2 h7, aup_rn h0, aup_rn h0, aup_rn h0, aup_rn h0]
      have T : TG own (fun x => if x < sz then own x else -1) sz sz3 im im3 ct (aup (aup (aup ct3 0 3 (ct3 7 6)) 0 4 (ct3 7 7)) 0 7 9) (fun t => t = -2) := ⟨o3.1, fun x hx => (o3.2 x hx).1, fun x hx hf => c3 x hx (fun z => hf (by rw [z]; exact hR.1.2)) (fun z => hf (by rw [z]; exact o7.2)), fun x hx _ => if_pos hx⟩
      have hse : sEq (cm 1) (cm1 1) := fun i i0 i1 => g1 i i1
      have e10 : (aup (aup (aup ct3 0 3 (ct3 7 6)) 0 4 (ct3 7 7)) 0 7 9) 10 = ct 10 := c3 10 HY.1.2.1 (by decide) (by decide)
      have e9x : (aup (aup (aup ct3 0 3 (ct3 7 6)) 0 4 (ct3 7 7)) 0 7 9) 9 = ct 9 := c3 9 o9.1.2.1 (by decide) (by decide)
      have e0 : ∀ j, (aup (aup (aup ct3 0 3 (ct3 7 6)) 0 4 (ct3 7 7)) 0 7 9) 0 j = if j = 7 then 9 else if j = 4 then ct3 7 7 else if j = 3 then ct3 7 6 else (aup (aup (aup (aup ct 0 7 0) 0 2 0) 0 3 0) 0 4 (-1)) 0 j := fun j => by
        by_cases z7 : j = 7
        · rw [if_pos z7, z7]; exact aup_s
        rw [if_neg z7, aup_n (fun z => z7 z.2)]
        by_cases z4 : j = 4
        · rw [if_pos z4, z4]; exact aup_s
        rw [if_neg z4, aup_n (fun z => z4 z.2)]
        by_cases z3 : j = 3
        · rw [if_pos z3, z3]; exact aup_s
        rw [if_neg z3, aup_n (fun z => z3 z.2), (o3.2 0 hR.o0.2.1).2 (by decide)]
      refine ⟨vI_eq rfl, _, rfl, XR.read (own2 := fun x => if x < sz then own x else -1) (N2 := N) hR HX ⟨T.1, T.2.1, fun x hx hf => T.2.2.1 x hx (fun z => hf (Or.inl z)), fun x hx _ => if_pos hx⟩ (fun x hx h2 => (if_pos hx).trans h2) (fun x j hx h2 n0 n7 n9 => ?_) ((YR.tg T (fun t t0 t1 z => by omega) HY).sEq hse rfl) (by rw [e10]; exact (LR.tg T (by decide) HL).sEq hse) (HN.sEq HP hse (fun i i0 i1 => g2 i i1)) (by rw [e9x]; exact (SE.tg T (by decide) HS).sEq hse hp0) (HP.sEq hse) yf ?_ ?_ ?_ ?_ hv3 hv4⟩
      · by_cases z : x = 0
        · rw [z] at n0 ⊢
          rw [e0, if_neg (by omega), if_neg (by omega), if_neg (by omega)]
          exact cA 0 j (by omega)
        · rw [c3 x hx z n7]
      · rw [e0, if_neg (by omega), if_neg (by omega), if_neg (by omega), aup_n (by omega), aup_n (by omega)]; exact aup_s
      · rw [e0]; exact t6.trans m16.symm
      · rw [e0]; exact t7.trans m17.symm
      · rw [e0]; exact m2.symm
    · have i3 : ∀ x, x < sz → im3 x = im x := fun x hx => (o3.2 x hx).1
      have T3 : TG own own3 sz sz3 im im3 ct ct3 (fun t => t = -2) := ⟨o3.1, i3, fun x hx hf => by
        have h0 : x ≠ 0 := fun z => hf (by rw [z]; exact hR.1.2)
        rw [(o3.2 x hx).2 (fun z => hf (by rw [z]; exact hR.2.2.2.2.1.2)), aup_rn h0, aup_rn h0, aup_rn h0, aup_rn h0], fun x hx _ => w3 x hx⟩
      have hR3 : RT own3 sz3 im3 ct3 := RT.tg T3 (fun x hx h => (w3 x hx).trans h) (fun t t0 t1 => by rw [(o3.2 1 (by omega)).2 (by decide), aup_rn (by decide), aup_rn (by decide), aup_rn (by decide), aup_rn (by decide)]) hR
      have HY3 : YR own3 0 sz3 im3 ct3 10 (cm 1) (cm 1 3) N := YR.tg T3 (fun t t0 t1 z => by omega) HY
      refine aK_v ?_
      refine aw_aload_n dX0_yard_34 rfl ?_
      refine g_X0_55_0 rfl dX0_yard_35 hR3.o0 ?_
      rw [hR3.e9]
      refine g_X0_147_4 rfl dX0_yard_38 hR3.o9 ?_
      rw [hR3.e10]
      refine aw_aload_n dX0_yard_41 rfl ?_
      refine c_X0_215a (kc1 := 60) (ks1 := 908) (kc2 := 0) (ks2 := 0) (by decide) (by decide) rfl dX0_yard_42 HY3.1 (Nat.le_of_ble_eq_true rfl) (by omega) (C_x_ybe (y1 := 0) (y2 := 5) HY3 Y3 (by decide) (fun own4 sz4 im4 ct4 T4 ho hnew hsz HY4 l4 => ?_))
      refine aK_v ?_
      have hR4 : RT own4 sz4 im4 ct4 := RT.tg T4 (fun x hx h => (ho x hx).trans h) (fun t t0 t1 => by rw [tg_c T4 hR3.2.2.1.1.2.1 hR3.2.2.1.2.1 (fun z => by have := z.1; omega)]) hR3
      have c4y : ct4 sz = ct3 sz := tg_c T4 Y3.1.2.1 Y3.2.1 (fun z => by have := z.2; omega)
      refine aw_aload_n dX0_yard_45 rfl ?_
      refine g_X0_55_0 rfl dX0_yard_46 hR4.o0 ?_
      rw [hR4.e9]
      refine aw_null dX0_yard_49 ?_
      refine p_X0_218_4 rfl dX0_yard_50 hR4.o9 ?_
      refine aw_aload_n dX0_yard_53 rfl ?_
      refine g_X0_161_5 rfl dX0_yard_54 (tg_ob T4 Y3.1) ?_
      rw [aup_rn (by omega), c4y, Y3.2.2.2.2.2.1.1]
      refine aw_ireturn dX0_yard_57 rfl ?_
      refine ⟨_, rfl, ?_⟩
      refine C_m_yard HX.2.2.2.1.2.1 (fun j j0 j1 => (HX.2.2.2.2.1 j j0 j1).2) HF (fun hz2 => absurd hz hz2) (fun kd2 pl2 cm1 hz2 e8 yf g1 g2 m2 m16 m17 => by rw [e9] at e8; cases e8) (fun q2 s2 N2 cm1 hz2 e8 yi2 yf v1 v2 m2 m16 m17 => ?_)
      rw [e9] at e8
      cases e8
      have o7 := hR.2.2.2.2.1
      have cA : ∀ x j, ¬ (x = 0 ∧ (j = 2 ∨ j = 3 ∨ j = 4 ∨ j = 7)) → (aup (aup (aup (aup ct 0 7 0) 0 2 0) 0 3 0) 0 4 (-1)) x j = ct x j := fun x j hx => by rw [aup_n (by omega), aup_n (by omega), aup_n (by omega), aup_n (by omega)]
      have c43 : ∀ x, x < sz → ¬ tgY 0 (own x) → ct4 x = ct3 x := fun x hx hf => T4.2.2.1 x (by have := o3.1; omega) (by rw [w3 x hx]; exact hf)
      have c3 : ∀ x, x < sz → x ≠ 7 → ct3 x = (aup (aup (aup (aup ct 0 7 0) 0 2 0) 0 3 0) 0 4 (-1)) x := fun x hx h7 => (o3.2 x hx).2 h7
      have o0 := hR.1.2
      have o9 := hR.2.2.2.2.2.2.1
      have f0 : ¬ tgY 0 (own 0) := by rw [o0]; intro z; have := z.1; omega
      have e40 : ct4 0 = (aup (aup (aup (aup ct 0 7 0) 0 2 0) 0 3 0) 0 4 (-1)) 0 := (c43 0 hR.o0.2.1 f0).trans (c3 0 hR.o0.2.1 (by decide))
      have n10 : (aup ct4 9 1 (-1)) 10 0 = sz + 1 := by rw [aup_n (by decide), l4, l3]
      have n1 : ¬ tgY 0 (-1) := by intro z; have := z.1; omega
      refine ⟨vI_eq rfl, _, rfl, XR.read (own2 := own4) (N2 := N1) hR HX ⟨by have := T4.1; have := o3.1; omega, fun x hx => by rw [T4.2.1 x (by have := o3.1; omega), (o3.2 x hx).1], fun x hx hf => ?_, fun x hx _ => by rw [ho x (by have := o3.1; omega), w3 x hx]⟩ (fun x hx h2 => by rw [ho x (by have := o3.1; omega), w3 x hx]; exact h2) (fun x j hx h2 n0 n7 n9 => ?_) ?_ ?_ ⟨fun k k0 k1 => v2.1 k k0 (by rw [v1 0 (by decide) (by decide)] at k1; exact k1), fun k k0 k1 => v2.2.1 k k0 (by rw [v1 2 (by decide) (by decide)] at k1; exact k1), fun k k0 k1 => v2.2.2 k k0 (by rw [v1 1 (by decide) (by decide)] at k1; exact k1)⟩ (Or.inl ⟨aup_s, by rw [v1 10 (by decide) (by decide)]; exact yi.2.2.1.2.1⟩) (yi.1.ext (fun i i0 i1 => v1 i i0 i1)) yf ?_ ?_ ?_ ?_ hv3 hv4⟩
      · have h0 : x ≠ 0 := fun z => hf (Or.inl (by rw [z]; exact o0))
        rw [aup_rn (fun z => hf (Or.inl (by rw [z]; exact o9.2.1))), c43 x hx (fun z => hf (Or.inr z)), c3 x hx (fun z => hf (Or.inl (by rw [z]; exact o7.2))), aup_rn h0, aup_rn h0, aup_rn h0, aup_rn h0]
      · rw [aup_n n9, c43 x hx (by rw [h2]; intro z; have := z.1; omega), c3 x hx n7]
        exact cA x j n0
      · rw [v1 3 (by decide) (by decide), yi.2.2.1.1]
        exact (HY4.frame fun x j x0 x1 => aup_rn_a fun z => by rw [z, ho 9 (by have := o3.1; have := o9.1.2.1; omega), w3 9 o9.1.2.1, o9.2.1] at x0; omega).ext (fun i i0 i1 _ => v1 i i0 i1)
      · rw [n10]
        exact ((LR.tg T4 n1 L3).frame fun x j hx => aup_rn_a fun z => by rw [z, ho 9 (by have := o3.1; have := o9.1.2.1; omega), w3 9 o9.1.2.1, o9.2.1] at hx; omega).row (v1 1 (by decide) (by decide)) (v1 2 (by decide) (by decide)) (fun i i0 i1 => v1 i (by omega) (by omega))
      · rw [aup_rn (by decide), e40]; exact (aup_n (by decide)).trans ((aup_n (by decide)).trans aup_s)
      · rw [aup_rn (by decide), e40, m16]; exact (aup_n (by decide)).trans aup_s
      · rw [aup_rn (by decide), e40, m17]; exact aup_s
      · rw [aup_rn (by decide), e40, m2]; exact (aup_n (by decide)).trans ((aup_n (by decide)).trans ((aup_n (by decide)).trans aup_s))
