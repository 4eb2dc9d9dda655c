set_option maxRecDepth 100000
/-! operations, 25: mark, back: their ends -/
theorem YH.house {own : Int → Int} {t sz : Int} {im : Int → aIm} {ct : Int → Int → Int} {a x0 i v : Int} {s : Int → Int} {h nm : Int} (H : YH own t sz im ct a s h nm) (h4 : aob sz im x0 4) : YH own t sz im (aup ct x0 i v) a s h nm := by
  obtain ⟨h1, h2, ⟨a1, a2, a3, a4, a5⟩, h0, h5, h6, h7, h8⟩ := H
  have na : a ≠ x0 := aob_nec h1.1 h4 (by decide)
  have nf : (im a).2.2 1 ≠ x0 := fun z => aob_ne h4 h1.2.1 (by decide) z.symm
  have no : (im a).2.2 2 ≠ x0 := fun z => aob_ne h4 h1.2.2.1 (by decide) z.symm
  refine ⟨h1, h2.ext (fun j => by rw [aup_rn no]) (fun j => by rw [aup_rn nf]) (fun f j f0 f1 _ _ => by rw [aup_rn (fun z => aob_ne h4 (h2.2.1 f f0 f1) (by decide) z.symm)]) (fun _ _ _ => rfl), ?_, h0, h5, h6, h7, fun f f0 f1 => by rw [aup_rn nf]; exact h8 f f0 f1⟩
  rw [aup_rn na]
  exact ⟨a1, a2, a3, a4, a5⟩
theorem YR.house {own : Int → Int} {y sz : Int} {im : Int → aIm} {ct : Int → Int → Int} {ya x0 i v : Int} {s : Int → Int} {dd : Int} {N : Int → Int} (H : YR own y sz im ct ya s dd N) (h4 : aob sz im x0 4) : YR own y sz im (aup ct x0 i v) ya s dd N := by
  obtain ⟨h1, h2, h3, h3o, h5, ha, hw, h6⟩ := H
  have na : ya ≠ x0 := aob_nec h1 h4 (by decide)
  have nf : (im ya).2.2 1 ≠ x0 := fun z => aob_ne h4 h3 (by decide) z.symm
  unfold YR
  rw [aup_rn na, aup_rn nf]
  exact ⟨h1, h2, h3, h3o, h5, ha, hw, fun k k0 k1 => (h6 k k0 k1).house h4⟩
theorem XR.mark2 {own ownA own2 N : Int → Int} {sz szA sz2 hm : Int} {im imA im2 : Int → aIm} {ct ctA ct2 cm cm2 : Int → Int → Int} (hR : RT own sz im ct) (HY : YR own 0 sz im ct 10 (cm 1) (cm 1 3) N) (HL : LR own sz im ct (ct 10 0) (cm 1) N) (HN : NRl N (cm 2) (cm 1)) (HS : SE own sz im ct (cm 1) (ct 9 1)) (HP : PI (cm 1)) (HF : Fok cm) (HX : XO own sz im ct cm) (m2 : cm 0 35 < 3)
    (T0 : TG own ownA sz szA im imA ct ctA (fun t => t = -2)) (hA2 : ∀ x, x < sz → own x = -2 → ownA x = -2) (hA : ∀ x j, x < sz → own x = -2 → ¬ (x = 0 ∧ j = 7) → ¬ (x = 19 ∧ j = cm 0 35) → ctA x j = ct x j) (hA7 : ctA 0 7 = 0) (ehm : ctA 19 (cm 0 35) = hm) (oh : aob szA imA hm 4) (oo : ownA hm = 10 * (cm 0 35 + 1) + 9)
    (T : TG ownA own2 szA sz2 imA im2 ctA ct2 (tgY (cm 0 35 + 1))) (ho : ∀ x, x < szA → own2 x = ownA x) (HY1 : YR own2 (cm 0 35 + 1) sz2 im2 ct2 ((imA hm).2.2 0) (cm 1) (cm 1 3) N) (l1 : ct2 ((imA hm).2.2 0) 0 = ctA 10 0)
    (t1 : cm2 1 = cpR (1230 * 0) (1230 * (cm 0 35 + 1)) 1230 (cm 1)) (t2 : cm2 2 = cpR (20 * 0) (20 * (cm 0 35 + 1)) 20 (cm 2)) (tb : ∀ b, b ≠ 0 → b ≠ 1 → b ≠ 2 → cm2 b = cm b) (t0 : ∀ i, i ≠ 2 → i ≠ 35 → cm2 0 i = cm 0 i) (t35 : cm2 0 35 = cm 0 35 + 1) (tz : cm2 0 2 = 0) (hv3 : ct 0 8 = cm 0 3) (hv4 : ct 0 9 = cm 0 4) : XR (sz2, im2, aup (aup ct2 hm 1 (ctA 9 1)) 0 12 (cm 0 35 + 1)) cm2 := by
  have hm3 := HX.2.1.1
  have r0 := hR.1.2
  have a0 := hR.o0.2.1
  have hz := T0.1
  have imh : im2 hm = imA hm := T.2.1 hm oh.2.1
  have oh2 := tg_ob T oh
  have oo2 : own2 hm = 10 * (cm 0 35 + 1) + 9 := by rw [ho hm oh.2.1]; exact oo
  have nm0 : hm ≠ 0 := fun z => by
    have q := hA2 0 a0 r0
    rw [z] at oo; omega
  have yo := HY1.2.1
  have hya0 : (imA hm).2.2 0 ≠ 0 := fun z => by
    have q := hA2 0 a0 r0
    rw [z, ho 0 (by omega)] at yo; omega
  have hyah : (imA hm).2.2 0 ≠ hm := aob_nec HY1.1 oh2 (by decide)
  have c1 : ∀ x, x < szA → ownA x = -2 → ct2 x = ctA x := fun x hx h2 => tg_c T hx h2 (fun z => by have z1 := z.1; omega)
  have nxm : ∀ x, ownA x = -2 → x ≠ hm := fun x hx z => by rw [z] at hx; omega
  have l10 : ctA 10 0 = ct 10 0 := by rw [tg_c T0 HY.1.2.1 HY.2.1 (by omega)]
  have a9 := hR.2.2.2.2.2.2.1
  have l9 : ctA 9 1 = ct 9 1 := hA 9 1 a9.1.2.1 a9.2.1 (by omega) (by omega)
  refine XR.marked (own2 := own2) (hm := hm) hR HY HL HN HS HP HF HX m2 ⟨by have := T.1; omega, fun x hx => (T.2.1 x (by omega)).trans (T0.2.1 x hx), fun x hx hf => ?_, fun x hx hf => ?_⟩ (fun x hx h2 => ?_) (fun x j hx h2 n1 n2 => ?_) ?_ oh2 oo2 ?_ ?_ ?_ ?_ t1 t2 tb t0 t35 ?_ hv3 hv4
  · have f1 : own x ≠ -2 := fun z => hf (Or.inl z)
    have f2 : ¬ tgY (cm 0 35 + 1) (own x) := fun z => hf (Or.inr z)
    have oA := T0.2.2.2 x hx f1
    rw [aup_rn (fun z => f1 (by rw [z]; exact r0)), aup_rn (fun z => f2 (by rw [← oA, z, oo]; exact ⟨by omega, by omega⟩)), T.2.2.1 x (by omega) (by rw [oA]; exact f2)]
    exact T0.2.2.1 x hx f1
  · have f1 : own x ≠ -2 := fun z => hf (Or.inl z)
    rw [ho x (by omega)]
    exact T0.2.2.2 x hx f1
  · rw [ho x (by omega)]; exact hA2 x hx h2
  · have q := hA2 x hx h2
    rw [aup_n (by omega), aup_rn (nxm x q), c1 x (by omega) q]
    exact hA x j hx h2 (by omega) n2
  · have q := hA2 19 hR.a19.2.1 hR.2.2.2.2.2.2.2.1.2
    have := hR.a19.2.1
    rw [aup_n (by omega), aup_rn (nxm 19 q), c1 19 (by omega) q]
    exact ehm
  · rw [imh]
    have q := (HY1.house (i := 1) (v := ctA 9 1) oh2)
    exact q.frame fun x j x0 x1 => aup_rn_a (fun z => by
      have w := hA2 0 a0 r0
      rw [z, ho 0 (by omega)] at x0; omega)
  · rw [imh, aup_rn hya0, aup_rn hyah, l1, l10]
  · rw [aup_rn nm0, aup_s, l9]
  · rw [aup_s]
  · rw [aup_n (by omega), aup_rn (fun z => nm0 z.symm), c1 0 (by omega) (hA2 0 a0 r0), hA7, tz]
theorem OP_mark {sz : Int} {im : Int → aIm} {ct cm : Int → Int → Int} (h : XR (sz, im, ct) cm)   : AMet md_X0_mark 8 70 1022 [vR 0] (sz, im, ct) (XQ md_X7_mark 2 [vR 0] cm) := by
  obtain ⟨own, N, hR, HY, HL, HN, HS, HP, HF, HX, hv2, hv3, hv4⟩ := id h
  dsimp only at hR HY HL HS HX hv2 hv3 hv4
  have hp0 := HP.1
  have hp3 := HP.2.1
  have hpq := HP.2.2.2.1.1
  have hps := HP.2.2.2.2.2
  have e12 := HX.2.1.2.1
  have hm3 := HX.2.1.1
  refine AMet.go (L := [some (vR 0)]) mok_X0_mark (Nat.le_of_ble_eq_true rfl) rfl ?_
  refine aw_aload_n dX0_mark_0 rfl ?_
  refine aw_aload_n dX0_mark_1 rfl ?_
  refine g_X0_450_0 rfl dX0_mark_2 hR.o0 ?_
  repeat (first | rw [aup_s] | rw [aup_n (by omega)])
  rw [e12]
  refine aw_iconst dX0_mark_5 (by decide) ?_
  refine aw_icmpne (tgt := 13) dX0_mark_6 (by decide) (fun h6 => ?_) (fun h6 => ?_)
  · refine aw_iconst dX0_mark_13 (by decide) ?_
    refine p_X0_73_0 rfl dX0_mark_14 hR.o0 ?_
    refine aw_aload_n dX0_mark_17 rfl ?_
    refine g_X0_73_0 rfl dX0_mark_18 hR.o0 ?_
    repeat (first | rw [aup_s] | rw [aup_n (by omega)])
    refine aw_ifle (tgt := 26) dX0_mark_21 (by decide) (fun _ => ?_) (fun h => absurd h (by decide))
    refine aw_aload_n dX0_mark_26 rfl ?_
    refine g_X0_59_0 rfl dX0_mark_27 hR.o0 ?_
    rw [hR.e19]
    refine aw_aload_n dX0_mark_30 rfl ?_
    refine g_X0_450_0 rfl dX0_mark_31 hR.o0 ?_
    repeat (first | rw [aup_s] | rw [aup_n (by omega)])
    rw [e12]
    refine aw_aaload dX0_mark_34 hR.a19 (by decide) (by omega) (by omega) ?_
    rw [aup_rn (by decide)]
    have hmk := HX.2.1.2.2 (cm 0 35) (by omega) (by omega)
    have hm1 : -1 ≤ ct 19 (cm 0 35) := by
      rcases hmk with z | z
      · omega
      · have := z.1.1; omega
    refine aw_ifnonnull (tgt := 54) dX0_mark_35 (by decide) (by omega) (fun h35 => ?_) (fun h35 => ?_)
    · rcases hmk with z | ⟨oh, oo, ⟨s9, dd9, N9, Hm⟩, -⟩
      · omega
      have T0 : TG own own sz sz im im ct (aup ct 0 7 0) (fun t => t = -2) := ⟨Int.le_refl _, fun _ _ => rfl, fun x _ hf => aup_rn (fun z => hf (by rw [z]; exact hR.1.2)), fun _ _ _ => rfl⟩
      have hA2 : ∀ x, x < sz → own x = -2 → own x = -2 := fun _ _ h => h
      have hA : ∀ x j, x < sz → own x = -2 → ¬ (x = 0 ∧ j = 7) → ¬ (x = 19 ∧ j = cm 0 35) → aup ct 0 7 0 x j = ct x j := fun x j _ _ h _ => aup_n h
      have hA7 : aup ct 0 7 0 0 7 = 0 := aup_s
      have ehm : aup ct 0 7 0 19 (cm 0 35) = ct 19 (cm 0 35) := by rw [aup_rn (by decide)]
      refine AW.widen (kc' := 60) (ks' := 908) (by decide) (by decide) (L_x_mk54 (m := cm 0 35) (hm := ct 19 (cm 0 35)) (by omega) (hR.up0 (j := 7) (v := 0)) (HY.up0 (j := 7) (v := 0) hR.1.2 (by decide)) (by omega) (by rw [aup_n (by omega)]; exact e12) ehm oh oo (Hm.up0 hR.1.2 (by omega)) (fun own1 sz1 im1 ct1 T ho hnew HY1 l1 => ?_))
      refine ⟨_, rfl, ?_⟩
      refine AMet.go (L := [some (vR 0)]) mok_X7_mark (Nat.le_of_ble_eq_true rfl) rfl ?_
      refine gm_401 rfl dX7_mark_0 dX7_mark_1 rfl ?_
      refine aw_iconst dX7_mark_4 (by decide) ?_
      refine aw_icmpne (tgt := 14) dX7_mark_5 (by decide) (fun h5 => ?_) (fun h5 => ?_)
      · first
          | (exfalso; omega)
          | skip
            refine aw_aload_n dX7_mark_14 rfl ?_
            refine aw_dup dX7_mark_15 rfl ?_
            refine g_X7_401_7 rfl dX7_mark_16 m_ob ?_
            refine aw_iconst dX7_mark_19 (by decide) ?_
            refine aw_iaddr dX7_mark_20 (by omega) ?_
            refine p_X7_401_7 rfl dX7_mark_21 m_ob ?_
            refine aw_aload_n dX7_mark_24 rfl ?_
            refine aw_iconst dX7_mark_25 (by decide) ?_
            refine gm_401 rfl dX7_mark_26 dX7_mark_27 rfl ?_
            rw [aup_s]
            refine c_X7_404 rfl dX7_mark_30 m_ob (Nat.le_of_ble_eq_true rfl) (by omega) (C_m_copies (f := 0) (by decide) (by omega) (by omega) (fun cm3 t1 t2 t3 => ?_))
            refine aK_v ?_
            refine aw_aload_n dX7_mark_33 rfl ?_
            refine gm_401 rfl dX7_mark_34 dX7_mark_35 rfl ?_
            rw [t3 0 (by decide) (by decide), aup_s]
            refine c_X7_76 rfl dX7_mark_38 m_ob (Nat.le_of_ble_eq_true rfl) (by omega) (C_m_gives ?_)
            refine aK_i ?_
            refine aw_ireturn dX7_mark_41 rfl ?_
            first
              | (exfalso; omega)
              | (refine XR.sameE h ?_ ?_ ?_ ?_ ?_ ?_
                 · first
                     | rfl
                     | omega
                 · repeat (first | exact xs.rf | refine xs.up ?_ (by decide))
                 · repeat (first | exact mss.rf | refine mss.up0 ?_ (by decide))
                 · first
                     | (simp [aup, hv2, hv3, hv4]; done)
                     | (simp [aup, hv2, hv3, hv4]; omega)
                 · simp [aup, hv2, hv3, hv4]
                 · simp [aup, hv2, hv3, hv4])
              | (refine ⟨vI_eq (by first | rfl | omega), _, rfl, XR.mark2 hR HY HL HN HS HP HF HX (by omega) T0 hA2 hA hA7 ehm oh oo T ho HY1 l1 ?_ ?_ (fun b b0 b1 b2 => ?_) (fun i i0 i1 => ?_) ?_ ?_ hv3 hv4⟩
                 · rw [aup_rn (by decide), t1, aup_rn (by decide)]
                 · rw [aup_rn (by decide), t2, aup_rn (by decide)]
                 · rw [aup_rn b0, t3 b b1 b2, aup_rn b0]
                 · rw [aup_n (by omega), t3 0 (by decide) (by decide), aup_n (by omega)]
                 · rw [aup_n (by omega), t3 0 (by decide) (by decide), aup_s]
                 · rw [aup_s])
      · first
          | (exfalso; omega)
          | skip
            refine aw_aload_n dX7_mark_8 rfl ?_
            refine aw_iconst dX7_mark_9 (by decide) ?_
            refine c_X7_72 rfl dX7_mark_10 m_ob (Nat.le_of_ble_eq_true rfl) (by omega) (C_m_refuse ?_)
            refine aK_i ?_
            refine aw_ireturn dX7_mark_13 rfl ?_
            first
              | (exfalso; omega)
              | (refine XR.sameE h ?_ ?_ ?_ ?_ ?_ ?_
                 · first
                     | rfl
                     | omega
                 · repeat (first | exact xs.rf | refine xs.up ?_ (by decide))
                 · repeat (first | exact mss.rf | refine mss.up0 ?_ (by decide))
                 · first
                     | (simp [aup, hv2, hv3, hv4]; done)
                     | (simp [aup, hv2, hv3, hv4]; omega)
                 · simp [aup, hv2, hv3, hv4]
                 · simp [aup, hv2, hv3, hv4])
              | (refine ⟨vI_eq (by first | rfl | omega), _, rfl, XR.mark2 hR HY HL HN HS HP HF HX (by omega) T0 hA2 hA hA7 ehm oh oo T ho HY1 l1 ?_ ?_ (fun b b0 b1 b2 => ?_) (fun i i0 i1 => ?_) ?_ ?_ hv3 hv4⟩
                 · rw [aup_rn (by decide), t1, aup_rn (by decide)]
                 · rw [aup_rn (by decide), t2, aup_rn (by decide)]
                 · rw [aup_rn b0, t3 b b1 b2, aup_rn b0]
                 · rw [aup_n (by omega), t3 0 (by decide) (by decide), aup_n (by omega)]
                 · rw [aup_n (by omega), t3 0 (by decide) (by decide), aup_s]
                 · rw [aup_s])
    · refine aw_aload_n dX0_mark_38 rfl ?_
      refine g_X0_59_0 rfl dX0_mark_39 hR.o0 ?_
      rw [hR.e19]
      refine aw_aload_n dX0_mark_42 rfl ?_
      refine g_X0_450_0 rfl dX0_mark_43 hR.o0 ?_
      repeat (first | rw [aup_s] | rw [aup_n (by omega)])
      rw [e12]
      refine AW.widen (kc' := 69 + 1) (ks' := 1020 + 2) (by first | decide | omega) (by first | decide | omega) (aw_new (c9 := 4) (q := (RX4, TX4, 2)) (N9 := 2) dX0_mark_46 rfl q254 q255 q122 rfl ?_)
      refine aw_dup dX0_mark_49 rfl ?_
      refine c_X0_54a (kc1 := 9) (ks1 := 112) (kc2 := 60) (ks2 := 908) (by decide) (by decide) rfl dX0_mark_50 (by have := hR.a29.2.1; omega) (Nat.le_of_ble_eq_true rfl) (by omega) (C_x_houseinit (aob_at (by have := hR.a29.2.1; omega)) (fun im1 ct1 oh i0 hN9 zc zi => ?_))
      refine aK_v ?_
      have h19 : aar (sz + 1 + 9) im1 19 6 3 := ⟨by decide, by have := hR.a29.2.1; omega, by rw [zi 19 (by have := hR.a29.2.1; omega) (by have := hR.a29.2.1; omega), upA_n (by have := hR.a29.2.1; omega)]; exact hR.a19.2.2⟩
      refine aw_aastore (t := 6) dX0_mark_53 h19 (by decide) (by omega) (by omega) (Or.inl ⟨4, _, oh, rfl, Or.inl rfl⟩) ?_
      have hsz0 : 30 ≤ sz := by have := hR.a29.2.1; omega
      have ow1 : ∀ x, x < sz → (fun x => if x < sz then own x else if x = sz ∨ x = sz + 1 ∨ x = sz + 9 then 10 * (cm 0 35 + 1) + 9 else -1) x = own x := fun x hx => if_pos hx
      have ow2 : ∀ x, x = sz ∨ x = sz + 1 ∨ x = sz + 9 → (fun x => if x < sz then own x else if x = sz ∨ x = sz + 1 ∨ x = sz + 9 then 10 * (cm 0 35 + 1) + 9 else -1) x = 10 * (cm 0 35 + 1) + 9 := fun x hx => by
        dsimp only
        rw [if_neg (by omega), if_pos hx]
      have zi2 : ∀ x, x < sz → im1 x = im x := fun x hx => by rw [zi x (by omega) (by omega), upA_n (by omega)]
      have zc2 : ∀ x, x < sz → ct1 x = aup ct 0 7 0 x := fun x hx => by rw [zc x (by omega), upA_n (by omega)]
      have T0 : TG own (fun x => if x < sz then own x else if x = sz ∨ x = sz + 1 ∨ x = sz + 9 then 10 * (cm 0 35 + 1) + 9 else -1) sz (sz + 1 + 9) im im1 ct (aup ct1 19 (cm 0 35) sz) (fun t => t = -2) := ⟨by omega, zi2, fun x hx hf => by
          rw [aup_rn (fun z => hf (by rw [z]; exact hR.2.2.2.2.2.2.2.1.2)), zc2 x hx, aup_rn (fun z => hf (by rw [z]; exact hR.1.2))], fun x hx _ => ow1 x hx⟩
      have hA2 : ∀ x, x < sz → own x = -2 → (fun x => if x < sz then own x else if x = sz ∨ x = sz + 1 ∨ x = sz + 9 then 10 * (cm 0 35 + 1) + 9 else -1) x = -2 := fun x hx h => (ow1 x hx).trans h
      have hA : ∀ x j, x < sz → own x = -2 → ¬ (x = 0 ∧ j = 7) → ¬ (x = 19 ∧ j = cm 0 35) → aup ct1 19 (cm 0 35) sz x j = ct x j := fun x j hx _ h h2 => by rw [aup_n h2, zc2 x hx]; exact aup_n h
      have hA7 : aup ct1 19 (cm 0 35) sz 0 7 = 0 := by rw [aup_n (by omega), zc2 0 (by omega), aup_s]
      have ehm : aup ct1 19 (cm 0 35) sz 19 (cm 0 35) = sz := aup_s
      have oo : (fun x => if x < sz then own x else if x = sz ∨ x = sz + 1 ∨ x = sz + 9 then 10 * (cm 0 35 + 1) + 9 else -1) sz = 10 * (cm 0 35 + 1) + 9 := ow2 sz (Or.inl rfl)
      have Hm : YR (fun x => if x < sz then own x else if x = sz ∨ x = sz + 1 ∨ x = sz + 9 then 10 * (cm 0 35 + 1) + 9 else -1) (cm 0 35 + 1) (sz + 1 + 9) im1 (aup ct1 19 (cm 0 35) sz) ((im1 sz).2.2 0) pl0 0 N := by
        rw [i0]
        refine (NY.yr (y := cm 0 35 + 1) (own := (fun x => if x < sz then own x else if x = sz ∨ x = sz + 1 ∨ x = sz + 9 then 10 * (cm 0 35 + 1) + 9 else -1)) hN9 (ow2 _ (by omega)) (ow2 _ (by omega))).frame fun x j x0 x1 => aup_rn_a fun z => ?_
        rw [z, if_pos (show (19 : Int) < sz by omega), hR.2.2.2.2.2.2.2.1.2] at x0
        omega
      have hR9 : RT (fun x => if x < sz then own x else if x = sz ∨ x = sz + 1 ∨ x = sz + 9 then 10 * (cm 0 35 + 1) + 9 else -1) (sz + 1 + 9) im1 (aup ct1 19 (cm 0 35) sz) := RT.tg T0 hA2 (fun t t0 t1 => hA 1 t (by omega) hR.2.2.1.2.1 (by omega) (by omega)) hR
      refine AW.widen (kc' := 60) (ks' := 908) (by decide) (by decide) (L_x_mk54 (m := cm 0 35) (hm := sz) (by omega) hR9 (YR.tg T0 (fun t t0 t1 => by omega) HY) (by omega) (by rw [aup_n (by omega), zc2 0 (by omega), aup_n (by omega)]; exact e12) ehm oh oo Hm (fun own1 sz1 im2 ct2 T ho hnew HY1 l1 => ?_))
      refine ⟨_, rfl, ?_⟩
      refine AMet.go (L := [some (vR 0)]) mok_X7_mark (Nat.le_of_ble_eq_true rfl) rfl ?_
      refine gm_401 rfl dX7_mark_0 dX7_mark_1 rfl ?_
      refine aw_iconst dX7_mark_4 (by decide) ?_
      refine aw_icmpne (tgt := 14) dX7_mark_5 (by decide) (fun h5 => ?_) (fun h5 => ?_)
      · first
          | (exfalso; omega)
          | skip
            refine aw_aload_n dX7_mark_14 rfl ?_
            refine aw_dup dX7_mark_15 rfl ?_
            refine g_X7_401_7 rfl dX7_mark_16 m_ob ?_
            refine aw_iconst dX7_mark_19 (by decide) ?_
            refine aw_iaddr dX7_mark_20 (by omega) ?_
            refine p_X7_401_7 rfl dX7_mark_21 m_ob ?_
            refine aw_aload_n dX7_mark_24 rfl ?_
            refine aw_iconst dX7_mark_25 (by decide) ?_
            refine gm_401 rfl dX7_mark_26 dX7_mark_27 rfl ?_
            rw [aup_s]
            refine c_X7_404 rfl dX7_mark_30 m_ob (Nat.le_of_ble_eq_true rfl) (by omega) (C_m_copies (f := 0) (by decide) (by omega) (by omega) (fun cm3 t1 t2 t3 => ?_))
            refine aK_v ?_
            refine aw_aload_n dX7_mark_33 rfl ?_
            refine gm_401 rfl dX7_mark_34 dX7_mark_35 rfl ?_
            rw [t3 0 (by decide) (by decide), aup_s]
            refine c_X7_76 rfl dX7_mark_38 m_ob (Nat.le_of_ble_eq_true rfl) (by omega) (C_m_gives ?_)
            refine aK_i ?_
            refine aw_ireturn dX7_mark_41 rfl ?_
            first
              | (exfalso; omega)
              | (refine XR.sameE h ?_ ?_ ?_ ?_ ?_ ?_
                 · first
                     | rfl
                     | omega
                 · repeat (first | exact xs.rf | refine xs.up ?_ (by decide))
                 · repeat (first | exact mss.rf | refine mss.up0 ?_ (by decide))
                 · first
                     | (simp [aup, hv2, hv3, hv4]; done)
                     | (simp [aup, hv2, hv3, hv4]; omega)
                 · simp [aup, hv2, hv3, hv4]
                 · simp [aup, hv2, hv3, hv4])
              | (refine ⟨vI_eq (by first | rfl | omega), _, rfl, XR.mark2 hR HY HL HN HS HP HF HX (by omega) T0 hA2 hA hA7 ehm oh oo T ho HY1 l1 ?_ ?_ (fun b b0 b1 b2 => ?_) (fun i i0 i1 => ?_) ?_ ?_ hv3 hv4⟩
                 · rw [aup_rn (by decide), t1, aup_rn (by decide)]
                 · rw [aup_rn (by decide), t2, aup_rn (by decide)]
                 · rw [aup_rn b0, t3 b b1 b2, aup_rn b0]
                 · rw [aup_n (by omega), t3 0 (by decide) (by decide), aup_n (by omega)]
                 · rw [aup_n (by omega), t3 0 (by decide) (by decide), aup_s]
                 · rw [aup_s])
      · first
          | (exfalso; omega)
          | skip
            refine aw_aload_n dX7_mark_8 rfl ?_
            refine aw_iconst dX7_mark_9 (by decide) ?_
            refine c_X7_72 rfl dX7_mark_10 m_ob (Nat.le_of_ble_eq_true rfl) (by omega) (C_m_refuse ?_)
            refine aK_i ?_
            refine aw_ireturn dX7_mark_13 rfl ?_
            first
              | (exfalso; omega)
              | (refine XR.sameE h ?_ ?_ ?_ ?_ ?_ ?_
                 · first
                     | rfl
                     | omega
                 · repeat (first | exact xs.rf | refine xs.up ?_ (by decide))
                 · repeat (first | exact mss.rf | refine mss.up0 ?_ (by decide))
                 · first
                     | (simp [aup, hv2, hv3, hv4]; done)
                     | (simp [aup, hv2, hv3, hv4]; omega)
                 · simp [aup, hv2, hv3, hv4]
                 · simp [aup, hv2, hv3, hv4])
              | (refine ⟨vI_eq (by first | rfl | omega), _, rfl, XR.mark2 hR HY HL HN HS HP HF HX (by omega) T0 hA2 hA hA7 ehm oh oo T ho HY1 l1 ?_ ?_ (fun b b0 b1 b2 => ?_) (fun i i0 i1 => ?_) ?_ ?_ hv3 hv4⟩
                 · rw [aup_rn (by decide), t1, aup_rn (by decide)]
                 · rw [aup_rn (by decide), t2, aup_rn (by decide)]
                 · rw [aup_rn b0, t3 b b1 b2, aup_rn b0]
                 · rw [aup_n (by omega), t3 0 (by decide) (by decide), aup_n (by omega)]
                 · rw [aup_n (by omega), t3 0 (by decide) (by decide), aup_s]
                 · rw [aup_s])
  · refine aw_iconst dX0_mark_9 (by decide) ?_
    refine aw_goto (tgt := 14) dX0_mark_10 (by decide) ?_
    refine p_X0_73_0 rfl dX0_mark_14 hR.o0 ?_
    refine aw_aload_n dX0_mark_17 rfl ?_
    refine g_X0_73_0 rfl dX0_mark_18 hR.o0 ?_
    repeat (first | rw [aup_s] | rw [aup_n (by omega)])
    refine aw_ifle (tgt := 26) dX0_mark_21 (by decide) (fun h => absurd h (by decide)) (fun _ => ?_)
    refine aw_iconst dX0_mark_24 (by decide) ?_
    refine aw_ireturn dX0_mark_25 rfl ?_
    refine ⟨_, rfl, ?_⟩
    refine AMet.go (L := [some (vR 0)]) mok_X7_mark (Nat.le_of_ble_eq_true rfl) rfl ?_
    refine gm_401 rfl dX7_mark_0 dX7_mark_1 rfl ?_
    refine aw_iconst dX7_mark_4 (by decide) ?_
    refine aw_icmpne (tgt := 14) dX7_mark_5 (by decide) (fun h5 => ?_) (fun h5 => ?_)
    · first
        | (exfalso; omega)
        | skip
          refine aw_aload_n dX7_mark_14 rfl ?_
          refine aw_dup dX7_mark_15 rfl ?_
          refine g_X7_401_7 rfl dX7_mark_16 m_ob ?_
          refine aw_iconst dX7_mark_19 (by decide) ?_
          refine aw_iaddr dX7_mark_20 (by omega) ?_
          refine p_X7_401_7 rfl dX7_mark_21 m_ob ?_
          refine aw_aload_n dX7_mark_24 rfl ?_
          refine aw_iconst dX7_mark_25 (by decide) ?_
          refine gm_401 rfl dX7_mark_26 dX7_mark_27 rfl ?_
          rw [aup_s]
          refine c_X7_404 rfl dX7_mark_30 m_ob (Nat.le_of_ble_eq_true rfl) (by omega) (C_m_copies (f := 0) (by decide) (by omega) (by omega) (fun cm3 t1 t2 t3 => ?_))
          refine aK_v ?_
          refine aw_aload_n dX7_mark_33 rfl ?_
          refine gm_401 rfl dX7_mark_34 dX7_mark_35 rfl ?_
          rw [t3 0 (by decide) (by decide), aup_s]
          refine c_X7_76 rfl dX7_mark_38 m_ob (Nat.le_of_ble_eq_true rfl) (by omega) (C_m_gives ?_)
          refine aK_i ?_
          refine aw_ireturn dX7_mark_41 rfl ?_
          first
            | (exfalso; omega)
            | (refine XR.sameE h ?_ ?_ ?_ ?_ ?_ ?_
               · first
                   | rfl
                   | omega
               · repeat (first | exact xs.rf | refine xs.up ?_ (by decide))
               · repeat (first | exact mss.rf | refine mss.up0 ?_ (by decide))
               · first
                   | (simp [aup, hv2, hv3, hv4]; done)
                   | (simp [aup, hv2, hv3, hv4]; omega)
               · simp [aup, hv2, hv3, hv4]
               · simp [aup, hv2, hv3, hv4])
            | (refine ⟨vI_eq (by first | rfl | omega), _, rfl, XR.mark2 hR HY HL HN HS HP HF HX (by omega) T0 hA2 hA hA7 ehm oh oo T ho HY1 l1 ?_ ?_ (fun b b0 b1 b2 => ?_) (fun i i0 i1 => ?_) ?_ ?_ hv3 hv4⟩
               · rw [aup_rn (by decide), t1, aup_rn (by decide)]
               · rw [aup_rn (by decide), t2, aup_rn (by decide)]
               · rw [aup_rn b0, t3 b b1 b2, aup_rn b0]
               · rw [aup_n (by omega), t3 0 (by decide) (by decide), aup_n (by omega)]
               · rw [aup_n (by omega), t3 0 (by decide) (by decide), aup_s]
               · rw [aup_s])
    · first
        | (exfalso; omega)
        | skip
          refine aw_aload_n dX7_mark_8 rfl ?_
          refine aw_iconst dX7_mark_9 (by decide) ?_
          refine c_X7_72 rfl dX7_mark_10 m_ob (Nat.le_of_ble_eq_true rfl) (by omega) (C_m_refuse ?_)
          refine aK_i ?_
          refine aw_ireturn dX7_mark_13 rfl ?_
          first
            | (exfalso; omega)
            | (refine XR.sameE h ?_ ?_ ?_ ?_ ?_ ?_
               · first
                   | rfl
                   | omega
               · repeat (first | exact xs.rf | refine xs.up ?_ (by decide))
               · repeat (first | exact mss.rf | refine mss.up0 ?_ (by decide))
               · first
                   | (simp [aup, hv2, hv3, hv4]; done)
                   | (simp [aup, hv2, hv3, hv4]; omega)
               · simp [aup, hv2, hv3, hv4]
               · simp [aup, hv2, hv3, hv4])
            | (refine ⟨vI_eq (by first | rfl | omega), _, rfl, XR.mark2 hR HY HL HN HS HP HF HX (by omega) T0 hA2 hA hA7 ehm oh oo T ho HY1 l1 ?_ ?_ (fun b b0 b1 b2 => ?_) (fun i i0 i1 => ?_) ?_ ?_ hv3 hv4⟩
               · rw [aup_rn (by decide), t1, aup_rn (by decide)]
               · rw [aup_rn (by decide), t2, aup_rn (by decide)]
               · rw [aup_rn b0, t3 b b1 b2, aup_rn b0]
               · rw [aup_n (by omega), t3 0 (by decide) (by decide), aup_n (by omega)]
               · rw [aup_n (by omega), t3 0 (by decide) (by decide), aup_s]
               · rw [aup_s])
theorem XR.back2 {own own1 N N2 : Int → Int} {sz sz1 hm : Int} {im im1 : Int → aIm} {ct ct1 cm cm2 : Int → Int → Int} (hR : RT own sz im ct) (HY : YR own 0 sz im ct 10 (cm 1) (cm 1 3) N) (HF : Fok cm) (HX : XO own sz im ct cm) (m1 : 1 ≤ cm 0 35) (oh : aob sz im hm 4) (oo : own hm = 10 * cm 0 35 + 9) (hPm : PI (slt cm (cm 0 35)))
    (HYm : YR own (cm 0 35) sz im ct ((im hm).2.2 0) (slt cm (cm 0 35)) (slt cm (cm 0 35) 3) N2) (HLm : LR own sz im ct (ct ((im hm).2.2 0) 0) (slt cm (cm 0 35)) N2) (HNm : NRl N2 (nms cm (cm 0 35)) (slt cm (cm 0 35))) (HSm : SE own sz im ct (slt cm (cm 0 35)) (ct hm 1))
    (T : TG own own1 sz sz1 im im1 (aup (aup ct 0 7 0) 0 12 (cm 0 35 - 1)) ct1 (tgY 0)) (ho : ∀ x, x < sz → own1 x = own x) (HY1 : YR own1 0 sz1 im1 ct1 10 (slt cm (cm 0 35)) (slt cm (cm 0 35) 3) N2) (l1 : ct1 10 0 = aup (aup ct 0 7 0) 0 12 (cm 0 35 - 1) ((im hm).2.2 0) 0)
    (t1 : cm2 1 = cpR (1230 * cm 0 35) (1230 * 0) 1230 (cm 1)) (t2 : cm2 2 = cpR (20 * cm 0 35) (20 * 0) 20 (cm 2)) (tb : ∀ b, b ≠ 0 → b ≠ 1 → b ≠ 2 → cm2 b = cm b) (t0 : ∀ i, i ≠ 2 → i ≠ 35 → cm2 0 i = cm 0 i) (t35 : cm2 0 35 = cm 0 35 - 1) (tz : cm2 0 2 = 0) (hv3 : ct 0 8 = cm 0 3) (hv4 : ct 0 9 = cm 0 4) :
    XR (sz1, im1, aup ct1 9 1 (aup (aup ct 0 7 0) 0 12 (cm 0 35 - 1) hm 1)) cm2 := by
  have r0 := hR.1.2
  have a0 := hR.o0.2.1
  have a9 := hR.2.2.2.2.2.2.1
  have hB : ∀ x j, x ≠ 0 → aup (aup ct 0 7 0) 0 12 (cm 0 35 - 1) x j = ct x j := fun x j hx => by rw [aup_rn hx, aup_rn hx]
  have hm0 : hm ≠ 0 := fun z => by rw [z] at oo; omega
  have ya0 : (im hm).2.2 0 ≠ 0 := fun z => by have q := HYm.2.1; rw [z] at q; omega
  have e10 : aup ct1 9 1 (aup (aup ct 0 7 0) 0 12 (cm 0 35 - 1) hm 1) 10 0 = ct ((im hm).2.2 0) 0 := by rw [aup_n (by omega), l1, hB _ _ ya0]
  have e9 : aup ct1 9 1 (aup (aup ct 0 7 0) 0 12 (cm 0 35 - 1) hm 1) 9 1 = ct hm 1 := by rw [aup_s, hB _ _ hm0]
  have c1 : ∀ x, x < sz → own x = -2 → ct1 x = aup (aup ct 0 7 0) 0 12 (cm 0 35 - 1) x := fun x hx h2 => tg_c T hx h2 (fun z => by have z1 := z.1; omega)
  refine XR.backed (own2 := own1) (N := N2) hR HF HX m1 ⟨T.1, T.2.1, fun x hx hf => ?_, fun x hx _ => ho x hx⟩ (fun x hx h2 => by rw [ho x hx]; exact h2) (fun x j hx h2 n1 n2 => ?_) hPm ?_ (by rw [e10]; exact HLm) HNm (by rw [e9]; exact HSm) ?_ t1 t2 tb t0 t35 ?_ hv3 hv4
  · have f1 : own x ≠ -2 := fun z => hf (Or.inl z)
    rw [aup_rn (fun z => f1 (by rw [z]; exact a9.2.1)), T.2.2.1 x hx (fun z => hf (Or.inr z))]
    exact funext fun j => hB x j (fun z => f1 (by rw [z]; exact r0))
  · rw [aup_n n2, c1 x hx h2, aup_n (by omega), aup_n (by omega)]
  · exact HY1.frame fun x j x0 x1 => aup_rn_a fun z => by
      rw [z, ho 9 a9.1.2.1, a9.2.1] at x0
      omega
  · rw [aup_n (by omega), c1 0 a0 r0, aup_s]
  · rw [aup_n (by omega), c1 0 a0 r0, aup_n (by omega), aup_s, tz]
theorem OP_back {sz : Int} {im : Int → aIm} {ct cm : Int → Int → Int} (h : XR (sz, im, ct) cm)   : AMet md_X0_back 7 60 908 [vR 0] (sz, im, ct) (XQ md_X7_back 2 [vR 0] cm) := by
  obtain ⟨own, N, hR, HY, HL, HN, HS, HP, HF, HX, hv2, hv3, hv4⟩ := id h
  dsimp only at hR HY HL HS HX hv2 hv3 hv4
  have hp0 := HP.1
  have hp3 := HP.2.1
  have hpq := HP.2.2.2.1.1
  have hps := HP.2.2.2.2.2
  have e12 := HX.2.1.2.1
  have hm3 := HX.2.1.1
  refine AMet.go (L := [some (vR 0)]) mok_X0_back (Nat.le_of_ble_eq_true rfl) rfl ?_
  refine aw_aload_n dX0_back_0 rfl ?_
  refine aw_aload_n dX0_back_1 rfl ?_
  refine g_X0_450_0 rfl dX0_back_2 hR.o0 ?_
  first
    | rw [e12]
    | (rw [aup_n (by omega), e12])
    | rw [aup_s]
    | (rw [aup_n (by omega), c0, aup_s])
  refine aw_ifne (tgt := 13) dX0_back_5 (by decide) (fun h5 => ?_) (fun h5 => ?_)
  · refine aw_iconst dX0_back_13 (by decide) ?_
    refine p_X0_73_0 rfl dX0_back_14 hR.o0 ?_
    refine aw_aload_n dX0_back_17 rfl ?_
    refine g_X0_73_0 rfl dX0_back_18 hR.o0 ?_
    repeat (first | rw [aup_s] | rw [aup_n (by omega)])
    refine aw_ifle (tgt := 26) dX0_back_21 (by decide) (fun _ => ?_) (fun h => absurd h (by decide))
    refine aw_aload_n dX0_back_26 rfl ?_
    refine aw_dup dX0_back_27 rfl ?_
    refine g_X0_450_0 rfl dX0_back_28 hR.o0 ?_
    first
      | rw [e12]
      | (rw [aup_n (by omega), e12])
      | rw [aup_s]
      | (rw [aup_n (by omega), c0, aup_s])
    refine aw_iconst dX0_back_31 (by decide) ?_
    refine aw_isubr dX0_back_32 (by omega) ?_
    refine p_X0_450_0 rfl dX0_back_33 hR.o0 ?_
    refine aw_aload_n dX0_back_36 rfl ?_
    refine g_X0_55_0 rfl dX0_back_37 hR.o0 ?_
    rw [hR.e9]
    refine aw_aload_n dX0_back_40 rfl ?_
    refine g_X0_59_0 rfl dX0_back_41 hR.o0 ?_
    rw [hR.e19]
    refine aw_aload_n dX0_back_44 rfl ?_
    refine g_X0_450_0 rfl dX0_back_45 hR.o0 ?_
    first
      | rw [e12]
      | (rw [aup_n (by omega), e12])
      | rw [aup_s]
      | (rw [aup_n (by omega), c0, aup_s])
    refine aw_aaload dX0_back_48 hR.a19 (by decide) (by omega) (by omega) ?_
    rw [aup_rn (by decide), aup_rn (by decide)]
    have hmk := HX.2.1.2.2 (cm 0 35 - 1) (by omega) (by omega)
    unfold MRK at hmk
    rw [show cm 0 35 - 1 + 1 = cm 0 35 by omega] at hmk
    rcases hmk with z | ⟨oh, oo, -, hg⟩
    · omega
    obtain ⟨hPm, N2, HYm, HLm, HNm, HSm⟩ := hg (by omega)
    have HYb : YR own 0 sz im (aup (aup ct 0 7 0) 0 12 (cm 0 35 - 1)) 10 (cm 1) (cm 1 3) N := (HY.up0 hR.1.2 (by decide)).up0 hR.1.2 (by decide)
    refine c_X0_453a (kc1 := 60) (ks1 := 908) (kc2 := 0) (ks2 := 0) (by decide) (by decide) rfl dX0_back_49 hR.o9 (Nat.le_of_ble_eq_true rfl) (by omega) (C_x_housebe (y1 := 0) (y2 := cm 0 35) hR.o9 oh hR.e10 rfl (fun z => by have z1 := z.1; have z2 := z.2; omega) HYb ((HYm.up0 hR.1.2 (by omega)).up0 hR.1.2 (by omega)) (by omega) (fun own1 sz1 im1 ct1 T ho hnew hsz HY1 l1 => ?_))
    refine aK_v ?_
    have c0 : ct1 0 = aup (aup ct 0 7 0) 0 12 (cm 0 35 - 1) 0 := tg_c T hR.o0.2.1 hR.1.2 (fun z => by have z1 := z.1; omega)
    refine aw_aload_n dX0_back_52 rfl ?_
    refine g_X0_450_0 rfl dX0_back_53 (tg_ob T hR.o0) ?_
    first
      | rw [e12]
      | (rw [aup_n (by omega), e12])
      | rw [aup_s]
      | (rw [aup_n (by omega), c0, aup_s])
    refine aw_ireturn dX0_back_56 rfl ?_
    refine ⟨_, rfl, ?_⟩
    refine AMet.go (L := [some (vR 0)]) mok_X7_back (Nat.le_of_ble_eq_true rfl) rfl ?_
    refine gm_401 rfl dX7_back_0 dX7_back_1 rfl ?_
    refine aw_ifne (tgt := 14) dX7_back_4 (by decide) (fun h4 => ?_) (fun h4 => ?_)
    · first
        | (exfalso; omega)
        | skip
          refine aw_aload_n dX7_back_14 rfl ?_
          refine gm_401 rfl dX7_back_15 dX7_back_16 rfl ?_
          refine aw_iconst dX7_back_19 (by decide) ?_
          refine c_X7_404 rfl dX7_back_20 m_ob (Nat.le_of_ble_eq_true rfl) (by omega) (C_m_copies (t := 0) (by omega) (by decide) (by omega) (fun cm3 t1 t2 t3 => ?_))
          refine aK_v ?_
          refine aw_aload_n dX7_back_23 rfl ?_
          refine aw_dup dX7_back_24 rfl ?_
          refine g_X7_401_7 rfl dX7_back_25 m_ob ?_
          rw [t3 0 (by decide) (by decide)]
          refine aw_iconst dX7_back_28 (by decide) ?_
          refine aw_isubr dX7_back_29 (by omega) ?_
          refine p_X7_401_7 rfl dX7_back_30 m_ob ?_
          refine aw_aload_n dX7_back_33 rfl ?_
          refine gm_401 rfl dX7_back_34 dX7_back_35 rfl ?_
          rw [aup_s]
          refine c_X7_76 rfl dX7_back_38 m_ob (Nat.le_of_ble_eq_true rfl) (by omega) (C_m_gives ?_)
          refine aK_i ?_
          refine aw_ireturn dX7_back_41 rfl ?_
          first
            | (exfalso; omega)
            | (refine XR.sameE h ?_ ?_ ?_ ?_ ?_ ?_
               · first
                   | rfl
                   | omega
               · repeat (first | exact xs.rf | refine xs.up ?_ (by decide))
               · repeat (first | exact mss.rf | refine mss.up0 ?_ (by decide))
               · first
                   | (simp [aup, hv2, hv3, hv4]; done)
                   | (simp [aup, hv2, hv3, hv4]; omega)
               · simp [aup, hv2, hv3, hv4]
               · simp [aup, hv2, hv3, hv4])
            | (refine ⟨vI_eq (by first | rfl | omega), _, rfl, XR.back2 hR HY HF HX (by omega) oh oo hPm HYm HLm HNm HSm T ho HY1 l1 ?_ ?_ (fun b b0 b1 b2 => ?_) (fun i i0 i1 => ?_) ?_ ?_ hv3 hv4⟩
               · rw [aup_rn (by decide), aup_rn (by decide), t1]
               · rw [aup_rn (by decide), aup_rn (by decide), t2]
               · rw [aup_rn b0, aup_rn b0, t3 b b1 b2]
               · rw [aup_n (by omega), aup_n (by omega), t3 0 (by decide) (by decide)]
               · rw [aup_n (by omega), aup_s]
               · rw [aup_s])
    · first
        | (exfalso; omega)
        | skip
          refine aw_aload_n dX7_back_7 rfl ?_
          refine aw_bipush dX7_back_8 (by decide) ?_
          refine c_X7_72 rfl dX7_back_10 m_ob (Nat.le_of_ble_eq_true rfl) (by omega) (C_m_refuse ?_)
          refine aK_i ?_
          refine aw_ireturn dX7_back_13 rfl ?_
          first
            | (exfalso; omega)
            | (refine XR.sameE h ?_ ?_ ?_ ?_ ?_ ?_
               · first
                   | rfl
                   | omega
               · repeat (first | exact xs.rf | refine xs.up ?_ (by decide))
               · repeat (first | exact mss.rf | refine mss.up0 ?_ (by decide))
               · first
                   | (simp [aup, hv2, hv3, hv4]; done)
                   | (simp [aup, hv2, hv3, hv4]; omega)
               · simp [aup, hv2, hv3, hv4]
               · simp [aup, hv2, hv3, hv4])
            | (refine ⟨vI_eq (by first | rfl | omega), _, rfl, XR.back2 hR HY HF HX (by omega) oh oo hPm HYm HLm HNm HSm T ho HY1 l1 ?_ ?_ (fun b b0 b1 b2 => ?_) (fun i i0 i1 => ?_) ?_ ?_ hv3 hv4⟩
               · rw [aup_rn (by decide), aup_rn (by decide), t1]
               · rw [aup_rn (by decide), aup_rn (by decide), t2]
               · rw [aup_rn b0, aup_rn b0, t3 b b1 b2]
               · rw [aup_n (by omega), aup_n (by omega), t3 0 (by decide) (by decide)]
               · rw [aup_n (by omega), aup_s]
               · rw [aup_s])
  · refine aw_bipush dX0_back_8 (by decide) ?_
    refine aw_goto (tgt := 14) dX0_back_10 (by decide) ?_
    refine p_X0_73_0 rfl dX0_back_14 hR.o0 ?_
    refine aw_aload_n dX0_back_17 rfl ?_
    refine g_X0_73_0 rfl dX0_back_18 hR.o0 ?_
    repeat (first | rw [aup_s] | rw [aup_n (by omega)])
    refine aw_ifle (tgt := 26) dX0_back_21 (by decide) (fun h => absurd h (by decide)) (fun _ => ?_)
    refine aw_iconst dX0_back_24 (by decide) ?_
    refine aw_ireturn dX0_back_25 rfl ?_
    refine ⟨_, rfl, ?_⟩
    refine AMet.go (L := [some (vR 0)]) mok_X7_back (Nat.le_of_ble_eq_true rfl) rfl ?_
    refine gm_401 rfl dX7_back_0 dX7_back_1 rfl ?_
    refine aw_ifne (tgt := 14) dX7_back_4 (by decide) (fun h4 => ?_) (fun h4 => ?_)
    · first
        | (exfalso; omega)
        | skip
          refine aw_aload_n dX7_back_14 rfl ?_
          refine gm_401 rfl dX7_back_15 dX7_back_16 rfl ?_
          refine aw_iconst dX7_back_19 (by decide) ?_
          refine c_X7_404 rfl dX7_back_20 m_ob (Nat.le_of_ble_eq_true rfl) (by omega) (C_m_copies (t := 0) (by omega) (by decide) (by omega) (fun cm3 t1 t2 t3 => ?_))
          refine aK_v ?_
          refine aw_aload_n dX7_back_23 rfl ?_
          refine aw_dup dX7_back_24 rfl ?_
          refine g_X7_401_7 rfl dX7_back_25 m_ob ?_
          rw [t3 0 (by decide) (by decide)]
          refine aw_iconst dX7_back_28 (by decide) ?_
          refine aw_isubr dX7_back_29 (by omega) ?_
          refine p_X7_401_7 rfl dX7_back_30 m_ob ?_
          refine aw_aload_n dX7_back_33 rfl ?_
          refine gm_401 rfl dX7_back_34 dX7_back_35 rfl ?_
          rw [aup_s]
          refine c_X7_76 rfl dX7_back_38 m_ob (Nat.le_of_ble_eq_true rfl) (by omega) (C_m_gives ?_)
          refine aK_i ?_
          refine aw_ireturn dX7_back_41 rfl ?_
          first
            | (exfalso; omega)
            | (refine XR.sameE h ?_ ?_ ?_ ?_ ?_ ?_
               · first
                   | rfl
                   | omega
               · repeat (first | exact xs.rf | refine xs.up ?_ (by decide))
               · repeat (first | exact mss.rf | refine mss.up0 ?_ (by decide))
               · first
                   | (simp [aup, hv2, hv3, hv4]; done)
                   | (simp [aup, hv2, hv3, hv4]; omega)
               · simp [aup, hv2, hv3, hv4]
               · simp [aup, hv2, hv3, hv4])
            | (refine ⟨vI_eq (by first | rfl | omega), _, rfl, XR.back2 hR HY HF HX (by omega) oh oo hPm HYm HLm HNm HSm T ho HY1 l1 ?_ ?_ (fun b b0 b1 b2 => ?_) (fun i i0 i1 => ?_) ?_ ?_ hv3 hv4⟩
               · rw [aup_rn (by decide), aup_rn (by decide), t1]
               · rw [aup_rn (by decide), aup_rn (by decide), t2]
               · rw [aup_rn b0, aup_rn b0, t3 b b1 b2]
               · rw [aup_n (by omega), aup_n (by omega), t3 0 (by decide) (by decide)]
               · rw [aup_n (by omega), aup_s]
               · rw [aup_s])
    · first
        | (exfalso; omega)
        | skip
          refine aw_aload_n dX7_back_7 rfl ?_
          refine aw_bipush dX7_back_8 (by decide) ?_
          refine c_X7_72 rfl dX7_back_10 m_ob (Nat.le_of_ble_eq_true rfl) (by omega) (C_m_refuse ?_)
          refine aK_i ?_
          refine aw_ireturn dX7_back_13 rfl ?_
          first
            | (exfalso; omega)
            | (refine XR.sameE h ?_ ?_ ?_ ?_ ?_ ?_
               · first
                   | rfl
                   | omega
               · repeat (first | exact xs.rf | refine xs.up ?_ (by decide))
               · repeat (first | exact mss.rf | refine mss.up0 ?_ (by decide))
               · first
                   | (simp [aup, hv2, hv3, hv4]; done)
                   | (simp [aup, hv2, hv3, hv4]; omega)
               · simp [aup, hv2, hv3, hv4]
               · simp [aup, hv2, hv3, hv4])
            | (refine ⟨vI_eq (by first | rfl | omega), _, rfl, XR.back2 hR HY HF HX (by omega) oh oo hPm HYm HLm HNm HSm T ho HY1 l1 ?_ ?_ (fun b b0 b1 b2 => ?_) (fun i i0 i1 => ?_) ?_ ?_ hv3 hv4⟩
               · rw [aup_rn (by decide), aup_rn (by decide), t1]
               · rw [aup_rn (by decide), aup_rn (by decide), t2]
               · rw [aup_rn b0, aup_rn b0, t3 b b1 b2]
               · rw [aup_n (by omega), aup_n (by omega), t3 0 (by decide) (by decide)]
               · rw [aup_n (by omega), aup_s]
               · rw [aup_s])
