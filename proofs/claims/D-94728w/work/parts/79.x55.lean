set_option maxRecDepth 100000
/-! operations, 26: live -/
theorem XR.gen {own own2 N : Int → Int} {sz sz2 : Int} {im im2 : Int → aIm} {ct ct3 cm cm2 : Int → Int → Int} {F : Int → Prop} (hR : RT own sz im ct) (HN : NRl N (cm 2) (cm 1)) (HS : SE own sz im ct (cm 1) (ct 9 1)) (HX : XO own sz im ct cm) (hd0 : (0 ≤ cm 1 0 ∧ cm 1 0 ≤ 4)) (TX : TG own own2 sz sz2 im im2 ct ct3 F) (hF1 : ¬ F (-1)) (hFt : ∀ t, 0 ≤ t → t < 4 → ¬ F (-10 - t)) (hFy : ∀ t, 10 ≤ t → t < 40 → ¬ F t) (h02 : ∀ x, x < sz → own x = -2 → own2 x = -2) (hr : ∀ x j, x < sz → own x = -2 → ¬ (x = 0 ∧ (j = 7 ∨ j = 8 ∨ j = 9 ∨ j = 15)) → x ≠ 29 → ct3 x j = ct x j)
    (hY : YR own2 0 sz2 im2 ct3 10 (cm2 1) (cm2 1 3) N) (hL : LR own2 sz2 im2 ct3 (ct3 10 0) (cm2 1) N) (hk : (∀ i, i = 0 ∨ i = 1 ∨ i = 2 ∨ i = 10 ∨ (13 ≤ i ∧ i < 64) ∨ (860 ≤ i ∧ i < 4920) → cm2 1 i = cm 1 i) ∧ ∀ k, 0 ≤ k → k < cm 1 0 → cm2 1 (64 + 198 * k) = cm 1 (64 + 198 * k)) (hP2 : PI (cm2 1)) (hF2 : Fok cm2) (hA : ∃ s dd N, YR own2 4 sz2 im2 ct3 20 s dd N) (tb : ∀ b, b ≠ 0 → b ≠ 1 → b ≠ 9 → b ≠ 11 → b ≠ 12 → b ≠ 13 → cm2 b = cm b) (t0 : ∀ i, i = 10 ∨ i = 16 ∨ i = 17 ∨ i = 35 → cm2 0 i = cm 0 i) (h34 : ct3 0 15 = cm2 0 34 ∧ (cm2 0 34 = 0 ∨ cm2 0 34 = 1)) (h29 : ∀ j, 0 ≤ j → j < 3 → ct3 29 j = cm2 13 j) (h7 : ct3 0 7 = cm2 0 2) (h8 : ct3 0 8 = cm2 0 3) (h9 : ct3 0 9 = cm2 0 4) : XR (sz2, im2, ct3) cm2 := by
  obtain ⟨kt1, ⟨kt2, kt3, kt4⟩, -, ⟨ks2, ks10, ks3, ks4, -, -⟩, kt12, -⟩ := id HX
  obtain ⟨⟨a0, r0⟩, -, ⟨a1, r1, r5⟩, ⟨a6, r6⟩, -, -, ⟨a9, r9, -⟩, ⟨a19, r19⟩, ⟨a29, r29⟩⟩ := id hR
  have e2 : cm2 2 = cm 2 := tb 2 (by decide) (by decide) (by decide) (by decide) (by decide) (by decide)
  have hsl : ∀ j, 0 ≤ j → j < 3 → slt cm2 (j + 1) = slt cm (j + 1) := fun j j0 j1 => slt_eq fun i i0 i1 => hk.1 i (by omega)
  refine ⟨own2, N, RT.tg TX h02 (fun t t0 t1 => hr 1 t a1.2.1 r1 (by omega) (by omega)) hR, hY, hL, ?_, ?_, hP2, hF2, ⟨fun t t0 t1 => ?_, ⟨by rw [t0 35 (by omega)]; exact kt2, ?_, fun j j0 j1 => ?_⟩, hA, ⟨?_, by rw [t0 10 (by omega)]; exact ks10, ?_, ?_, h34⟩, fun j j0 j1 => ?_, h29⟩, h7, h8, h9⟩
  · rw [e2]
    unfold NRl
    rw [hk.1 0 (by omega), hk.1 1 (by omega), hk.1 2 (by omega)]
    exact HN
  · show SE own2 sz2 im2 ct3 (cm2 1) (ct3 9 1)
    rw [hr 9 1 a9.2.1 r9 (by omega) (by omega)]
    exact (SE.tg TX hF1 HS).row (hk.1 0 (by omega)) (hk.1 1 (by omega)) (hk.1 10 (by omega)) hk.2 (fun i i0 i1 => hk.1 i (by omega))
  · have q := r5 t t0 t1
    exact TRY.tg TX (hFt t t0 t1) (hr _ _ q.2.1.2.1 q.2.2 (by omega) (by omega)) (by rw [tb 3 (by decide) (by decide) (by decide) (by decide) (by decide) (by decide)]) (by rw [tb 4 (by decide) (by decide) (by decide) (by decide) (by decide) (by decide)]) (fun i _ _ => by rw [tb 5 (by decide) (by decide) (by decide) (by decide) (by decide) (by decide)]) (kt1 t t0 t1)
  · show ct3 0 12 = _
    rw [hr 0 12 a0.2.1 r0 (by omega) (by omega), t0 35 (by omega)]; exact kt3
  · exact MRK.tg j0 TX (fun t z0 z1 => hFy t (by omega) (by omega)) hF1 (hr 19 j a19.2.1 r19 (by omega) (by omega)) (fun _ z => by rw [t0 35 (by omega)]; exact z) (fun z => ⟨by rw [t0 35 (by omega)] at z; exact z, hsl j j0 j1, nms_eq fun i i0 i1 => by rw [e2]⟩) (kt4 j j0 j1)
  · show ct3 0 2 = _
    rw [hr 0 2 a0.2.1 r0 (by omega) (by omega), t0 10 (by omega)]; exact ks2
  · show ct3 0 3 = _
    rw [hr 0 3 a0.2.1 r0 (by omega) (by omega), t0 16 (by omega)]; exact ks3
  · show ct3 0 4 = _
    rw [hr 0 4 a0.2.1 r0 (by omega) (by omega), t0 17 (by omega)]; exact ks4
  · show ct3 6 j = _ ∧ _
    rw [hr 6 j a6.2.1 r6 (by omega) (by omega), tb 6 (by decide) (by decide) (by decide) (by decide) (by decide) (by decide)]; exact kt12 j j0 j1
theorem L_x_live58 {own0 : Int → Int} {sz : Int} {im : Int → aIm} {ct0 : Int → Int → Int} {l a : Int} {s0 N : Int → Int} {Q : aPost} {d kc ks : Nat} {q0 R : lvS} (hd : 28 ≤ d) (hR : RT own0 sz im ct0) (hX : XL own0 own0 sz im ct0 ct0 0 10 (ct0 10 0) l s0 N q0) (hB : BLK own0 sz im ct0 s0 4 (ct0 9 1) 0 (s0 10)) (hC : aob sz im (ct0 9 1) 10) (eR : seqF (stepF s0 4) s0 60 0 (s0 10) q0 = R) (K : ∀ (own2 : Int → Int) (ct2 : Int → Int → Int), XL own0 own2 sz im ct0 ct2 0 10 (ct0 10 0) l s0 N R → Q (.inl (some (vI R.2.2.1))) (sz, im, aup (aup (aup (aup ct2 29 0 R.2.2.2.1) 29 1 R.2.2.2.2.1) 29 2 R.2.2.2.2.2.2) 0 15 1)) : AW (mq Q) md_X0_live d kc ks 58 [some (vR 0), some (vI a), some (vR l)] [] (sz, im, ct0) := by
  refine aw_aload_n dX0_live_58 rfl ?_
  refine g_X0_55_0 rfl dX0_live_59 hR.o0 ?_
  rw [hR.e9]
  refine g_X0_218_4 rfl dX0_live_62 hR.o9 ?_
  refine aw_aload_n dX0_live_65 rfl ?_
  refine c_all_0 rfl dX0_live_66 hC (Nat.le_of_ble_eq_true rfl) (by omega) (C_x_all (fun hs hx k => C_x_go 4 hs hx k) hB hX (fun own2 ct2 hX2 => ?_))
  refine aK_v ?_
  rw [eR] at hX2
  have hV := hX2.2.2.2.2.2.1
  have hlf := hX2.2.2.2.2.2.2.2.2.2.2.2
  have nl0 : l ≠ 0 := aob_nec hV.1.1 hR.o0 (by decide)
  have nl29 : l ≠ 29 := aob_ne hV.1.1 hR.a29 (by decide)
  have KK := K own2 ct2 hX2
  refine aw_aload_n dX0_live_69 rfl ?_
  refine g_X0_70_0 rfl dX0_live_70 hR.o0 ?_
  rw [hR.e29]
  refine aw_iconst dX0_live_73 (by decide) ?_
  refine aw_aload_n dX0_live_74 rfl ?_
  refine g_X0_432_13 rfl dX0_live_75 hV.1.1 ?_
  rw [hV.2.2.2.1]
  refine aw_iastore dX0_live_78 hR.a29 (by omega) (by omega) ?_
  refine aw_aload_n dX0_live_79 rfl ?_
  refine g_X0_70_0 rfl dX0_live_80 hR.o0 ?_
  rw [hR.e29]
  refine aw_iconst dX0_live_83 (by decide) ?_
  refine aw_aload_n dX0_live_84 rfl ?_
  refine g_X0_435_13 rfl dX0_live_85 hV.1.1 ?_
  rw [aup_rn nl29, hV.2.2.2.2.1]
  refine aw_iastore dX0_live_88 hR.a29 (by omega) (by omega) ?_
  refine aw_aload_n dX0_live_89 rfl ?_
  refine g_X0_70_0 rfl dX0_live_90 hR.o0 ?_
  rw [hR.e29]
  refine aw_iconst dX0_live_93 (by decide) ?_
  refine aw_aload_n dX0_live_94 rfl ?_
  refine g_X0_438_13 rfl dX0_live_95 hV.1.1 ?_
  rw [aup_rn nl29, aup_rn nl29, hV.2.2.2.2.2.2]
  refine aw_ifeq (tgt := 105) dX0_live_98 (by decide) (fun h98 => ?_) (fun h98 => ?_)
  · rw [show R.2.2.2.2.2.2 = 0 by omega] at KK
    refine aw_iconst dX0_live_105 (by decide) ?_
    refine aw_iastore dX0_live_106 hR.a29 (by omega) (by omega) ?_
    refine aw_aload_n dX0_live_107 rfl ?_
    refine aw_iconst dX0_live_108 (by decide) ?_
    refine p_X0_442_0 rfl dX0_live_109 hR.o0 (Or.inr rfl) ?_
    refine aw_aload_n dX0_live_112 rfl ?_
    refine g_X0_445_13 rfl dX0_live_113 hV.1.1 ?_
    rw [aup_rn nl0, aup_rn nl29, aup_rn nl29, aup_rn nl29, hV.2.2.1]
    refine aw_ireturn dX0_live_116 rfl ?_
    exact KK
  · rw [show R.2.2.2.2.2.2 = 1 by omega] at KK
    refine aw_iconst dX0_live_101 (by decide) ?_
    refine aw_goto (tgt := 106) dX0_live_102 (by decide) ?_
    refine aw_iastore dX0_live_106 hR.a29 (by omega) (by omega) ?_
    refine aw_aload_n dX0_live_107 rfl ?_
    refine aw_iconst dX0_live_108 (by decide) ?_
    refine p_X0_442_0 rfl dX0_live_109 hR.o0 (Or.inr rfl) ?_
    refine aw_aload_n dX0_live_112 rfl ?_
    refine g_X0_445_13 rfl dX0_live_113 hV.1.1 ?_
    rw [aup_rn nl0, aup_rn nl29, aup_rn nl29, aup_rn nl29, hV.2.2.1]
    refine aw_ireturn dX0_live_116 rfl ?_
    exact KK
theorem L_m_told0 {ct : Int → Int → Int} {Q : aPost} {a : Int} {d kc ks : Nat} (K : ∀ (ct1 : Int → Int → Int), (∀ x, x ≠ 13 → ct1 x = ct x) → (∀ u, 0 ≤ u → u < 3 → ct1 13 u = ct 12 u) → AW (mq Q) md_X7_live d kc ks 66 [some (vR 0), some (vI a), some (vI 3)] [] (gM ct1)) : ∀ (r : Nat) (k : Int) (ct1 : Int → Int → Int), k + r = 3 → 0 ≤ k → (∀ x, x ≠ 13 → ct1 x = ct x) → (∀ u, 0 ≤ u → u < k → ct1 13 u = ct 12 u) → AW (mq Q) md_X7_live d kc ks 43 [some (vR 0), some (vI a), some (vI k)] [] (gM ct1) := by
  intro r
  induction r with
  | zero =>
    intro k ct1 h1 h2 h3 h4
    have ek : k = 3 := by omega
    subst ek
    refine aw_iload_n dX7_live_43 rfl ?_
    refine aw_iconst dX7_live_44 (by decide) ?_
    refine aw_icmpge (tgt := 66) dX7_live_45 (by decide) (fun h45 => ?_) (fun h45 => ?_)
    · exact K ct1 h3 h4
    · exfalso; omega
  | succ r ih =>
    intro k ct1 h1 h2 h3 h4
    refine aw_iload_n dX7_live_43 rfl ?_
    refine aw_iconst dX7_live_44 (by decide) ?_
    refine aw_icmpge (tgt := 66) dX7_live_45 (by decide) (fun h45 => ?_) (fun h45 => ?_)
    · exfalso; omega
    · refine gm_59 rfl dX7_live_48 dX7_live_49 rfl ?_
      refine aw_iload_n dX7_live_52 rfl ?_
      refine gm_56 rfl dX7_live_53 dX7_live_54 rfl ?_
      refine aw_iload_n dX7_live_57 rfl ?_
      refine aw_iaload dX7_live_58 m_a12 (by omega) (by omega) ?_
      refine aw_iastore dX7_live_59 m_a13 (by omega) (by omega) ?_
      refine aw_iinc2r dX7_live_60 (by decide) (by decide) rfl (by omega) ?_
      refine aw_goto (tgt := 43) dX7_live_63 (by decide) ?_
      refine ih (k + 1) _ (by omega) (by omega) (fun x hx => by rw [aup_rn hx]; exact h3 x hx) (fun u u0 u1 => ?_)
      by_cases z : u = k
      · subst z; rw [aup_s, h3 12 (by decide)]
      · rw [aup_n (by omega)]; exact h4 u u0 (by omega)
theorem OP_live {sz : Int} {im : Int → aIm} {ct cm : Int → Int → Int} (h : XR (sz, im, ct) cm) {a : Int} (r0 : -2147483648 ≤ a ∧ a < 2147483648)  : AMet md_X0_live 29 1 7 [vR 0, vI a] (sz, im, ct) (XQ md_X7_live 10 [vR 0, vI a] cm) := by
  obtain ⟨own, N, hR, HY, HL, HN, HS, HP, HF, HX, hv2, hv3, hv4⟩ := id h
  dsimp only at hR HY HL HS HX hv2 hv3 hv4
  have hp0 := HP.1
  have hp3 := HP.2.1
  have hpq := HP.2.2.2.1.1
  have hps := HP.2.2.2.2.2
  have hse : -1 ≤ ct 9 1 ∧ ((ct 9 1 = -1 ∧ cm 1 10 = -1) ∨ (0 ≤ ct 9 1 ∧ 0 ≤ cm 1 10)) := by
    rcases HS with z | z
    · omega
    · have z1 := z.1.1
      have z2 := z.2.2.1
      omega
  have hsz0 : 30 ≤ sz := by have := hR.a29.2.1; omega
  refine AMet.go (L := [some (vR 0), some (vI a), none]) mok_X0_live (Nat.le_of_ble_eq_true rfl) rfl ?_
  refine aw_aload_n dX0_live_0 rfl ?_
  refine aw_iload_n dX0_live_1 rfl ?_
  refine aw_i2l dX0_live_2 ?_
  refine aw_lconst0 dX0_live_3 ?_
  refine aw_ldc2 (x := 9999) dX0_live_4 q1100 (by decide) ?_
  refine c_X0_164 rfl dX0_live_7  (Nat.le_of_ble_eq_true rfl) (by omega) (C_x_isIn (fun hi => ?_) (fun hi => ?_))
  · refine aK_i ?_
    refine aw_ifne (tgt := 17) dX0_live_10 (by decide) (fun _ => ?_) (fun h => absurd h (by decide))
    refine aw_aload_n dX0_live_17 rfl ?_
    refine g_X0_55_0 rfl dX0_live_18 hR.o0 ?_
    rw [hR.e9]
    refine g_X0_218_4 rfl dX0_live_21 hR.o9 ?_
    refine aw_ifnonnull (tgt := 32) dX0_live_24 (by decide) (by omega) (fun h24 => ?_) (fun h24 => ?_)
    · refine aw_iconst dX0_live_32 (by decide) ?_
      refine p_X0_73_0 rfl dX0_live_33 hR.o0 ?_
      refine aw_aload_n dX0_live_36 rfl ?_
      refine g_X0_73_0 rfl dX0_live_37 hR.o0 ?_
      repeat (first | rw [aup_s] | rw [aup_n (by omega)])
      refine aw_ifle (tgt := 45) dX0_live_40 (by decide) (fun _ => ?_) (fun h => absurd h (by decide))
      refine AW.widen (kc' := 0 + 1) (ks' := 0 + 7) (by first | decide | omega) (by first | decide | omega) (aw_new (c9 := 13) (q := (RX15, TX15, 7)) (N9 := 7) dX0_live_45 rfl q1317 q1318 q144 rfl ?_)
      refine aw_dup dX0_live_48 rfl ?_
      refine aw_aload_n dX0_live_49 rfl ?_
      refine c_X0_158 rfl dX0_live_50 (aob_new hR.o0) (Nat.le_of_ble_eq_true rfl) (by omega) (C_x_yard2 (RT.tr (own' := own) (sz' := sz + 1) (im' := upA im sz (13, 0, adf 13)) (ct' := upA (aup ct 0 7 0) sz (adf 13)) ⟨by omega, fun x hx => upA_n (by omega), fun x hx => upA_n (by omega), fun _ _ _ => rfl⟩ (hR.up0 (j := 7) (v := 0))) ?_)
      refine aK_i ?_
      refine aw_iload_n dX0_live_53 rfl ?_
      refine c_X0_425 rfl dX0_live_54 (by omega) (Nat.le_of_ble_eq_true rfl) (by omega) (C_x_livinit (aob_at (by omega)) ?_)
      refine aK_v ?_
      refine aw_astore2 dX0_live_57 (by decide) rfl ?_
      obtain ⟨im1, him⟩ : ∃ f, f = imf (upA im sz (13, 0, adf 13)) sz 0 10 := ⟨_, rfl⟩
      obtain ⟨ct1, hct⟩ : ∃ f, f = aup (upA (aup ct 0 7 0) sz (adf 13)) sz 1 a := ⟨_, rfl⟩
      rw [← him, ← hct]
      have zi : ∀ x, x < sz → im1 x = im x := fun x hx => by rw [him, imf_n (by omega), upA_n (by omega)]
      have zc : ∀ x, x < sz → ct1 x = (aup ct 0 7 0) x := fun x hx => by rw [hct, aup_rn (by omega), upA_n (by omega)]
      have zo : ∀ x, x < sz → (fun x => if x < sz then own x else -4) x = own x := fun x hx => if_pos hx
      have zl : (fun x => if x < sz then own x else -4) sz = -4 := if_neg (by omega)
      have TX0 : TG own (fun x => if x < sz then own x else -4) sz (sz + 1) im im1 ct ct1 (fun t => t = -2) := ⟨by omega, zi, fun x hx hf => by rw [zc x hx, aup_rn (fun z => hf (by rw [z]; exact hR.1.2))], fun x hx _ => zo x hx⟩
      have h020 : ∀ x, x < sz → own x = -2 → (fun x => if x < sz then own x else -4) x = -2 := fun x hx h => (zo x hx).trans h
      have hR1 : RT (fun x => if x < sz then own x else -4) (sz + 1) im1 ct1 := RT.tg TX0 h020 (fun t _ _ => by rw [zc 1 (by omega), aup_n (by omega)]) hR
      have HY1 := YR.tg TX0 (fun t t0 t1 => by omega) HY
      have HL1 := LR.tg TX0 (by decide) HL
      have HS1 := SE.tg TX0 (by decide) HS
      have e10 : ct1 10 0 = ct 10 0 := by rw [zc 10 (by omega), aup_n (by omega)]
      have e91 : ct1 9 1 = ct 9 1 := by rw [zc 9 (by omega), aup_n (by omega)]
      have hseB : BLK (fun x => if x < sz then own x else -4) (sz + 1) im1 ct1 (cm 1) 4 (ct1 9 1) 0 (cm 1 10) ∧ aob (sz + 1) im1 (ct1 9 1) 10 := by
        rw [e91]
        rcases HS1 with z | ⟨z1, z2, z3, z4, cap, p, z5⟩
        · omega
        · exact ⟨⟨Or.inl z1, z2, Int.le_refl _, z4, cap, p, z5⟩, z1⟩
      have hq0 := lvQ0 (sd := a) HP (by omega)
      have hX0 : XL (fun x => if x < sz then own x else -4) (fun x => if x < sz then own x else -4) (sz + 1) im1 ct1 ct1 0 10 (ct1 10 0) sz (cm 1) N (cm 1, a, 0, 0, 0, 0, 0) := by
        refine ⟨⟨by decide, zl, by rw [e10]; exact HL1, sK.rf⟩, ⟨fun _ _ => rfl, fun _ z => z⟩, HY1, fun _ _ _ _ => rfl, rfl, ⟨⟨⟨by omega, by omega, by rw [him, imf_k.1, upA_s]⟩, by rw [him, imf_s, if_pos rfl]⟩, ?_, ?_, ?_, ?_, ?_, ?_⟩, hq0⟩
        · rw [hct, aup_s]
        · rw [hct, aup_n (by omega), upA_s]; rfl
        · rw [hct, aup_n (by omega), upA_s]; rfl
        · rw [hct, aup_n (by omega), upA_s]; rfl
        · rw [hct, aup_n (by omega), upA_s]; rfl
        · rw [hct, aup_n (by omega), upA_s]; rfl
      refine L_x_live58 (R := lvR (cm 1) a) (by omega) hR1 hX0 hseB.1 hseB.2 rfl (fun own2 ct2 hX2 => ?_)
      refine ⟨_, rfl, ?_⟩
      refine AMet.go (L := [some (vR 0), some (vI a), none]) mok_X7_live (Nat.le_of_ble_eq_true rfl) rfl ?_
      refine aw_iload_n dX7_live_0 rfl ?_
      refine aw_i2l dX7_live_1 ?_
      refine aw_lconst0 dX7_live_2 ?_
      refine aw_ldc2 (x := 9999) dX7_live_3 q1843 (by decide) ?_
      refine c_X7_306 rfl dX7_live_6  (Nat.le_of_ble_eq_true rfl) (by omega) (C_m_isFrom (fun hfr => ?_) (fun hfr => ?_))
      · first
          | (exfalso; omega)
          | skip
            refine aK_i ?_
            refine aw_ifne (tgt := 18) dX7_live_9 (by decide) (fun _ => ?_) (fun h => absurd h (by decide))
            refine gm_7 rfl dX7_live_18 dX7_live_19 rfl ?_
            refine aw_bipush dX7_live_22 (by decide) ?_
            refine aw_iaload dX7_live_24 m_a1 (by omega) (by omega) ?_
            refine aw_iconst dX7_live_25 (by decide) ?_
            refine aw_icmpne (tgt := 36) dX7_live_26 (by decide) (fun h26 => ?_) (fun h26 => ?_)
            · first
                | (exfalso; omega)
                | skip
                  refine aw_aload_n dX7_live_36 rfl ?_
                  refine aw_iload_n dX7_live_37 rfl ?_
                  refine c_X7_392 rfl dX7_live_38 m_ob (Nat.le_of_ble_eq_true rfl) (by omega) (C_m_lives (sd := a) HF HP hseB.1 (by omega) (fun cm3 hM => ?_))
                  refine aK_v ?_
                  refine aw_iconst dX7_live_41 (by decide) ?_
                  refine aw_istore2 dX7_live_42 (by decide) rfl ?_
                  refine L_m_told0 (ct := cm3) (fun cm4 g1 g2 => ?_) 3 0 cm3 (by decide) (by decide) (fun _ _ => rfl) (fun u u0 u1 => by omega)
                  refine aw_aload_n dX7_live_66 rfl ?_
                  refine aw_iconst dX7_live_67 (by decide) ?_
                  refine p_X7_395_7 rfl dX7_live_68 m_ob (Or.inr rfl) ?_
                  refine aw_aload_n dX7_live_71 rfl ?_
                  refine gm_380 rfl dX7_live_72 dX7_live_73 rfl ?_
                  rw [aup_n (by omega)]
                  refine c_X7_76 rfl dX7_live_76 m_ob (Nat.le_of_ble_eq_true rfl) (by omega) (C_m_gives ?_)
                  refine aK_i ?_
                  refine aw_ireturn dX7_live_79 rfl ?_
                  have hin := lvR_in (sd := a) (hseB.1) HP (by omega)
                  have hV := hX2.2.2.2.2.2.1
                  have hn := hX2.2.1
                  have hfr := hX2.2.2.2.1
                  have n29 : (29 : Int) ≠ sz := by omega
                  have c3 : ∀ x j, x < sz → own x ≠ -2 → aup (aup (aup (aup ct2 29 0 (lvR (cm 1) a).2.2.2.1) 29 1 (lvR (cm 1) a).2.2.2.2.1) 29 2 (lvR (cm 1) a).2.2.2.2.2.2) 0 15 1 x j = ct2 x j := fun x j hx h2 => by
                    have q0 : x ≠ 0 := fun z => h2 (by rw [z]; exact hR.1.2)
                    have q29 : x ≠ 29 := fun z => h2 (by rw [z]; exact hR.2.2.2.2.2.2.2.2.2)
                    rw [aup_rn q0, aup_rn q29, aup_rn q29, aup_rn q29]
                  have c4 : ∀ x j, x < sz → ¬ tgY 0 (own x) → ct2 x j = ct1 x j := fun x j hx h2 => hfr x j (by rw [zo x hx]; exact h2) (by omega)
                  have l10 : aup (aup (aup (aup ct2 29 0 (lvR (cm 1) a).2.2.2.1) 29 1 (lvR (cm 1) a).2.2.2.2.1) 29 2 (lvR (cm 1) a).2.2.2.2.2.2) 0 15 1 10 0 = ct1 10 0 := by
                    rw [aup_n (by omega), aup_n (by omega), aup_n (by omega), aup_n (by omega)]; exact hX2.2.2.2.2.1
                  have frm : ∀ x j, own2 x ≠ -2 → aup (aup (aup (aup ct2 29 0 (lvR (cm 1) a).2.2.2.1) 29 1 (lvR (cm 1) a).2.2.2.2.1) 29 2 (lvR (cm 1) a).2.2.2.2.2.2) 0 15 1 x j = ct2 x j := fun x j h2 => by
                    have q0 : x ≠ 0 := fun z => h2 (by rw [z, hn.1 0 (by rw [zo 0 (by omega), hR.1.2]; exact tgY_m (by decide) (by decide)), zo 0 (by omega)]; exact hR.1.2)
                    have q29 : x ≠ 29 := fun z => h2 (by rw [z, hn.1 29 (by rw [zo 29 (by omega), hR.2.2.2.2.2.2.2.2.2]; exact tgY_m (by decide) (by decide)), zo 29 (by omega)]; exact hR.2.2.2.2.2.2.2.2.2)
                    rw [aup_rn q0, aup_rn q29, aup_rn q29, aup_rn q29]
                  have TX : TG own own2 sz (sz + 1) im im1 ct (aup (aup (aup (aup ct2 29 0 (lvR (cm 1) a).2.2.2.1) 29 1 (lvR (cm 1) a).2.2.2.2.1) 29 2 (lvR (cm 1) a).2.2.2.2.2.2) 0 15 1) (fun t => t = -2 ∨ tgY 0 t) := ⟨by omega, zi, fun x hx hf => funext fun j => by
                      rw [c3 x j hx (fun z => hf (Or.inl z)), c4 x j hx (fun z => hf (Or.inr z)), TX0.2.2.1 x hx (fun z => hf (Or.inl z))], fun x hx hf => by rw [hn.1 x (by rw [zo x hx]; exact fun z => hf (Or.inr z)), zo x hx]⟩
                  obtain ⟨hM1, hM2, ⟨m1, m2, m3, m4, m5⟩, hM3, hM4⟩ := id hM
                  refine ⟨vI_eq (by rw [g1 0 (by decide)]; exact m2), _, rfl, XR.gen hR HN HS HX hp0 TX (fun z => by rcases z with z | ⟨z1, z2⟩ <;> omega) (fun t t0 t1 z => by rcases z with z | ⟨z1, z2⟩ <;> omega) (fun t t0 t1 z => by rcases z with z | ⟨z1, z2⟩ <;> omega) (fun x hx h2 => by rw [hn.1 x (by rw [zo x hx, h2]; exact tgY_m (by decide) (by decide)), zo x hx]; exact h2) (fun x j hx h2 h3 h4 => ?_) ?_ ?_ ?_ ?_ ?_ ?_ (fun b b0 b1 b9 b11 b12 b13 => ?_) (fun i hi => ?_) ⟨?_, ?_⟩ (fun j j0 j1 => ?_) ?_ ?_ ?_⟩
                  · rw [aup_n (by omega), aup_rn h4, aup_rn h4, aup_rn h4, c4 x j hx (by rw [h2]; exact tgY_m (by decide) (by decide)), zc x hx]
                    exact aup_n (by omega)
                  · rw [aup_rn (by decide), aup_rn (by decide), g1 1 (by decide), hM2]
                    exact hX2.2.2.1.frame fun x j x0 x1 => frm x j (by omega)
                  · rw [l10, aup_rn (by decide), aup_rn (by decide), g1 1 (by decide), hM2]
                    exact hX2.lr.frame fun x j hx => frm x j (by omega)
                  · rw [aup_rn (by decide), aup_rn (by decide), g1 1 (by decide), hM2]; exact ⟨fun i hi => hin.2.1 i (by omega), hin.2.2⟩
                  · rw [aup_rn (by decide), aup_rn (by decide), g1 1 (by decide), hM2]; exact hin.1.1
                  · exact hM1.eq (by rw [aup_n (by omega), aup_n (by omega), g1 0 (by decide)]) (by rw [aup_rn (by decide), aup_rn (by decide), g1 9 (by decide)])
                  · obtain ⟨s4, dd4, N4, h4⟩ := HX.2.2.1
                    exact ⟨s4, dd4, N4, YR.tg TX (fun t t0 t1 z => by rcases z with z | ⟨z1, z2⟩ <;> omega) h4⟩
                  · rw [aup_rn b0, aup_rn b0, g1 b b13, hM3 b b0 b1 b9 b11 b12]
                  · rw [aup_n (by omega), aup_n (by omega), g1 0 (by decide), hM4 i (by omega) (by omega) (by omega) (by omega) (by omega) (by omega)]
                  · rw [aup_s, aup_n (by omega), aup_s]
                  · rw [aup_n (by omega), aup_s]; exact Or.inr rfl
                  · have er : aup (aup cm4 0 34 1) 0 2 0 13 j = cm3 12 j := by rw [aup_rn (by decide), aup_rn (by decide)]; exact g2 j j0 j1
                    rw [er]
                    rcases (by omega : j = 0 ∨ j = 1 ∨ j = 2) with z | z | z <;> subst z
                    · rw [aup_rn (by decide), aup_n (by omega), aup_n (by omega), aup_s, m3]
                    · rw [aup_rn (by decide), aup_n (by omega), aup_s, m4]
                    · rw [aup_rn (by decide), aup_s, m5]
                  · rw [aup_n (by omega), aup_n (by omega), aup_n (by omega), aup_n (by omega), c4 0 7 (by omega) (by rw [hR.1.2]; exact tgY_m (by decide) (by decide)), zc 0 (by omega), aup_s, aup_s]
                  · rw [aup_n (by omega), aup_n (by omega), aup_n (by omega), aup_n (by omega), c4 0 8 (by omega) (by rw [hR.1.2]; exact tgY_m (by decide) (by decide)), zc 0 (by omega), aup_n (by omega), aup_n (by omega), aup_n (by omega), g1 0 (by decide), hM4 3 (by decide) (by decide) (by decide) (by decide) (by decide) (by decide)]; exact hv3
                  · rw [aup_n (by omega), aup_n (by omega), aup_n (by omega), aup_n (by omega), c4 0 9 (by omega) (by rw [hR.1.2]; exact tgY_m (by decide) (by decide)), zc 0 (by omega), aup_n (by omega), aup_n (by omega), aup_n (by omega), g1 0 (by decide), hM4 4 (by decide) (by decide) (by decide) (by decide) (by decide) (by decide)]; exact hv4
            · first
                | (exfalso; omega)
                | skip
                  refine aw_aload_n dX7_live_29 rfl ?_
                  refine aw_bipush dX7_live_30 (by decide) ?_
                  refine c_X7_72 rfl dX7_live_32 m_ob (Nat.le_of_ble_eq_true rfl) (by omega) (C_m_refuse ?_)
                  refine aK_i ?_
                  refine aw_ireturn dX7_live_35 rfl ?_
                  first
                    | (exfalso; omega)
                    | (refine XR.sameE h ?_ ?_ ?_ ?_ ?_ ?_
                       · first
                           | rfl
                           | omega
                       · repeat (first | exact xs.rf | refine xs.up ?_ (by decide))
                       · repeat (first | exact mss.rf | refine mss.up0 ?_ (by decide))
                       · first
                           | (simp [aup, hv2, hv3, hv4]; done)
                           | (simp [aup, hv2, hv3, hv4]; omega)
                       · simp [aup, hv2, hv3, hv4]
                       · simp [aup, hv2, hv3, hv4])
      · first
          | (exfalso; omega)
          | skip
            refine aK_i ?_
            refine aw_ifne (tgt := 18) dX7_live_9 (by decide) (fun h => absurd h (by decide)) (fun _ => ?_)
            refine aw_aload_n dX7_live_12 rfl ?_
            refine aw_iconst dX7_live_13 (by decide) ?_
            refine c_X7_72 rfl dX7_live_14 m_ob (Nat.le_of_ble_eq_true rfl) (by omega) (C_m_refuse ?_)
            refine aK_i ?_
            refine aw_ireturn dX7_live_17 rfl ?_
            first
              | (exfalso; omega)
              | (refine XR.sameE h ?_ ?_ ?_ ?_ ?_ ?_
                 · first
                     | rfl
                     | omega
                 · repeat (first | exact xs.rf | refine xs.up ?_ (by decide))
                 · repeat (first | exact mss.rf | refine mss.up0 ?_ (by decide))
                 · first
                     | (simp [aup, hv2, hv3, hv4]; done)
                     | (simp [aup, hv2, hv3, hv4]; omega)
                 · simp [aup, hv2, hv3, hv4]
                 · simp [aup, hv2, hv3, hv4])
    · refine aw_bipush dX0_live_27 (by decide) ?_
      refine aw_goto (tgt := 33) dX0_live_29 (by decide) ?_
      refine p_X0_73_0 rfl dX0_live_33 hR.o0 ?_
      refine aw_aload_n dX0_live_36 rfl ?_
      refine g_X0_73_0 rfl dX0_live_37 hR.o0 ?_
      repeat (first | rw [aup_s] | rw [aup_n (by omega)])
      refine aw_ifle (tgt := 45) dX0_live_40 (by decide) (fun h => absurd h (by decide)) (fun _ => ?_)
      refine aw_iconst dX0_live_43 (by decide) ?_
      refine aw_ireturn dX0_live_44 rfl ?_
      refine ⟨_, rfl, ?_⟩
      refine AMet.go (L := [some (vR 0), some (vI a), none]) mok_X7_live (Nat.le_of_ble_eq_true rfl) rfl ?_
      refine aw_iload_n dX7_live_0 rfl ?_
      refine aw_i2l dX7_live_1 ?_
      refine aw_lconst0 dX7_live_2 ?_
      refine aw_ldc2 (x := 9999) dX7_live_3 q1843 (by decide) ?_
      refine c_X7_306 rfl dX7_live_6  (Nat.le_of_ble_eq_true rfl) (by omega) (C_m_isFrom (fun hfr => ?_) (fun hfr => ?_))
      · first
          | (exfalso; omega)
          | skip
            refine aK_i ?_
            refine aw_ifne (tgt := 18) dX7_live_9 (by decide) (fun _ => ?_) (fun h => absurd h (by decide))
            refine gm_7 rfl dX7_live_18 dX7_live_19 rfl ?_
            refine aw_bipush dX7_live_22 (by decide) ?_
            refine aw_iaload dX7_live_24 m_a1 (by omega) (by omega) ?_
            refine aw_iconst dX7_live_25 (by decide) ?_
            refine aw_icmpne (tgt := 36) dX7_live_26 (by decide) (fun h26 => ?_) (fun h26 => ?_)
            · first
                | (exfalso; omega)
                | skip
                  refine aw_aload_n dX7_live_36 rfl ?_
                  refine aw_iload_n dX7_live_37 rfl ?_
                  refine c_X7_392 rfl dX7_live_38 m_ob (Nat.le_of_ble_eq_true rfl) (by omega) (C_m_lives (sd := a) HF HP hseB.1 (by omega) (fun cm3 hM => ?_))
                  refine aK_v ?_
                  refine aw_iconst dX7_live_41 (by decide) ?_
                  refine aw_istore2 dX7_live_42 (by decide) rfl ?_
                  refine L_m_told0 (ct := cm3) (fun cm4 g1 g2 => ?_) 3 0 cm3 (by decide) (by decide) (fun _ _ => rfl) (fun u u0 u1 => by omega)
                  refine aw_aload_n dX7_live_66 rfl ?_
                  refine aw_iconst dX7_live_67 (by decide) ?_
                  refine p_X7_395_7 rfl dX7_live_68 m_ob (Or.inr rfl) ?_
                  refine aw_aload_n dX7_live_71 rfl ?_
                  refine gm_380 rfl dX7_live_72 dX7_live_73 rfl ?_
                  rw [aup_n (by omega)]
                  refine c_X7_76 rfl dX7_live_76 m_ob (Nat.le_of_ble_eq_true rfl) (by omega) (C_m_gives ?_)
                  refine aK_i ?_
                  refine aw_ireturn dX7_live_79 rfl ?_
                  have hin := lvR_in (sd := a) (hseB.1) HP (by omega)
                  have hV := hX2.2.2.2.2.2.1
                  have hn := hX2.2.1
                  have hfr := hX2.2.2.2.1
                  have n29 : (29 : Int) ≠ sz := by omega
                  have c3 : ∀ x j, x < sz → own x ≠ -2 → aup (aup (aup (aup ct2 29 0 (lvR (cm 1) a).2.2.2.1) 29 1 (lvR (cm 1) a).2.2.2.2.1) 29 2 (lvR (cm 1) a).2.2.2.2.2.2) 0 15 1 x j = ct2 x j := fun x j hx h2 => by
                    have q0 : x ≠ 0 := fun z => h2 (by rw [z]; exact hR.1.2)
                    have q29 : x ≠ 29 := fun z => h2 (by rw [z]; exact hR.2.2.2.2.2.2.2.2.2)
                    rw [aup_rn q0, aup_rn q29, aup_rn q29, aup_rn q29]
                  have c4 : ∀ x j, x < sz → ¬ tgY 0 (own x) → ct2 x j = ct1 x j := fun x j hx h2 => hfr x j (by rw [zo x hx]; exact h2) (by omega)
                  have l10 : aup (aup (aup (aup ct2 29 0 (lvR (cm 1) a).2.2.2.1) 29 1 (lvR (cm 1) a).2.2.2.2.1) 29 2 (lvR (cm 1) a).2.2.2.2.2.2) 0 15 1 10 0 = ct1 10 0 := by
                    rw [aup_n (by omega), aup_n (by omega), aup_n (by omega), aup_n (by omega)]; exact hX2.2.2.2.2.1
                  have frm : ∀ x j, own2 x ≠ -2 → aup (aup (aup (aup ct2 29 0 (lvR (cm 1) a).2.2.2.1) 29 1 (lvR (cm 1) a).2.2.2.2.1) 29 2 (lvR (cm 1) a).2.2.2.2.2.2) 0 15 1 x j = ct2 x j := fun x j h2 => by
                    have q0 : x ≠ 0 := fun z => h2 (by rw [z, hn.1 0 (by rw [zo 0 (by omega), hR.1.2]; exact tgY_m (by decide) (by decide)), zo 0 (by omega)]; exact hR.1.2)
                    have q29 : x ≠ 29 := fun z => h2 (by rw [z, hn.1 29 (by rw [zo 29 (by omega), hR.2.2.2.2.2.2.2.2.2]; exact tgY_m (by decide) (by decide)), zo 29 (by omega)]; exact hR.2.2.2.2.2.2.2.2.2)
                    rw [aup_rn q0, aup_rn q29, aup_rn q29, aup_rn q29]
                  have TX : TG own own2 sz (sz + 1) im im1 ct (aup (aup (aup (aup ct2 29 0 (lvR (cm 1) a).2.2.2.1) 29 1 (lvR (cm 1) a).2.2.2.2.1) 29 2 (lvR (cm 1) a).2.2.2.2.2.2) 0 15 1) (fun t => t = -2 ∨ tgY 0 t) := ⟨by omega, zi, fun x hx hf => funext fun j => by
                      rw [c3 x j hx (fun z => hf (Or.inl z)), c4 x j hx (fun z => hf (Or.inr z)), TX0.2.2.1 x hx (fun z => hf (Or.inl z))], fun x hx hf => by rw [hn.1 x (by rw [zo x hx]; exact fun z => hf (Or.inr z)), zo x hx]⟩
                  obtain ⟨hM1, hM2, ⟨m1, m2, m3, m4, m5⟩, hM3, hM4⟩ := id hM
                  refine ⟨vI_eq (by rw [g1 0 (by decide)]; exact m2), _, rfl, XR.gen hR HN HS HX hp0 TX (fun z => by rcases z with z | ⟨z1, z2⟩ <;> omega) (fun t t0 t1 z => by rcases z with z | ⟨z1, z2⟩ <;> omega) (fun t t0 t1 z => by rcases z with z | ⟨z1, z2⟩ <;> omega) (fun x hx h2 => by rw [hn.1 x (by rw [zo x hx, h2]; exact tgY_m (by decide) (by decide)), zo x hx]; exact h2) (fun x j hx h2 h3 h4 => ?_) ?_ ?_ ?_ ?_ ?_ ?_ (fun b b0 b1 b9 b11 b12 b13 => ?_) (fun i hi => ?_) ⟨?_, ?_⟩ (fun j j0 j1 => ?_) ?_ ?_ ?_⟩
                  · rw [aup_n (by omega), aup_rn h4, aup_rn h4, aup_rn h4, c4 x j hx (by rw [h2]; exact tgY_m (by decide) (by decide)), zc x hx]
                    exact aup_n (by omega)
                  · rw [aup_rn (by decide), aup_rn (by decide), g1 1 (by decide), hM2]
                    exact hX2.2.2.1.frame fun x j x0 x1 => frm x j (by omega)
                  · rw [l10, aup_rn (by decide), aup_rn (by decide), g1 1 (by decide), hM2]
                    exact hX2.lr.frame fun x j hx => frm x j (by omega)
                  · rw [aup_rn (by decide), aup_rn (by decide), g1 1 (by decide), hM2]; exact ⟨fun i hi => hin.2.1 i (by omega), hin.2.2⟩
                  · rw [aup_rn (by decide), aup_rn (by decide), g1 1 (by decide), hM2]; exact hin.1.1
                  · exact hM1.eq (by rw [aup_n (by omega), aup_n (by omega), g1 0 (by decide)]) (by rw [aup_rn (by decide), aup_rn (by decide), g1 9 (by decide)])
                  · obtain ⟨s4, dd4, N4, h4⟩ := HX.2.2.1
                    exact ⟨s4, dd4, N4, YR.tg TX (fun t t0 t1 z => by rcases z with z | ⟨z1, z2⟩ <;> omega) h4⟩
                  · rw [aup_rn b0, aup_rn b0, g1 b b13, hM3 b b0 b1 b9 b11 b12]
                  · rw [aup_n (by omega), aup_n (by omega), g1 0 (by decide), hM4 i (by omega) (by omega) (by omega) (by omega) (by omega) (by omega)]
                  · rw [aup_s, aup_n (by omega), aup_s]
                  · rw [aup_n (by omega), aup_s]; exact Or.inr rfl
                  · have er : aup (aup cm4 0 34 1) 0 2 0 13 j = cm3 12 j := by rw [aup_rn (by decide), aup_rn (by decide)]; exact g2 j j0 j1
                    rw [er]
                    rcases (by omega : j = 0 ∨ j = 1 ∨ j = 2) with z | z | z <;> subst z
                    · rw [aup_rn (by decide), aup_n (by omega), aup_n (by omega), aup_s, m3]
                    · rw [aup_rn (by decide), aup_n (by omega), aup_s, m4]
                    · rw [aup_rn (by decide), aup_s, m5]
                  · rw [aup_n (by omega), aup_n (by omega), aup_n (by omega), aup_n (by omega), c4 0 7 (by omega) (by rw [hR.1.2]; exact tgY_m (by decide) (by decide)), zc 0 (by omega), aup_s, aup_s]
                  · rw [aup_n (by omega), aup_n (by omega), aup_n (by omega), aup_n (by omega), c4 0 8 (by omega) (by rw [hR.1.2]; exact tgY_m (by decide) (by decide)), zc 0 (by omega), aup_n (by omega), aup_n (by omega), aup_n (by omega), g1 0 (by decide), hM4 3 (by decide) (by decide) (by decide) (by decide) (by decide) (by decide)]; exact hv3
                  · rw [aup_n (by omega), aup_n (by omega), aup_n (by omega), aup_n (by omega), c4 0 9 (by omega) (by rw [hR.1.2]; exact tgY_m (by decide) (by decide)), zc 0 (by omega), aup_n (by omega), aup_n (by omega), aup_n (by omega), g1 0 (by decide), hM4 4 (by decide) (by decide) (by decide) (by decide) (by decide) (by decide)]; exact hv4
            · first
                | (exfalso; omega)
                | skip
                  refine aw_aload_n dX7_live_29 rfl ?_
                  refine aw_bipush dX7_live_30 (by decide) ?_
                  refine c_X7_72 rfl dX7_live_32 m_ob (Nat.le_of_ble_eq_true rfl) (by omega) (C_m_refuse ?_)
                  refine aK_i ?_
                  refine aw_ireturn dX7_live_35 rfl ?_
                  first
                    | (exfalso; omega)
                    | (refine XR.sameE h ?_ ?_ ?_ ?_ ?_ ?_
                       · first
                           | rfl
                           | omega
                       · repeat (first | exact xs.rf | refine xs.up ?_ (by decide))
                       · repeat (first | exact mss.rf | refine mss.up0 ?_ (by decide))
                       · first
                           | (simp [aup, hv2, hv3, hv4]; done)
                           | (simp [aup, hv2, hv3, hv4]; omega)
                       · simp [aup, hv2, hv3, hv4]
                       · simp [aup, hv2, hv3, hv4])
      · first
          | (exfalso; omega)
          | skip
            refine aK_i ?_
            refine aw_ifne (tgt := 18) dX7_live_9 (by decide) (fun h => absurd h (by decide)) (fun _ => ?_)
            refine aw_aload_n dX7_live_12 rfl ?_
            refine aw_iconst dX7_live_13 (by decide) ?_
            refine c_X7_72 rfl dX7_live_14 m_ob (Nat.le_of_ble_eq_true rfl) (by omega) (C_m_refuse ?_)
            refine aK_i ?_
            refine aw_ireturn dX7_live_17 rfl ?_
            first
              | (exfalso; omega)
              | (refine XR.sameE h ?_ ?_ ?_ ?_ ?_ ?_
                 · first
                     | rfl
                     | omega
                 · repeat (first | exact xs.rf | refine xs.up ?_ (by decide))
                 · repeat (first | exact mss.rf | refine mss.up0 ?_ (by decide))
                 · first
                     | (simp [aup, hv2, hv3, hv4]; done)
                     | (simp [aup, hv2, hv3, hv4]; omega)
                 · simp [aup, hv2, hv3, hv4]
                 · simp [aup, hv2, hv3, hv4])
  · refine aK_i ?_
    refine aw_ifne (tgt := 17) dX0_live_10 (by decide) (fun h => absurd h (by decide)) (fun _ => ?_)
    refine aw_iconst dX0_live_13 (by decide) ?_
    refine aw_goto (tgt := 33) dX0_live_14 (by decide) ?_
    refine p_X0_73_0 rfl dX0_live_33 hR.o0 ?_
    refine aw_aload_n dX0_live_36 rfl ?_
    refine g_X0_73_0 rfl dX0_live_37 hR.o0 ?_
    repeat (first | rw [aup_s] | rw [aup_n (by omega)])
    refine aw_ifle (tgt := 45) dX0_live_40 (by decide) (fun h => absurd h (by decide)) (fun _ => ?_)
    refine aw_iconst dX0_live_43 (by decide) ?_
    refine aw_ireturn dX0_live_44 rfl ?_
    refine ⟨_, rfl, ?_⟩
    refine AMet.go (L := [some (vR 0), some (vI a), none]) mok_X7_live (Nat.le_of_ble_eq_true rfl) rfl ?_
    refine aw_iload_n dX7_live_0 rfl ?_
    refine aw_i2l dX7_live_1 ?_
    refine aw_lconst0 dX7_live_2 ?_
    refine aw_ldc2 (x := 9999) dX7_live_3 q1843 (by decide) ?_
    refine c_X7_306 rfl dX7_live_6  (Nat.le_of_ble_eq_true rfl) (by omega) (C_m_isFrom (fun hfr => ?_) (fun hfr => ?_))
    · first
        | (exfalso; omega)
        | skip
          refine aK_i ?_
          refine aw_ifne (tgt := 18) dX7_live_9 (by decide) (fun _ => ?_) (fun h => absurd h (by decide))
          refine gm_7 rfl dX7_live_18 dX7_live_19 rfl ?_
          refine aw_bipush dX7_live_22 (by decide) ?_
          refine aw_iaload dX7_live_24 m_a1 (by omega) (by omega) ?_
          refine aw_iconst dX7_live_25 (by decide) ?_
          refine aw_icmpne (tgt := 36) dX7_live_26 (by decide) (fun h26 => ?_) (fun h26 => ?_)
          · first
              | (exfalso; omega)
              | skip
                refine aw_aload_n dX7_live_36 rfl ?_
                refine aw_iload_n dX7_live_37 rfl ?_
                refine c_X7_392 rfl dX7_live_38 m_ob (Nat.le_of_ble_eq_true rfl) (by omega) (C_m_lives (sd := a) HF HP hseB.1 (by omega) (fun cm3 hM => ?_))
                refine aK_v ?_
                refine aw_iconst dX7_live_41 (by decide) ?_
                refine aw_istore2 dX7_live_42 (by decide) rfl ?_
                refine L_m_told0 (ct := cm3) (fun cm4 g1 g2 => ?_) 3 0 cm3 (by decide) (by decide) (fun _ _ => rfl) (fun u u0 u1 => by omega)
                refine aw_aload_n dX7_live_66 rfl ?_
                refine aw_iconst dX7_live_67 (by decide) ?_
                refine p_X7_395_7 rfl dX7_live_68 m_ob (Or.inr rfl) ?_
                refine aw_aload_n dX7_live_71 rfl ?_
                refine gm_380 rfl dX7_live_72 dX7_live_73 rfl ?_
                rw [aup_n (by omega)]
                refine c_X7_76 rfl dX7_live_76 m_ob (Nat.le_of_ble_eq_true rfl) (by omega) (C_m_gives ?_)
                refine aK_i ?_
                refine aw_ireturn dX7_live_79 rfl ?_
                have hin := lvR_in (sd := a) (hseB.1) HP (by omega)
                have hV := hX2.2.2.2.2.2.1
                have hn := hX2.2.1
                have hfr := hX2.2.2.2.1
                have n29 : (29 : Int) ≠ sz := by omega
                have c3 : ∀ x j, x < sz → own x ≠ -2 → aup (aup (aup (aup ct2 29 0 (lvR (cm 1) a).2.2.2.1) 29 1 (lvR (cm 1) a).2.2.2.2.1) 29 2 (lvR (cm 1) a).2.2.2.2.2.2) 0 15 1 x j = ct2 x j := fun x j hx h2 => by
                  have q0 : x ≠ 0 := fun z => h2 (by rw [z]; exact hR.1.2)
                  have q29 : x ≠ 29 := fun z => h2 (by rw [z]; exact hR.2.2.2.2.2.2.2.2.2)
                  rw [aup_rn q0, aup_rn q29, aup_rn q29, aup_rn q29]
                have c4 : ∀ x j, x < sz → ¬ tgY 0 (own x) → ct2 x j = ct1 x j := fun x j hx h2 => hfr x j (by rw [zo x hx]; exact h2) (by omega)
                have l10 : aup (aup (aup (aup ct2 29 0 (lvR (cm 1) a).2.2.2.1) 29 1 (lvR (cm 1) a).2.2.2.2.1) 29 2 (lvR (cm 1) a).2.2.2.2.2.2) 0 15 1 10 0 = ct1 10 0 := by
                  rw [aup_n (by omega), aup_n (by omega), aup_n (by omega), aup_n (by omega)]; exact hX2.2.2.2.2.1
                have frm : ∀ x j, own2 x ≠ -2 → aup (aup (aup (aup ct2 29 0 (lvR (cm 1) a).2.2.2.1) 29 1 (lvR (cm 1) a).2.2.2.2.1) 29 2 (lvR (cm 1) a).2.2.2.2.2.2) 0 15 1 x j = ct2 x j := fun x j h2 => by
                  have q0 : x ≠ 0 := fun z => h2 (by rw [z, hn.1 0 (by rw [zo 0 (by omega), hR.1.2]; exact tgY_m (by decide) (by decide)), zo 0 (by omega)]; exact hR.1.2)
                  have q29 : x ≠ 29 := fun z => h2 (by rw [z, hn.1 29 (by rw [zo 29 (by omega), hR.2.2.2.2.2.2.2.2.2]; exact tgY_m (by decide) (by decide)), zo 29 (by omega)]; exact hR.2.2.2.2.2.2.2.2.2)
                  rw [aup_rn q0, aup_rn q29, aup_rn q29, aup_rn q29]
                have TX : TG own own2 sz (sz + 1) im im1 ct (aup (aup (aup (aup ct2 29 0 (lvR (cm 1) a).2.2.2.1) 29 1 (lvR (cm 1) a).2.2.2.2.1) 29 2 (lvR (cm 1) a).2.2.2.2.2.2) 0 15 1) (fun t => t = -2 ∨ tgY 0 t) := ⟨by omega, zi, fun x hx hf => funext fun j => by
                    rw [c3 x j hx (fun z => hf (Or.inl z)), c4 x j hx (fun z => hf (Or.inr z)), TX0.2.2.1 x hx (fun z => hf (Or.inl z))], fun x hx hf => by rw [hn.1 x (by rw [zo x hx]; exact fun z => hf (Or.inr z)), zo x hx]⟩
                obtain ⟨hM1, hM2, ⟨m1, m2, m3, m4, m5⟩, hM3, hM4⟩ := id hM
                refine ⟨vI_eq (by rw [g1 0 (by decide)]; exact m2), _, rfl, XR.gen hR HN HS HX hp0 TX (fun z => by rcases z with z | ⟨z1, z2⟩ <;> omega) (fun t t0 t1 z => by rcases z with z | ⟨z1, z2⟩ <;> omega) (fun t t0 t1 z => by rcases z with z | ⟨z1, z2⟩ <;> omega) (fun x hx h2 => by rw [hn.1 x (by rw [zo x hx, h2]; exact tgY_m (by decide) (by decide)), zo x hx]; exact h2) (fun x j hx h2 h3 h4 => ?_) ?_ ?_ ?_ ?_ ?_ ?_ (fun b b0 b1 b9 b11 b12 b13 => ?_) (fun i hi => ?_) ⟨?_, ?_⟩ (fun j j0 j1 => ?_) ?_ ?_ ?_⟩
                · rw [aup_n (by omega), aup_rn h4, aup_rn h4, aup_rn h4, c4 x j hx (by rw [h2]; exact tgY_m (by decide) (by decide)), zc x hx]
                  exact aup_n (by omega)
                · rw [aup_rn (by decide), aup_rn (by decide), g1 1 (by decide), hM2]
                  exact hX2.2.2.1.frame fun x j x0 x1 => frm x j (by omega)
                · rw [l10, aup_rn (by decide), aup_rn (by decide), g1 1 (by decide), hM2]
                  exact hX2.lr.frame fun x j hx => frm x j (by omega)
                · rw [aup_rn (by decide), aup_rn (by decide), g1 1 (by decide), hM2]; exact ⟨fun i hi => hin.2.1 i (by omega), hin.2.2⟩
                · rw [aup_rn (by decide), aup_rn (by decide), g1 1 (by decide), hM2]; exact hin.1.1
                · exact hM1.eq (by rw [aup_n (by omega), aup_n (by omega), g1 0 (by decide)]) (by rw [aup_rn (by decide), aup_rn (by decide), g1 9 (by decide)])
                · obtain ⟨s4, dd4, N4, h4⟩ := HX.2.2.1
                  exact ⟨s4, dd4, N4, YR.tg TX (fun t t0 t1 z => by rcases z with z | ⟨z1, z2⟩ <;> omega) h4⟩
                · rw [aup_rn b0, aup_rn b0, g1 b b13, hM3 b b0 b1 b9 b11 b12]
                · rw [aup_n (by omega), aup_n (by omega), g1 0 (by decide), hM4 i (by omega) (by omega) (by omega) (by omega) (by omega) (by omega)]
                · rw [aup_s, aup_n (by omega), aup_s]
                · rw [aup_n (by omega), aup_s]; exact Or.inr rfl
                · have er : aup (aup cm4 0 34 1) 0 2 0 13 j = cm3 12 j := by rw [aup_rn (by decide), aup_rn (by decide)]; exact g2 j j0 j1
                  rw [er]
                  rcases (by omega : j = 0 ∨ j = 1 ∨ j = 2) with z | z | z <;> subst z
                  · rw [aup_rn (by decide), aup_n (by omega), aup_n (by omega), aup_s, m3]
                  · rw [aup_rn (by decide), aup_n (by omega), aup_s, m4]
                  · rw [aup_rn (by decide), aup_s, m5]
                · rw [aup_n (by omega), aup_n (by omega), aup_n (by omega), aup_n (by omega), c4 0 7 (by omega) (by rw [hR.1.2]; exact tgY_m (by decide) (by decide)), zc 0 (by omega), aup_s, aup_s]
                · rw [aup_n (by omega), aup_n (by omega), aup_n (by omega), aup_n (by omega), c4 0 8 (by omega) (by rw [hR.1.2]; exact tgY_m (by decide) (by decide)), zc 0 (by omega), aup_n (by omega), aup_n (by omega), aup_n (by omega), g1 0 (by decide), hM4 3 (by decide) (by decide) (by decide) (by decide) (by decide) (by decide)]; exact hv3
                · rw [aup_n (by omega), aup_n (by omega), aup_n (by omega), aup_n (by omega), c4 0 9 (by omega) (by rw [hR.1.2]; exact tgY_m (by decide) (by decide)), zc 0 (by omega), aup_n (by omega), aup_n (by omega), aup_n (by omega), g1 0 (by decide), hM4 4 (by decide) (by decide) (by decide) (by decide) (by decide) (by decide)]; exact hv4
          · first
              | (exfalso; omega)
              | skip
                refine aw_aload_n dX7_live_29 rfl ?_
                refine aw_bipush dX7_live_30 (by decide) ?_
                refine c_X7_72 rfl dX7_live_32 m_ob (Nat.le_of_ble_eq_true rfl) (by omega) (C_m_refuse ?_)
                refine aK_i ?_
                refine aw_ireturn dX7_live_35 rfl ?_
                first
                  | (exfalso; omega)
                  | (refine XR.sameE h ?_ ?_ ?_ ?_ ?_ ?_
                     · first
                         | rfl
                         | omega
                     · repeat (first | exact xs.rf | refine xs.up ?_ (by decide))
                     · repeat (first | exact mss.rf | refine mss.up0 ?_ (by decide))
                     · first
                         | (simp [aup, hv2, hv3, hv4]; done)
                         | (simp [aup, hv2, hv3, hv4]; omega)
                     · simp [aup, hv2, hv3, hv4]
                     · simp [aup, hv2, hv3, hv4])
    · first
        | (exfalso; omega)
        | skip
          refine aK_i ?_
          refine aw_ifne (tgt := 18) dX7_live_9 (by decide) (fun h => absurd h (by decide)) (fun _ => ?_)
          refine aw_aload_n dX7_live_12 rfl ?_
          refine aw_iconst dX7_live_13 (by decide) ?_
          refine c_X7_72 rfl dX7_live_14 m_ob (Nat.le_of_ble_eq_true rfl) (by omega) (C_m_refuse ?_)
          refine aK_i ?_
          refine aw_ireturn dX7_live_17 rfl ?_
          first
            | (exfalso; omega)
            | (refine XR.sameE h ?_ ?_ ?_ ?_ ?_ ?_
               · first
                   | rfl
                   | omega
               · repeat (first | exact xs.rf | refine xs.up ?_ (by decide))
               · repeat (first | exact mss.rf | refine mss.up0 ?_ (by decide))
               · first
                   | (simp [aup, hv2, hv3, hv4]; done)
                   | (simp [aup, hv2, hv3, hv4]; omega)
               · simp [aup, hv2, hv3, hv4]
               · simp [aup, hv2, hv3, hv4])
